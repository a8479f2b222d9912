/-! Encores$Gallery -/
set_option maxRecDepth 100000
def RX2 : String := "Encores$Gallery"
def TX2 : u_T := fun k => match k with
  | 0 => ("Encores$Gallery", "paid", "[I", true)
  | 1 => ("Encores$Gallery", "wear", "[I", true)
  | 2 => ("Encores$Gallery", "done", "[I", true)
  | 3 => ("Encores$Gallery", "own", "[I", true)
  | 4 => ("Encores$Gallery", "there", "I", false)
  | 5 => ("Encores$Gallery", "gloved", "I", false)
  | 6 => ("Encores$Gallery", "minute", "I", false)
  | 7 => ("Encores$Gallery", "evening", "I", false)
  | 8 => ("Encores$Gallery", "coin", "I", false)
  | 9 => ("Encores$Gallery", "latest", "I", false)
  | 10 => ("Encores$Gallery", "agains", "I", false)
  | 11 => ("Encores$Gallery", "state", "I", false)
  | 12 => ("Encores$Gallery", "bookMany", "I", false)
  | 13 => ("Encores$Gallery", "clapping", "I", false)
  | 14 => ("Encores$Gallery", "rounds", "I", false)
  | 15 => ("Encores$Gallery", "count", "I", false)
  | 16 => ("Encores$Gallery", "isThought", "Z", false)
  | _ => ("Encores$Gallery", "this$0", "LEncores;", true)
def tyX2 : Nat → FieldType := fun k => match k with
  | 0 => .array .int
  | 1 => .array .int
  | 2 => .array .int
  | 3 => .array .int
  | 4 => .int
  | 5 => .int
  | 6 => .int
  | 7 => .int
  | 8 => .int
  | 9 => .int
  | 10 => .int
  | 11 => .int
  | 12 => .int
  | 13 => .int
  | 14 => .int
  | 15 => .int
  | 16 => .boolean
  | _ => .object "Encores"
abbrev wsX20 : List Cond := u_ws RX2 TX2 18
set_option maxRecDepth 100000 in
theorem nmX2 : ∀ a, a < 18 → ∀ b, b < 18 → a ≠ b → (TX2 a).2.1 ≠ (TX2 b).2.1 := by decide +kernel
set_option maxRecDepth 100000 in
theorem tyX2_ok : ∀ k, k < 18 → parseFieldDescriptor (TX2 k).2.2.1 = some (tyX2 k) := by decide +kernel
abbrev cX2_init : ByteArray := prog_5_method_1_code
def yX2_init : MethodName := ⟨RX2, "<init>", "(LEncores;)V"⟩
def dkwX2_init_2 : List UInt8 := [177]
abbrev dktX2_init_2 : List UInt8 := dkwX2_init_2 ++ []
def dkwX2_init_1 : List UInt8 := [181, 0, 19, 42, 16, 8, 188, 10, 181, 0, 22, 42, 16, 12, 188, 10, 181, 0, 25, 42, 2, 181, 0, 28]
abbrev dktX2_init_1 : List UInt8 := dkwX2_init_1 ++ dktX2_init_2
def dkwX2_init_0 : List UInt8 := [42, 43, 181, 0, 3, 42, 183, 0, 9, 42, 16, 12, 188, 10, 181, 0, 15, 42, 16, 8, 188, 10]
abbrev dktX2_init_0 : List UInt8 := dkwX2_init_0 ++ dktX2_init_1
theorem dksX2_init_0 : cX2_init.data.toList.drop 0 = dktX2_init_0 := by decide +kernel
theorem dksX2_init_1 : cX2_init.data.toList.drop 22 = dktX2_init_1 := dk_seg dksX2_init_0 22 rfl rfl
theorem dksX2_init_2 : cX2_init.data.toList.drop 46 = dktX2_init_2 := dk_seg dksX2_init_1 24 rfl rfl
theorem dX2_init_0 : decode cX2_init 0 = .ok (.aload_n 0, 1) := dk_42 (dk_at dksX2_init_0 0 rfl rfl)
theorem dX2_init_1 : decode cX2_init 1 = .ok (.aload_n 1, 1) := dk_43 (dk_at dksX2_init_0 1 rfl rfl)
theorem dX2_init_2 : decode cX2_init 2 = .ok (.putfield 3, 3) := dk_181 0 3 (dk_at dksX2_init_0 2 rfl rfl)
theorem dX2_init_5 : decode cX2_init 5 = .ok (.aload_n 0, 1) := dk_42 (dk_at dksX2_init_0 5 rfl rfl)
theorem dX2_init_6 : decode cX2_init 6 = .ok (.invokespecial 9, 3) := dk_183 0 9 (dk_at dksX2_init_0 6 rfl rfl)
theorem dX2_init_9 : decode cX2_init 9 = .ok (.aload_n 0, 1) := dk_42 (dk_at dksX2_init_0 9 rfl rfl)
theorem dX2_init_10 : decode cX2_init 10 = .ok (.bipush 12, 2) := dk_16 12 (dk_at dksX2_init_0 10 rfl rfl)
theorem dX2_init_12 : decode cX2_init 12 = .ok (.newarray .int, 2) := dk_188_10 (dk_at dksX2_init_0 12 rfl rfl)
theorem dX2_init_14 : decode cX2_init 14 = .ok (.putfield 15, 3) := dk_181 0 15 (dk_at dksX2_init_0 14 rfl rfl)
theorem dX2_init_17 : decode cX2_init 17 = .ok (.aload_n 0, 1) := dk_42 (dk_at dksX2_init_0 17 rfl rfl)
theorem dX2_init_18 : decode cX2_init 18 = .ok (.bipush 8, 2) := dk_16 8 (dk_at dksX2_init_0 18 rfl rfl)
theorem dX2_init_20 : decode cX2_init 20 = .ok (.newarray .int, 2) := dk_188_10 (dk_at dksX2_init_0 20 rfl rfl)
theorem dX2_init_22 : decode cX2_init 22 = .ok (.putfield 19, 3) := dk_181 0 19 (dk_at dksX2_init_1 0 rfl rfl)
theorem dX2_init_25 : decode cX2_init 25 = .ok (.aload_n 0, 1) := dk_42 (dk_at dksX2_init_1 3 rfl rfl)
theorem dX2_init_26 : decode cX2_init 26 = .ok (.bipush 8, 2) := dk_16 8 (dk_at dksX2_init_1 4 rfl rfl)
theorem dX2_init_28 : decode cX2_init 28 = .ok (.newarray .int, 2) := dk_188_10 (dk_at dksX2_init_1 6 rfl rfl)
theorem dX2_init_30 : decode cX2_init 30 = .ok (.putfield 22, 3) := dk_181 0 22 (dk_at dksX2_init_1 8 rfl rfl)
theorem dX2_init_33 : decode cX2_init 33 = .ok (.aload_n 0, 1) := dk_42 (dk_at dksX2_init_1 11 rfl rfl)
theorem dX2_init_34 : decode cX2_init 34 = .ok (.bipush 12, 2) := dk_16 12 (dk_at dksX2_init_1 12 rfl rfl)
theorem dX2_init_36 : decode cX2_init 36 = .ok (.newarray .int, 2) := dk_188_10 (dk_at dksX2_init_1 14 rfl rfl)
theorem dX2_init_38 : decode cX2_init 38 = .ok (.putfield 25, 3) := dk_181 0 25 (dk_at dksX2_init_1 16 rfl rfl)
theorem dX2_init_41 : decode cX2_init 41 = .ok (.aload_n 0, 1) := dk_42 (dk_at dksX2_init_1 19 rfl rfl)
theorem dX2_init_42 : decode cX2_init 42 = .ok (.iconst (-1), 1) := dk_2 (dk_at dksX2_init_1 20 rfl rfl)
theorem dX2_init_43 : decode cX2_init 43 = .ok (.putfield 28, 3) := dk_181 0 28 (dk_at dksX2_init_1 21 rfl rfl)
theorem dX2_init_46 : decode cX2_init 46 = .ok (.return_, 1) := dk_177 (dk_at dksX2_init_2 0 rfl rfl)
abbrev cX2_become : ByteArray := prog_5_method_2_code
def yX2_become : MethodName := ⟨RX2, "become", "(LEncores$Gallery;)V"⟩
def dkwX2_become_4 : List UInt8 := [181, 0, 54, 42, 43, 180, 0, 57, 181, 0, 57, 177]
abbrev dktX2_become_4 : List UInt8 := dkwX2_become_4 ++ []
def dkwX2_become_3 : List UInt8 := [181, 0, 48, 42, 43, 180, 0, 28, 181, 0, 28, 42, 43, 180, 0, 51, 181, 0, 51, 42, 43, 180, 0, 54]
abbrev dktX2_become_3 : List UInt8 := dkwX2_become_3 ++ dktX2_become_4
def dkwX2_become_2 : List UInt8 := [181, 0, 39, 42, 43, 180, 0, 42, 181, 0, 42, 42, 43, 180, 0, 45, 181, 0, 45, 42, 43, 180, 0, 48]
abbrev dktX2_become_2 : List UInt8 := dkwX2_become_2 ++ dktX2_become_3
def dkwX2_become_1 : List UInt8 := [180, 0, 22, 42, 180, 0, 22, 184, 0, 32, 42, 43, 180, 0, 36, 181, 0, 36, 42, 43, 180, 0, 39]
abbrev dktX2_become_1 : List UInt8 := dkwX2_become_1 ++ dktX2_become_2
def dkwX2_become_0 : List UInt8 := [43, 180, 0, 15, 42, 180, 0, 15, 184, 0, 32, 43, 180, 0, 19, 42, 180, 0, 19, 184, 0, 32, 43]
abbrev dktX2_become_0 : List UInt8 := dkwX2_become_0 ++ dktX2_become_1
theorem dksX2_become_0 : cX2_become.data.toList.drop 0 = dktX2_become_0 := by decide +kernel
theorem dksX2_become_1 : cX2_become.data.toList.drop 23 = dktX2_become_1 := dk_seg dksX2_become_0 23 rfl rfl
theorem dksX2_become_2 : cX2_become.data.toList.drop 46 = dktX2_become_2 := dk_seg dksX2_become_1 23 rfl rfl
theorem dksX2_become_3 : cX2_become.data.toList.drop 70 = dktX2_become_3 := dk_seg dksX2_become_2 24 rfl rfl
theorem dksX2_become_4 : cX2_become.data.toList.drop 94 = dktX2_become_4 := dk_seg dksX2_become_3 24 rfl rfl
theorem dX2_become_0 : decode cX2_become 0 = .ok (.aload_n 1, 1) := dk_43 (dk_at dksX2_become_0 0 rfl rfl)
theorem dX2_become_1 : decode cX2_become 1 = .ok (.getfield 15, 3) := dk_180 0 15 (dk_at dksX2_become_0 1 rfl rfl)
theorem dX2_become_4 : decode cX2_become 4 = .ok (.aload_n 0, 1) := dk_42 (dk_at dksX2_become_0 4 rfl rfl)
theorem dX2_become_5 : decode cX2_become 5 = .ok (.getfield 15, 3) := dk_180 0 15 (dk_at dksX2_become_0 5 rfl rfl)
theorem dX2_become_8 : decode cX2_become 8 = .ok (.invokestatic 32, 3) := dk_184 0 32 (dk_at dksX2_become_0 8 rfl rfl)
theorem dX2_become_11 : decode cX2_become 11 = .ok (.aload_n 1, 1) := dk_43 (dk_at dksX2_become_0 11 rfl rfl)
theorem dX2_become_12 : decode cX2_become 12 = .ok (.getfield 19, 3) := dk_180 0 19 (dk_at dksX2_become_0 12 rfl rfl)
theorem dX2_become_15 : decode cX2_become 15 = .ok (.aload_n 0, 1) := dk_42 (dk_at dksX2_become_0 15 rfl rfl)
theorem dX2_become_16 : decode cX2_become 16 = .ok (.getfield 19, 3) := dk_180 0 19 (dk_at dksX2_become_0 16 rfl rfl)
theorem dX2_become_19 : decode cX2_become 19 = .ok (.invokestatic 32, 3) := dk_184 0 32 (dk_at dksX2_become_0 19 rfl rfl)
theorem dX2_become_22 : decode cX2_become 22 = .ok (.aload_n 1, 1) := dk_43 (dk_at dksX2_become_0 22 rfl rfl)
theorem dX2_become_23 : decode cX2_become 23 = .ok (.getfield 22, 3) := dk_180 0 22 (dk_at dksX2_become_1 0 rfl rfl)
theorem dX2_become_26 : decode cX2_become 26 = .ok (.aload_n 0, 1) := dk_42 (dk_at dksX2_become_1 3 rfl rfl)
theorem dX2_become_27 : decode cX2_become 27 = .ok (.getfield 22, 3) := dk_180 0 22 (dk_at dksX2_become_1 4 rfl rfl)
theorem dX2_become_30 : decode cX2_become 30 = .ok (.invokestatic 32, 3) := dk_184 0 32 (dk_at dksX2_become_1 7 rfl rfl)
theorem dX2_become_33 : decode cX2_become 33 = .ok (.aload_n 0, 1) := dk_42 (dk_at dksX2_become_1 10 rfl rfl)
theorem dX2_become_34 : decode cX2_become 34 = .ok (.aload_n 1, 1) := dk_43 (dk_at dksX2_become_1 11 rfl rfl)
theorem dX2_become_35 : decode cX2_become 35 = .ok (.getfield 36, 3) := dk_180 0 36 (dk_at dksX2_become_1 12 rfl rfl)
theorem dX2_become_38 : decode cX2_become 38 = .ok (.putfield 36, 3) := dk_181 0 36 (dk_at dksX2_become_1 15 rfl rfl)
theorem dX2_become_41 : decode cX2_become 41 = .ok (.aload_n 0, 1) := dk_42 (dk_at dksX2_become_1 18 rfl rfl)
theorem dX2_become_42 : decode cX2_become 42 = .ok (.aload_n 1, 1) := dk_43 (dk_at dksX2_become_1 19 rfl rfl)
theorem dX2_become_43 : decode cX2_become 43 = .ok (.getfield 39, 3) := dk_180 0 39 (dk_at dksX2_become_1 20 rfl rfl)
theorem dX2_become_46 : decode cX2_become 46 = .ok (.putfield 39, 3) := dk_181 0 39 (dk_at dksX2_become_2 0 rfl rfl)
theorem dX2_become_49 : decode cX2_become 49 = .ok (.aload_n 0, 1) := dk_42 (dk_at dksX2_become_2 3 rfl rfl)
theorem dX2_become_50 : decode cX2_become 50 = .ok (.aload_n 1, 1) := dk_43 (dk_at dksX2_become_2 4 rfl rfl)
theorem dX2_become_51 : decode cX2_become 51 = .ok (.getfield 42, 3) := dk_180 0 42 (dk_at dksX2_become_2 5 rfl rfl)
theorem dX2_become_54 : decode cX2_become 54 = .ok (.putfield 42, 3) := dk_181 0 42 (dk_at dksX2_become_2 8 rfl rfl)
theorem dX2_become_57 : decode cX2_become 57 = .ok (.aload_n 0, 1) := dk_42 (dk_at dksX2_become_2 11 rfl rfl)
theorem dX2_become_58 : decode cX2_become 58 = .ok (.aload_n 1, 1) := dk_43 (dk_at dksX2_become_2 12 rfl rfl)
theorem dX2_become_59 : decode cX2_become 59 = .ok (.getfield 45, 3) := dk_180 0 45 (dk_at dksX2_become_2 13 rfl rfl)
theorem dX2_become_62 : decode cX2_become 62 = .ok (.putfield 45, 3) := dk_181 0 45 (dk_at dksX2_become_2 16 rfl rfl)
theorem dX2_become_65 : decode cX2_become 65 = .ok (.aload_n 0, 1) := dk_42 (dk_at dksX2_become_2 19 rfl rfl)
theorem dX2_become_66 : decode cX2_become 66 = .ok (.aload_n 1, 1) := dk_43 (dk_at dksX2_become_2 20 rfl rfl)
theorem dX2_become_67 : decode cX2_become 67 = .ok (.getfield 48, 3) := dk_180 0 48 (dk_at dksX2_become_2 21 rfl rfl)
theorem dX2_become_70 : decode cX2_become 70 = .ok (.putfield 48, 3) := dk_181 0 48 (dk_at dksX2_become_3 0 rfl rfl)
theorem dX2_become_73 : decode cX2_become 73 = .ok (.aload_n 0, 1) := dk_42 (dk_at dksX2_become_3 3 rfl rfl)
theorem dX2_become_74 : decode cX2_become 74 = .ok (.aload_n 1, 1) := dk_43 (dk_at dksX2_become_3 4 rfl rfl)
theorem dX2_become_75 : decode cX2_become 75 = .ok (.getfield 28, 3) := dk_180 0 28 (dk_at dksX2_become_3 5 rfl rfl)
theorem dX2_become_78 : decode cX2_become 78 = .ok (.putfield 28, 3) := dk_181 0 28 (dk_at dksX2_become_3 8 rfl rfl)
theorem dX2_become_81 : decode cX2_become 81 = .ok (.aload_n 0, 1) := dk_42 (dk_at dksX2_become_3 11 rfl rfl)
theorem dX2_become_82 : decode cX2_become 82 = .ok (.aload_n 1, 1) := dk_43 (dk_at dksX2_become_3 12 rfl rfl)
theorem dX2_become_83 : decode cX2_become 83 = .ok (.getfield 51, 3) := dk_180 0 51 (dk_at dksX2_become_3 13 rfl rfl)
theorem dX2_become_86 : decode cX2_become 86 = .ok (.putfield 51, 3) := dk_181 0 51 (dk_at dksX2_become_3 16 rfl rfl)
theorem dX2_become_89 : decode cX2_become 89 = .ok (.aload_n 0, 1) := dk_42 (dk_at dksX2_become_3 19 rfl rfl)
theorem dX2_become_90 : decode cX2_become 90 = .ok (.aload_n 1, 1) := dk_43 (dk_at dksX2_become_3 20 rfl rfl)
theorem dX2_become_91 : decode cX2_become 91 = .ok (.getfield 54, 3) := dk_180 0 54 (dk_at dksX2_become_3 21 rfl rfl)
theorem dX2_become_94 : decode cX2_become 94 = .ok (.putfield 54, 3) := dk_181 0 54 (dk_at dksX2_become_4 0 rfl rfl)
theorem dX2_become_97 : decode cX2_become 97 = .ok (.aload_n 0, 1) := dk_42 (dk_at dksX2_become_4 3 rfl rfl)
theorem dX2_become_98 : decode cX2_become 98 = .ok (.aload_n 1, 1) := dk_43 (dk_at dksX2_become_4 4 rfl rfl)
theorem dX2_become_99 : decode cX2_become 99 = .ok (.getfield 57, 3) := dk_180 0 57 (dk_at dksX2_become_4 5 rfl rfl)
theorem dX2_become_102 : decode cX2_become 102 = .ok (.putfield 57, 3) := dk_181 0 57 (dk_at dksX2_become_4 8 rfl rfl)
theorem dX2_become_105 : decode cX2_become 105 = .ok (.return_, 1) := dk_177 (dk_at dksX2_become_4 11 rfl rfl)
abbrev cX2_does : ByteArray := prog_5_method_13_code
def yX2_does : MethodName := ⟨RX2, "does", "(I)I"⟩
def dkwX2_does_0 : List UInt8 := [4, 61, 42, 27, 182, 0, 174, 153, 0, 9, 132, 2, 1, 167, 255, 245, 28, 172]
abbrev dktX2_does_0 : List UInt8 := dkwX2_does_0 ++ []
theorem dksX2_does_0 : cX2_does.data.toList.drop 0 = dktX2_does_0 := by decide +kernel
theorem dX2_does_0 : decode cX2_does 0 = .ok (.iconst 1, 1) := dk_4 (dk_at dksX2_does_0 0 rfl rfl)
theorem dX2_does_1 : decode cX2_does 1 = .ok (.istore_n 2, 1) := dk_61 (dk_at dksX2_does_0 1 rfl rfl)
theorem dX2_does_2 : decode cX2_does 2 = .ok (.aload_n 0, 1) := dk_42 (dk_at dksX2_does_0 2 rfl rfl)
theorem dX2_does_3 : decode cX2_does 3 = .ok (.iload_n 1, 1) := dk_27 (dk_at dksX2_does_0 3 rfl rfl)
theorem dX2_does_4 : decode cX2_does 4 = .ok (.invokevirtual 174, 3) := dk_182 0 174 (dk_at dksX2_does_0 4 rfl rfl)
theorem dX2_does_7 : decode cX2_does 7 = .ok (.ifCond .eq 9, 3) := dk_153 0 9 (dk_at dksX2_does_0 7 rfl rfl)
theorem dX2_does_10 : decode cX2_does 10 = .ok (.iinc 2 1, 3) := dk_132 2 1 (dk_at dksX2_does_0 10 rfl rfl)
theorem dX2_does_13 : decode cX2_does 13 = .ok (.goto (-11), 3) := dk_167 255 245 (dk_at dksX2_does_0 13 rfl rfl)
theorem dX2_does_16 : decode cX2_does 16 = .ok (.iload_n 2, 1) := dk_28 (dk_at dksX2_does_0 16 rfl rfl)
theorem dX2_does_17 : decode cX2_does 17 = .ok (.ireturn, 1) := dk_172 (dk_at dksX2_does_0 17 rfl rfl)
abbrev cX2_doesOnce : ByteArray := prog_5_method_12_code
def yX2_doesOnce : MethodName := ⟨RX2, "doesOnce", "(I)Z"⟩
def dkwX2_doesOnce_10 : List UInt8 := [180, 0, 42, 42, 180, 0, 3, 6, 17, 1, 44, 182, 0, 172, 162, 0, 7, 4, 167, 0, 4, 3, 172]
abbrev dktX2_doesOnce_10 : List UInt8 := dkwX2_doesOnce_10 ++ []
def dkwX2_doesOnce_9 : List UInt8 := [182, 0, 169, 161, 0, 42, 42, 180, 0, 51, 42, 180, 0, 3, 4, 16, 9, 182, 0, 172, 162, 0, 25, 42]
abbrev dktX2_doesOnce_9 : List UInt8 := dkwX2_doesOnce_9 ++ dktX2_doesOnce_10
def dkwX2_doesOnce_8 : List UInt8 := [27, 42, 180, 0, 162, 182, 0, 165, 29, 154, 0, 60, 42, 180, 0, 162, 42, 180, 0, 3, 42, 180, 0, 45]
abbrev dktX2_doesOnce_8 : List UInt8 := dkwX2_doesOnce_8 ++ dktX2_doesOnce_9
def dkwX2_doesOnce_7 : List UInt8 := [29, 153, 0, 10, 42, 5, 27, 3, 182, 0, 165, 42, 42, 180, 0, 51, 158, 0, 7, 4, 167, 0, 4, 3]
abbrev dktX2_doesOnce_7 : List UInt8 := dkwX2_doesOnce_7 ++ dktX2_doesOnce_8
def dkwX2_doesOnce_6 : List UInt8 := [3, 62, 42, 29, 153, 0, 7, 3, 167, 0, 13, 42, 182, 0, 155, 42, 27, 182, 0, 159, 96, 181, 0, 162]
abbrev dktX2_doesOnce_6 : List UInt8 := dkwX2_doesOnce_6 ++ dktX2_doesOnce_7
def dkwX2_doesOnce_5 : List UInt8 := [158, 0, 24, 42, 17, 3, 232, 182, 0, 121, 42, 180, 0, 3, 180, 0, 152, 162, 0, 7, 4, 167, 0, 4]
abbrev dktX2_doesOnce_5 : List UInt8 := dkwX2_doesOnce_5 ++ dktX2_doesOnce_6
def dkwX2_doesOnce_4 : List UInt8 := [184, 0, 143, 79, 42, 27, 182, 0, 149, 42, 180, 0, 64, 154, 0, 34, 42, 180, 0, 3, 180, 0, 152]
abbrev dktX2_doesOnce_4 : List UInt8 := dkwX2_doesOnce_4 ++ dktX2_doesOnce_5
def dkwX2_doesOnce_3 : List UInt8 := [180, 0, 22, 27, 92, 46, 4, 96, 79, 42, 180, 0, 19, 27, 16, 99, 42, 180, 0, 19, 27, 46, 28, 96]
abbrev dktX2_doesOnce_3 : List UInt8 := dkwX2_doesOnce_3 ++ dktX2_doesOnce_4
def dkwX2_doesOnce_2 : List UInt8 := [181, 0, 42, 42, 89, 180, 0, 48, 42, 180, 0, 3, 180, 0, 140, 27, 46, 100, 181, 0, 48, 42]
abbrev dktX2_doesOnce_2 : List UInt8 := dkwX2_doesOnce_2 ++ dktX2_doesOnce_3
def dkwX2_doesOnce_1 : List UInt8 := [182, 0, 134, 61, 42, 27, 181, 0, 28, 42, 89, 180, 0, 42, 42, 180, 0, 3, 180, 0, 137, 27, 46, 96]
abbrev dktX2_doesOnce_1 : List UInt8 := dkwX2_doesOnce_1 ++ dktX2_doesOnce_2
def dkwX2_doesOnce_0 : List UInt8 := [42, 42, 180, 0, 28, 27, 160, 0, 12, 42, 180, 0, 51, 4, 96, 167, 0, 4, 3, 181, 0, 51, 42, 27]
abbrev dktX2_doesOnce_0 : List UInt8 := dkwX2_doesOnce_0 ++ dktX2_doesOnce_1
theorem dksX2_doesOnce_0 : cX2_doesOnce.data.toList.drop 0 = dktX2_doesOnce_0 := by decide +kernel
theorem dksX2_doesOnce_1 : cX2_doesOnce.data.toList.drop 24 = dktX2_doesOnce_1 := dk_seg dksX2_doesOnce_0 24 rfl rfl
theorem dksX2_doesOnce_2 : cX2_doesOnce.data.toList.drop 48 = dktX2_doesOnce_2 := dk_seg dksX2_doesOnce_1 24 rfl rfl
theorem dksX2_doesOnce_3 : cX2_doesOnce.data.toList.drop 70 = dktX2_doesOnce_3 := dk_seg dksX2_doesOnce_2 22 rfl rfl
theorem dksX2_doesOnce_4 : cX2_doesOnce.data.toList.drop 94 = dktX2_doesOnce_4 := dk_seg dksX2_doesOnce_3 24 rfl rfl
theorem dksX2_doesOnce_5 : cX2_doesOnce.data.toList.drop 117 = dktX2_doesOnce_5 := dk_seg dksX2_doesOnce_4 23 rfl rfl
theorem dksX2_doesOnce_6 : cX2_doesOnce.data.toList.drop 141 = dktX2_doesOnce_6 := dk_seg dksX2_doesOnce_5 24 rfl rfl
theorem dksX2_doesOnce_7 : cX2_doesOnce.data.toList.drop 165 = dktX2_doesOnce_7 := dk_seg dksX2_doesOnce_6 24 rfl rfl
theorem dksX2_doesOnce_8 : cX2_doesOnce.data.toList.drop 189 = dktX2_doesOnce_8 := dk_seg dksX2_doesOnce_7 24 rfl rfl
theorem dksX2_doesOnce_9 : cX2_doesOnce.data.toList.drop 213 = dktX2_doesOnce_9 := dk_seg dksX2_doesOnce_8 24 rfl rfl
theorem dksX2_doesOnce_10 : cX2_doesOnce.data.toList.drop 237 = dktX2_doesOnce_10 := dk_seg dksX2_doesOnce_9 24 rfl rfl
theorem dX2_doesOnce_0 : decode cX2_doesOnce 0 = .ok (.aload_n 0, 1) := dk_42 (dk_at dksX2_doesOnce_0 0 rfl rfl)
theorem dX2_doesOnce_1 : decode cX2_doesOnce 1 = .ok (.aload_n 0, 1) := dk_42 (dk_at dksX2_doesOnce_0 1 rfl rfl)
theorem dX2_doesOnce_2 : decode cX2_doesOnce 2 = .ok (.getfield 28, 3) := dk_180 0 28 (dk_at dksX2_doesOnce_0 2 rfl rfl)
theorem dX2_doesOnce_5 : decode cX2_doesOnce 5 = .ok (.iload_n 1, 1) := dk_27 (dk_at dksX2_doesOnce_0 5 rfl rfl)
theorem dX2_doesOnce_6 : decode cX2_doesOnce 6 = .ok (.if_icmp .ne 12, 3) := dk_160 0 12 (dk_at dksX2_doesOnce_0 6 rfl rfl)
theorem dX2_doesOnce_9 : decode cX2_doesOnce 9 = .ok (.aload_n 0, 1) := dk_42 (dk_at dksX2_doesOnce_0 9 rfl rfl)
theorem dX2_doesOnce_10 : decode cX2_doesOnce 10 = .ok (.getfield 51, 3) := dk_180 0 51 (dk_at dksX2_doesOnce_0 10 rfl rfl)
theorem dX2_doesOnce_13 : decode cX2_doesOnce 13 = .ok (.iconst 1, 1) := dk_4 (dk_at dksX2_doesOnce_0 13 rfl rfl)
theorem dX2_doesOnce_14 : decode cX2_doesOnce 14 = .ok (.iadd, 1) := dk_96 (dk_at dksX2_doesOnce_0 14 rfl rfl)
theorem dX2_doesOnce_15 : decode cX2_doesOnce 15 = .ok (.goto 4, 3) := dk_167 0 4 (dk_at dksX2_doesOnce_0 15 rfl rfl)
theorem dX2_doesOnce_18 : decode cX2_doesOnce 18 = .ok (.iconst 0, 1) := dk_3 (dk_at dksX2_doesOnce_0 18 rfl rfl)
theorem dX2_doesOnce_19 : decode cX2_doesOnce 19 = .ok (.putfield 51, 3) := dk_181 0 51 (dk_at dksX2_doesOnce_0 19 rfl rfl)
theorem dX2_doesOnce_22 : decode cX2_doesOnce 22 = .ok (.aload_n 0, 1) := dk_42 (dk_at dksX2_doesOnce_0 22 rfl rfl)
theorem dX2_doesOnce_23 : decode cX2_doesOnce 23 = .ok (.iload_n 1, 1) := dk_27 (dk_at dksX2_doesOnce_0 23 rfl rfl)
theorem dX2_doesOnce_24 : decode cX2_doesOnce 24 = .ok (.invokevirtual 134, 3) := dk_182 0 134 (dk_at dksX2_doesOnce_1 0 rfl rfl)
theorem dX2_doesOnce_27 : decode cX2_doesOnce 27 = .ok (.istore_n 2, 1) := dk_61 (dk_at dksX2_doesOnce_1 3 rfl rfl)
theorem dX2_doesOnce_28 : decode cX2_doesOnce 28 = .ok (.aload_n 0, 1) := dk_42 (dk_at dksX2_doesOnce_1 4 rfl rfl)
theorem dX2_doesOnce_29 : decode cX2_doesOnce 29 = .ok (.iload_n 1, 1) := dk_27 (dk_at dksX2_doesOnce_1 5 rfl rfl)
theorem dX2_doesOnce_30 : decode cX2_doesOnce 30 = .ok (.putfield 28, 3) := dk_181 0 28 (dk_at dksX2_doesOnce_1 6 rfl rfl)
theorem dX2_doesOnce_33 : decode cX2_doesOnce 33 = .ok (.aload_n 0, 1) := dk_42 (dk_at dksX2_doesOnce_1 9 rfl rfl)
theorem dX2_doesOnce_34 : decode cX2_doesOnce 34 = .ok (.dup, 1) := dk_89 (dk_at dksX2_doesOnce_1 10 rfl rfl)
theorem dX2_doesOnce_35 : decode cX2_doesOnce 35 = .ok (.getfield 42, 3) := dk_180 0 42 (dk_at dksX2_doesOnce_1 11 rfl rfl)
theorem dX2_doesOnce_38 : decode cX2_doesOnce 38 = .ok (.aload_n 0, 1) := dk_42 (dk_at dksX2_doesOnce_1 14 rfl rfl)
theorem dX2_doesOnce_39 : decode cX2_doesOnce 39 = .ok (.getfield 3, 3) := dk_180 0 3 (dk_at dksX2_doesOnce_1 15 rfl rfl)
theorem dX2_doesOnce_42 : decode cX2_doesOnce 42 = .ok (.getfield 137, 3) := dk_180 0 137 (dk_at dksX2_doesOnce_1 18 rfl rfl)
theorem dX2_doesOnce_45 : decode cX2_doesOnce 45 = .ok (.iload_n 1, 1) := dk_27 (dk_at dksX2_doesOnce_1 21 rfl rfl)
theorem dX2_doesOnce_46 : decode cX2_doesOnce 46 = .ok (.iaload, 1) := dk_46 (dk_at dksX2_doesOnce_1 22 rfl rfl)
theorem dX2_doesOnce_47 : decode cX2_doesOnce 47 = .ok (.iadd, 1) := dk_96 (dk_at dksX2_doesOnce_1 23 rfl rfl)
theorem dX2_doesOnce_48 : decode cX2_doesOnce 48 = .ok (.putfield 42, 3) := dk_181 0 42 (dk_at dksX2_doesOnce_2 0 rfl rfl)
theorem dX2_doesOnce_51 : decode cX2_doesOnce 51 = .ok (.aload_n 0, 1) := dk_42 (dk_at dksX2_doesOnce_2 3 rfl rfl)
theorem dX2_doesOnce_52 : decode cX2_doesOnce 52 = .ok (.dup, 1) := dk_89 (dk_at dksX2_doesOnce_2 4 rfl rfl)
theorem dX2_doesOnce_53 : decode cX2_doesOnce 53 = .ok (.getfield 48, 3) := dk_180 0 48 (dk_at dksX2_doesOnce_2 5 rfl rfl)
theorem dX2_doesOnce_56 : decode cX2_doesOnce 56 = .ok (.aload_n 0, 1) := dk_42 (dk_at dksX2_doesOnce_2 8 rfl rfl)
theorem dX2_doesOnce_57 : decode cX2_doesOnce 57 = .ok (.getfield 3, 3) := dk_180 0 3 (dk_at dksX2_doesOnce_2 9 rfl rfl)
theorem dX2_doesOnce_60 : decode cX2_doesOnce 60 = .ok (.getfield 140, 3) := dk_180 0 140 (dk_at dksX2_doesOnce_2 12 rfl rfl)
theorem dX2_doesOnce_63 : decode cX2_doesOnce 63 = .ok (.iload_n 1, 1) := dk_27 (dk_at dksX2_doesOnce_2 15 rfl rfl)
theorem dX2_doesOnce_64 : decode cX2_doesOnce 64 = .ok (.iaload, 1) := dk_46 (dk_at dksX2_doesOnce_2 16 rfl rfl)
theorem dX2_doesOnce_65 : decode cX2_doesOnce 65 = .ok (.isub, 1) := dk_100 (dk_at dksX2_doesOnce_2 17 rfl rfl)
theorem dX2_doesOnce_66 : decode cX2_doesOnce 66 = .ok (.putfield 48, 3) := dk_181 0 48 (dk_at dksX2_doesOnce_2 18 rfl rfl)
theorem dX2_doesOnce_69 : decode cX2_doesOnce 69 = .ok (.aload_n 0, 1) := dk_42 (dk_at dksX2_doesOnce_2 21 rfl rfl)
theorem dX2_doesOnce_70 : decode cX2_doesOnce 70 = .ok (.getfield 22, 3) := dk_180 0 22 (dk_at dksX2_doesOnce_3 0 rfl rfl)
theorem dX2_doesOnce_73 : decode cX2_doesOnce 73 = .ok (.iload_n 1, 1) := dk_27 (dk_at dksX2_doesOnce_3 3 rfl rfl)
theorem dX2_doesOnce_74 : decode cX2_doesOnce 74 = .ok (.dup2, 1) := dk_92 (dk_at dksX2_doesOnce_3 4 rfl rfl)
theorem dX2_doesOnce_75 : decode cX2_doesOnce 75 = .ok (.iaload, 1) := dk_46 (dk_at dksX2_doesOnce_3 5 rfl rfl)
theorem dX2_doesOnce_76 : decode cX2_doesOnce 76 = .ok (.iconst 1, 1) := dk_4 (dk_at dksX2_doesOnce_3 6 rfl rfl)
theorem dX2_doesOnce_77 : decode cX2_doesOnce 77 = .ok (.iadd, 1) := dk_96 (dk_at dksX2_doesOnce_3 7 rfl rfl)
theorem dX2_doesOnce_78 : decode cX2_doesOnce 78 = .ok (.iastore, 1) := dk_79 (dk_at dksX2_doesOnce_3 8 rfl rfl)
theorem dX2_doesOnce_79 : decode cX2_doesOnce 79 = .ok (.aload_n 0, 1) := dk_42 (dk_at dksX2_doesOnce_3 9 rfl rfl)
theorem dX2_doesOnce_80 : decode cX2_doesOnce 80 = .ok (.getfield 19, 3) := dk_180 0 19 (dk_at dksX2_doesOnce_3 10 rfl rfl)
theorem dX2_doesOnce_83 : decode cX2_doesOnce 83 = .ok (.iload_n 1, 1) := dk_27 (dk_at dksX2_doesOnce_3 13 rfl rfl)
theorem dX2_doesOnce_84 : decode cX2_doesOnce 84 = .ok (.bipush 99, 2) := dk_16 99 (dk_at dksX2_doesOnce_3 14 rfl rfl)
theorem dX2_doesOnce_86 : decode cX2_doesOnce 86 = .ok (.aload_n 0, 1) := dk_42 (dk_at dksX2_doesOnce_3 16 rfl rfl)
theorem dX2_doesOnce_87 : decode cX2_doesOnce 87 = .ok (.getfield 19, 3) := dk_180 0 19 (dk_at dksX2_doesOnce_3 17 rfl rfl)
theorem dX2_doesOnce_90 : decode cX2_doesOnce 90 = .ok (.iload_n 1, 1) := dk_27 (dk_at dksX2_doesOnce_3 20 rfl rfl)
theorem dX2_doesOnce_91 : decode cX2_doesOnce 91 = .ok (.iaload, 1) := dk_46 (dk_at dksX2_doesOnce_3 21 rfl rfl)
theorem dX2_doesOnce_92 : decode cX2_doesOnce 92 = .ok (.iload_n 2, 1) := dk_28 (dk_at dksX2_doesOnce_3 22 rfl rfl)
theorem dX2_doesOnce_93 : decode cX2_doesOnce 93 = .ok (.iadd, 1) := dk_96 (dk_at dksX2_doesOnce_3 23 rfl rfl)
theorem dX2_doesOnce_94 : decode cX2_doesOnce 94 = .ok (.invokestatic 143, 3) := dk_184 0 143 (dk_at dksX2_doesOnce_4 0 rfl rfl)
theorem dX2_doesOnce_97 : decode cX2_doesOnce 97 = .ok (.iastore, 1) := dk_79 (dk_at dksX2_doesOnce_4 3 rfl rfl)
theorem dX2_doesOnce_98 : decode cX2_doesOnce 98 = .ok (.aload_n 0, 1) := dk_42 (dk_at dksX2_doesOnce_4 4 rfl rfl)
theorem dX2_doesOnce_99 : decode cX2_doesOnce 99 = .ok (.iload_n 1, 1) := dk_27 (dk_at dksX2_doesOnce_4 5 rfl rfl)
theorem dX2_doesOnce_100 : decode cX2_doesOnce 100 = .ok (.invokevirtual 149, 3) := dk_182 0 149 (dk_at dksX2_doesOnce_4 6 rfl rfl)
theorem dX2_doesOnce_103 : decode cX2_doesOnce 103 = .ok (.aload_n 0, 1) := dk_42 (dk_at dksX2_doesOnce_4 9 rfl rfl)
theorem dX2_doesOnce_104 : decode cX2_doesOnce 104 = .ok (.getfield 64, 3) := dk_180 0 64 (dk_at dksX2_doesOnce_4 10 rfl rfl)
theorem dX2_doesOnce_107 : decode cX2_doesOnce 107 = .ok (.ifCond .ne 34, 3) := dk_154 0 34 (dk_at dksX2_doesOnce_4 13 rfl rfl)
theorem dX2_doesOnce_110 : decode cX2_doesOnce 110 = .ok (.aload_n 0, 1) := dk_42 (dk_at dksX2_doesOnce_4 16 rfl rfl)
theorem dX2_doesOnce_111 : decode cX2_doesOnce 111 = .ok (.getfield 3, 3) := dk_180 0 3 (dk_at dksX2_doesOnce_4 17 rfl rfl)
theorem dX2_doesOnce_114 : decode cX2_doesOnce 114 = .ok (.getfield 152, 3) := dk_180 0 152 (dk_at dksX2_doesOnce_4 20 rfl rfl)
theorem dX2_doesOnce_117 : decode cX2_doesOnce 117 = .ok (.ifCond .le 24, 3) := dk_158 0 24 (dk_at dksX2_doesOnce_5 0 rfl rfl)
theorem dX2_doesOnce_120 : decode cX2_doesOnce 120 = .ok (.aload_n 0, 1) := dk_42 (dk_at dksX2_doesOnce_5 3 rfl rfl)
theorem dX2_doesOnce_121 : decode cX2_doesOnce 121 = .ok (.sipush 1000, 3) := dk_17 3 232 (dk_at dksX2_doesOnce_5 4 rfl rfl)
theorem dX2_doesOnce_124 : decode cX2_doesOnce 124 = .ok (.invokevirtual 121, 3) := dk_182 0 121 (dk_at dksX2_doesOnce_5 7 rfl rfl)
theorem dX2_doesOnce_127 : decode cX2_doesOnce 127 = .ok (.aload_n 0, 1) := dk_42 (dk_at dksX2_doesOnce_5 10 rfl rfl)
theorem dX2_doesOnce_128 : decode cX2_doesOnce 128 = .ok (.getfield 3, 3) := dk_180 0 3 (dk_at dksX2_doesOnce_5 11 rfl rfl)
theorem dX2_doesOnce_131 : decode cX2_doesOnce 131 = .ok (.getfield 152, 3) := dk_180 0 152 (dk_at dksX2_doesOnce_5 14 rfl rfl)
theorem dX2_doesOnce_134 : decode cX2_doesOnce 134 = .ok (.if_icmp .ge 7, 3) := dk_162 0 7 (dk_at dksX2_doesOnce_5 17 rfl rfl)
theorem dX2_doesOnce_137 : decode cX2_doesOnce 137 = .ok (.iconst 1, 1) := dk_4 (dk_at dksX2_doesOnce_5 20 rfl rfl)
theorem dX2_doesOnce_138 : decode cX2_doesOnce 138 = .ok (.goto 4, 3) := dk_167 0 4 (dk_at dksX2_doesOnce_5 21 rfl rfl)
theorem dX2_doesOnce_141 : decode cX2_doesOnce 141 = .ok (.iconst 0, 1) := dk_3 (dk_at dksX2_doesOnce_6 0 rfl rfl)
theorem dX2_doesOnce_142 : decode cX2_doesOnce 142 = .ok (.istore_n 3, 1) := dk_62 (dk_at dksX2_doesOnce_6 1 rfl rfl)
theorem dX2_doesOnce_143 : decode cX2_doesOnce 143 = .ok (.aload_n 0, 1) := dk_42 (dk_at dksX2_doesOnce_6 2 rfl rfl)
theorem dX2_doesOnce_144 : decode cX2_doesOnce 144 = .ok (.iload_n 3, 1) := dk_29 (dk_at dksX2_doesOnce_6 3 rfl rfl)
theorem dX2_doesOnce_145 : decode cX2_doesOnce 145 = .ok (.ifCond .eq 7, 3) := dk_153 0 7 (dk_at dksX2_doesOnce_6 4 rfl rfl)
theorem dX2_doesOnce_148 : decode cX2_doesOnce 148 = .ok (.iconst 0, 1) := dk_3 (dk_at dksX2_doesOnce_6 7 rfl rfl)
theorem dX2_doesOnce_149 : decode cX2_doesOnce 149 = .ok (.goto 13, 3) := dk_167 0 13 (dk_at dksX2_doesOnce_6 8 rfl rfl)
theorem dX2_doesOnce_152 : decode cX2_doesOnce 152 = .ok (.aload_n 0, 1) := dk_42 (dk_at dksX2_doesOnce_6 11 rfl rfl)
theorem dX2_doesOnce_153 : decode cX2_doesOnce 153 = .ok (.invokevirtual 155, 3) := dk_182 0 155 (dk_at dksX2_doesOnce_6 12 rfl rfl)
theorem dX2_doesOnce_156 : decode cX2_doesOnce 156 = .ok (.aload_n 0, 1) := dk_42 (dk_at dksX2_doesOnce_6 15 rfl rfl)
theorem dX2_doesOnce_157 : decode cX2_doesOnce 157 = .ok (.iload_n 1, 1) := dk_27 (dk_at dksX2_doesOnce_6 16 rfl rfl)
theorem dX2_doesOnce_158 : decode cX2_doesOnce 158 = .ok (.invokevirtual 159, 3) := dk_182 0 159 (dk_at dksX2_doesOnce_6 17 rfl rfl)
theorem dX2_doesOnce_161 : decode cX2_doesOnce 161 = .ok (.iadd, 1) := dk_96 (dk_at dksX2_doesOnce_6 20 rfl rfl)
theorem dX2_doesOnce_162 : decode cX2_doesOnce 162 = .ok (.putfield 162, 3) := dk_181 0 162 (dk_at dksX2_doesOnce_6 21 rfl rfl)
theorem dX2_doesOnce_165 : decode cX2_doesOnce 165 = .ok (.iload_n 3, 1) := dk_29 (dk_at dksX2_doesOnce_7 0 rfl rfl)
theorem dX2_doesOnce_166 : decode cX2_doesOnce 166 = .ok (.ifCond .eq 10, 3) := dk_153 0 10 (dk_at dksX2_doesOnce_7 1 rfl rfl)
theorem dX2_doesOnce_169 : decode cX2_doesOnce 169 = .ok (.aload_n 0, 1) := dk_42 (dk_at dksX2_doesOnce_7 4 rfl rfl)
theorem dX2_doesOnce_170 : decode cX2_doesOnce 170 = .ok (.iconst 2, 1) := dk_5 (dk_at dksX2_doesOnce_7 5 rfl rfl)
theorem dX2_doesOnce_171 : decode cX2_doesOnce 171 = .ok (.iload_n 1, 1) := dk_27 (dk_at dksX2_doesOnce_7 6 rfl rfl)
theorem dX2_doesOnce_172 : decode cX2_doesOnce 172 = .ok (.iconst 0, 1) := dk_3 (dk_at dksX2_doesOnce_7 7 rfl rfl)
theorem dX2_doesOnce_173 : decode cX2_doesOnce 173 = .ok (.invokevirtual 165, 3) := dk_182 0 165 (dk_at dksX2_doesOnce_7 8 rfl rfl)
theorem dX2_doesOnce_176 : decode cX2_doesOnce 176 = .ok (.aload_n 0, 1) := dk_42 (dk_at dksX2_doesOnce_7 11 rfl rfl)
theorem dX2_doesOnce_177 : decode cX2_doesOnce 177 = .ok (.aload_n 0, 1) := dk_42 (dk_at dksX2_doesOnce_7 12 rfl rfl)
theorem dX2_doesOnce_178 : decode cX2_doesOnce 178 = .ok (.getfield 51, 3) := dk_180 0 51 (dk_at dksX2_doesOnce_7 13 rfl rfl)
theorem dX2_doesOnce_181 : decode cX2_doesOnce 181 = .ok (.ifCond .le 7, 3) := dk_158 0 7 (dk_at dksX2_doesOnce_7 16 rfl rfl)
theorem dX2_doesOnce_184 : decode cX2_doesOnce 184 = .ok (.iconst 1, 1) := dk_4 (dk_at dksX2_doesOnce_7 19 rfl rfl)
theorem dX2_doesOnce_185 : decode cX2_doesOnce 185 = .ok (.goto 4, 3) := dk_167 0 4 (dk_at dksX2_doesOnce_7 20 rfl rfl)
theorem dX2_doesOnce_188 : decode cX2_doesOnce 188 = .ok (.iconst 0, 1) := dk_3 (dk_at dksX2_doesOnce_7 23 rfl rfl)
theorem dX2_doesOnce_189 : decode cX2_doesOnce 189 = .ok (.iload_n 1, 1) := dk_27 (dk_at dksX2_doesOnce_8 0 rfl rfl)
theorem dX2_doesOnce_190 : decode cX2_doesOnce 190 = .ok (.aload_n 0, 1) := dk_42 (dk_at dksX2_doesOnce_8 1 rfl rfl)
theorem dX2_doesOnce_191 : decode cX2_doesOnce 191 = .ok (.getfield 162, 3) := dk_180 0 162 (dk_at dksX2_doesOnce_8 2 rfl rfl)
theorem dX2_doesOnce_194 : decode cX2_doesOnce 194 = .ok (.invokevirtual 165, 3) := dk_182 0 165 (dk_at dksX2_doesOnce_8 5 rfl rfl)
theorem dX2_doesOnce_197 : decode cX2_doesOnce 197 = .ok (.iload_n 3, 1) := dk_29 (dk_at dksX2_doesOnce_8 8 rfl rfl)
theorem dX2_doesOnce_198 : decode cX2_doesOnce 198 = .ok (.ifCond .ne 60, 3) := dk_154 0 60 (dk_at dksX2_doesOnce_8 9 rfl rfl)
theorem dX2_doesOnce_201 : decode cX2_doesOnce 201 = .ok (.aload_n 0, 1) := dk_42 (dk_at dksX2_doesOnce_8 12 rfl rfl)
theorem dX2_doesOnce_202 : decode cX2_doesOnce 202 = .ok (.getfield 162, 3) := dk_180 0 162 (dk_at dksX2_doesOnce_8 13 rfl rfl)
theorem dX2_doesOnce_205 : decode cX2_doesOnce 205 = .ok (.aload_n 0, 1) := dk_42 (dk_at dksX2_doesOnce_8 16 rfl rfl)
theorem dX2_doesOnce_206 : decode cX2_doesOnce 206 = .ok (.getfield 3, 3) := dk_180 0 3 (dk_at dksX2_doesOnce_8 17 rfl rfl)
theorem dX2_doesOnce_209 : decode cX2_doesOnce 209 = .ok (.aload_n 0, 1) := dk_42 (dk_at dksX2_doesOnce_8 20 rfl rfl)
theorem dX2_doesOnce_210 : decode cX2_doesOnce 210 = .ok (.getfield 45, 3) := dk_180 0 45 (dk_at dksX2_doesOnce_8 21 rfl rfl)
theorem dX2_doesOnce_213 : decode cX2_doesOnce 213 = .ok (.invokevirtual 169, 3) := dk_182 0 169 (dk_at dksX2_doesOnce_9 0 rfl rfl)
theorem dX2_doesOnce_216 : decode cX2_doesOnce 216 = .ok (.if_icmp .lt 42, 3) := dk_161 0 42 (dk_at dksX2_doesOnce_9 3 rfl rfl)
theorem dX2_doesOnce_219 : decode cX2_doesOnce 219 = .ok (.aload_n 0, 1) := dk_42 (dk_at dksX2_doesOnce_9 6 rfl rfl)
theorem dX2_doesOnce_220 : decode cX2_doesOnce 220 = .ok (.getfield 51, 3) := dk_180 0 51 (dk_at dksX2_doesOnce_9 7 rfl rfl)
theorem dX2_doesOnce_223 : decode cX2_doesOnce 223 = .ok (.aload_n 0, 1) := dk_42 (dk_at dksX2_doesOnce_9 10 rfl rfl)
theorem dX2_doesOnce_224 : decode cX2_doesOnce 224 = .ok (.getfield 3, 3) := dk_180 0 3 (dk_at dksX2_doesOnce_9 11 rfl rfl)
theorem dX2_doesOnce_227 : decode cX2_doesOnce 227 = .ok (.iconst 1, 1) := dk_4 (dk_at dksX2_doesOnce_9 14 rfl rfl)
theorem dX2_doesOnce_228 : decode cX2_doesOnce 228 = .ok (.bipush 9, 2) := dk_16 9 (dk_at dksX2_doesOnce_9 15 rfl rfl)
theorem dX2_doesOnce_230 : decode cX2_doesOnce 230 = .ok (.invokevirtual 172, 3) := dk_182 0 172 (dk_at dksX2_doesOnce_9 17 rfl rfl)
theorem dX2_doesOnce_233 : decode cX2_doesOnce 233 = .ok (.if_icmp .ge 25, 3) := dk_162 0 25 (dk_at dksX2_doesOnce_9 20 rfl rfl)
theorem dX2_doesOnce_236 : decode cX2_doesOnce 236 = .ok (.aload_n 0, 1) := dk_42 (dk_at dksX2_doesOnce_9 23 rfl rfl)
theorem dX2_doesOnce_237 : decode cX2_doesOnce 237 = .ok (.getfield 42, 3) := dk_180 0 42 (dk_at dksX2_doesOnce_10 0 rfl rfl)
theorem dX2_doesOnce_240 : decode cX2_doesOnce 240 = .ok (.aload_n 0, 1) := dk_42 (dk_at dksX2_doesOnce_10 3 rfl rfl)
theorem dX2_doesOnce_241 : decode cX2_doesOnce 241 = .ok (.getfield 3, 3) := dk_180 0 3 (dk_at dksX2_doesOnce_10 4 rfl rfl)
theorem dX2_doesOnce_244 : decode cX2_doesOnce 244 = .ok (.iconst 3, 1) := dk_6 (dk_at dksX2_doesOnce_10 7 rfl rfl)
theorem dX2_doesOnce_245 : decode cX2_doesOnce 245 = .ok (.sipush 300, 3) := dk_17 1 44 (dk_at dksX2_doesOnce_10 8 rfl rfl)
theorem dX2_doesOnce_248 : decode cX2_doesOnce 248 = .ok (.invokevirtual 172, 3) := dk_182 0 172 (dk_at dksX2_doesOnce_10 11 rfl rfl)
theorem dX2_doesOnce_251 : decode cX2_doesOnce 251 = .ok (.if_icmp .ge 7, 3) := dk_162 0 7 (dk_at dksX2_doesOnce_10 14 rfl rfl)
theorem dX2_doesOnce_254 : decode cX2_doesOnce 254 = .ok (.iconst 1, 1) := dk_4 (dk_at dksX2_doesOnce_10 17 rfl rfl)
theorem dX2_doesOnce_255 : decode cX2_doesOnce 255 = .ok (.goto 4, 3) := dk_167 0 4 (dk_at dksX2_doesOnce_10 18 rfl rfl)
theorem dX2_doesOnce_258 : decode cX2_doesOnce 258 = .ok (.iconst 0, 1) := dk_3 (dk_at dksX2_doesOnce_10 21 rfl rfl)
theorem dX2_doesOnce_259 : decode cX2_doesOnce 259 = .ok (.ireturn, 1) := dk_172 (dk_at dksX2_doesOnce_10 22 rfl rfl)
abbrev cX2_wearsOf : ByteArray := prog_5_method_7_code
def yX2_wearsOf : MethodName := ⟨RX2, "wearsOf", "(I)I"⟩
def dkwX2_wearsOf_0 : List UInt8 := [42, 27, 182, 0, 82, 42, 180, 0, 3, 5, 5, 16, 99, 182, 0, 86, 172]
abbrev dktX2_wearsOf_0 : List UInt8 := dkwX2_wearsOf_0 ++ []
theorem dksX2_wearsOf_0 : cX2_wearsOf.data.toList.drop 0 = dktX2_wearsOf_0 := by decide +kernel
theorem dX2_wearsOf_0 : decode cX2_wearsOf 0 = .ok (.aload_n 0, 1) := dk_42 (dk_at dksX2_wearsOf_0 0 rfl rfl)
theorem dX2_wearsOf_1 : decode cX2_wearsOf 1 = .ok (.iload_n 1, 1) := dk_27 (dk_at dksX2_wearsOf_0 1 rfl rfl)
theorem dX2_wearsOf_2 : decode cX2_wearsOf 2 = .ok (.invokevirtual 82, 3) := dk_182 0 82 (dk_at dksX2_wearsOf_0 2 rfl rfl)
theorem dX2_wearsOf_5 : decode cX2_wearsOf 5 = .ok (.aload_n 0, 1) := dk_42 (dk_at dksX2_wearsOf_0 5 rfl rfl)
theorem dX2_wearsOf_6 : decode cX2_wearsOf 6 = .ok (.getfield 3, 3) := dk_180 0 3 (dk_at dksX2_wearsOf_0 6 rfl rfl)
theorem dX2_wearsOf_9 : decode cX2_wearsOf 9 = .ok (.iconst 2, 1) := dk_5 (dk_at dksX2_wearsOf_0 9 rfl rfl)
theorem dX2_wearsOf_10 : decode cX2_wearsOf 10 = .ok (.iconst 2, 1) := dk_5 (dk_at dksX2_wearsOf_0 10 rfl rfl)
theorem dX2_wearsOf_11 : decode cX2_wearsOf 11 = .ok (.bipush 99, 2) := dk_16 99 (dk_at dksX2_wearsOf_0 11 rfl rfl)
theorem dX2_wearsOf_13 : decode cX2_wearsOf 13 = .ok (.invokevirtual 86, 3) := dk_182 0 86 (dk_at dksX2_wearsOf_0 13 rfl rfl)
theorem dX2_wearsOf_16 : decode cX2_wearsOf 16 = .ok (.ireturn, 1) := dk_172 (dk_at dksX2_wearsOf_0 16 rfl rfl)
abbrev cX2_asksDeed : ByteArray := prog_5_method_5_code
def yX2_asksDeed : MethodName := ⟨RX2, "asksDeed", "(I)V"⟩
def dkwX2_asksDeed_3 : List UInt8 := [180, 0, 42, 16, 60, 108, 79, 177]
abbrev dktX2_asksDeed_3 : List UInt8 := dkwX2_asksDeed_3 ++ []
def dkwX2_asksDeed_2 : List UInt8 := [180, 0, 3, 180, 0, 70, 16, 7, 42, 180, 0, 51, 79, 42, 180, 0, 3, 180, 0, 70, 16, 9, 42]
abbrev dktX2_asksDeed_2 : List UInt8 := dkwX2_asksDeed_2 ++ dktX2_asksDeed_3
def dkwX2_asksDeed_1 : List UInt8 := [180, 0, 79, 27, 46, 79, 42, 180, 0, 3, 180, 0, 70, 16, 6, 42, 180, 0, 19, 27, 46, 79, 42]
abbrev dktX2_asksDeed_1 : List UInt8 := dkwX2_asksDeed_1 ++ dktX2_asksDeed_2
def dkwX2_asksDeed_0 : List UInt8 := [42, 180, 0, 3, 180, 0, 70, 3, 184, 0, 73, 42, 180, 0, 3, 180, 0, 70, 8, 42, 180, 0, 3]
abbrev dktX2_asksDeed_0 : List UInt8 := dkwX2_asksDeed_0 ++ dktX2_asksDeed_1
theorem dksX2_asksDeed_0 : cX2_asksDeed.data.toList.drop 0 = dktX2_asksDeed_0 := by decide +kernel
theorem dksX2_asksDeed_1 : cX2_asksDeed.data.toList.drop 23 = dktX2_asksDeed_1 := dk_seg dksX2_asksDeed_0 23 rfl rfl
theorem dksX2_asksDeed_2 : cX2_asksDeed.data.toList.drop 46 = dktX2_asksDeed_2 := dk_seg dksX2_asksDeed_1 23 rfl rfl
theorem dksX2_asksDeed_3 : cX2_asksDeed.data.toList.drop 69 = dktX2_asksDeed_3 := dk_seg dksX2_asksDeed_2 23 rfl rfl
theorem dX2_asksDeed_0 : decode cX2_asksDeed 0 = .ok (.aload_n 0, 1) := dk_42 (dk_at dksX2_asksDeed_0 0 rfl rfl)
theorem dX2_asksDeed_1 : decode cX2_asksDeed 1 = .ok (.getfield 3, 3) := dk_180 0 3 (dk_at dksX2_asksDeed_0 1 rfl rfl)
theorem dX2_asksDeed_4 : decode cX2_asksDeed 4 = .ok (.getfield 70, 3) := dk_180 0 70 (dk_at dksX2_asksDeed_0 4 rfl rfl)
theorem dX2_asksDeed_7 : decode cX2_asksDeed 7 = .ok (.iconst 0, 1) := dk_3 (dk_at dksX2_asksDeed_0 7 rfl rfl)
theorem dX2_asksDeed_8 : decode cX2_asksDeed 8 = .ok (.invokestatic 73, 3) := dk_184 0 73 (dk_at dksX2_asksDeed_0 8 rfl rfl)
theorem dX2_asksDeed_11 : decode cX2_asksDeed 11 = .ok (.aload_n 0, 1) := dk_42 (dk_at dksX2_asksDeed_0 11 rfl rfl)
theorem dX2_asksDeed_12 : decode cX2_asksDeed 12 = .ok (.getfield 3, 3) := dk_180 0 3 (dk_at dksX2_asksDeed_0 12 rfl rfl)
theorem dX2_asksDeed_15 : decode cX2_asksDeed 15 = .ok (.getfield 70, 3) := dk_180 0 70 (dk_at dksX2_asksDeed_0 15 rfl rfl)
theorem dX2_asksDeed_18 : decode cX2_asksDeed 18 = .ok (.iconst 5, 1) := dk_8 (dk_at dksX2_asksDeed_0 18 rfl rfl)
theorem dX2_asksDeed_19 : decode cX2_asksDeed 19 = .ok (.aload_n 0, 1) := dk_42 (dk_at dksX2_asksDeed_0 19 rfl rfl)
theorem dX2_asksDeed_20 : decode cX2_asksDeed 20 = .ok (.getfield 3, 3) := dk_180 0 3 (dk_at dksX2_asksDeed_0 20 rfl rfl)
theorem dX2_asksDeed_23 : decode cX2_asksDeed 23 = .ok (.getfield 79, 3) := dk_180 0 79 (dk_at dksX2_asksDeed_1 0 rfl rfl)
theorem dX2_asksDeed_26 : decode cX2_asksDeed 26 = .ok (.iload_n 1, 1) := dk_27 (dk_at dksX2_asksDeed_1 3 rfl rfl)
theorem dX2_asksDeed_27 : decode cX2_asksDeed 27 = .ok (.iaload, 1) := dk_46 (dk_at dksX2_asksDeed_1 4 rfl rfl)
theorem dX2_asksDeed_28 : decode cX2_asksDeed 28 = .ok (.iastore, 1) := dk_79 (dk_at dksX2_asksDeed_1 5 rfl rfl)
theorem dX2_asksDeed_29 : decode cX2_asksDeed 29 = .ok (.aload_n 0, 1) := dk_42 (dk_at dksX2_asksDeed_1 6 rfl rfl)
theorem dX2_asksDeed_30 : decode cX2_asksDeed 30 = .ok (.getfield 3, 3) := dk_180 0 3 (dk_at dksX2_asksDeed_1 7 rfl rfl)
theorem dX2_asksDeed_33 : decode cX2_asksDeed 33 = .ok (.getfield 70, 3) := dk_180 0 70 (dk_at dksX2_asksDeed_1 10 rfl rfl)
theorem dX2_asksDeed_36 : decode cX2_asksDeed 36 = .ok (.bipush 6, 2) := dk_16 6 (dk_at dksX2_asksDeed_1 13 rfl rfl)
theorem dX2_asksDeed_38 : decode cX2_asksDeed 38 = .ok (.aload_n 0, 1) := dk_42 (dk_at dksX2_asksDeed_1 15 rfl rfl)
theorem dX2_asksDeed_39 : decode cX2_asksDeed 39 = .ok (.getfield 19, 3) := dk_180 0 19 (dk_at dksX2_asksDeed_1 16 rfl rfl)
theorem dX2_asksDeed_42 : decode cX2_asksDeed 42 = .ok (.iload_n 1, 1) := dk_27 (dk_at dksX2_asksDeed_1 19 rfl rfl)
theorem dX2_asksDeed_43 : decode cX2_asksDeed 43 = .ok (.iaload, 1) := dk_46 (dk_at dksX2_asksDeed_1 20 rfl rfl)
theorem dX2_asksDeed_44 : decode cX2_asksDeed 44 = .ok (.iastore, 1) := dk_79 (dk_at dksX2_asksDeed_1 21 rfl rfl)
theorem dX2_asksDeed_45 : decode cX2_asksDeed 45 = .ok (.aload_n 0, 1) := dk_42 (dk_at dksX2_asksDeed_1 22 rfl rfl)
theorem dX2_asksDeed_46 : decode cX2_asksDeed 46 = .ok (.getfield 3, 3) := dk_180 0 3 (dk_at dksX2_asksDeed_2 0 rfl rfl)
theorem dX2_asksDeed_49 : decode cX2_asksDeed 49 = .ok (.getfield 70, 3) := dk_180 0 70 (dk_at dksX2_asksDeed_2 3 rfl rfl)
theorem dX2_asksDeed_52 : decode cX2_asksDeed 52 = .ok (.bipush 7, 2) := dk_16 7 (dk_at dksX2_asksDeed_2 6 rfl rfl)
theorem dX2_asksDeed_54 : decode cX2_asksDeed 54 = .ok (.aload_n 0, 1) := dk_42 (dk_at dksX2_asksDeed_2 8 rfl rfl)
theorem dX2_asksDeed_55 : decode cX2_asksDeed 55 = .ok (.getfield 51, 3) := dk_180 0 51 (dk_at dksX2_asksDeed_2 9 rfl rfl)
theorem dX2_asksDeed_58 : decode cX2_asksDeed 58 = .ok (.iastore, 1) := dk_79 (dk_at dksX2_asksDeed_2 12 rfl rfl)
theorem dX2_asksDeed_59 : decode cX2_asksDeed 59 = .ok (.aload_n 0, 1) := dk_42 (dk_at dksX2_asksDeed_2 13 rfl rfl)
theorem dX2_asksDeed_60 : decode cX2_asksDeed 60 = .ok (.getfield 3, 3) := dk_180 0 3 (dk_at dksX2_asksDeed_2 14 rfl rfl)
theorem dX2_asksDeed_63 : decode cX2_asksDeed 63 = .ok (.getfield 70, 3) := dk_180 0 70 (dk_at dksX2_asksDeed_2 17 rfl rfl)
theorem dX2_asksDeed_66 : decode cX2_asksDeed 66 = .ok (.bipush 9, 2) := dk_16 9 (dk_at dksX2_asksDeed_2 20 rfl rfl)
theorem dX2_asksDeed_68 : decode cX2_asksDeed 68 = .ok (.aload_n 0, 1) := dk_42 (dk_at dksX2_asksDeed_2 22 rfl rfl)
theorem dX2_asksDeed_69 : decode cX2_asksDeed 69 = .ok (.getfield 42, 3) := dk_180 0 42 (dk_at dksX2_asksDeed_3 0 rfl rfl)
theorem dX2_asksDeed_72 : decode cX2_asksDeed 72 = .ok (.bipush 60, 2) := dk_16 60 (dk_at dksX2_asksDeed_3 3 rfl rfl)
theorem dX2_asksDeed_74 : decode cX2_asksDeed 74 = .ok (.idiv, 1) := dk_108 (dk_at dksX2_asksDeed_3 5 rfl rfl)
theorem dX2_asksDeed_75 : decode cX2_asksDeed 75 = .ok (.iastore, 1) := dk_79 (dk_at dksX2_asksDeed_3 6 rfl rfl)
theorem dX2_asksDeed_76 : decode cX2_asksDeed 76 = .ok (.return_, 1) := dk_177 (dk_at dksX2_asksDeed_3 7 rfl rfl)
abbrev cX2_isClapped : ByteArray := prog_5_method_10_code
def yX2_isClapped : MethodName := ⟨RX2, "isClapped", "(I)V"⟩
def dkwX2_isClapped_3 : List UInt8 := [182, 0, 127, 153, 0, 16, 42, 89, 180, 0, 124, 4, 96, 181, 0, 124, 167, 255, 238, 177]
abbrev dktX2_isClapped_3 : List UInt8 := dkwX2_isClapped_3 ++ []
def dkwX2_isClapped_2 : List UInt8 := [182, 0, 121, 79, 132, 2, 1, 167, 255, 205, 42, 3, 181, 0, 108, 42, 3, 181, 0, 124, 42, 27]
abbrev dktX2_isClapped_2 : List UInt8 := dkwX2_isClapped_2 ++ dktX2_isClapped_3
def dkwX2_isClapped_1 : List UInt8 := [42, 180, 0, 25, 28, 42, 180, 0, 64, 153, 0, 9, 17, 1, 244, 167, 0, 10, 42, 17, 3, 232]
abbrev dktX2_isClapped_1 : List UInt8 := dkwX2_isClapped_1 ++ dktX2_isClapped_2
def dkwX2_isClapped_0 : List UInt8 := [3, 61, 28, 42, 180, 0, 3, 180, 0, 111, 162, 0, 46, 42, 180, 0, 36, 28, 184, 0, 114, 153, 0, 29]
abbrev dktX2_isClapped_0 : List UInt8 := dkwX2_isClapped_0 ++ dktX2_isClapped_1
theorem dksX2_isClapped_0 : cX2_isClapped.data.toList.drop 0 = dktX2_isClapped_0 := by decide +kernel
theorem dksX2_isClapped_1 : cX2_isClapped.data.toList.drop 24 = dktX2_isClapped_1 := dk_seg dksX2_isClapped_0 24 rfl rfl
theorem dksX2_isClapped_2 : cX2_isClapped.data.toList.drop 46 = dktX2_isClapped_2 := dk_seg dksX2_isClapped_1 22 rfl rfl
theorem dksX2_isClapped_3 : cX2_isClapped.data.toList.drop 68 = dktX2_isClapped_3 := dk_seg dksX2_isClapped_2 22 rfl rfl
theorem dX2_isClapped_0 : decode cX2_isClapped 0 = .ok (.iconst 0, 1) := dk_3 (dk_at dksX2_isClapped_0 0 rfl rfl)
theorem dX2_isClapped_1 : decode cX2_isClapped 1 = .ok (.istore_n 2, 1) := dk_61 (dk_at dksX2_isClapped_0 1 rfl rfl)
theorem dX2_isClapped_2 : decode cX2_isClapped 2 = .ok (.iload_n 2, 1) := dk_28 (dk_at dksX2_isClapped_0 2 rfl rfl)
theorem dX2_isClapped_3 : decode cX2_isClapped 3 = .ok (.aload_n 0, 1) := dk_42 (dk_at dksX2_isClapped_0 3 rfl rfl)
theorem dX2_isClapped_4 : decode cX2_isClapped 4 = .ok (.getfield 3, 3) := dk_180 0 3 (dk_at dksX2_isClapped_0 4 rfl rfl)
theorem dX2_isClapped_7 : decode cX2_isClapped 7 = .ok (.getfield 111, 3) := dk_180 0 111 (dk_at dksX2_isClapped_0 7 rfl rfl)
theorem dX2_isClapped_10 : decode cX2_isClapped 10 = .ok (.if_icmp .ge 46, 3) := dk_162 0 46 (dk_at dksX2_isClapped_0 10 rfl rfl)
theorem dX2_isClapped_13 : decode cX2_isClapped 13 = .ok (.aload_n 0, 1) := dk_42 (dk_at dksX2_isClapped_0 13 rfl rfl)
theorem dX2_isClapped_14 : decode cX2_isClapped 14 = .ok (.getfield 36, 3) := dk_180 0 36 (dk_at dksX2_isClapped_0 14 rfl rfl)
theorem dX2_isClapped_17 : decode cX2_isClapped 17 = .ok (.iload_n 2, 1) := dk_28 (dk_at dksX2_isClapped_0 17 rfl rfl)
theorem dX2_isClapped_18 : decode cX2_isClapped 18 = .ok (.invokestatic 114, 3) := dk_184 0 114 (dk_at dksX2_isClapped_0 18 rfl rfl)
theorem dX2_isClapped_21 : decode cX2_isClapped 21 = .ok (.ifCond .eq 29, 3) := dk_153 0 29 (dk_at dksX2_isClapped_0 21 rfl rfl)
theorem dX2_isClapped_24 : decode cX2_isClapped 24 = .ok (.aload_n 0, 1) := dk_42 (dk_at dksX2_isClapped_1 0 rfl rfl)
theorem dX2_isClapped_25 : decode cX2_isClapped 25 = .ok (.getfield 25, 3) := dk_180 0 25 (dk_at dksX2_isClapped_1 1 rfl rfl)
theorem dX2_isClapped_28 : decode cX2_isClapped 28 = .ok (.iload_n 2, 1) := dk_28 (dk_at dksX2_isClapped_1 4 rfl rfl)
theorem dX2_isClapped_29 : decode cX2_isClapped 29 = .ok (.aload_n 0, 1) := dk_42 (dk_at dksX2_isClapped_1 5 rfl rfl)
theorem dX2_isClapped_30 : decode cX2_isClapped 30 = .ok (.getfield 64, 3) := dk_180 0 64 (dk_at dksX2_isClapped_1 6 rfl rfl)
theorem dX2_isClapped_33 : decode cX2_isClapped 33 = .ok (.ifCond .eq 9, 3) := dk_153 0 9 (dk_at dksX2_isClapped_1 9 rfl rfl)
theorem dX2_isClapped_36 : decode cX2_isClapped 36 = .ok (.sipush 500, 3) := dk_17 1 244 (dk_at dksX2_isClapped_1 12 rfl rfl)
theorem dX2_isClapped_39 : decode cX2_isClapped 39 = .ok (.goto 10, 3) := dk_167 0 10 (dk_at dksX2_isClapped_1 15 rfl rfl)
theorem dX2_isClapped_42 : decode cX2_isClapped 42 = .ok (.aload_n 0, 1) := dk_42 (dk_at dksX2_isClapped_1 18 rfl rfl)
theorem dX2_isClapped_43 : decode cX2_isClapped 43 = .ok (.sipush 1000, 3) := dk_17 3 232 (dk_at dksX2_isClapped_1 19 rfl rfl)
theorem dX2_isClapped_46 : decode cX2_isClapped 46 = .ok (.invokevirtual 121, 3) := dk_182 0 121 (dk_at dksX2_isClapped_2 0 rfl rfl)
theorem dX2_isClapped_49 : decode cX2_isClapped 49 = .ok (.iastore, 1) := dk_79 (dk_at dksX2_isClapped_2 3 rfl rfl)
theorem dX2_isClapped_50 : decode cX2_isClapped 50 = .ok (.iinc 2 1, 3) := dk_132 2 1 (dk_at dksX2_isClapped_2 4 rfl rfl)
theorem dX2_isClapped_53 : decode cX2_isClapped 53 = .ok (.goto (-51), 3) := dk_167 255 205 (dk_at dksX2_isClapped_2 7 rfl rfl)
theorem dX2_isClapped_56 : decode cX2_isClapped 56 = .ok (.aload_n 0, 1) := dk_42 (dk_at dksX2_isClapped_2 10 rfl rfl)
theorem dX2_isClapped_57 : decode cX2_isClapped 57 = .ok (.iconst 0, 1) := dk_3 (dk_at dksX2_isClapped_2 11 rfl rfl)
theorem dX2_isClapped_58 : decode cX2_isClapped 58 = .ok (.putfield 108, 3) := dk_181 0 108 (dk_at dksX2_isClapped_2 12 rfl rfl)
theorem dX2_isClapped_61 : decode cX2_isClapped 61 = .ok (.aload_n 0, 1) := dk_42 (dk_at dksX2_isClapped_2 15 rfl rfl)
theorem dX2_isClapped_62 : decode cX2_isClapped 62 = .ok (.iconst 0, 1) := dk_3 (dk_at dksX2_isClapped_2 16 rfl rfl)
theorem dX2_isClapped_63 : decode cX2_isClapped 63 = .ok (.putfield 124, 3) := dk_181 0 124 (dk_at dksX2_isClapped_2 17 rfl rfl)
theorem dX2_isClapped_66 : decode cX2_isClapped 66 = .ok (.aload_n 0, 1) := dk_42 (dk_at dksX2_isClapped_2 20 rfl rfl)
theorem dX2_isClapped_67 : decode cX2_isClapped 67 = .ok (.iload_n 1, 1) := dk_27 (dk_at dksX2_isClapped_2 21 rfl rfl)
theorem dX2_isClapped_68 : decode cX2_isClapped 68 = .ok (.invokevirtual 127, 3) := dk_182 0 127 (dk_at dksX2_isClapped_3 0 rfl rfl)
theorem dX2_isClapped_71 : decode cX2_isClapped 71 = .ok (.ifCond .eq 16, 3) := dk_153 0 16 (dk_at dksX2_isClapped_3 3 rfl rfl)
theorem dX2_isClapped_74 : decode cX2_isClapped 74 = .ok (.aload_n 0, 1) := dk_42 (dk_at dksX2_isClapped_3 6 rfl rfl)
theorem dX2_isClapped_75 : decode cX2_isClapped 75 = .ok (.dup, 1) := dk_89 (dk_at dksX2_isClapped_3 7 rfl rfl)
theorem dX2_isClapped_76 : decode cX2_isClapped 76 = .ok (.getfield 124, 3) := dk_180 0 124 (dk_at dksX2_isClapped_3 8 rfl rfl)
theorem dX2_isClapped_79 : decode cX2_isClapped 79 = .ok (.iconst 1, 1) := dk_4 (dk_at dksX2_isClapped_3 11 rfl rfl)
theorem dX2_isClapped_80 : decode cX2_isClapped 80 = .ok (.iadd, 1) := dk_96 (dk_at dksX2_isClapped_3 12 rfl rfl)
theorem dX2_isClapped_81 : decode cX2_isClapped 81 = .ok (.putfield 124, 3) := dk_181 0 124 (dk_at dksX2_isClapped_3 13 rfl rfl)
theorem dX2_isClapped_84 : decode cX2_isClapped 84 = .ok (.goto (-18), 3) := dk_167 255 238 (dk_at dksX2_isClapped_3 16 rfl rfl)
theorem dX2_isClapped_87 : decode cX2_isClapped 87 = .ok (.return_, 1) := dk_177 (dk_at dksX2_isClapped_3 19 rfl rfl)
abbrev cX2_draw : ByteArray := prog_5_method_4_code
def yX2_draw : MethodName := ⟨RX2, "draw", "(I)I"⟩
def dkwX2_draw_0 : List UInt8 := [42, 18, 68, 42, 180, 0, 54, 104, 18, 69, 96, 181, 0, 54, 42, 180, 0, 54, 16, 8, 124, 27, 112, 172]
abbrev dktX2_draw_0 : List UInt8 := dkwX2_draw_0 ++ []
theorem dksX2_draw_0 : cX2_draw.data.toList.drop 0 = dktX2_draw_0 := by decide +kernel
theorem dX2_draw_0 : decode cX2_draw 0 = .ok (.aload_n 0, 1) := dk_42 (dk_at dksX2_draw_0 0 rfl rfl)
theorem dX2_draw_1 : decode cX2_draw 1 = .ok (.ldc 68, 2) := dk_18 68 (dk_at dksX2_draw_0 1 rfl rfl)
theorem dX2_draw_3 : decode cX2_draw 3 = .ok (.aload_n 0, 1) := dk_42 (dk_at dksX2_draw_0 3 rfl rfl)
theorem dX2_draw_4 : decode cX2_draw 4 = .ok (.getfield 54, 3) := dk_180 0 54 (dk_at dksX2_draw_0 4 rfl rfl)
theorem dX2_draw_7 : decode cX2_draw 7 = .ok (.imul, 1) := dk_104 (dk_at dksX2_draw_0 7 rfl rfl)
theorem dX2_draw_8 : decode cX2_draw 8 = .ok (.ldc 69, 2) := dk_18 69 (dk_at dksX2_draw_0 8 rfl rfl)
theorem dX2_draw_10 : decode cX2_draw 10 = .ok (.iadd, 1) := dk_96 (dk_at dksX2_draw_0 10 rfl rfl)
theorem dX2_draw_11 : decode cX2_draw 11 = .ok (.putfield 54, 3) := dk_181 0 54 (dk_at dksX2_draw_0 11 rfl rfl)
theorem dX2_draw_14 : decode cX2_draw 14 = .ok (.aload_n 0, 1) := dk_42 (dk_at dksX2_draw_0 14 rfl rfl)
theorem dX2_draw_15 : decode cX2_draw 15 = .ok (.getfield 54, 3) := dk_180 0 54 (dk_at dksX2_draw_0 15 rfl rfl)
theorem dX2_draw_18 : decode cX2_draw 18 = .ok (.bipush 8, 2) := dk_16 8 (dk_at dksX2_draw_0 18 rfl rfl)
theorem dX2_draw_20 : decode cX2_draw 20 = .ok (.iushr, 1) := dk_124 (dk_at dksX2_draw_0 20 rfl rfl)
theorem dX2_draw_21 : decode cX2_draw 21 = .ok (.iload_n 1, 1) := dk_27 (dk_at dksX2_draw_0 21 rfl rfl)
theorem dX2_draw_22 : decode cX2_draw 22 = .ok (.irem, 1) := dk_112 (dk_at dksX2_draw_0 22 rfl rfl)
theorem dX2_draw_23 : decode cX2_draw 23 = .ok (.ireturn, 1) := dk_172 (dk_at dksX2_draw_0 23 rfl rfl)
abbrev cX2_doBegin : ByteArray := prog_5_method_9_code
def yX2_doBegin : MethodName := ⟨RX2, "doBegin", "(I)Z"⟩
def dkwX2_doBegin_3 : List UInt8 := [181, 0, 108, 132, 3, 1, 167, 255, 186, 42, 180, 0, 108, 28, 159, 0, 7, 4, 167, 0, 4, 3, 172]
abbrev dktX2_doBegin_3 : List UInt8 := dkwX2_doBegin_3 ++ []
def dkwX2_doBegin_2 : List UInt8 := [29, 46, 42, 29, 27, 42, 180, 0, 108, 182, 0, 118, 162, 0, 15, 42, 89, 180, 0, 108, 4, 29, 120, 128]
abbrev dktX2_doBegin_2 : List UInt8 := dkwX2_doBegin_2 ++ dktX2_doBegin_3
def dkwX2_doBegin_1 : List UInt8 := [180, 0, 39, 2, 130, 126, 42, 180, 0, 108, 2, 130, 126, 29, 184, 0, 114, 153, 0, 34, 42, 180, 0, 25]
abbrev dktX2_doBegin_1 : List UInt8 := dkwX2_doBegin_1 ++ dktX2_doBegin_2
def dkwX2_doBegin_0 : List UInt8 := [42, 180, 0, 108, 61, 3, 62, 29, 42, 180, 0, 3, 180, 0, 111, 162, 0, 65, 42, 180, 0, 36, 42]
abbrev dktX2_doBegin_0 : List UInt8 := dkwX2_doBegin_0 ++ dktX2_doBegin_1
theorem dksX2_doBegin_0 : cX2_doBegin.data.toList.drop 0 = dktX2_doBegin_0 := by decide +kernel
theorem dksX2_doBegin_1 : cX2_doBegin.data.toList.drop 23 = dktX2_doBegin_1 := dk_seg dksX2_doBegin_0 23 rfl rfl
theorem dksX2_doBegin_2 : cX2_doBegin.data.toList.drop 47 = dktX2_doBegin_2 := dk_seg dksX2_doBegin_1 24 rfl rfl
theorem dksX2_doBegin_3 : cX2_doBegin.data.toList.drop 71 = dktX2_doBegin_3 := dk_seg dksX2_doBegin_2 24 rfl rfl
theorem dX2_doBegin_0 : decode cX2_doBegin 0 = .ok (.aload_n 0, 1) := dk_42 (dk_at dksX2_doBegin_0 0 rfl rfl)
theorem dX2_doBegin_1 : decode cX2_doBegin 1 = .ok (.getfield 108, 3) := dk_180 0 108 (dk_at dksX2_doBegin_0 1 rfl rfl)
theorem dX2_doBegin_4 : decode cX2_doBegin 4 = .ok (.istore_n 2, 1) := dk_61 (dk_at dksX2_doBegin_0 4 rfl rfl)
theorem dX2_doBegin_5 : decode cX2_doBegin 5 = .ok (.iconst 0, 1) := dk_3 (dk_at dksX2_doBegin_0 5 rfl rfl)
theorem dX2_doBegin_6 : decode cX2_doBegin 6 = .ok (.istore_n 3, 1) := dk_62 (dk_at dksX2_doBegin_0 6 rfl rfl)
theorem dX2_doBegin_7 : decode cX2_doBegin 7 = .ok (.iload_n 3, 1) := dk_29 (dk_at dksX2_doBegin_0 7 rfl rfl)
theorem dX2_doBegin_8 : decode cX2_doBegin 8 = .ok (.aload_n 0, 1) := dk_42 (dk_at dksX2_doBegin_0 8 rfl rfl)
theorem dX2_doBegin_9 : decode cX2_doBegin 9 = .ok (.getfield 3, 3) := dk_180 0 3 (dk_at dksX2_doBegin_0 9 rfl rfl)
theorem dX2_doBegin_12 : decode cX2_doBegin 12 = .ok (.getfield 111, 3) := dk_180 0 111 (dk_at dksX2_doBegin_0 12 rfl rfl)
theorem dX2_doBegin_15 : decode cX2_doBegin 15 = .ok (.if_icmp .ge 65, 3) := dk_162 0 65 (dk_at dksX2_doBegin_0 15 rfl rfl)
theorem dX2_doBegin_18 : decode cX2_doBegin 18 = .ok (.aload_n 0, 1) := dk_42 (dk_at dksX2_doBegin_0 18 rfl rfl)
theorem dX2_doBegin_19 : decode cX2_doBegin 19 = .ok (.getfield 36, 3) := dk_180 0 36 (dk_at dksX2_doBegin_0 19 rfl rfl)
theorem dX2_doBegin_22 : decode cX2_doBegin 22 = .ok (.aload_n 0, 1) := dk_42 (dk_at dksX2_doBegin_0 22 rfl rfl)
theorem dX2_doBegin_23 : decode cX2_doBegin 23 = .ok (.getfield 39, 3) := dk_180 0 39 (dk_at dksX2_doBegin_1 0 rfl rfl)
theorem dX2_doBegin_26 : decode cX2_doBegin 26 = .ok (.iconst (-1), 1) := dk_2 (dk_at dksX2_doBegin_1 3 rfl rfl)
theorem dX2_doBegin_27 : decode cX2_doBegin 27 = .ok (.ixor, 1) := dk_130 (dk_at dksX2_doBegin_1 4 rfl rfl)
theorem dX2_doBegin_28 : decode cX2_doBegin 28 = .ok (.iand, 1) := dk_126 (dk_at dksX2_doBegin_1 5 rfl rfl)
theorem dX2_doBegin_29 : decode cX2_doBegin 29 = .ok (.aload_n 0, 1) := dk_42 (dk_at dksX2_doBegin_1 6 rfl rfl)
theorem dX2_doBegin_30 : decode cX2_doBegin 30 = .ok (.getfield 108, 3) := dk_180 0 108 (dk_at dksX2_doBegin_1 7 rfl rfl)
theorem dX2_doBegin_33 : decode cX2_doBegin 33 = .ok (.iconst (-1), 1) := dk_2 (dk_at dksX2_doBegin_1 10 rfl rfl)
theorem dX2_doBegin_34 : decode cX2_doBegin 34 = .ok (.ixor, 1) := dk_130 (dk_at dksX2_doBegin_1 11 rfl rfl)
theorem dX2_doBegin_35 : decode cX2_doBegin 35 = .ok (.iand, 1) := dk_126 (dk_at dksX2_doBegin_1 12 rfl rfl)
theorem dX2_doBegin_36 : decode cX2_doBegin 36 = .ok (.iload_n 3, 1) := dk_29 (dk_at dksX2_doBegin_1 13 rfl rfl)
theorem dX2_doBegin_37 : decode cX2_doBegin 37 = .ok (.invokestatic 114, 3) := dk_184 0 114 (dk_at dksX2_doBegin_1 14 rfl rfl)
theorem dX2_doBegin_40 : decode cX2_doBegin 40 = .ok (.ifCond .eq 34, 3) := dk_153 0 34 (dk_at dksX2_doBegin_1 17 rfl rfl)
theorem dX2_doBegin_43 : decode cX2_doBegin 43 = .ok (.aload_n 0, 1) := dk_42 (dk_at dksX2_doBegin_1 20 rfl rfl)
theorem dX2_doBegin_44 : decode cX2_doBegin 44 = .ok (.getfield 25, 3) := dk_180 0 25 (dk_at dksX2_doBegin_1 21 rfl rfl)
theorem dX2_doBegin_47 : decode cX2_doBegin 47 = .ok (.iload_n 3, 1) := dk_29 (dk_at dksX2_doBegin_2 0 rfl rfl)
theorem dX2_doBegin_48 : decode cX2_doBegin 48 = .ok (.iaload, 1) := dk_46 (dk_at dksX2_doBegin_2 1 rfl rfl)
theorem dX2_doBegin_49 : decode cX2_doBegin 49 = .ok (.aload_n 0, 1) := dk_42 (dk_at dksX2_doBegin_2 2 rfl rfl)
theorem dX2_doBegin_50 : decode cX2_doBegin 50 = .ok (.iload_n 3, 1) := dk_29 (dk_at dksX2_doBegin_2 3 rfl rfl)
theorem dX2_doBegin_51 : decode cX2_doBegin 51 = .ok (.iload_n 1, 1) := dk_27 (dk_at dksX2_doBegin_2 4 rfl rfl)
theorem dX2_doBegin_52 : decode cX2_doBegin 52 = .ok (.aload_n 0, 1) := dk_42 (dk_at dksX2_doBegin_2 5 rfl rfl)
theorem dX2_doBegin_53 : decode cX2_doBegin 53 = .ok (.getfield 108, 3) := dk_180 0 108 (dk_at dksX2_doBegin_2 6 rfl rfl)
theorem dX2_doBegin_56 : decode cX2_doBegin 56 = .ok (.invokevirtual 118, 3) := dk_182 0 118 (dk_at dksX2_doBegin_2 9 rfl rfl)
theorem dX2_doBegin_59 : decode cX2_doBegin 59 = .ok (.if_icmp .ge 15, 3) := dk_162 0 15 (dk_at dksX2_doBegin_2 12 rfl rfl)
theorem dX2_doBegin_62 : decode cX2_doBegin 62 = .ok (.aload_n 0, 1) := dk_42 (dk_at dksX2_doBegin_2 15 rfl rfl)
theorem dX2_doBegin_63 : decode cX2_doBegin 63 = .ok (.dup, 1) := dk_89 (dk_at dksX2_doBegin_2 16 rfl rfl)
theorem dX2_doBegin_64 : decode cX2_doBegin 64 = .ok (.getfield 108, 3) := dk_180 0 108 (dk_at dksX2_doBegin_2 17 rfl rfl)
theorem dX2_doBegin_67 : decode cX2_doBegin 67 = .ok (.iconst 1, 1) := dk_4 (dk_at dksX2_doBegin_2 20 rfl rfl)
theorem dX2_doBegin_68 : decode cX2_doBegin 68 = .ok (.iload_n 3, 1) := dk_29 (dk_at dksX2_doBegin_2 21 rfl rfl)
theorem dX2_doBegin_69 : decode cX2_doBegin 69 = .ok (.ishl, 1) := dk_120 (dk_at dksX2_doBegin_2 22 rfl rfl)
theorem dX2_doBegin_70 : decode cX2_doBegin 70 = .ok (.ior, 1) := dk_128 (dk_at dksX2_doBegin_2 23 rfl rfl)
theorem dX2_doBegin_71 : decode cX2_doBegin 71 = .ok (.putfield 108, 3) := dk_181 0 108 (dk_at dksX2_doBegin_3 0 rfl rfl)
theorem dX2_doBegin_74 : decode cX2_doBegin 74 = .ok (.iinc 3 1, 3) := dk_132 3 1 (dk_at dksX2_doBegin_3 3 rfl rfl)
theorem dX2_doBegin_77 : decode cX2_doBegin 77 = .ok (.goto (-70), 3) := dk_167 255 186 (dk_at dksX2_doBegin_3 6 rfl rfl)
theorem dX2_doBegin_80 : decode cX2_doBegin 80 = .ok (.aload_n 0, 1) := dk_42 (dk_at dksX2_doBegin_3 9 rfl rfl)
theorem dX2_doBegin_81 : decode cX2_doBegin 81 = .ok (.getfield 108, 3) := dk_180 0 108 (dk_at dksX2_doBegin_3 10 rfl rfl)
theorem dX2_doBegin_84 : decode cX2_doBegin 84 = .ok (.iload_n 2, 1) := dk_28 (dk_at dksX2_doBegin_3 13 rfl rfl)
theorem dX2_doBegin_85 : decode cX2_doBegin 85 = .ok (.if_icmp .eq 7, 3) := dk_159 0 7 (dk_at dksX2_doBegin_3 14 rfl rfl)
theorem dX2_doBegin_88 : decode cX2_doBegin 88 = .ok (.iconst 1, 1) := dk_4 (dk_at dksX2_doBegin_3 17 rfl rfl)
theorem dX2_doBegin_89 : decode cX2_doBegin 89 = .ok (.goto 4, 3) := dk_167 0 4 (dk_at dksX2_doBegin_3 18 rfl rfl)
theorem dX2_doBegin_92 : decode cX2_doBegin 92 = .ok (.iconst 0, 1) := dk_3 (dk_at dksX2_doBegin_3 21 rfl rfl)
theorem dX2_doBegin_93 : decode cX2_doBegin 93 = .ok (.ireturn, 1) := dk_172 (dk_at dksX2_doBegin_3 22 rfl rfl)
abbrev cX2_clapOf : ByteArray := prog_5_method_8_code
def yX2_clapOf : MethodName := ⟨RX2, "clapOf", "(III)I"⟩
def dkwX2_clapOf_5 : List UInt8 := [180, 0, 3, 180, 0, 93, 27, 46, 104, 17, 3, 232, 182, 0, 86, 172]
abbrev dktX2_clapOf_5 : List UInt8 := dkwX2_clapOf_5 ++ []
def dkwX2_clapOf_4 : List UInt8 := [180, 0, 3, 180, 0, 99, 27, 46, 29, 126, 184, 0, 102, 79, 42, 180, 0, 3, 4, 16, 100, 42]
abbrev dktX2_clapOf_4 : List UInt8 := dkwX2_clapOf_4 ++ dktX2_clapOf_5
def dkwX2_clapOf_3 : List UInt8 := [180, 0, 3, 180, 0, 70, 7, 42, 180, 0, 15, 27, 46, 79, 42, 180, 0, 3, 180, 0, 70, 16, 8, 42]
abbrev dktX2_clapOf_3 : List UInt8 := dkwX2_clapOf_3 ++ dktX2_clapOf_4
def dkwX2_clapOf_2 : List UInt8 := [27, 46, 79, 42, 180, 0, 3, 180, 0, 70, 6, 42, 180, 0, 3, 180, 0, 96, 27, 46, 79, 42]
abbrev dktX2_clapOf_2 : List UInt8 := dkwX2_clapOf_2 ++ dktX2_clapOf_3
def dkwX2_clapOf_1 : List UInt8 := [180, 0, 3, 180, 0, 90, 27, 46, 79, 42, 180, 0, 3, 180, 0, 70, 5, 42, 180, 0, 3, 180, 0, 93]
abbrev dktX2_clapOf_1 : List UInt8 := dkwX2_clapOf_1 ++ dktX2_clapOf_2
def dkwX2_clapOf_0 : List UInt8 := [42, 28, 182, 0, 82, 42, 180, 0, 3, 180, 0, 70, 3, 27, 79, 42, 180, 0, 3, 180, 0, 70, 4, 42]
abbrev dktX2_clapOf_0 : List UInt8 := dkwX2_clapOf_0 ++ dktX2_clapOf_1
theorem dksX2_clapOf_0 : cX2_clapOf.data.toList.drop 0 = dktX2_clapOf_0 := by decide +kernel
theorem dksX2_clapOf_1 : cX2_clapOf.data.toList.drop 24 = dktX2_clapOf_1 := dk_seg dksX2_clapOf_0 24 rfl rfl
theorem dksX2_clapOf_2 : cX2_clapOf.data.toList.drop 48 = dktX2_clapOf_2 := dk_seg dksX2_clapOf_1 24 rfl rfl
theorem dksX2_clapOf_3 : cX2_clapOf.data.toList.drop 70 = dktX2_clapOf_3 := dk_seg dksX2_clapOf_2 22 rfl rfl
theorem dksX2_clapOf_4 : cX2_clapOf.data.toList.drop 94 = dktX2_clapOf_4 := dk_seg dksX2_clapOf_3 24 rfl rfl
theorem dksX2_clapOf_5 : cX2_clapOf.data.toList.drop 116 = dktX2_clapOf_5 := dk_seg dksX2_clapOf_4 22 rfl rfl
theorem dX2_clapOf_0 : decode cX2_clapOf 0 = .ok (.aload_n 0, 1) := dk_42 (dk_at dksX2_clapOf_0 0 rfl rfl)
theorem dX2_clapOf_1 : decode cX2_clapOf 1 = .ok (.iload_n 2, 1) := dk_28 (dk_at dksX2_clapOf_0 1 rfl rfl)
theorem dX2_clapOf_2 : decode cX2_clapOf 2 = .ok (.invokevirtual 82, 3) := dk_182 0 82 (dk_at dksX2_clapOf_0 2 rfl rfl)
theorem dX2_clapOf_5 : decode cX2_clapOf 5 = .ok (.aload_n 0, 1) := dk_42 (dk_at dksX2_clapOf_0 5 rfl rfl)
theorem dX2_clapOf_6 : decode cX2_clapOf 6 = .ok (.getfield 3, 3) := dk_180 0 3 (dk_at dksX2_clapOf_0 6 rfl rfl)
theorem dX2_clapOf_9 : decode cX2_clapOf 9 = .ok (.getfield 70, 3) := dk_180 0 70 (dk_at dksX2_clapOf_0 9 rfl rfl)
theorem dX2_clapOf_12 : decode cX2_clapOf 12 = .ok (.iconst 0, 1) := dk_3 (dk_at dksX2_clapOf_0 12 rfl rfl)
theorem dX2_clapOf_13 : decode cX2_clapOf 13 = .ok (.iload_n 1, 1) := dk_27 (dk_at dksX2_clapOf_0 13 rfl rfl)
theorem dX2_clapOf_14 : decode cX2_clapOf 14 = .ok (.iastore, 1) := dk_79 (dk_at dksX2_clapOf_0 14 rfl rfl)
theorem dX2_clapOf_15 : decode cX2_clapOf 15 = .ok (.aload_n 0, 1) := dk_42 (dk_at dksX2_clapOf_0 15 rfl rfl)
theorem dX2_clapOf_16 : decode cX2_clapOf 16 = .ok (.getfield 3, 3) := dk_180 0 3 (dk_at dksX2_clapOf_0 16 rfl rfl)
theorem dX2_clapOf_19 : decode cX2_clapOf 19 = .ok (.getfield 70, 3) := dk_180 0 70 (dk_at dksX2_clapOf_0 19 rfl rfl)
theorem dX2_clapOf_22 : decode cX2_clapOf 22 = .ok (.iconst 1, 1) := dk_4 (dk_at dksX2_clapOf_0 22 rfl rfl)
theorem dX2_clapOf_23 : decode cX2_clapOf 23 = .ok (.aload_n 0, 1) := dk_42 (dk_at dksX2_clapOf_0 23 rfl rfl)
theorem dX2_clapOf_24 : decode cX2_clapOf 24 = .ok (.getfield 3, 3) := dk_180 0 3 (dk_at dksX2_clapOf_1 0 rfl rfl)
theorem dX2_clapOf_27 : decode cX2_clapOf 27 = .ok (.getfield 90, 3) := dk_180 0 90 (dk_at dksX2_clapOf_1 3 rfl rfl)
theorem dX2_clapOf_30 : decode cX2_clapOf 30 = .ok (.iload_n 1, 1) := dk_27 (dk_at dksX2_clapOf_1 6 rfl rfl)
theorem dX2_clapOf_31 : decode cX2_clapOf 31 = .ok (.iaload, 1) := dk_46 (dk_at dksX2_clapOf_1 7 rfl rfl)
theorem dX2_clapOf_32 : decode cX2_clapOf 32 = .ok (.iastore, 1) := dk_79 (dk_at dksX2_clapOf_1 8 rfl rfl)
theorem dX2_clapOf_33 : decode cX2_clapOf 33 = .ok (.aload_n 0, 1) := dk_42 (dk_at dksX2_clapOf_1 9 rfl rfl)
theorem dX2_clapOf_34 : decode cX2_clapOf 34 = .ok (.getfield 3, 3) := dk_180 0 3 (dk_at dksX2_clapOf_1 10 rfl rfl)
theorem dX2_clapOf_37 : decode cX2_clapOf 37 = .ok (.getfield 70, 3) := dk_180 0 70 (dk_at dksX2_clapOf_1 13 rfl rfl)
theorem dX2_clapOf_40 : decode cX2_clapOf 40 = .ok (.iconst 2, 1) := dk_5 (dk_at dksX2_clapOf_1 16 rfl rfl)
theorem dX2_clapOf_41 : decode cX2_clapOf 41 = .ok (.aload_n 0, 1) := dk_42 (dk_at dksX2_clapOf_1 17 rfl rfl)
theorem dX2_clapOf_42 : decode cX2_clapOf 42 = .ok (.getfield 3, 3) := dk_180 0 3 (dk_at dksX2_clapOf_1 18 rfl rfl)
theorem dX2_clapOf_45 : decode cX2_clapOf 45 = .ok (.getfield 93, 3) := dk_180 0 93 (dk_at dksX2_clapOf_1 21 rfl rfl)
theorem dX2_clapOf_48 : decode cX2_clapOf 48 = .ok (.iload_n 1, 1) := dk_27 (dk_at dksX2_clapOf_2 0 rfl rfl)
theorem dX2_clapOf_49 : decode cX2_clapOf 49 = .ok (.iaload, 1) := dk_46 (dk_at dksX2_clapOf_2 1 rfl rfl)
theorem dX2_clapOf_50 : decode cX2_clapOf 50 = .ok (.iastore, 1) := dk_79 (dk_at dksX2_clapOf_2 2 rfl rfl)
theorem dX2_clapOf_51 : decode cX2_clapOf 51 = .ok (.aload_n 0, 1) := dk_42 (dk_at dksX2_clapOf_2 3 rfl rfl)
theorem dX2_clapOf_52 : decode cX2_clapOf 52 = .ok (.getfield 3, 3) := dk_180 0 3 (dk_at dksX2_clapOf_2 4 rfl rfl)
theorem dX2_clapOf_55 : decode cX2_clapOf 55 = .ok (.getfield 70, 3) := dk_180 0 70 (dk_at dksX2_clapOf_2 7 rfl rfl)
theorem dX2_clapOf_58 : decode cX2_clapOf 58 = .ok (.iconst 3, 1) := dk_6 (dk_at dksX2_clapOf_2 10 rfl rfl)
theorem dX2_clapOf_59 : decode cX2_clapOf 59 = .ok (.aload_n 0, 1) := dk_42 (dk_at dksX2_clapOf_2 11 rfl rfl)
theorem dX2_clapOf_60 : decode cX2_clapOf 60 = .ok (.getfield 3, 3) := dk_180 0 3 (dk_at dksX2_clapOf_2 12 rfl rfl)
theorem dX2_clapOf_63 : decode cX2_clapOf 63 = .ok (.getfield 96, 3) := dk_180 0 96 (dk_at dksX2_clapOf_2 15 rfl rfl)
theorem dX2_clapOf_66 : decode cX2_clapOf 66 = .ok (.iload_n 1, 1) := dk_27 (dk_at dksX2_clapOf_2 18 rfl rfl)
theorem dX2_clapOf_67 : decode cX2_clapOf 67 = .ok (.iaload, 1) := dk_46 (dk_at dksX2_clapOf_2 19 rfl rfl)
theorem dX2_clapOf_68 : decode cX2_clapOf 68 = .ok (.iastore, 1) := dk_79 (dk_at dksX2_clapOf_2 20 rfl rfl)
theorem dX2_clapOf_69 : decode cX2_clapOf 69 = .ok (.aload_n 0, 1) := dk_42 (dk_at dksX2_clapOf_2 21 rfl rfl)
theorem dX2_clapOf_70 : decode cX2_clapOf 70 = .ok (.getfield 3, 3) := dk_180 0 3 (dk_at dksX2_clapOf_3 0 rfl rfl)
theorem dX2_clapOf_73 : decode cX2_clapOf 73 = .ok (.getfield 70, 3) := dk_180 0 70 (dk_at dksX2_clapOf_3 3 rfl rfl)
theorem dX2_clapOf_76 : decode cX2_clapOf 76 = .ok (.iconst 4, 1) := dk_7 (dk_at dksX2_clapOf_3 6 rfl rfl)
theorem dX2_clapOf_77 : decode cX2_clapOf 77 = .ok (.aload_n 0, 1) := dk_42 (dk_at dksX2_clapOf_3 7 rfl rfl)
theorem dX2_clapOf_78 : decode cX2_clapOf 78 = .ok (.getfield 15, 3) := dk_180 0 15 (dk_at dksX2_clapOf_3 8 rfl rfl)
theorem dX2_clapOf_81 : decode cX2_clapOf 81 = .ok (.iload_n 1, 1) := dk_27 (dk_at dksX2_clapOf_3 11 rfl rfl)
theorem dX2_clapOf_82 : decode cX2_clapOf 82 = .ok (.iaload, 1) := dk_46 (dk_at dksX2_clapOf_3 12 rfl rfl)
theorem dX2_clapOf_83 : decode cX2_clapOf 83 = .ok (.iastore, 1) := dk_79 (dk_at dksX2_clapOf_3 13 rfl rfl)
theorem dX2_clapOf_84 : decode cX2_clapOf 84 = .ok (.aload_n 0, 1) := dk_42 (dk_at dksX2_clapOf_3 14 rfl rfl)
theorem dX2_clapOf_85 : decode cX2_clapOf 85 = .ok (.getfield 3, 3) := dk_180 0 3 (dk_at dksX2_clapOf_3 15 rfl rfl)
theorem dX2_clapOf_88 : decode cX2_clapOf 88 = .ok (.getfield 70, 3) := dk_180 0 70 (dk_at dksX2_clapOf_3 18 rfl rfl)
theorem dX2_clapOf_91 : decode cX2_clapOf 91 = .ok (.bipush 8, 2) := dk_16 8 (dk_at dksX2_clapOf_3 21 rfl rfl)
theorem dX2_clapOf_93 : decode cX2_clapOf 93 = .ok (.aload_n 0, 1) := dk_42 (dk_at dksX2_clapOf_3 23 rfl rfl)
theorem dX2_clapOf_94 : decode cX2_clapOf 94 = .ok (.getfield 3, 3) := dk_180 0 3 (dk_at dksX2_clapOf_4 0 rfl rfl)
theorem dX2_clapOf_97 : decode cX2_clapOf 97 = .ok (.getfield 99, 3) := dk_180 0 99 (dk_at dksX2_clapOf_4 3 rfl rfl)
theorem dX2_clapOf_100 : decode cX2_clapOf 100 = .ok (.iload_n 1, 1) := dk_27 (dk_at dksX2_clapOf_4 6 rfl rfl)
theorem dX2_clapOf_101 : decode cX2_clapOf 101 = .ok (.iaload, 1) := dk_46 (dk_at dksX2_clapOf_4 7 rfl rfl)
theorem dX2_clapOf_102 : decode cX2_clapOf 102 = .ok (.iload_n 3, 1) := dk_29 (dk_at dksX2_clapOf_4 8 rfl rfl)
theorem dX2_clapOf_103 : decode cX2_clapOf 103 = .ok (.iand, 1) := dk_126 (dk_at dksX2_clapOf_4 9 rfl rfl)
theorem dX2_clapOf_104 : decode cX2_clapOf 104 = .ok (.invokestatic 102, 3) := dk_184 0 102 (dk_at dksX2_clapOf_4 10 rfl rfl)
theorem dX2_clapOf_107 : decode cX2_clapOf 107 = .ok (.iastore, 1) := dk_79 (dk_at dksX2_clapOf_4 13 rfl rfl)
theorem dX2_clapOf_108 : decode cX2_clapOf 108 = .ok (.aload_n 0, 1) := dk_42 (dk_at dksX2_clapOf_4 14 rfl rfl)
theorem dX2_clapOf_109 : decode cX2_clapOf 109 = .ok (.getfield 3, 3) := dk_180 0 3 (dk_at dksX2_clapOf_4 15 rfl rfl)
theorem dX2_clapOf_112 : decode cX2_clapOf 112 = .ok (.iconst 1, 1) := dk_4 (dk_at dksX2_clapOf_4 18 rfl rfl)
theorem dX2_clapOf_113 : decode cX2_clapOf 113 = .ok (.bipush 100, 2) := dk_16 100 (dk_at dksX2_clapOf_4 19 rfl rfl)
theorem dX2_clapOf_115 : decode cX2_clapOf 115 = .ok (.aload_n 0, 1) := dk_42 (dk_at dksX2_clapOf_4 21 rfl rfl)
theorem dX2_clapOf_116 : decode cX2_clapOf 116 = .ok (.getfield 3, 3) := dk_180 0 3 (dk_at dksX2_clapOf_5 0 rfl rfl)
theorem dX2_clapOf_119 : decode cX2_clapOf 119 = .ok (.getfield 93, 3) := dk_180 0 93 (dk_at dksX2_clapOf_5 3 rfl rfl)
theorem dX2_clapOf_122 : decode cX2_clapOf 122 = .ok (.iload_n 1, 1) := dk_27 (dk_at dksX2_clapOf_5 6 rfl rfl)
theorem dX2_clapOf_123 : decode cX2_clapOf 123 = .ok (.iaload, 1) := dk_46 (dk_at dksX2_clapOf_5 7 rfl rfl)
theorem dX2_clapOf_124 : decode cX2_clapOf 124 = .ok (.imul, 1) := dk_104 (dk_at dksX2_clapOf_5 8 rfl rfl)
theorem dX2_clapOf_125 : decode cX2_clapOf 125 = .ok (.sipush 1000, 3) := dk_17 3 232 (dk_at dksX2_clapOf_5 9 rfl rfl)
theorem dX2_clapOf_128 : decode cX2_clapOf 128 = .ok (.invokevirtual 86, 3) := dk_182 0 86 (dk_at dksX2_clapOf_5 12 rfl rfl)
theorem dX2_clapOf_131 : decode cX2_clapOf 131 = .ok (.ireturn, 1) := dk_172 (dk_at dksX2_clapOf_5 15 rfl rfl)
abbrev cX2_handsOf : ByteArray := prog_5_method_11_code
def yX2_handsOf : MethodName := ⟨RX2, "handsOf", "()I"⟩
def dkwX2_handsOf_2 : List UInt8 := [3, 96, 60, 132, 2, 1, 167, 255, 206, 27, 172]
abbrev dktX2_handsOf_2 : List UInt8 := dkwX2_handsOf_2 ++ []
def dkwX2_handsOf_1 : List UInt8 := [153, 0, 24, 42, 180, 0, 3, 180, 0, 90, 28, 46, 42, 180, 0, 3, 28, 182, 0, 131, 104, 167, 0, 4]
abbrev dktX2_handsOf_1 : List UInt8 := dkwX2_handsOf_1 ++ dktX2_handsOf_2
def dkwX2_handsOf_0 : List UInt8 := [3, 60, 3, 61, 28, 42, 180, 0, 3, 180, 0, 111, 162, 0, 45, 27, 42, 180, 0, 108, 28, 184, 0, 114]
abbrev dktX2_handsOf_0 : List UInt8 := dkwX2_handsOf_0 ++ dktX2_handsOf_1
theorem dksX2_handsOf_0 : cX2_handsOf.data.toList.drop 0 = dktX2_handsOf_0 := by decide +kernel
theorem dksX2_handsOf_1 : cX2_handsOf.data.toList.drop 24 = dktX2_handsOf_1 := dk_seg dksX2_handsOf_0 24 rfl rfl
theorem dksX2_handsOf_2 : cX2_handsOf.data.toList.drop 48 = dktX2_handsOf_2 := dk_seg dksX2_handsOf_1 24 rfl rfl
theorem dX2_handsOf_0 : decode cX2_handsOf 0 = .ok (.iconst 0, 1) := dk_3 (dk_at dksX2_handsOf_0 0 rfl rfl)
theorem dX2_handsOf_1 : decode cX2_handsOf 1 = .ok (.istore_n 1, 1) := dk_60 (dk_at dksX2_handsOf_0 1 rfl rfl)
theorem dX2_handsOf_2 : decode cX2_handsOf 2 = .ok (.iconst 0, 1) := dk_3 (dk_at dksX2_handsOf_0 2 rfl rfl)
theorem dX2_handsOf_3 : decode cX2_handsOf 3 = .ok (.istore_n 2, 1) := dk_61 (dk_at dksX2_handsOf_0 3 rfl rfl)
theorem dX2_handsOf_4 : decode cX2_handsOf 4 = .ok (.iload_n 2, 1) := dk_28 (dk_at dksX2_handsOf_0 4 rfl rfl)
theorem dX2_handsOf_5 : decode cX2_handsOf 5 = .ok (.aload_n 0, 1) := dk_42 (dk_at dksX2_handsOf_0 5 rfl rfl)
theorem dX2_handsOf_6 : decode cX2_handsOf 6 = .ok (.getfield 3, 3) := dk_180 0 3 (dk_at dksX2_handsOf_0 6 rfl rfl)
theorem dX2_handsOf_9 : decode cX2_handsOf 9 = .ok (.getfield 111, 3) := dk_180 0 111 (dk_at dksX2_handsOf_0 9 rfl rfl)
theorem dX2_handsOf_12 : decode cX2_handsOf 12 = .ok (.if_icmp .ge 45, 3) := dk_162 0 45 (dk_at dksX2_handsOf_0 12 rfl rfl)
theorem dX2_handsOf_15 : decode cX2_handsOf 15 = .ok (.iload_n 1, 1) := dk_27 (dk_at dksX2_handsOf_0 15 rfl rfl)
theorem dX2_handsOf_16 : decode cX2_handsOf 16 = .ok (.aload_n 0, 1) := dk_42 (dk_at dksX2_handsOf_0 16 rfl rfl)
theorem dX2_handsOf_17 : decode cX2_handsOf 17 = .ok (.getfield 108, 3) := dk_180 0 108 (dk_at dksX2_handsOf_0 17 rfl rfl)
theorem dX2_handsOf_20 : decode cX2_handsOf 20 = .ok (.iload_n 2, 1) := dk_28 (dk_at dksX2_handsOf_0 20 rfl rfl)
theorem dX2_handsOf_21 : decode cX2_handsOf 21 = .ok (.invokestatic 114, 3) := dk_184 0 114 (dk_at dksX2_handsOf_0 21 rfl rfl)
theorem dX2_handsOf_24 : decode cX2_handsOf 24 = .ok (.ifCond .eq 24, 3) := dk_153 0 24 (dk_at dksX2_handsOf_1 0 rfl rfl)
theorem dX2_handsOf_27 : decode cX2_handsOf 27 = .ok (.aload_n 0, 1) := dk_42 (dk_at dksX2_handsOf_1 3 rfl rfl)
theorem dX2_handsOf_28 : decode cX2_handsOf 28 = .ok (.getfield 3, 3) := dk_180 0 3 (dk_at dksX2_handsOf_1 4 rfl rfl)
theorem dX2_handsOf_31 : decode cX2_handsOf 31 = .ok (.getfield 90, 3) := dk_180 0 90 (dk_at dksX2_handsOf_1 7 rfl rfl)
theorem dX2_handsOf_34 : decode cX2_handsOf 34 = .ok (.iload_n 2, 1) := dk_28 (dk_at dksX2_handsOf_1 10 rfl rfl)
theorem dX2_handsOf_35 : decode cX2_handsOf 35 = .ok (.iaload, 1) := dk_46 (dk_at dksX2_handsOf_1 11 rfl rfl)
theorem dX2_handsOf_36 : decode cX2_handsOf 36 = .ok (.aload_n 0, 1) := dk_42 (dk_at dksX2_handsOf_1 12 rfl rfl)
theorem dX2_handsOf_37 : decode cX2_handsOf 37 = .ok (.getfield 3, 3) := dk_180 0 3 (dk_at dksX2_handsOf_1 13 rfl rfl)
theorem dX2_handsOf_40 : decode cX2_handsOf 40 = .ok (.iload_n 2, 1) := dk_28 (dk_at dksX2_handsOf_1 16 rfl rfl)
theorem dX2_handsOf_41 : decode cX2_handsOf 41 = .ok (.invokevirtual 131, 3) := dk_182 0 131 (dk_at dksX2_handsOf_1 17 rfl rfl)
theorem dX2_handsOf_44 : decode cX2_handsOf 44 = .ok (.imul, 1) := dk_104 (dk_at dksX2_handsOf_1 20 rfl rfl)
theorem dX2_handsOf_45 : decode cX2_handsOf 45 = .ok (.goto 4, 3) := dk_167 0 4 (dk_at dksX2_handsOf_1 21 rfl rfl)
theorem dX2_handsOf_48 : decode cX2_handsOf 48 = .ok (.iconst 0, 1) := dk_3 (dk_at dksX2_handsOf_2 0 rfl rfl)
theorem dX2_handsOf_49 : decode cX2_handsOf 49 = .ok (.iadd, 1) := dk_96 (dk_at dksX2_handsOf_2 1 rfl rfl)
theorem dX2_handsOf_50 : decode cX2_handsOf 50 = .ok (.istore_n 1, 1) := dk_60 (dk_at dksX2_handsOf_2 2 rfl rfl)
theorem dX2_handsOf_51 : decode cX2_handsOf 51 = .ok (.iinc 2 1, 3) := dk_132 2 1 (dk_at dksX2_handsOf_2 3 rfl rfl)
theorem dX2_handsOf_54 : decode cX2_handsOf 54 = .ok (.goto (-50), 3) := dk_167 255 206 (dk_at dksX2_handsOf_2 6 rfl rfl)
theorem dX2_handsOf_57 : decode cX2_handsOf 57 = .ok (.iload_n 1, 1) := dk_27 (dk_at dksX2_handsOf_2 9 rfl rfl)
theorem dX2_handsOf_58 : decode cX2_handsOf 58 = .ok (.ireturn, 1) := dk_172 (dk_at dksX2_handsOf_2 10 rfl rfl)
abbrev cX2_loudOf : ByteArray := prog_5_method_6_code
def yX2_loudOf : MethodName := ⟨RX2, "loudOf", "(I)I"⟩
def dkwX2_loudOf_1 : List UInt8 := [182, 0, 86, 172]
abbrev dktX2_loudOf_1 : List UInt8 := dkwX2_loudOf_1 ++ []
def dkwX2_loudOf_0 : List UInt8 := [42, 27, 182, 0, 82, 42, 180, 0, 3, 3, 42, 180, 0, 3, 180, 0, 79, 27, 46, 6, 108, 16, 99]
abbrev dktX2_loudOf_0 : List UInt8 := dkwX2_loudOf_0 ++ dktX2_loudOf_1
theorem dksX2_loudOf_0 : cX2_loudOf.data.toList.drop 0 = dktX2_loudOf_0 := by decide +kernel
theorem dksX2_loudOf_1 : cX2_loudOf.data.toList.drop 23 = dktX2_loudOf_1 := dk_seg dksX2_loudOf_0 23 rfl rfl
theorem dX2_loudOf_0 : decode cX2_loudOf 0 = .ok (.aload_n 0, 1) := dk_42 (dk_at dksX2_loudOf_0 0 rfl rfl)
theorem dX2_loudOf_1 : decode cX2_loudOf 1 = .ok (.iload_n 1, 1) := dk_27 (dk_at dksX2_loudOf_0 1 rfl rfl)
theorem dX2_loudOf_2 : decode cX2_loudOf 2 = .ok (.invokevirtual 82, 3) := dk_182 0 82 (dk_at dksX2_loudOf_0 2 rfl rfl)
theorem dX2_loudOf_5 : decode cX2_loudOf 5 = .ok (.aload_n 0, 1) := dk_42 (dk_at dksX2_loudOf_0 5 rfl rfl)
theorem dX2_loudOf_6 : decode cX2_loudOf 6 = .ok (.getfield 3, 3) := dk_180 0 3 (dk_at dksX2_loudOf_0 6 rfl rfl)
theorem dX2_loudOf_9 : decode cX2_loudOf 9 = .ok (.iconst 0, 1) := dk_3 (dk_at dksX2_loudOf_0 9 rfl rfl)
theorem dX2_loudOf_10 : decode cX2_loudOf 10 = .ok (.aload_n 0, 1) := dk_42 (dk_at dksX2_loudOf_0 10 rfl rfl)
theorem dX2_loudOf_11 : decode cX2_loudOf 11 = .ok (.getfield 3, 3) := dk_180 0 3 (dk_at dksX2_loudOf_0 11 rfl rfl)
theorem dX2_loudOf_14 : decode cX2_loudOf 14 = .ok (.getfield 79, 3) := dk_180 0 79 (dk_at dksX2_loudOf_0 14 rfl rfl)
theorem dX2_loudOf_17 : decode cX2_loudOf 17 = .ok (.iload_n 1, 1) := dk_27 (dk_at dksX2_loudOf_0 17 rfl rfl)
theorem dX2_loudOf_18 : decode cX2_loudOf 18 = .ok (.iaload, 1) := dk_46 (dk_at dksX2_loudOf_0 18 rfl rfl)
theorem dX2_loudOf_19 : decode cX2_loudOf 19 = .ok (.iconst 3, 1) := dk_6 (dk_at dksX2_loudOf_0 19 rfl rfl)
theorem dX2_loudOf_20 : decode cX2_loudOf 20 = .ok (.idiv, 1) := dk_108 (dk_at dksX2_loudOf_0 20 rfl rfl)
theorem dX2_loudOf_21 : decode cX2_loudOf 21 = .ok (.bipush 99, 2) := dk_16 99 (dk_at dksX2_loudOf_0 21 rfl rfl)
theorem dX2_loudOf_23 : decode cX2_loudOf 23 = .ok (.invokevirtual 86, 3) := dk_182 0 86 (dk_at dksX2_loudOf_1 0 rfl rfl)
theorem dX2_loudOf_26 : decode cX2_loudOf 26 = .ok (.ireturn, 1) := dk_172 (dk_at dksX2_loudOf_1 3 rfl rfl)
abbrev cX2_notes : ByteArray := prog_5_method_15_code
def yX2_notes : MethodName := ⟨RX2, "notes", "(III)V"⟩
def dkwX2_notes_0 : List UInt8 := [42, 180, 0, 64, 154, 0, 13, 42, 180, 0, 3, 27, 28, 29, 182, 0, 195, 177]
abbrev dktX2_notes_0 : List UInt8 := dkwX2_notes_0 ++ []
theorem dksX2_notes_0 : cX2_notes.data.toList.drop 0 = dktX2_notes_0 := by decide +kernel
theorem dX2_notes_0 : decode cX2_notes 0 = .ok (.aload_n 0, 1) := dk_42 (dk_at dksX2_notes_0 0 rfl rfl)
theorem dX2_notes_1 : decode cX2_notes 1 = .ok (.getfield 64, 3) := dk_180 0 64 (dk_at dksX2_notes_0 1 rfl rfl)
theorem dX2_notes_4 : decode cX2_notes 4 = .ok (.ifCond .ne 13, 3) := dk_154 0 13 (dk_at dksX2_notes_0 4 rfl rfl)
theorem dX2_notes_7 : decode cX2_notes 7 = .ok (.aload_n 0, 1) := dk_42 (dk_at dksX2_notes_0 7 rfl rfl)
theorem dX2_notes_8 : decode cX2_notes 8 = .ok (.getfield 3, 3) := dk_180 0 3 (dk_at dksX2_notes_0 8 rfl rfl)
theorem dX2_notes_11 : decode cX2_notes 11 = .ok (.iload_n 1, 1) := dk_27 (dk_at dksX2_notes_0 11 rfl rfl)
theorem dX2_notes_12 : decode cX2_notes 12 = .ok (.iload_n 2, 1) := dk_28 (dk_at dksX2_notes_0 12 rfl rfl)
theorem dX2_notes_13 : decode cX2_notes 13 = .ok (.iload_n 3, 1) := dk_29 (dk_at dksX2_notes_0 13 rfl rfl)
theorem dX2_notes_14 : decode cX2_notes 14 = .ok (.invokevirtual 195, 3) := dk_182 0 195 (dk_at dksX2_notes_0 14 rfl rfl)
theorem dX2_notes_17 : decode cX2_notes 17 = .ok (.return_, 1) := dk_177 (dk_at dksX2_notes_0 17 rfl rfl)
abbrev cX2_goesBy : ByteArray := prog_5_method_14_code
def yX2_goesBy : MethodName := ⟨RX2, "goesBy", "()I"⟩
def dkwX2_goesBy_4 : List UInt8 := [60, 132, 2, 1, 167, 255, 177, 42, 89, 180, 0, 45, 4, 96, 181, 0, 45, 27, 172]
abbrev dktX2_goesBy_4 : List UInt8 := dkwX2_goesBy_4 ++ []
def dkwX2_goesBy_3 : List UInt8 := [162, 0, 22, 42, 42, 180, 0, 3, 180, 0, 177, 28, 50, 182, 0, 189, 182, 0, 192, 167, 0, 4, 3, 96]
abbrev dktX2_goesBy_3 : List UInt8 := dkwX2_goesBy_3 ++ dktX2_goesBy_4
def dkwX2_goesBy_2 : List UInt8 := [184, 0, 186, 181, 0, 42, 27, 42, 180, 0, 42, 42, 180, 0, 3, 6, 17, 1, 44, 182, 0, 172]
abbrev dktX2_goesBy_2 : List UInt8 := dkwX2_goesBy_2 ++ dktX2_goesBy_3
def dkwX2_goesBy_1 : List UInt8 := [180, 0, 177, 190, 162, 0, 73, 42, 42, 180, 0, 42, 42, 180, 0, 3, 180, 0, 177, 28, 50, 182, 0, 181]
abbrev dktX2_goesBy_1 : List UInt8 := dkwX2_goesBy_1 ++ dktX2_goesBy_2
def dkwX2_goesBy_0 : List UInt8 := [42, 3, 181, 0, 42, 42, 2, 181, 0, 28, 42, 3, 181, 0, 51, 3, 60, 3, 61, 28, 42, 180, 0, 3]
abbrev dktX2_goesBy_0 : List UInt8 := dkwX2_goesBy_0 ++ dktX2_goesBy_1
theorem dksX2_goesBy_0 : cX2_goesBy.data.toList.drop 0 = dktX2_goesBy_0 := by decide +kernel
theorem dksX2_goesBy_1 : cX2_goesBy.data.toList.drop 24 = dktX2_goesBy_1 := dk_seg dksX2_goesBy_0 24 rfl rfl
theorem dksX2_goesBy_2 : cX2_goesBy.data.toList.drop 48 = dktX2_goesBy_2 := dk_seg dksX2_goesBy_1 24 rfl rfl
theorem dksX2_goesBy_3 : cX2_goesBy.data.toList.drop 70 = dktX2_goesBy_3 := dk_seg dksX2_goesBy_2 22 rfl rfl
theorem dksX2_goesBy_4 : cX2_goesBy.data.toList.drop 94 = dktX2_goesBy_4 := dk_seg dksX2_goesBy_3 24 rfl rfl
theorem dX2_goesBy_0 : decode cX2_goesBy 0 = .ok (.aload_n 0, 1) := dk_42 (dk_at dksX2_goesBy_0 0 rfl rfl)
theorem dX2_goesBy_1 : decode cX2_goesBy 1 = .ok (.iconst 0, 1) := dk_3 (dk_at dksX2_goesBy_0 1 rfl rfl)
theorem dX2_goesBy_2 : decode cX2_goesBy 2 = .ok (.putfield 42, 3) := dk_181 0 42 (dk_at dksX2_goesBy_0 2 rfl rfl)
theorem dX2_goesBy_5 : decode cX2_goesBy 5 = .ok (.aload_n 0, 1) := dk_42 (dk_at dksX2_goesBy_0 5 rfl rfl)
theorem dX2_goesBy_6 : decode cX2_goesBy 6 = .ok (.iconst (-1), 1) := dk_2 (dk_at dksX2_goesBy_0 6 rfl rfl)
theorem dX2_goesBy_7 : decode cX2_goesBy 7 = .ok (.putfield 28, 3) := dk_181 0 28 (dk_at dksX2_goesBy_0 7 rfl rfl)
theorem dX2_goesBy_10 : decode cX2_goesBy 10 = .ok (.aload_n 0, 1) := dk_42 (dk_at dksX2_goesBy_0 10 rfl rfl)
theorem dX2_goesBy_11 : decode cX2_goesBy 11 = .ok (.iconst 0, 1) := dk_3 (dk_at dksX2_goesBy_0 11 rfl rfl)
theorem dX2_goesBy_12 : decode cX2_goesBy 12 = .ok (.putfield 51, 3) := dk_181 0 51 (dk_at dksX2_goesBy_0 12 rfl rfl)
theorem dX2_goesBy_15 : decode cX2_goesBy 15 = .ok (.iconst 0, 1) := dk_3 (dk_at dksX2_goesBy_0 15 rfl rfl)
theorem dX2_goesBy_16 : decode cX2_goesBy 16 = .ok (.istore_n 1, 1) := dk_60 (dk_at dksX2_goesBy_0 16 rfl rfl)
theorem dX2_goesBy_17 : decode cX2_goesBy 17 = .ok (.iconst 0, 1) := dk_3 (dk_at dksX2_goesBy_0 17 rfl rfl)
theorem dX2_goesBy_18 : decode cX2_goesBy 18 = .ok (.istore_n 2, 1) := dk_61 (dk_at dksX2_goesBy_0 18 rfl rfl)
theorem dX2_goesBy_19 : decode cX2_goesBy 19 = .ok (.iload_n 2, 1) := dk_28 (dk_at dksX2_goesBy_0 19 rfl rfl)
theorem dX2_goesBy_20 : decode cX2_goesBy 20 = .ok (.aload_n 0, 1) := dk_42 (dk_at dksX2_goesBy_0 20 rfl rfl)
theorem dX2_goesBy_21 : decode cX2_goesBy 21 = .ok (.getfield 3, 3) := dk_180 0 3 (dk_at dksX2_goesBy_0 21 rfl rfl)
theorem dX2_goesBy_24 : decode cX2_goesBy 24 = .ok (.getfield 177, 3) := dk_180 0 177 (dk_at dksX2_goesBy_1 0 rfl rfl)
theorem dX2_goesBy_27 : decode cX2_goesBy 27 = .ok (.arraylength, 1) := dk_190 (dk_at dksX2_goesBy_1 3 rfl rfl)
theorem dX2_goesBy_28 : decode cX2_goesBy 28 = .ok (.if_icmp .ge 73, 3) := dk_162 0 73 (dk_at dksX2_goesBy_1 4 rfl rfl)
theorem dX2_goesBy_31 : decode cX2_goesBy 31 = .ok (.aload_n 0, 1) := dk_42 (dk_at dksX2_goesBy_1 7 rfl rfl)
theorem dX2_goesBy_32 : decode cX2_goesBy 32 = .ok (.aload_n 0, 1) := dk_42 (dk_at dksX2_goesBy_1 8 rfl rfl)
theorem dX2_goesBy_33 : decode cX2_goesBy 33 = .ok (.getfield 42, 3) := dk_180 0 42 (dk_at dksX2_goesBy_1 9 rfl rfl)
theorem dX2_goesBy_36 : decode cX2_goesBy 36 = .ok (.aload_n 0, 1) := dk_42 (dk_at dksX2_goesBy_1 12 rfl rfl)
theorem dX2_goesBy_37 : decode cX2_goesBy 37 = .ok (.getfield 3, 3) := dk_180 0 3 (dk_at dksX2_goesBy_1 13 rfl rfl)
theorem dX2_goesBy_40 : decode cX2_goesBy 40 = .ok (.getfield 177, 3) := dk_180 0 177 (dk_at dksX2_goesBy_1 16 rfl rfl)
theorem dX2_goesBy_43 : decode cX2_goesBy 43 = .ok (.iload_n 2, 1) := dk_28 (dk_at dksX2_goesBy_1 19 rfl rfl)
theorem dX2_goesBy_44 : decode cX2_goesBy 44 = .ok (.aaload, 1) := dk_50 (dk_at dksX2_goesBy_1 20 rfl rfl)
theorem dX2_goesBy_45 : decode cX2_goesBy 45 = .ok (.invokevirtual 181, 3) := dk_182 0 181 (dk_at dksX2_goesBy_1 21 rfl rfl)
theorem dX2_goesBy_48 : decode cX2_goesBy 48 = .ok (.invokestatic 186, 3) := dk_184 0 186 (dk_at dksX2_goesBy_2 0 rfl rfl)
theorem dX2_goesBy_51 : decode cX2_goesBy 51 = .ok (.putfield 42, 3) := dk_181 0 42 (dk_at dksX2_goesBy_2 3 rfl rfl)
theorem dX2_goesBy_54 : decode cX2_goesBy 54 = .ok (.iload_n 1, 1) := dk_27 (dk_at dksX2_goesBy_2 6 rfl rfl)
theorem dX2_goesBy_55 : decode cX2_goesBy 55 = .ok (.aload_n 0, 1) := dk_42 (dk_at dksX2_goesBy_2 7 rfl rfl)
theorem dX2_goesBy_56 : decode cX2_goesBy 56 = .ok (.getfield 42, 3) := dk_180 0 42 (dk_at dksX2_goesBy_2 8 rfl rfl)
theorem dX2_goesBy_59 : decode cX2_goesBy 59 = .ok (.aload_n 0, 1) := dk_42 (dk_at dksX2_goesBy_2 11 rfl rfl)
theorem dX2_goesBy_60 : decode cX2_goesBy 60 = .ok (.getfield 3, 3) := dk_180 0 3 (dk_at dksX2_goesBy_2 12 rfl rfl)
theorem dX2_goesBy_63 : decode cX2_goesBy 63 = .ok (.iconst 3, 1) := dk_6 (dk_at dksX2_goesBy_2 15 rfl rfl)
theorem dX2_goesBy_64 : decode cX2_goesBy 64 = .ok (.sipush 300, 3) := dk_17 1 44 (dk_at dksX2_goesBy_2 16 rfl rfl)
theorem dX2_goesBy_67 : decode cX2_goesBy 67 = .ok (.invokevirtual 172, 3) := dk_182 0 172 (dk_at dksX2_goesBy_2 19 rfl rfl)
theorem dX2_goesBy_70 : decode cX2_goesBy 70 = .ok (.if_icmp .ge 22, 3) := dk_162 0 22 (dk_at dksX2_goesBy_3 0 rfl rfl)
theorem dX2_goesBy_73 : decode cX2_goesBy 73 = .ok (.aload_n 0, 1) := dk_42 (dk_at dksX2_goesBy_3 3 rfl rfl)
theorem dX2_goesBy_74 : decode cX2_goesBy 74 = .ok (.aload_n 0, 1) := dk_42 (dk_at dksX2_goesBy_3 4 rfl rfl)
theorem dX2_goesBy_75 : decode cX2_goesBy 75 = .ok (.getfield 3, 3) := dk_180 0 3 (dk_at dksX2_goesBy_3 5 rfl rfl)
theorem dX2_goesBy_78 : decode cX2_goesBy 78 = .ok (.getfield 177, 3) := dk_180 0 177 (dk_at dksX2_goesBy_3 8 rfl rfl)
theorem dX2_goesBy_81 : decode cX2_goesBy 81 = .ok (.iload_n 2, 1) := dk_28 (dk_at dksX2_goesBy_3 11 rfl rfl)
theorem dX2_goesBy_82 : decode cX2_goesBy 82 = .ok (.aaload, 1) := dk_50 (dk_at dksX2_goesBy_3 12 rfl rfl)
theorem dX2_goesBy_83 : decode cX2_goesBy 83 = .ok (.invokevirtual 189, 3) := dk_182 0 189 (dk_at dksX2_goesBy_3 13 rfl rfl)
theorem dX2_goesBy_86 : decode cX2_goesBy 86 = .ok (.invokevirtual 192, 3) := dk_182 0 192 (dk_at dksX2_goesBy_3 16 rfl rfl)
theorem dX2_goesBy_89 : decode cX2_goesBy 89 = .ok (.goto 4, 3) := dk_167 0 4 (dk_at dksX2_goesBy_3 19 rfl rfl)
theorem dX2_goesBy_92 : decode cX2_goesBy 92 = .ok (.iconst 0, 1) := dk_3 (dk_at dksX2_goesBy_3 22 rfl rfl)
theorem dX2_goesBy_93 : decode cX2_goesBy 93 = .ok (.iadd, 1) := dk_96 (dk_at dksX2_goesBy_3 23 rfl rfl)
theorem dX2_goesBy_94 : decode cX2_goesBy 94 = .ok (.istore_n 1, 1) := dk_60 (dk_at dksX2_goesBy_4 0 rfl rfl)
theorem dX2_goesBy_95 : decode cX2_goesBy 95 = .ok (.iinc 2 1, 3) := dk_132 2 1 (dk_at dksX2_goesBy_4 1 rfl rfl)
theorem dX2_goesBy_98 : decode cX2_goesBy 98 = .ok (.goto (-79), 3) := dk_167 255 177 (dk_at dksX2_goesBy_4 4 rfl rfl)
theorem dX2_goesBy_101 : decode cX2_goesBy 101 = .ok (.aload_n 0, 1) := dk_42 (dk_at dksX2_goesBy_4 7 rfl rfl)
theorem dX2_goesBy_102 : decode cX2_goesBy 102 = .ok (.dup, 1) := dk_89 (dk_at dksX2_goesBy_4 8 rfl rfl)
theorem dX2_goesBy_103 : decode cX2_goesBy 103 = .ok (.getfield 45, 3) := dk_180 0 45 (dk_at dksX2_goesBy_4 9 rfl rfl)
theorem dX2_goesBy_106 : decode cX2_goesBy 106 = .ok (.iconst 1, 1) := dk_4 (dk_at dksX2_goesBy_4 12 rfl rfl)
theorem dX2_goesBy_107 : decode cX2_goesBy 107 = .ok (.iadd, 1) := dk_96 (dk_at dksX2_goesBy_4 13 rfl rfl)
theorem dX2_goesBy_108 : decode cX2_goesBy 108 = .ok (.putfield 45, 3) := dk_181 0 45 (dk_at dksX2_goesBy_4 14 rfl rfl)
theorem dX2_goesBy_111 : decode cX2_goesBy 111 = .ok (.iload_n 1, 1) := dk_27 (dk_at dksX2_goesBy_4 17 rfl rfl)
theorem dX2_goesBy_112 : decode cX2_goesBy 112 = .ok (.ireturn, 1) := dk_172 (dk_at dksX2_goesBy_4 18 rfl rfl)
abbrev cX2_thinks : ByteArray := prog_5_method_3_code
def yX2_thinks : MethodName := ⟨RX2, "thinks", "(LEncores$Gallery;)LEncores$Gallery;"⟩
def dkwX2_thinks_0 : List UInt8 := [42, 43, 182, 0, 60, 42, 4, 181, 0, 64, 42, 176]
abbrev dktX2_thinks_0 : List UInt8 := dkwX2_thinks_0 ++ []
theorem dksX2_thinks_0 : cX2_thinks.data.toList.drop 0 = dktX2_thinks_0 := by decide +kernel
theorem dX2_thinks_0 : decode cX2_thinks 0 = .ok (.aload_n 0, 1) := dk_42 (dk_at dksX2_thinks_0 0 rfl rfl)
theorem dX2_thinks_1 : decode cX2_thinks 1 = .ok (.aload_n 1, 1) := dk_43 (dk_at dksX2_thinks_0 1 rfl rfl)
theorem dX2_thinks_2 : decode cX2_thinks 2 = .ok (.invokevirtual 60, 3) := dk_182 0 60 (dk_at dksX2_thinks_0 2 rfl rfl)
theorem dX2_thinks_5 : decode cX2_thinks 5 = .ok (.aload_n 0, 1) := dk_42 (dk_at dksX2_thinks_0 5 rfl rfl)
theorem dX2_thinks_6 : decode cX2_thinks 6 = .ok (.iconst 1, 1) := dk_4 (dk_at dksX2_thinks_0 6 rfl rfl)
theorem dX2_thinks_7 : decode cX2_thinks 7 = .ok (.putfield 64, 3) := dk_181 0 64 (dk_at dksX2_thinks_0 7 rfl rfl)
theorem dX2_thinks_10 : decode cX2_thinks 10 = .ok (.aload_n 0, 1) := dk_42 (dk_at dksX2_thinks_0 10 rfl rfl)
theorem dX2_thinks_11 : decode cX2_thinks 11 = .ok (.areturn, 1) := dk_176 (dk_at dksX2_thinks_0 11 rfl rfl)
theorem q136 : (Jvm.Cond.initialized "Encores$Gallery") ∈ lw_all := lw_g (lw_at lw_m1 3 rfl) rfl
theorem q227 : (Jvm.Cond.instantiable "Encores$Gallery" (18 : Nat)) ∈ lw_all := lw_g (lw_at lw_m1 94 rfl) rfl
theorem q229 : (Jvm.Cond.instanceMethod ({ cls := "Encores$Gallery", name := "<init>", desc := "(LEncores;)V" } : Jvm.MethodName)) ∈ lw_all := lw_g (lw_at lw_m1 96 rfl) rfl
theorem q230 : (Jvm.Cond.code ({ cls := "Encores$Gallery", name := "<init>", desc := "(LEncores;)V" } : Jvm.MethodName) prog_5_method_1_code (2 : Nat) (Option.none : Option Jvm.ClassFile.FieldType)) ∈ lw_all := lw_g (lw_at lw_m1 97 rfl) rfl
theorem q231 : (Jvm.Cond.methodLink "Encores$Gallery" (9 : Nat) ({ cls := "java/lang/Object", name := "<init>", desc := "()V" } : Jvm.MethodName)) ∈ lw_all := lw_g (lw_at lw_m1 98 rfl) rfl
theorem q232 : (Jvm.Cond.fieldLink "Encores$Gallery" (15 : Nat) "Encores$Gallery" "paid" "[I") ∈ lw_all := lw_g (lw_at lw_m1 99 rfl) rfl
theorem q234 : (Jvm.Cond.fieldLink "Encores$Gallery" (19 : Nat) "Encores$Gallery" "wear" "[I") ∈ lw_all := lw_g (lw_at lw_m1 101 rfl) rfl
theorem q236 : (Jvm.Cond.fieldLink "Encores$Gallery" (22 : Nat) "Encores$Gallery" "done" "[I") ∈ lw_all := lw_g (lw_at lw_m1 103 rfl) rfl
theorem q238 : (Jvm.Cond.fieldLink "Encores$Gallery" (25 : Nat) "Encores$Gallery" "own" "[I") ∈ lw_all := lw_g (lw_at lw_m1 105 rfl) rfl
theorem q239 : (Jvm.Cond.fieldLink "Encores$Gallery" (36 : Nat) "Encores$Gallery" "there" "I") ∈ lw_all := lw_g (lw_at lw_m1 106 rfl) rfl
theorem q241 : (Jvm.Cond.fieldLink "Encores$Gallery" (39 : Nat) "Encores$Gallery" "gloved" "I") ∈ lw_all := lw_g (lw_at lw_m1 108 rfl) rfl
theorem q243 : (Jvm.Cond.fieldLink "Encores$Gallery" (42 : Nat) "Encores$Gallery" "minute" "I") ∈ lw_all := lw_g (lw_at lw_m1 110 rfl) rfl
theorem q245 : (Jvm.Cond.fieldLink "Encores$Gallery" (45 : Nat) "Encores$Gallery" "evening" "I") ∈ lw_all := lw_g (lw_at lw_m1 112 rfl) rfl
theorem q247 : (Jvm.Cond.fieldLink "Encores$Gallery" (48 : Nat) "Encores$Gallery" "coin" "I") ∈ lw_all := lw_g (lw_at lw_m1 114 rfl) rfl
theorem q249 : (Jvm.Cond.fieldLink "Encores$Gallery" (28 : Nat) "Encores$Gallery" "latest" "I") ∈ lw_all := lw_g (lw_at lw_m1 116 rfl) rfl
theorem q251 : (Jvm.Cond.fieldLink "Encores$Gallery" (51 : Nat) "Encores$Gallery" "agains" "I") ∈ lw_all := lw_g (lw_at lw_m1 118 rfl) rfl
theorem q253 : (Jvm.Cond.fieldLink "Encores$Gallery" (54 : Nat) "Encores$Gallery" "state" "I") ∈ lw_all := lw_g (lw_at lw_m1 120 rfl) rfl
theorem q255 : (Jvm.Cond.fieldLink "Encores$Gallery" (57 : Nat) "Encores$Gallery" "bookMany" "I") ∈ lw_all := lw_g (lw_at lw_m1 122 rfl) rfl
theorem q257 : (Jvm.Cond.fieldLink "Encores$Gallery" (108 : Nat) "Encores$Gallery" "clapping" "I") ∈ lw_all := lw_g (lw_at lw_m1 124 rfl) rfl
theorem q259 : (Jvm.Cond.fieldLink "Encores$Gallery" (124 : Nat) "Encores$Gallery" "rounds" "I") ∈ lw_all := lw_g (lw_at lw_m1 126 rfl) rfl
theorem q261 : (Jvm.Cond.fieldLink "Encores$Gallery" (162 : Nat) "Encores$Gallery" "count" "I") ∈ lw_all := lw_g (lw_at lw_m1 128 rfl) rfl
theorem q263 : (Jvm.Cond.fieldLink "Encores$Gallery" (64 : Nat) "Encores$Gallery" "isThought" "Z") ∈ lw_all := lw_g (lw_at lw_m1 130 rfl) rfl
theorem q264 : (Jvm.Cond.fieldLink "Encores$Gallery" (3 : Nat) "Encores$Gallery" "this$0" "LEncores;") ∈ lw_all := lw_g (lw_at lw_m1 131 rfl) rfl
theorem q265 : (Jvm.Cond.laysFinal "Encores$Gallery" "Encores$Gallery" "paid" "[I") ∈ lw_all := lw_g (lw_at lw_m1 132 rfl) rfl
theorem q266 : (Jvm.Cond.soleField "Encores$Gallery" "paid") ∈ lw_all := lw_g (lw_at lw_m1 133 rfl) rfl
theorem q267 : (Jvm.Cond.laysFinal "Encores$Gallery" "Encores$Gallery" "wear" "[I") ∈ lw_all := lw_g (lw_at lw_m1 134 rfl) rfl
theorem q268 : (Jvm.Cond.soleField "Encores$Gallery" "wear") ∈ lw_all := lw_g (lw_at lw_m1 135 rfl) rfl
theorem q269 : (Jvm.Cond.laysFinal "Encores$Gallery" "Encores$Gallery" "done" "[I") ∈ lw_all := lw_g (lw_at lw_m1 136 rfl) rfl
theorem q270 : (Jvm.Cond.soleField "Encores$Gallery" "done") ∈ lw_all := lw_g (lw_at lw_m1 137 rfl) rfl
theorem q271 : (Jvm.Cond.laysFinal "Encores$Gallery" "Encores$Gallery" "own" "[I") ∈ lw_all := lw_g (lw_at lw_m1 138 rfl) rfl
theorem q272 : (Jvm.Cond.soleField "Encores$Gallery" "own") ∈ lw_all := lw_g (lw_at lw_m1 139 rfl) rfl
theorem q273 : (Jvm.Cond.lays "Encores$Gallery" "Encores$Gallery" "there" "I") ∈ lw_all := lw_g (lw_at lw_m1 140 rfl) rfl
theorem q274 : (Jvm.Cond.soleField "Encores$Gallery" "there") ∈ lw_all := lw_g (lw_at lw_m1 141 rfl) rfl
theorem q275 : (Jvm.Cond.lays "Encores$Gallery" "Encores$Gallery" "gloved" "I") ∈ lw_all := lw_g (lw_at lw_m1 142 rfl) rfl
theorem q276 : (Jvm.Cond.soleField "Encores$Gallery" "gloved") ∈ lw_all := lw_g (lw_at lw_m1 143 rfl) rfl
theorem q277 : (Jvm.Cond.lays "Encores$Gallery" "Encores$Gallery" "minute" "I") ∈ lw_all := lw_g (lw_at lw_m1 144 rfl) rfl
theorem q278 : (Jvm.Cond.soleField "Encores$Gallery" "minute") ∈ lw_all := lw_g (lw_at lw_m1 145 rfl) rfl
theorem q279 : (Jvm.Cond.lays "Encores$Gallery" "Encores$Gallery" "evening" "I") ∈ lw_all := lw_g (lw_at lw_m1 146 rfl) rfl
theorem q280 : (Jvm.Cond.soleField "Encores$Gallery" "evening") ∈ lw_all := lw_g (lw_at lw_m1 147 rfl) rfl
theorem q281 : (Jvm.Cond.lays "Encores$Gallery" "Encores$Gallery" "coin" "I") ∈ lw_all := lw_g (lw_at lw_m1 148 rfl) rfl
theorem q282 : (Jvm.Cond.soleField "Encores$Gallery" "coin") ∈ lw_all := lw_g (lw_at lw_m1 149 rfl) rfl
theorem q283 : (Jvm.Cond.lays "Encores$Gallery" "Encores$Gallery" "latest" "I") ∈ lw_all := lw_g (lw_at lw_m1 150 rfl) rfl
theorem q284 : (Jvm.Cond.soleField "Encores$Gallery" "latest") ∈ lw_all := lw_g (lw_at lw_m1 151 rfl) rfl
theorem q285 : (Jvm.Cond.lays "Encores$Gallery" "Encores$Gallery" "agains" "I") ∈ lw_all := lw_g (lw_at lw_m1 152 rfl) rfl
theorem q286 : (Jvm.Cond.soleField "Encores$Gallery" "agains") ∈ lw_all := lw_g (lw_at lw_m1 153 rfl) rfl
theorem q287 : (Jvm.Cond.lays "Encores$Gallery" "Encores$Gallery" "state" "I") ∈ lw_all := lw_g (lw_at lw_m1 154 rfl) rfl
theorem q288 : (Jvm.Cond.soleField "Encores$Gallery" "state") ∈ lw_all := lw_g (lw_at lw_m1 155 rfl) rfl
theorem q289 : (Jvm.Cond.lays "Encores$Gallery" "Encores$Gallery" "bookMany" "I") ∈ lw_all := lw_g (lw_at lw_m1 156 rfl) rfl
theorem q290 : (Jvm.Cond.soleField "Encores$Gallery" "bookMany") ∈ lw_all := lw_g (lw_at lw_m1 157 rfl) rfl
theorem q291 : (Jvm.Cond.lays "Encores$Gallery" "Encores$Gallery" "clapping" "I") ∈ lw_all := lw_g (lw_at lw_m1 158 rfl) rfl
theorem q292 : (Jvm.Cond.soleField "Encores$Gallery" "clapping") ∈ lw_all := lw_g (lw_at lw_m1 159 rfl) rfl
theorem q293 : (Jvm.Cond.lays "Encores$Gallery" "Encores$Gallery" "rounds" "I") ∈ lw_all := lw_g (lw_at lw_m1 160 rfl) rfl
theorem q294 : (Jvm.Cond.soleField "Encores$Gallery" "rounds") ∈ lw_all := lw_g (lw_at lw_m1 161 rfl) rfl
theorem q295 : (Jvm.Cond.lays "Encores$Gallery" "Encores$Gallery" "count" "I") ∈ lw_all := lw_g (lw_at lw_m1 162 rfl) rfl
theorem q296 : (Jvm.Cond.soleField "Encores$Gallery" "count") ∈ lw_all := lw_g (lw_at lw_m1 163 rfl) rfl
theorem q297 : (Jvm.Cond.lays "Encores$Gallery" "Encores$Gallery" "isThought" "Z") ∈ lw_all := lw_g (lw_at lw_m1 164 rfl) rfl
theorem q298 : (Jvm.Cond.soleField "Encores$Gallery" "isThought") ∈ lw_all := lw_g (lw_at lw_m1 165 rfl) rfl
theorem q299 : (Jvm.Cond.laysFinal "Encores$Gallery" "Encores$Gallery" "this$0" "LEncores;") ∈ lw_all := lw_g (lw_at lw_m1 166 rfl) rfl
theorem q300 : (Jvm.Cond.soleField "Encores$Gallery" "this$0") ∈ lw_all := lw_g (lw_at lw_m1 167 rfl) rfl
theorem q301 : (Jvm.Cond.superclass "Encores$Gallery" "java/lang/Object") ∈ lw_all := lw_g (lw_at lw_m1 168 rfl) rfl
theorem q324 : (Jvm.Cond.fieldLinkNest "Encores$Gallery" (70 : Nat) "Encores" "lawHas" "[I" "Encores") ∈ lw_tbl := lw_at lw_m1 191 rfl
theorem q328 : (Jvm.Cond.fieldLinkNest "Encores$Gallery" (177 : Nat) "Encores" "turns" "[LEncores$Turn;" "Encores") ∈ lw_tbl := lw_at lw_m1 195 rfl
theorem q330 : (Jvm.Cond.fieldLinkNest "Encores$Gallery" (99 : Nat) "Encores" "beside" "[I" "Encores") ∈ lw_tbl := lw_at lw_m1 197 rfl
theorem q332 : (Jvm.Cond.fieldLinkNest "Encores$Gallery" (111 : Nat) "Encores" "hearers" "I" "Encores") ∈ lw_tbl := lw_at lw_m1 199 rfl
theorem q335 : (Jvm.Cond.fieldLinkNest "Encores$Gallery" (152 : Nat) "Encores" "coughs" "I" "Encores") ∈ lw_tbl := lw_at lw_m1 202 rfl
theorem q338 : (Jvm.Cond.fieldLinkNest "Encores$Gallery" (90 : Nat) "Encores" "hands" "[I" "Encores") ∈ lw_tbl := lw_at lw_m1 205 rfl
theorem q340 : (Jvm.Cond.fieldLinkNest "Encores$Gallery" (93 : Nat) "Encores" "likes" "[I" "Encores") ∈ lw_tbl := lw_at lw_m1 207 rfl
theorem q342 : (Jvm.Cond.fieldLinkNest "Encores$Gallery" (96 : Nat) "Encores" "manners" "[I" "Encores") ∈ lw_tbl := lw_at lw_m1 209 rfl
theorem q343 : (Jvm.Cond.fieldLinkNest "Encores$Gallery" (79 : Nat) "Encores" "worth" "[I" "Encores") ∈ lw_tbl := lw_at lw_m1 210 rfl
theorem q346 : (Jvm.Cond.fieldLinkNest "Encores$Gallery" (137 : Nat) "Encores" "lasting" "[I" "Encores") ∈ lw_tbl := lw_at lw_m1 213 rfl
theorem q348 : (Jvm.Cond.fieldLinkNest "Encores$Gallery" (140 : Nat) "Encores" "cost" "[I" "Encores") ∈ lw_tbl := lw_at lw_m1 215 rfl
theorem q879 : (Jvm.Cond.instanceMethod ({ cls := "Encores$Gallery", name := "become", desc := "(LEncores$Gallery;)V" } : Jvm.MethodName)) ∈ lw_all := lw_g (lw_at lw_m4 26 rfl) rfl
theorem q880 : (Jvm.Cond.selects "Encores$Gallery" ({ cls := "Encores$Gallery", name := "become", desc := "(LEncores$Gallery;)V" } : Jvm.MethodName) ({ cls := "Encores$Gallery", name := "become", desc := "(LEncores$Gallery;)V" } : Jvm.MethodName)) ∈ lw_all := lw_g (lw_at lw_m4 27 rfl) rfl
theorem q881 : (Jvm.Cond.code ({ cls := "Encores$Gallery", name := "become", desc := "(LEncores$Gallery;)V" } : Jvm.MethodName) prog_5_method_2_code (2 : Nat) (Option.none : Option Jvm.ClassFile.FieldType)) ∈ lw_all := lw_g (lw_at lw_m4 28 rfl) rfl
theorem q882 : (Jvm.Cond.methodLinkNest "Encores$Gallery" (32 : Nat) ({ cls := "Encores", name := "copies", desc := "([I[I)V" } : Jvm.MethodName) "Encores") ∈ lw_tbl := lw_at lw_m4 29 rfl
theorem q925 : (Jvm.Cond.instanceMethod ({ cls := "Encores$Gallery", name := "does", desc := "(I)I" } : Jvm.MethodName)) ∈ lw_all := lw_g (lw_at lw_m4 72 rfl) rfl
theorem q926 : (Jvm.Cond.selects "Encores$Gallery" ({ cls := "Encores$Gallery", name := "does", desc := "(I)I" } : Jvm.MethodName) ({ cls := "Encores$Gallery", name := "does", desc := "(I)I" } : Jvm.MethodName)) ∈ lw_all := lw_g (lw_at lw_m4 73 rfl) rfl
theorem q927 : (Jvm.Cond.code ({ cls := "Encores$Gallery", name := "does", desc := "(I)I" } : Jvm.MethodName) prog_5_method_13_code (3 : Nat) (Option.some Jvm.ClassFile.FieldType.int)) ∈ lw_all := lw_g (lw_at lw_m4 74 rfl) rfl
theorem q928 : (Jvm.Cond.methodLink "Encores$Gallery" (174 : Nat) ({ cls := "Encores$Gallery", name := "doesOnce", desc := "(I)Z" } : Jvm.MethodName)) ∈ lw_all := lw_g (lw_at lw_m4 75 rfl) rfl
theorem q929 : (Jvm.Cond.instanceMethod ({ cls := "Encores$Gallery", name := "doesOnce", desc := "(I)Z" } : Jvm.MethodName)) ∈ lw_all := lw_g (lw_at lw_m4 76 rfl) rfl
theorem q930 : (Jvm.Cond.selects "Encores$Gallery" ({ cls := "Encores$Gallery", name := "doesOnce", desc := "(I)Z" } : Jvm.MethodName) ({ cls := "Encores$Gallery", name := "doesOnce", desc := "(I)Z" } : Jvm.MethodName)) ∈ lw_all := lw_g (lw_at lw_m4 77 rfl) rfl
theorem q931 : (Jvm.Cond.code ({ cls := "Encores$Gallery", name := "doesOnce", desc := "(I)Z" } : Jvm.MethodName) prog_5_method_12_code (4 : Nat) (Option.some Jvm.ClassFile.FieldType.boolean)) ∈ lw_all := lw_g (lw_at lw_m4 78 rfl) rfl
theorem q932 : (Jvm.Cond.methodLink "Encores$Gallery" (134 : Nat) ({ cls := "Encores$Gallery", name := "wearsOf", desc := "(I)I" } : Jvm.MethodName)) ∈ lw_all := lw_g (lw_at lw_m4 79 rfl) rfl
theorem q933 : (Jvm.Cond.instanceMethod ({ cls := "Encores$Gallery", name := "wearsOf", desc := "(I)I" } : Jvm.MethodName)) ∈ lw_all := lw_g (lw_at lw_m4 80 rfl) rfl
theorem q934 : (Jvm.Cond.selects "Encores$Gallery" ({ cls := "Encores$Gallery", name := "wearsOf", desc := "(I)I" } : Jvm.MethodName) ({ cls := "Encores$Gallery", name := "wearsOf", desc := "(I)I" } : Jvm.MethodName)) ∈ lw_all := lw_g (lw_at lw_m4 81 rfl) rfl
theorem q935 : (Jvm.Cond.code ({ cls := "Encores$Gallery", name := "wearsOf", desc := "(I)I" } : Jvm.MethodName) prog_5_method_7_code (2 : Nat) (Option.some Jvm.ClassFile.FieldType.int)) ∈ lw_all := lw_g (lw_at lw_m4 82 rfl) rfl
theorem q936 : (Jvm.Cond.methodLink "Encores$Gallery" (82 : Nat) ({ cls := "Encores$Gallery", name := "asksDeed", desc := "(I)V" } : Jvm.MethodName)) ∈ lw_all := lw_g (lw_at lw_m4 83 rfl) rfl
theorem q937 : (Jvm.Cond.privateMethod ({ cls := "Encores$Gallery", name := "asksDeed", desc := "(I)V" } : Jvm.MethodName)) ∈ lw_tbl := lw_at lw_m4 84 rfl
theorem q938 : (Jvm.Cond.instanceMethod ({ cls := "Encores$Gallery", name := "asksDeed", desc := "(I)V" } : Jvm.MethodName)) ∈ lw_all := lw_g (lw_at lw_m4 85 rfl) rfl
theorem q939 : (Jvm.Cond.code ({ cls := "Encores$Gallery", name := "asksDeed", desc := "(I)V" } : Jvm.MethodName) prog_5_method_5_code (2 : Nat) (Option.none : Option Jvm.ClassFile.FieldType)) ∈ lw_all := lw_g (lw_at lw_m4 86 rfl) rfl
theorem q940 : (Jvm.Cond.methodLink "Encores$Gallery" (73 : Nat) ({ cls := "java/util/Arrays", name := "fill", desc := "([II)V" } : Jvm.MethodName)) ∈ lw_all := lw_g (lw_at lw_m4 87 rfl) rfl
theorem q943 : (Jvm.Cond.methodLinkNest "Encores$Gallery" (86 : Nat) ({ cls := "Encores", name := "tells", desc := "(III)I" } : Jvm.MethodName) "Encores") ∈ lw_tbl := lw_at lw_m4 90 rfl
theorem q968 : (Jvm.Cond.methodLink "Encores$Gallery" (143 : Nat) ({ cls := "java/lang/Math", name := "min", desc := "(II)I" } : Jvm.MethodName)) ∈ lw_all := lw_g (lw_at lw_m4 115 rfl) rfl
theorem q969 : (Jvm.Cond.methodLink "Encores$Gallery" (149 : Nat) ({ cls := "Encores$Gallery", name := "isClapped", desc := "(I)V" } : Jvm.MethodName)) ∈ lw_all := lw_g (lw_at lw_m4 116 rfl) rfl
theorem q970 : (Jvm.Cond.privateMethod ({ cls := "Encores$Gallery", name := "isClapped", desc := "(I)V" } : Jvm.MethodName)) ∈ lw_tbl := lw_at lw_m4 117 rfl
theorem q971 : (Jvm.Cond.instanceMethod ({ cls := "Encores$Gallery", name := "isClapped", desc := "(I)V" } : Jvm.MethodName)) ∈ lw_all := lw_g (lw_at lw_m4 118 rfl) rfl
theorem q972 : (Jvm.Cond.code ({ cls := "Encores$Gallery", name := "isClapped", desc := "(I)V" } : Jvm.MethodName) prog_5_method_10_code (3 : Nat) (Option.none : Option Jvm.ClassFile.FieldType)) ∈ lw_all := lw_g (lw_at lw_m4 119 rfl) rfl
theorem q973 : (Jvm.Cond.methodLinkNest "Encores$Gallery" (114 : Nat) ({ cls := "Encores", name := "has", desc := "(II)Z" } : Jvm.MethodName) "Encores") ∈ lw_tbl := lw_at lw_m4 120 rfl
theorem q976 : (Jvm.Cond.methodLink "Encores$Gallery" (121 : Nat) ({ cls := "Encores$Gallery", name := "draw", desc := "(I)I" } : Jvm.MethodName)) ∈ lw_all := lw_g (lw_at lw_m4 123 rfl) rfl
theorem q977 : (Jvm.Cond.privateMethod ({ cls := "Encores$Gallery", name := "draw", desc := "(I)I" } : Jvm.MethodName)) ∈ lw_tbl := lw_at lw_m4 124 rfl
theorem q978 : (Jvm.Cond.instanceMethod ({ cls := "Encores$Gallery", name := "draw", desc := "(I)I" } : Jvm.MethodName)) ∈ lw_all := lw_g (lw_at lw_m4 125 rfl) rfl
theorem q979 : (Jvm.Cond.code ({ cls := "Encores$Gallery", name := "draw", desc := "(I)I" } : Jvm.MethodName) prog_5_method_4_code (2 : Nat) (Option.some Jvm.ClassFile.FieldType.int)) ∈ lw_all := lw_g (lw_at lw_m4 126 rfl) rfl
theorem q980 : (Jvm.Cond.constant "Encores$Gallery" (68 : Nat) (1664525 : Int32)) ∈ lw_all := lw_g (lw_at lw_m4 127 rfl) rfl
theorem q981 : (Jvm.Cond.constant "Encores$Gallery" (69 : Nat) (1013904223 : Int32)) ∈ lw_all := lw_g (lw_at lw_m4 128 rfl) rfl
theorem q982 : (Jvm.Cond.methodLink "Encores$Gallery" (127 : Nat) ({ cls := "Encores$Gallery", name := "doBegin", desc := "(I)Z" } : Jvm.MethodName)) ∈ lw_all := lw_g (lw_at lw_m4 129 rfl) rfl
theorem q983 : (Jvm.Cond.privateMethod ({ cls := "Encores$Gallery", name := "doBegin", desc := "(I)Z" } : Jvm.MethodName)) ∈ lw_tbl := lw_at lw_m4 130 rfl
theorem q984 : (Jvm.Cond.instanceMethod ({ cls := "Encores$Gallery", name := "doBegin", desc := "(I)Z" } : Jvm.MethodName)) ∈ lw_all := lw_g (lw_at lw_m4 131 rfl) rfl
theorem q985 : (Jvm.Cond.code ({ cls := "Encores$Gallery", name := "doBegin", desc := "(I)Z" } : Jvm.MethodName) prog_5_method_9_code (4 : Nat) (Option.some Jvm.ClassFile.FieldType.boolean)) ∈ lw_all := lw_g (lw_at lw_m4 132 rfl) rfl
theorem q986 : (Jvm.Cond.methodLink "Encores$Gallery" (118 : Nat) ({ cls := "Encores$Gallery", name := "clapOf", desc := "(III)I" } : Jvm.MethodName)) ∈ lw_all := lw_g (lw_at lw_m4 133 rfl) rfl
theorem q987 : (Jvm.Cond.instanceMethod ({ cls := "Encores$Gallery", name := "clapOf", desc := "(III)I" } : Jvm.MethodName)) ∈ lw_all := lw_g (lw_at lw_m4 134 rfl) rfl
theorem q988 : (Jvm.Cond.selects "Encores$Gallery" ({ cls := "Encores$Gallery", name := "clapOf", desc := "(III)I" } : Jvm.MethodName) ({ cls := "Encores$Gallery", name := "clapOf", desc := "(III)I" } : Jvm.MethodName)) ∈ lw_all := lw_g (lw_at lw_m4 135 rfl) rfl
theorem q989 : (Jvm.Cond.code ({ cls := "Encores$Gallery", name := "clapOf", desc := "(III)I" } : Jvm.MethodName) prog_5_method_8_code (4 : Nat) (Option.some Jvm.ClassFile.FieldType.int)) ∈ lw_all := lw_g (lw_at lw_m4 136 rfl) rfl
theorem q990 : (Jvm.Cond.methodLink "Encores$Gallery" (102 : Nat) ({ cls := "java/lang/Integer", name := "bitCount", desc := "(I)I" } : Jvm.MethodName)) ∈ lw_all := lw_g (lw_at lw_m4 137 rfl) rfl
theorem q996 : (Jvm.Cond.methodLink "Encores$Gallery" (155 : Nat) ({ cls := "Encores$Gallery", name := "handsOf", desc := "()I" } : Jvm.MethodName)) ∈ lw_all := lw_g (lw_at lw_m4 143 rfl) rfl
theorem q997 : (Jvm.Cond.privateMethod ({ cls := "Encores$Gallery", name := "handsOf", desc := "()I" } : Jvm.MethodName)) ∈ lw_tbl := lw_at lw_m4 144 rfl
theorem q998 : (Jvm.Cond.instanceMethod ({ cls := "Encores$Gallery", name := "handsOf", desc := "()I" } : Jvm.MethodName)) ∈ lw_all := lw_g (lw_at lw_m4 145 rfl) rfl
theorem q999 : (Jvm.Cond.code ({ cls := "Encores$Gallery", name := "handsOf", desc := "()I" } : Jvm.MethodName) prog_5_method_11_code (3 : Nat) (Option.some Jvm.ClassFile.FieldType.int)) ∈ lw_all := lw_g (lw_at lw_m4 146 rfl) rfl
theorem q1000 : (Jvm.Cond.methodLinkNest "Encores$Gallery" (131 : Nat) ({ cls := "Encores", name := "countOf", desc := "(I)I" } : Jvm.MethodName) "Encores") ∈ lw_tbl := lw_at lw_m4 147 rfl
theorem q1012 : (Jvm.Cond.methodLink "Encores$Gallery" (159 : Nat) ({ cls := "Encores$Gallery", name := "loudOf", desc := "(I)I" } : Jvm.MethodName)) ∈ lw_all := lw_g (lw_at lw_m4 159 rfl) rfl
theorem q1013 : (Jvm.Cond.instanceMethod ({ cls := "Encores$Gallery", name := "loudOf", desc := "(I)I" } : Jvm.MethodName)) ∈ lw_all := lw_g (lw_at lw_m4 160 rfl) rfl
theorem q1014 : (Jvm.Cond.selects "Encores$Gallery" ({ cls := "Encores$Gallery", name := "loudOf", desc := "(I)I" } : Jvm.MethodName) ({ cls := "Encores$Gallery", name := "loudOf", desc := "(I)I" } : Jvm.MethodName)) ∈ lw_all := lw_g (lw_at lw_m4 161 rfl) rfl
theorem q1015 : (Jvm.Cond.code ({ cls := "Encores$Gallery", name := "loudOf", desc := "(I)I" } : Jvm.MethodName) prog_5_method_6_code (2 : Nat) (Option.some Jvm.ClassFile.FieldType.int)) ∈ lw_all := lw_g (lw_at lw_m4 162 rfl) rfl
theorem q1016 : (Jvm.Cond.methodLink "Encores$Gallery" (165 : Nat) ({ cls := "Encores$Gallery", name := "notes", desc := "(III)V" } : Jvm.MethodName)) ∈ lw_all := lw_g (lw_at lw_m4 163 rfl) rfl
theorem q1017 : (Jvm.Cond.privateMethod ({ cls := "Encores$Gallery", name := "notes", desc := "(III)V" } : Jvm.MethodName)) ∈ lw_tbl := lw_at lw_m4 164 rfl
theorem q1018 : (Jvm.Cond.instanceMethod ({ cls := "Encores$Gallery", name := "notes", desc := "(III)V" } : Jvm.MethodName)) ∈ lw_all := lw_g (lw_at lw_m4 165 rfl) rfl
theorem q1019 : (Jvm.Cond.code ({ cls := "Encores$Gallery", name := "notes", desc := "(III)V" } : Jvm.MethodName) prog_5_method_15_code (4 : Nat) (Option.none : Option Jvm.ClassFile.FieldType)) ∈ lw_all := lw_g (lw_at lw_m4 166 rfl) rfl
theorem q1020 : (Jvm.Cond.methodLinkNest "Encores$Gallery" (195 : Nat) ({ cls := "Encores", name := "writes", desc := "(III)V" } : Jvm.MethodName) "Encores") ∈ lw_tbl := lw_at lw_m4 167 rfl
theorem q1024 : (Jvm.Cond.methodLinkNest "Encores$Gallery" (169 : Nat) ({ cls := "Encores", name := "handsFrom", desc := "(I)I" } : Jvm.MethodName) "Encores") ∈ lw_tbl := lw_at lw_m4 171 rfl
theorem q1032 : (Jvm.Cond.methodLinkNest "Encores$Gallery" (172 : Nat) ({ cls := "Encores", name := "latest", desc := "(II)I" } : Jvm.MethodName) "Encores") ∈ lw_tbl := lw_at lw_m4 179 rfl
theorem q1055 : (Jvm.Cond.instanceMethod ({ cls := "Encores$Gallery", name := "goesBy", desc := "()I" } : Jvm.MethodName)) ∈ lw_all := lw_g (lw_at lw_m4 202 rfl) rfl
theorem q1056 : (Jvm.Cond.selects "Encores$Gallery" ({ cls := "Encores$Gallery", name := "goesBy", desc := "()I" } : Jvm.MethodName) ({ cls := "Encores$Gallery", name := "goesBy", desc := "()I" } : Jvm.MethodName)) ∈ lw_all := lw_g (lw_at lw_m4 203 rfl) rfl
theorem q1057 : (Jvm.Cond.code ({ cls := "Encores$Gallery", name := "goesBy", desc := "()I" } : Jvm.MethodName) prog_5_method_14_code (3 : Nat) (Option.some Jvm.ClassFile.FieldType.int)) ∈ lw_all := lw_g (lw_at lw_m4 204 rfl) rfl
theorem q1058 : (Jvm.Cond.methodLink "Encores$Gallery" (181 : Nat) ({ cls := "Encores$Turn", name := "at", desc := "()I" } : Jvm.MethodName)) ∈ lw_all := lw_g (lw_at lw_m4 205 rfl) rfl
theorem q1062 : (Jvm.Cond.methodLink "Encores$Gallery" (186 : Nat) ({ cls := "java/lang/Math", name := "max", desc := "(II)I" } : Jvm.MethodName)) ∈ lw_all := lw_g (lw_at lw_m4 209 rfl) rfl
theorem q1063 : (Jvm.Cond.methodLink "Encores$Gallery" (189 : Nat) ({ cls := "Encores$Turn", name := "deed", desc := "()I" } : Jvm.MethodName)) ∈ lw_all := lw_g (lw_at lw_m4 210 rfl) rfl
theorem q1067 : (Jvm.Cond.methodLink "Encores$Gallery" (192 : Nat) ({ cls := "Encores$Gallery", name := "does", desc := "(I)I" } : Jvm.MethodName)) ∈ lw_all := lw_g (lw_at lw_m4 214 rfl) rfl
theorem q1096 : (Jvm.Cond.instanceMethod ({ cls := "Encores$Gallery", name := "thinks", desc := "(LEncores$Gallery;)LEncores$Gallery;" } : Jvm.MethodName)) ∈ lw_all := lw_g (lw_at lw_m5 3 rfl) rfl
theorem q1097 : (Jvm.Cond.selects "Encores$Gallery" ({ cls := "Encores$Gallery", name := "thinks", desc := "(LEncores$Gallery;)LEncores$Gallery;" } : Jvm.MethodName) ({ cls := "Encores$Gallery", name := "thinks", desc := "(LEncores$Gallery;)LEncores$Gallery;" } : Jvm.MethodName)) ∈ lw_all := lw_g (lw_at lw_m5 4 rfl) rfl
theorem q1098 : (Jvm.Cond.code ({ cls := "Encores$Gallery", name := "thinks", desc := "(LEncores$Gallery;)LEncores$Gallery;" } : Jvm.MethodName) prog_5_method_3_code (2 : Nat) (Option.some (Jvm.ClassFile.FieldType.object "Encores$Gallery"))) ∈ lw_all := lw_g (lw_at lw_m5 5 rfl) rfl
theorem q1099 : (Jvm.Cond.methodLink "Encores$Gallery" (60 : Nat) ({ cls := "Encores$Gallery", name := "become", desc := "(LEncores$Gallery;)V" } : Jvm.MethodName)) ∈ lw_all := lw_g (lw_at lw_m5 6 rfl) rfl
theorem in_X2 : ∀ w ∈ wsX20, w ∈ lw_all := lw_in wsX20 [265, 267, 269, 271, 273, 275, 277, 279, 281, 283, 285, 287, 289, 291, 293, 295, 297, 299] (by decide +kernel) (by decide +kernel)
