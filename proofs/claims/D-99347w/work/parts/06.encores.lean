/-! Encores -/
set_option maxRecDepth 100000
def RX0 : String := "Encores"
def TX0 : u_T := fun k => match k with
  | 0 => ("Encores", "tape", "[B", true)
  | 1 => ("Encores", "taped", "I", false)
  | 2 => ("Encores", "firstWords", "[[Ljava/lang/String;", true)
  | 3 => ("Encores", "lawAsked", "[Ljava/lang/String;", true)
  | 4 => ("Encores", "others", "[Ljava/lang/String;", true)
  | 5 => ("Encores", "nothing", "[Ljava/lang/String;", true)
  | 6 => ("Encores", "words", "[Ljava/lang/String;", false)
  | 7 => ("Encores", "asked", "[Ljava/lang/String;", false)
  | 8 => ("Encores", "joins", "[Ljava/lang/String;", false)
  | 9 => ("Encores", "token", "LEncores$Token;", false)
  | 10 => ("Encores", "spot", "I", false)
  | 11 => ("Encores", "from", "I", false)
  | 12 => ("Encores", "value", "I", false)
  | 13 => ("Encores", "open", "I", false)
  | 14 => ("Encores", "faultKind", "I", false)
  | 15 => ("Encores", "faultPlace", "I", false)
  | 16 => ("Encores", "law", "LEncores$Text;", false)
  | 17 => ("Encores", "lawHas", "[I", true)
  | 18 => ("Encores", "rules", "[LEncores$Rule;", false)
  | 19 => ("Encores", "turns", "[LEncores$Turn;", false)
  | 20 => ("Encores", "beside", "[I", false)
  | 21 => ("Encores", "besideLines", "I", false)
  | 22 => ("Encores", "hearers", "I", false)
  | 23 => ("Encores", "deeds", "I", false)
  | 24 => ("Encores", "coughs", "I", false)
  | 25 => ("Encores", "hands", "[I", true)
  | 26 => ("Encores", "likes", "[I", true)
  | 27 => ("Encores", "manners", "[I", true)
  | 28 => ("Encores", "worth", "[I", true)
  | 29 => ("Encores", "lasting", "[I", true)
  | 30 => ("Encores", "cost", "[I", true)
  | 31 => ("Encores", "gallery", "LEncores$Gallery;", true)
  | 32 => ("Encores", "thought", "LEncores$Gallery;", true)
  | 33 => ("Encores", "kept", "LEncores$Gallery;", true)
  | 34 => ("Encores", "book", "[I", true)
  | 35 => ("Encores", "ahead", "[LEncores$Gallery;", true)
  | 36 => ("Encores", "undoable", "I", false)
  | 37 => ("Encores", "claques", "[LEncores$Claque;", false)
  | 38 => ("Encores", "withHim", "[I", true)
  | 39 => ("Encores", "meanings", "[I", true)
  | 40 => ("Encores", "grundy", "[I", true)
  | 41 => ("Encores", "rows", "[[I", true)
  | 42 => ("Encores", "keptRows", "[[I", true)
  | 43 => ("Encores", "keptHearers", "I", false)
  | 44 => ("Encores", "keptDeeds", "I", false)
  | 45 => ("Encores", "keptCoughs", "I", false)
  | 46 => ("Encores", "keptLines", "I", false)
  | 47 => ("Encores", "keptRules", "[LEncores$Rule;", false)
  | 48 => ("Encores", "keptTurns", "[LEncores$Turn;", false)
  | 49 => ("Encores", "keptBeside", "[I", false)
  | 50 => ("Encores", "keptClaques", "[LEncores$Claque;", false)
  | _ => ("Encores", "keptLaw", "LEncores$Text;", false)
def tyX0 : Nat → FieldType := fun k => match k with
  | 0 => .array .byte
  | 1 => .int
  | 2 => .array (.array (.object "java/lang/String"))
  | 3 => .array (.object "java/lang/String")
  | 4 => .array (.object "java/lang/String")
  | 5 => .array (.object "java/lang/String")
  | 6 => .array (.object "java/lang/String")
  | 7 => .array (.object "java/lang/String")
  | 8 => .array (.object "java/lang/String")
  | 9 => .object "Encores$Token"
  | 10 => .int
  | 11 => .int
  | 12 => .int
  | 13 => .int
  | 14 => .int
  | 15 => .int
  | 16 => .object "Encores$Text"
  | 17 => .array .int
  | 18 => .array (.object "Encores$Rule")
  | 19 => .array (.object "Encores$Turn")
  | 20 => .array .int
  | 21 => .int
  | 22 => .int
  | 23 => .int
  | 24 => .int
  | 25 => .array .int
  | 26 => .array .int
  | 27 => .array .int
  | 28 => .array .int
  | 29 => .array .int
  | 30 => .array .int
  | 31 => .object "Encores$Gallery"
  | 32 => .object "Encores$Gallery"
  | 33 => .object "Encores$Gallery"
  | 34 => .array .int
  | 35 => .array (.object "Encores$Gallery")
  | 36 => .int
  | 37 => .array (.object "Encores$Claque")
  | 38 => .array .int
  | 39 => .array .int
  | 40 => .array .int
  | 41 => .array (.array .int)
  | 42 => .array (.array .int)
  | 43 => .int
  | 44 => .int
  | 45 => .int
  | 46 => .int
  | 47 => .array (.object "Encores$Rule")
  | 48 => .array (.object "Encores$Turn")
  | 49 => .array .int
  | 50 => .array (.object "Encores$Claque")
  | _ => .object "Encores$Text"
abbrev wsX00 : List Cond := u_ws RX0 TX0 52
set_option maxRecDepth 100000 in
theorem nmX0 : ∀ a, a < 52 → ∀ b, b < 52 → a ≠ b → (TX0 a).2.1 ≠ (TX0 b).2.1 := by decide +kernel
set_option maxRecDepth 100000 in
theorem tyX0_ok : ∀ k, k < 52 → parseFieldDescriptor (TX0 k).2.2.1 = some (tyX0 k) := by decide +kernel
abbrev cX0_init : ByteArray := prog_1_method_7_code
def yX0_init : MethodName := ⟨RX0, "<init>", "()V"⟩
def dkwX0_init_24 : List UInt8 := [177]
abbrev dktX0_init_24 : List UInt8 := dkwX0_init_24 ++ []
def dkwX0_init_23 : List UInt8 := [181, 0, 197, 3, 60, 27, 16, 10, 162, 0, 16, 42, 180, 0, 186, 27, 27, 79, 132, 1, 1, 167, 255, 240]
abbrev dktX0_init_23 : List UInt8 := dkwX0_init_23 ++ dktX0_init_24
def dkwX0_init_22 : List UInt8 := [89, 8, 16, 8, 188, 10, 83, 89, 16, 6, 16, 10, 188, 10, 83, 89, 16, 7, 17, 2, 88, 188, 10, 83]
abbrev dktX0_init_22 : List UInt8 := dkwX0_init_22 ++ dktX0_init_23
def dkwX0_init_21 : List UInt8 := [188, 10, 83, 89, 5, 16, 12, 188, 10, 83, 89, 6, 16, 8, 188, 10, 83, 89, 7, 16, 8, 188, 10, 83]
abbrev dktX0_init_21 : List UInt8 := dkwX0_init_21 ++ dktX0_init_22
def dkwX0_init_20 : List UInt8 := [180, 0, 170, 83, 181, 0, 193, 42, 16, 8, 189, 0, 192, 89, 3, 16, 12, 188, 10, 83, 89, 4, 16, 12]
abbrev dktX0_init_20 : List UInt8 := dkwX0_init_20 ++ dktX0_init_21
def dkwX0_init_19 : List UInt8 := [180, 0, 149, 83, 89, 8, 42, 180, 0, 152, 83, 89, 16, 6, 42, 180, 0, 186, 83, 89, 16, 7, 42]
abbrev dktX0_init_19 : List UInt8 := dkwX0_init_19 ++ dktX0_init_20
def dkwX0_init_18 : List UInt8 := [89, 4, 42, 180, 0, 143, 83, 89, 5, 42, 180, 0, 145, 83, 89, 6, 42, 180, 0, 147, 83, 89, 7, 42]
abbrev dktX0_init_18 : List UInt8 := dkwX0_init_18 ++ dktX0_init_19
def dkwX0_init_17 : List UInt8 := [181, 0, 186, 42, 16, 61, 188, 10, 181, 0, 189, 42, 16, 8, 189, 0, 192, 89, 3, 42, 180, 0, 141, 83]
abbrev dktX0_init_17 : List UInt8 := dkwX0_init_17 ++ dktX0_init_18
def dkwX0_init_16 : List UInt8 := [181, 0, 173, 42, 3, 189, 0, 177, 181, 0, 179, 42, 16, 12, 188, 10, 181, 0, 183, 42, 16, 10, 188, 10]
abbrev dktX0_init_16 : List UInt8 := dkwX0_init_16 ++ dktX0_init_17
def dkwX0_init_15 : List UInt8 := [42, 183, 0, 157, 181, 0, 167, 42, 17, 2, 88, 188, 10, 181, 0, 170, 42, 16, 6, 189, 0, 155]
abbrev dktX0_init_15 : List UInt8 := dkwX0_init_15 ++ dktX0_init_16
def dkwX0_init_14 : List UInt8 := [42, 183, 0, 157, 181, 0, 160, 42, 187, 0, 155, 89, 42, 183, 0, 157, 181, 0, 164, 42, 187, 0, 155, 89]
abbrev dktX0_init_14 : List UInt8 := dkwX0_init_14 ++ dktX0_init_15
def dkwX0_init_13 : List UInt8 := [181, 0, 147, 42, 16, 8, 188, 10, 181, 0, 149, 42, 16, 8, 188, 10, 181, 0, 152, 42, 187, 0, 155, 89]
abbrev dktX0_init_13 : List UInt8 := dkwX0_init_13 ++ dktX0_init_14
def dkwX0_init_12 : List UInt8 := [181, 0, 141, 42, 16, 12, 188, 10, 181, 0, 143, 42, 16, 12, 188, 10, 181, 0, 145, 42, 16, 8, 188, 10]
abbrev dktX0_init_12 : List UInt8 := dkwX0_init_12 ++ dktX0_init_13
def dkwX0_init_11 : List UInt8 := [181, 0, 129, 42, 3, 189, 0, 133, 181, 0, 135, 42, 16, 12, 188, 10, 181, 0, 139, 42, 16, 12, 188, 10]
abbrev dktX0_init_11 : List UInt8 := dkwX0_init_11 ++ dktX0_init_12
def dkwX0_init_10 : List UInt8 := [187, 0, 116, 89, 183, 0, 118, 181, 0, 119, 42, 16, 10, 188, 10, 181, 0, 123, 42, 3, 189, 0, 127]
abbrev dktX0_init_10 : List UInt8 := dkwX0_init_10 ++ dktX0_init_11
def dkwX0_init_9 : List UInt8 := [42, 42, 180, 0, 100, 181, 0, 106, 42, 42, 180, 0, 100, 181, 0, 109, 42, 2, 181, 0, 112, 42]
abbrev dktX0_init_9 : List UInt8 := dkwX0_init_9 ++ dktX0_init_10
def dkwX0_init_8 : List UInt8 := [89, 6, 18, 95, 83, 181, 0, 97, 42, 3, 189, 0, 42, 181, 0, 100, 42, 42, 180, 0, 100, 181, 0, 103]
abbrev dktX0_init_8 : List UInt8 := dkwX0_init_8 ++ dktX0_init_9
def dkwX0_init_7 : List UInt8 := [83, 181, 0, 86, 42, 7, 189, 0, 42, 89, 3, 18, 89, 83, 89, 4, 18, 91, 83, 89, 5, 18, 93, 83]
abbrev dktX0_init_7 : List UInt8 := dkwX0_init_7 ++ dktX0_init_8
def dkwX0_init_6 : List UInt8 := [83, 89, 16, 6, 18, 80, 83, 89, 16, 7, 18, 82, 83, 89, 16, 8, 18, 66, 83, 89, 16, 9, 18, 84]
abbrev dktX0_init_6 : List UInt8 := dkwX0_init_6 ++ dktX0_init_7
def dkwX0_init_5 : List UInt8 := [89, 4, 18, 50, 83, 89, 5, 18, 72, 83, 89, 6, 18, 74, 83, 89, 7, 18, 76, 83, 89, 8, 18, 78]
abbrev dktX0_init_5 : List UInt8 := dkwX0_init_5 ++ dktX0_init_6
def dkwX0_init_4 : List UInt8 := [3, 18, 64, 83, 89, 4, 18, 66, 83, 83, 181, 0, 68, 42, 16, 10, 189, 0, 42, 89, 3, 18, 64, 83]
abbrev dktX0_init_4 : List UInt8 := dkwX0_init_4 ++ dktX0_init_5
def dkwX0_init_3 : List UInt8 := [89, 5, 5, 189, 0, 42, 89, 3, 18, 60, 83, 89, 4, 18, 62, 83, 83, 89, 6, 5, 189, 0, 42, 89]
abbrev dktX0_init_3 : List UInt8 := dkwX0_init_3 ++ dktX0_init_4
def dkwX0_init_2 : List UInt8 := [18, 50, 83, 89, 4, 18, 52, 83, 89, 5, 18, 54, 83, 89, 6, 18, 56, 83, 89, 7, 18, 58, 83, 83]
abbrev dktX0_init_2 : List UInt8 := dkwX0_init_2 ++ dktX0_init_3
def dkwX0_init_1 : List UInt8 := [89, 3, 18, 44, 83, 89, 4, 18, 46, 83, 89, 5, 18, 48, 83, 83, 89, 4, 8, 189, 0, 42, 89, 3]
abbrev dktX0_init_1 : List UInt8 := dkwX0_init_1 ++ dktX0_init_2
def dkwX0_init_0 : List UInt8 := [42, 183, 0, 30, 42, 17, 1, 144, 188, 8, 181, 0, 36, 42, 7, 189, 0, 40, 89, 3, 6, 189, 0, 42]
abbrev dktX0_init_0 : List UInt8 := dkwX0_init_0 ++ dktX0_init_1
theorem dksX0_init_0 : cX0_init.data.toList.drop 0 = dktX0_init_0 := by decide +kernel
theorem dksX0_init_1 : cX0_init.data.toList.drop 24 = dktX0_init_1 := dk_seg dksX0_init_0 24 rfl rfl
theorem dksX0_init_2 : cX0_init.data.toList.drop 48 = dktX0_init_2 := dk_seg dksX0_init_1 24 rfl rfl
theorem dksX0_init_3 : cX0_init.data.toList.drop 72 = dktX0_init_3 := dk_seg dksX0_init_2 24 rfl rfl
theorem dksX0_init_4 : cX0_init.data.toList.drop 96 = dktX0_init_4 := dk_seg dksX0_init_3 24 rfl rfl
theorem dksX0_init_5 : cX0_init.data.toList.drop 120 = dktX0_init_5 := dk_seg dksX0_init_4 24 rfl rfl
theorem dksX0_init_6 : cX0_init.data.toList.drop 144 = dktX0_init_6 := dk_seg dksX0_init_5 24 rfl rfl
theorem dksX0_init_7 : cX0_init.data.toList.drop 168 = dktX0_init_7 := dk_seg dksX0_init_6 24 rfl rfl
theorem dksX0_init_8 : cX0_init.data.toList.drop 192 = dktX0_init_8 := dk_seg dksX0_init_7 24 rfl rfl
theorem dksX0_init_9 : cX0_init.data.toList.drop 216 = dktX0_init_9 := dk_seg dksX0_init_8 24 rfl rfl
theorem dksX0_init_10 : cX0_init.data.toList.drop 238 = dktX0_init_10 := dk_seg dksX0_init_9 22 rfl rfl
theorem dksX0_init_11 : cX0_init.data.toList.drop 261 = dktX0_init_11 := dk_seg dksX0_init_10 23 rfl rfl
theorem dksX0_init_12 : cX0_init.data.toList.drop 285 = dktX0_init_12 := dk_seg dksX0_init_11 24 rfl rfl
theorem dksX0_init_13 : cX0_init.data.toList.drop 309 = dktX0_init_13 := dk_seg dksX0_init_12 24 rfl rfl
theorem dksX0_init_14 : cX0_init.data.toList.drop 333 = dktX0_init_14 := dk_seg dksX0_init_13 24 rfl rfl
theorem dksX0_init_15 : cX0_init.data.toList.drop 357 = dktX0_init_15 := dk_seg dksX0_init_14 24 rfl rfl
theorem dksX0_init_16 : cX0_init.data.toList.drop 379 = dktX0_init_16 := dk_seg dksX0_init_15 22 rfl rfl
theorem dksX0_init_17 : cX0_init.data.toList.drop 403 = dktX0_init_17 := dk_seg dksX0_init_16 24 rfl rfl
theorem dksX0_init_18 : cX0_init.data.toList.drop 427 = dktX0_init_18 := dk_seg dksX0_init_17 24 rfl rfl
theorem dksX0_init_19 : cX0_init.data.toList.drop 451 = dktX0_init_19 := dk_seg dksX0_init_18 24 rfl rfl
theorem dksX0_init_20 : cX0_init.data.toList.drop 474 = dktX0_init_20 := dk_seg dksX0_init_19 23 rfl rfl
theorem dksX0_init_21 : cX0_init.data.toList.drop 498 = dktX0_init_21 := dk_seg dksX0_init_20 24 rfl rfl
theorem dksX0_init_22 : cX0_init.data.toList.drop 522 = dktX0_init_22 := dk_seg dksX0_init_21 24 rfl rfl
theorem dksX0_init_23 : cX0_init.data.toList.drop 546 = dktX0_init_23 := dk_seg dksX0_init_22 24 rfl rfl
theorem dksX0_init_24 : cX0_init.data.toList.drop 570 = dktX0_init_24 := dk_seg dksX0_init_23 24 rfl rfl
theorem dX0_init_0 : decode cX0_init 0 = .ok (.aload_n 0, 1) := dk_42 (dk_at dksX0_init_0 0 rfl rfl)
theorem dX0_init_1 : decode cX0_init 1 = .ok (.invokespecial 30, 3) := dk_183 0 30 (dk_at dksX0_init_0 1 rfl rfl)
theorem dX0_init_4 : decode cX0_init 4 = .ok (.aload_n 0, 1) := dk_42 (dk_at dksX0_init_0 4 rfl rfl)
theorem dX0_init_5 : decode cX0_init 5 = .ok (.sipush 400, 3) := dk_17 1 144 (dk_at dksX0_init_0 5 rfl rfl)
theorem dX0_init_8 : decode cX0_init 8 = .ok (.newarray .byte, 2) := dk_188_8 (dk_at dksX0_init_0 8 rfl rfl)
theorem dX0_init_10 : decode cX0_init 10 = .ok (.putfield 36, 3) := dk_181 0 36 (dk_at dksX0_init_0 10 rfl rfl)
theorem dX0_init_13 : decode cX0_init 13 = .ok (.aload_n 0, 1) := dk_42 (dk_at dksX0_init_0 13 rfl rfl)
theorem dX0_init_14 : decode cX0_init 14 = .ok (.iconst 4, 1) := dk_7 (dk_at dksX0_init_0 14 rfl rfl)
theorem dX0_init_15 : decode cX0_init 15 = .ok (.anewarray 40, 3) := dk_189 0 40 (dk_at dksX0_init_0 15 rfl rfl)
theorem dX0_init_18 : decode cX0_init 18 = .ok (.dup, 1) := dk_89 (dk_at dksX0_init_0 18 rfl rfl)
theorem dX0_init_19 : decode cX0_init 19 = .ok (.iconst 0, 1) := dk_3 (dk_at dksX0_init_0 19 rfl rfl)
theorem dX0_init_20 : decode cX0_init 20 = .ok (.iconst 3, 1) := dk_6 (dk_at dksX0_init_0 20 rfl rfl)
theorem dX0_init_21 : decode cX0_init 21 = .ok (.anewarray 42, 3) := dk_189 0 42 (dk_at dksX0_init_0 21 rfl rfl)
theorem dX0_init_24 : decode cX0_init 24 = .ok (.dup, 1) := dk_89 (dk_at dksX0_init_1 0 rfl rfl)
theorem dX0_init_25 : decode cX0_init 25 = .ok (.iconst 0, 1) := dk_3 (dk_at dksX0_init_1 1 rfl rfl)
theorem dX0_init_26 : decode cX0_init 26 = .ok (.ldc 44, 2) := dk_18 44 (dk_at dksX0_init_1 2 rfl rfl)
theorem dX0_init_28 : decode cX0_init 28 = .ok (.aastore, 1) := dk_83 (dk_at dksX0_init_1 4 rfl rfl)
theorem dX0_init_29 : decode cX0_init 29 = .ok (.dup, 1) := dk_89 (dk_at dksX0_init_1 5 rfl rfl)
theorem dX0_init_30 : decode cX0_init 30 = .ok (.iconst 1, 1) := dk_4 (dk_at dksX0_init_1 6 rfl rfl)
theorem dX0_init_31 : decode cX0_init 31 = .ok (.ldc 46, 2) := dk_18 46 (dk_at dksX0_init_1 7 rfl rfl)
theorem dX0_init_33 : decode cX0_init 33 = .ok (.aastore, 1) := dk_83 (dk_at dksX0_init_1 9 rfl rfl)
theorem dX0_init_34 : decode cX0_init 34 = .ok (.dup, 1) := dk_89 (dk_at dksX0_init_1 10 rfl rfl)
theorem dX0_init_35 : decode cX0_init 35 = .ok (.iconst 2, 1) := dk_5 (dk_at dksX0_init_1 11 rfl rfl)
theorem dX0_init_36 : decode cX0_init 36 = .ok (.ldc 48, 2) := dk_18 48 (dk_at dksX0_init_1 12 rfl rfl)
theorem dX0_init_38 : decode cX0_init 38 = .ok (.aastore, 1) := dk_83 (dk_at dksX0_init_1 14 rfl rfl)
theorem dX0_init_39 : decode cX0_init 39 = .ok (.aastore, 1) := dk_83 (dk_at dksX0_init_1 15 rfl rfl)
theorem dX0_init_40 : decode cX0_init 40 = .ok (.dup, 1) := dk_89 (dk_at dksX0_init_1 16 rfl rfl)
theorem dX0_init_41 : decode cX0_init 41 = .ok (.iconst 1, 1) := dk_4 (dk_at dksX0_init_1 17 rfl rfl)
theorem dX0_init_42 : decode cX0_init 42 = .ok (.iconst 5, 1) := dk_8 (dk_at dksX0_init_1 18 rfl rfl)
theorem dX0_init_43 : decode cX0_init 43 = .ok (.anewarray 42, 3) := dk_189 0 42 (dk_at dksX0_init_1 19 rfl rfl)
theorem dX0_init_46 : decode cX0_init 46 = .ok (.dup, 1) := dk_89 (dk_at dksX0_init_1 22 rfl rfl)
theorem dX0_init_47 : decode cX0_init 47 = .ok (.iconst 0, 1) := dk_3 (dk_at dksX0_init_1 23 rfl rfl)
theorem dX0_init_48 : decode cX0_init 48 = .ok (.ldc 50, 2) := dk_18 50 (dk_at dksX0_init_2 0 rfl rfl)
theorem dX0_init_50 : decode cX0_init 50 = .ok (.aastore, 1) := dk_83 (dk_at dksX0_init_2 2 rfl rfl)
theorem dX0_init_51 : decode cX0_init 51 = .ok (.dup, 1) := dk_89 (dk_at dksX0_init_2 3 rfl rfl)
theorem dX0_init_52 : decode cX0_init 52 = .ok (.iconst 1, 1) := dk_4 (dk_at dksX0_init_2 4 rfl rfl)
theorem dX0_init_53 : decode cX0_init 53 = .ok (.ldc 52, 2) := dk_18 52 (dk_at dksX0_init_2 5 rfl rfl)
theorem dX0_init_55 : decode cX0_init 55 = .ok (.aastore, 1) := dk_83 (dk_at dksX0_init_2 7 rfl rfl)
theorem dX0_init_56 : decode cX0_init 56 = .ok (.dup, 1) := dk_89 (dk_at dksX0_init_2 8 rfl rfl)
theorem dX0_init_57 : decode cX0_init 57 = .ok (.iconst 2, 1) := dk_5 (dk_at dksX0_init_2 9 rfl rfl)
theorem dX0_init_58 : decode cX0_init 58 = .ok (.ldc 54, 2) := dk_18 54 (dk_at dksX0_init_2 10 rfl rfl)
theorem dX0_init_60 : decode cX0_init 60 = .ok (.aastore, 1) := dk_83 (dk_at dksX0_init_2 12 rfl rfl)
theorem dX0_init_61 : decode cX0_init 61 = .ok (.dup, 1) := dk_89 (dk_at dksX0_init_2 13 rfl rfl)
theorem dX0_init_62 : decode cX0_init 62 = .ok (.iconst 3, 1) := dk_6 (dk_at dksX0_init_2 14 rfl rfl)
theorem dX0_init_63 : decode cX0_init 63 = .ok (.ldc 56, 2) := dk_18 56 (dk_at dksX0_init_2 15 rfl rfl)
theorem dX0_init_65 : decode cX0_init 65 = .ok (.aastore, 1) := dk_83 (dk_at dksX0_init_2 17 rfl rfl)
theorem dX0_init_66 : decode cX0_init 66 = .ok (.dup, 1) := dk_89 (dk_at dksX0_init_2 18 rfl rfl)
theorem dX0_init_67 : decode cX0_init 67 = .ok (.iconst 4, 1) := dk_7 (dk_at dksX0_init_2 19 rfl rfl)
theorem dX0_init_68 : decode cX0_init 68 = .ok (.ldc 58, 2) := dk_18 58 (dk_at dksX0_init_2 20 rfl rfl)
theorem dX0_init_70 : decode cX0_init 70 = .ok (.aastore, 1) := dk_83 (dk_at dksX0_init_2 22 rfl rfl)
theorem dX0_init_71 : decode cX0_init 71 = .ok (.aastore, 1) := dk_83 (dk_at dksX0_init_2 23 rfl rfl)
theorem dX0_init_72 : decode cX0_init 72 = .ok (.dup, 1) := dk_89 (dk_at dksX0_init_3 0 rfl rfl)
theorem dX0_init_73 : decode cX0_init 73 = .ok (.iconst 2, 1) := dk_5 (dk_at dksX0_init_3 1 rfl rfl)
theorem dX0_init_74 : decode cX0_init 74 = .ok (.iconst 2, 1) := dk_5 (dk_at dksX0_init_3 2 rfl rfl)
theorem dX0_init_75 : decode cX0_init 75 = .ok (.anewarray 42, 3) := dk_189 0 42 (dk_at dksX0_init_3 3 rfl rfl)
theorem dX0_init_78 : decode cX0_init 78 = .ok (.dup, 1) := dk_89 (dk_at dksX0_init_3 6 rfl rfl)
theorem dX0_init_79 : decode cX0_init 79 = .ok (.iconst 0, 1) := dk_3 (dk_at dksX0_init_3 7 rfl rfl)
theorem dX0_init_80 : decode cX0_init 80 = .ok (.ldc 60, 2) := dk_18 60 (dk_at dksX0_init_3 8 rfl rfl)
theorem dX0_init_82 : decode cX0_init 82 = .ok (.aastore, 1) := dk_83 (dk_at dksX0_init_3 10 rfl rfl)
theorem dX0_init_83 : decode cX0_init 83 = .ok (.dup, 1) := dk_89 (dk_at dksX0_init_3 11 rfl rfl)
theorem dX0_init_84 : decode cX0_init 84 = .ok (.iconst 1, 1) := dk_4 (dk_at dksX0_init_3 12 rfl rfl)
theorem dX0_init_85 : decode cX0_init 85 = .ok (.ldc 62, 2) := dk_18 62 (dk_at dksX0_init_3 13 rfl rfl)
theorem dX0_init_87 : decode cX0_init 87 = .ok (.aastore, 1) := dk_83 (dk_at dksX0_init_3 15 rfl rfl)
theorem dX0_init_88 : decode cX0_init 88 = .ok (.aastore, 1) := dk_83 (dk_at dksX0_init_3 16 rfl rfl)
theorem dX0_init_89 : decode cX0_init 89 = .ok (.dup, 1) := dk_89 (dk_at dksX0_init_3 17 rfl rfl)
theorem dX0_init_90 : decode cX0_init 90 = .ok (.iconst 3, 1) := dk_6 (dk_at dksX0_init_3 18 rfl rfl)
theorem dX0_init_91 : decode cX0_init 91 = .ok (.iconst 2, 1) := dk_5 (dk_at dksX0_init_3 19 rfl rfl)
theorem dX0_init_92 : decode cX0_init 92 = .ok (.anewarray 42, 3) := dk_189 0 42 (dk_at dksX0_init_3 20 rfl rfl)
theorem dX0_init_95 : decode cX0_init 95 = .ok (.dup, 1) := dk_89 (dk_at dksX0_init_3 23 rfl rfl)
theorem dX0_init_96 : decode cX0_init 96 = .ok (.iconst 0, 1) := dk_3 (dk_at dksX0_init_4 0 rfl rfl)
theorem dX0_init_97 : decode cX0_init 97 = .ok (.ldc 64, 2) := dk_18 64 (dk_at dksX0_init_4 1 rfl rfl)
theorem dX0_init_99 : decode cX0_init 99 = .ok (.aastore, 1) := dk_83 (dk_at dksX0_init_4 3 rfl rfl)
theorem dX0_init_100 : decode cX0_init 100 = .ok (.dup, 1) := dk_89 (dk_at dksX0_init_4 4 rfl rfl)
theorem dX0_init_101 : decode cX0_init 101 = .ok (.iconst 1, 1) := dk_4 (dk_at dksX0_init_4 5 rfl rfl)
theorem dX0_init_102 : decode cX0_init 102 = .ok (.ldc 66, 2) := dk_18 66 (dk_at dksX0_init_4 6 rfl rfl)
theorem dX0_init_104 : decode cX0_init 104 = .ok (.aastore, 1) := dk_83 (dk_at dksX0_init_4 8 rfl rfl)
theorem dX0_init_105 : decode cX0_init 105 = .ok (.aastore, 1) := dk_83 (dk_at dksX0_init_4 9 rfl rfl)
theorem dX0_init_106 : decode cX0_init 106 = .ok (.putfield 68, 3) := dk_181 0 68 (dk_at dksX0_init_4 10 rfl rfl)
theorem dX0_init_109 : decode cX0_init 109 = .ok (.aload_n 0, 1) := dk_42 (dk_at dksX0_init_4 13 rfl rfl)
theorem dX0_init_110 : decode cX0_init 110 = .ok (.bipush 10, 2) := dk_16 10 (dk_at dksX0_init_4 14 rfl rfl)
theorem dX0_init_112 : decode cX0_init 112 = .ok (.anewarray 42, 3) := dk_189 0 42 (dk_at dksX0_init_4 16 rfl rfl)
theorem dX0_init_115 : decode cX0_init 115 = .ok (.dup, 1) := dk_89 (dk_at dksX0_init_4 19 rfl rfl)
theorem dX0_init_116 : decode cX0_init 116 = .ok (.iconst 0, 1) := dk_3 (dk_at dksX0_init_4 20 rfl rfl)
theorem dX0_init_117 : decode cX0_init 117 = .ok (.ldc 64, 2) := dk_18 64 (dk_at dksX0_init_4 21 rfl rfl)
theorem dX0_init_119 : decode cX0_init 119 = .ok (.aastore, 1) := dk_83 (dk_at dksX0_init_4 23 rfl rfl)
theorem dX0_init_120 : decode cX0_init 120 = .ok (.dup, 1) := dk_89 (dk_at dksX0_init_5 0 rfl rfl)
theorem dX0_init_121 : decode cX0_init 121 = .ok (.iconst 1, 1) := dk_4 (dk_at dksX0_init_5 1 rfl rfl)
theorem dX0_init_122 : decode cX0_init 122 = .ok (.ldc 50, 2) := dk_18 50 (dk_at dksX0_init_5 2 rfl rfl)
theorem dX0_init_124 : decode cX0_init 124 = .ok (.aastore, 1) := dk_83 (dk_at dksX0_init_5 4 rfl rfl)
theorem dX0_init_125 : decode cX0_init 125 = .ok (.dup, 1) := dk_89 (dk_at dksX0_init_5 5 rfl rfl)
theorem dX0_init_126 : decode cX0_init 126 = .ok (.iconst 2, 1) := dk_5 (dk_at dksX0_init_5 6 rfl rfl)
theorem dX0_init_127 : decode cX0_init 127 = .ok (.ldc 72, 2) := dk_18 72 (dk_at dksX0_init_5 7 rfl rfl)
theorem dX0_init_129 : decode cX0_init 129 = .ok (.aastore, 1) := dk_83 (dk_at dksX0_init_5 9 rfl rfl)
theorem dX0_init_130 : decode cX0_init 130 = .ok (.dup, 1) := dk_89 (dk_at dksX0_init_5 10 rfl rfl)
theorem dX0_init_131 : decode cX0_init 131 = .ok (.iconst 3, 1) := dk_6 (dk_at dksX0_init_5 11 rfl rfl)
theorem dX0_init_132 : decode cX0_init 132 = .ok (.ldc 74, 2) := dk_18 74 (dk_at dksX0_init_5 12 rfl rfl)
theorem dX0_init_134 : decode cX0_init 134 = .ok (.aastore, 1) := dk_83 (dk_at dksX0_init_5 14 rfl rfl)
theorem dX0_init_135 : decode cX0_init 135 = .ok (.dup, 1) := dk_89 (dk_at dksX0_init_5 15 rfl rfl)
theorem dX0_init_136 : decode cX0_init 136 = .ok (.iconst 4, 1) := dk_7 (dk_at dksX0_init_5 16 rfl rfl)
theorem dX0_init_137 : decode cX0_init 137 = .ok (.ldc 76, 2) := dk_18 76 (dk_at dksX0_init_5 17 rfl rfl)
theorem dX0_init_139 : decode cX0_init 139 = .ok (.aastore, 1) := dk_83 (dk_at dksX0_init_5 19 rfl rfl)
theorem dX0_init_140 : decode cX0_init 140 = .ok (.dup, 1) := dk_89 (dk_at dksX0_init_5 20 rfl rfl)
theorem dX0_init_141 : decode cX0_init 141 = .ok (.iconst 5, 1) := dk_8 (dk_at dksX0_init_5 21 rfl rfl)
theorem dX0_init_142 : decode cX0_init 142 = .ok (.ldc 78, 2) := dk_18 78 (dk_at dksX0_init_5 22 rfl rfl)
theorem dX0_init_144 : decode cX0_init 144 = .ok (.aastore, 1) := dk_83 (dk_at dksX0_init_6 0 rfl rfl)
theorem dX0_init_145 : decode cX0_init 145 = .ok (.dup, 1) := dk_89 (dk_at dksX0_init_6 1 rfl rfl)
theorem dX0_init_146 : decode cX0_init 146 = .ok (.bipush 6, 2) := dk_16 6 (dk_at dksX0_init_6 2 rfl rfl)
theorem dX0_init_148 : decode cX0_init 148 = .ok (.ldc 80, 2) := dk_18 80 (dk_at dksX0_init_6 4 rfl rfl)
theorem dX0_init_150 : decode cX0_init 150 = .ok (.aastore, 1) := dk_83 (dk_at dksX0_init_6 6 rfl rfl)
theorem dX0_init_151 : decode cX0_init 151 = .ok (.dup, 1) := dk_89 (dk_at dksX0_init_6 7 rfl rfl)
theorem dX0_init_152 : decode cX0_init 152 = .ok (.bipush 7, 2) := dk_16 7 (dk_at dksX0_init_6 8 rfl rfl)
theorem dX0_init_154 : decode cX0_init 154 = .ok (.ldc 82, 2) := dk_18 82 (dk_at dksX0_init_6 10 rfl rfl)
theorem dX0_init_156 : decode cX0_init 156 = .ok (.aastore, 1) := dk_83 (dk_at dksX0_init_6 12 rfl rfl)
theorem dX0_init_157 : decode cX0_init 157 = .ok (.dup, 1) := dk_89 (dk_at dksX0_init_6 13 rfl rfl)
theorem dX0_init_158 : decode cX0_init 158 = .ok (.bipush 8, 2) := dk_16 8 (dk_at dksX0_init_6 14 rfl rfl)
theorem dX0_init_160 : decode cX0_init 160 = .ok (.ldc 66, 2) := dk_18 66 (dk_at dksX0_init_6 16 rfl rfl)
theorem dX0_init_162 : decode cX0_init 162 = .ok (.aastore, 1) := dk_83 (dk_at dksX0_init_6 18 rfl rfl)
theorem dX0_init_163 : decode cX0_init 163 = .ok (.dup, 1) := dk_89 (dk_at dksX0_init_6 19 rfl rfl)
theorem dX0_init_164 : decode cX0_init 164 = .ok (.bipush 9, 2) := dk_16 9 (dk_at dksX0_init_6 20 rfl rfl)
theorem dX0_init_166 : decode cX0_init 166 = .ok (.ldc 84, 2) := dk_18 84 (dk_at dksX0_init_6 22 rfl rfl)
theorem dX0_init_168 : decode cX0_init 168 = .ok (.aastore, 1) := dk_83 (dk_at dksX0_init_7 0 rfl rfl)
theorem dX0_init_169 : decode cX0_init 169 = .ok (.putfield 86, 3) := dk_181 0 86 (dk_at dksX0_init_7 1 rfl rfl)
theorem dX0_init_172 : decode cX0_init 172 = .ok (.aload_n 0, 1) := dk_42 (dk_at dksX0_init_7 4 rfl rfl)
theorem dX0_init_173 : decode cX0_init 173 = .ok (.iconst 4, 1) := dk_7 (dk_at dksX0_init_7 5 rfl rfl)
theorem dX0_init_174 : decode cX0_init 174 = .ok (.anewarray 42, 3) := dk_189 0 42 (dk_at dksX0_init_7 6 rfl rfl)
theorem dX0_init_177 : decode cX0_init 177 = .ok (.dup, 1) := dk_89 (dk_at dksX0_init_7 9 rfl rfl)
theorem dX0_init_178 : decode cX0_init 178 = .ok (.iconst 0, 1) := dk_3 (dk_at dksX0_init_7 10 rfl rfl)
theorem dX0_init_179 : decode cX0_init 179 = .ok (.ldc 89, 2) := dk_18 89 (dk_at dksX0_init_7 11 rfl rfl)
theorem dX0_init_181 : decode cX0_init 181 = .ok (.aastore, 1) := dk_83 (dk_at dksX0_init_7 13 rfl rfl)
theorem dX0_init_182 : decode cX0_init 182 = .ok (.dup, 1) := dk_89 (dk_at dksX0_init_7 14 rfl rfl)
theorem dX0_init_183 : decode cX0_init 183 = .ok (.iconst 1, 1) := dk_4 (dk_at dksX0_init_7 15 rfl rfl)
theorem dX0_init_184 : decode cX0_init 184 = .ok (.ldc 91, 2) := dk_18 91 (dk_at dksX0_init_7 16 rfl rfl)
theorem dX0_init_186 : decode cX0_init 186 = .ok (.aastore, 1) := dk_83 (dk_at dksX0_init_7 18 rfl rfl)
theorem dX0_init_187 : decode cX0_init 187 = .ok (.dup, 1) := dk_89 (dk_at dksX0_init_7 19 rfl rfl)
theorem dX0_init_188 : decode cX0_init 188 = .ok (.iconst 2, 1) := dk_5 (dk_at dksX0_init_7 20 rfl rfl)
theorem dX0_init_189 : decode cX0_init 189 = .ok (.ldc 93, 2) := dk_18 93 (dk_at dksX0_init_7 21 rfl rfl)
theorem dX0_init_191 : decode cX0_init 191 = .ok (.aastore, 1) := dk_83 (dk_at dksX0_init_7 23 rfl rfl)
theorem dX0_init_192 : decode cX0_init 192 = .ok (.dup, 1) := dk_89 (dk_at dksX0_init_8 0 rfl rfl)
theorem dX0_init_193 : decode cX0_init 193 = .ok (.iconst 3, 1) := dk_6 (dk_at dksX0_init_8 1 rfl rfl)
theorem dX0_init_194 : decode cX0_init 194 = .ok (.ldc 95, 2) := dk_18 95 (dk_at dksX0_init_8 2 rfl rfl)
theorem dX0_init_196 : decode cX0_init 196 = .ok (.aastore, 1) := dk_83 (dk_at dksX0_init_8 4 rfl rfl)
theorem dX0_init_197 : decode cX0_init 197 = .ok (.putfield 97, 3) := dk_181 0 97 (dk_at dksX0_init_8 5 rfl rfl)
theorem dX0_init_200 : decode cX0_init 200 = .ok (.aload_n 0, 1) := dk_42 (dk_at dksX0_init_8 8 rfl rfl)
theorem dX0_init_201 : decode cX0_init 201 = .ok (.iconst 0, 1) := dk_3 (dk_at dksX0_init_8 9 rfl rfl)
theorem dX0_init_202 : decode cX0_init 202 = .ok (.anewarray 42, 3) := dk_189 0 42 (dk_at dksX0_init_8 10 rfl rfl)
theorem dX0_init_205 : decode cX0_init 205 = .ok (.putfield 100, 3) := dk_181 0 100 (dk_at dksX0_init_8 13 rfl rfl)
theorem dX0_init_208 : decode cX0_init 208 = .ok (.aload_n 0, 1) := dk_42 (dk_at dksX0_init_8 16 rfl rfl)
theorem dX0_init_209 : decode cX0_init 209 = .ok (.aload_n 0, 1) := dk_42 (dk_at dksX0_init_8 17 rfl rfl)
theorem dX0_init_210 : decode cX0_init 210 = .ok (.getfield 100, 3) := dk_180 0 100 (dk_at dksX0_init_8 18 rfl rfl)
theorem dX0_init_213 : decode cX0_init 213 = .ok (.putfield 103, 3) := dk_181 0 103 (dk_at dksX0_init_8 21 rfl rfl)
theorem dX0_init_216 : decode cX0_init 216 = .ok (.aload_n 0, 1) := dk_42 (dk_at dksX0_init_9 0 rfl rfl)
theorem dX0_init_217 : decode cX0_init 217 = .ok (.aload_n 0, 1) := dk_42 (dk_at dksX0_init_9 1 rfl rfl)
theorem dX0_init_218 : decode cX0_init 218 = .ok (.getfield 100, 3) := dk_180 0 100 (dk_at dksX0_init_9 2 rfl rfl)
theorem dX0_init_221 : decode cX0_init 221 = .ok (.putfield 106, 3) := dk_181 0 106 (dk_at dksX0_init_9 5 rfl rfl)
theorem dX0_init_224 : decode cX0_init 224 = .ok (.aload_n 0, 1) := dk_42 (dk_at dksX0_init_9 8 rfl rfl)
theorem dX0_init_225 : decode cX0_init 225 = .ok (.aload_n 0, 1) := dk_42 (dk_at dksX0_init_9 9 rfl rfl)
theorem dX0_init_226 : decode cX0_init 226 = .ok (.getfield 100, 3) := dk_180 0 100 (dk_at dksX0_init_9 10 rfl rfl)
theorem dX0_init_229 : decode cX0_init 229 = .ok (.putfield 109, 3) := dk_181 0 109 (dk_at dksX0_init_9 13 rfl rfl)
theorem dX0_init_232 : decode cX0_init 232 = .ok (.aload_n 0, 1) := dk_42 (dk_at dksX0_init_9 16 rfl rfl)
theorem dX0_init_233 : decode cX0_init 233 = .ok (.iconst (-1), 1) := dk_2 (dk_at dksX0_init_9 17 rfl rfl)
theorem dX0_init_234 : decode cX0_init 234 = .ok (.putfield 112, 3) := dk_181 0 112 (dk_at dksX0_init_9 18 rfl rfl)
theorem dX0_init_237 : decode cX0_init 237 = .ok (.aload_n 0, 1) := dk_42 (dk_at dksX0_init_9 21 rfl rfl)
theorem dX0_init_238 : decode cX0_init 238 = .ok (.new 116, 3) := dk_187 0 116 (dk_at dksX0_init_10 0 rfl rfl)
theorem dX0_init_241 : decode cX0_init 241 = .ok (.dup, 1) := dk_89 (dk_at dksX0_init_10 3 rfl rfl)
theorem dX0_init_242 : decode cX0_init 242 = .ok (.invokespecial 118, 3) := dk_183 0 118 (dk_at dksX0_init_10 4 rfl rfl)
theorem dX0_init_245 : decode cX0_init 245 = .ok (.putfield 119, 3) := dk_181 0 119 (dk_at dksX0_init_10 7 rfl rfl)
theorem dX0_init_248 : decode cX0_init 248 = .ok (.aload_n 0, 1) := dk_42 (dk_at dksX0_init_10 10 rfl rfl)
theorem dX0_init_249 : decode cX0_init 249 = .ok (.bipush 10, 2) := dk_16 10 (dk_at dksX0_init_10 11 rfl rfl)
theorem dX0_init_251 : decode cX0_init 251 = .ok (.newarray .int, 2) := dk_188_10 (dk_at dksX0_init_10 13 rfl rfl)
theorem dX0_init_253 : decode cX0_init 253 = .ok (.putfield 123, 3) := dk_181 0 123 (dk_at dksX0_init_10 15 rfl rfl)
theorem dX0_init_256 : decode cX0_init 256 = .ok (.aload_n 0, 1) := dk_42 (dk_at dksX0_init_10 18 rfl rfl)
theorem dX0_init_257 : decode cX0_init 257 = .ok (.iconst 0, 1) := dk_3 (dk_at dksX0_init_10 19 rfl rfl)
theorem dX0_init_258 : decode cX0_init 258 = .ok (.anewarray 127, 3) := dk_189 0 127 (dk_at dksX0_init_10 20 rfl rfl)
theorem dX0_init_261 : decode cX0_init 261 = .ok (.putfield 129, 3) := dk_181 0 129 (dk_at dksX0_init_11 0 rfl rfl)
theorem dX0_init_264 : decode cX0_init 264 = .ok (.aload_n 0, 1) := dk_42 (dk_at dksX0_init_11 3 rfl rfl)
theorem dX0_init_265 : decode cX0_init 265 = .ok (.iconst 0, 1) := dk_3 (dk_at dksX0_init_11 4 rfl rfl)
theorem dX0_init_266 : decode cX0_init 266 = .ok (.anewarray 133, 3) := dk_189 0 133 (dk_at dksX0_init_11 5 rfl rfl)
theorem dX0_init_269 : decode cX0_init 269 = .ok (.putfield 135, 3) := dk_181 0 135 (dk_at dksX0_init_11 8 rfl rfl)
theorem dX0_init_272 : decode cX0_init 272 = .ok (.aload_n 0, 1) := dk_42 (dk_at dksX0_init_11 11 rfl rfl)
theorem dX0_init_273 : decode cX0_init 273 = .ok (.bipush 12, 2) := dk_16 12 (dk_at dksX0_init_11 12 rfl rfl)
theorem dX0_init_275 : decode cX0_init 275 = .ok (.newarray .int, 2) := dk_188_10 (dk_at dksX0_init_11 14 rfl rfl)
theorem dX0_init_277 : decode cX0_init 277 = .ok (.putfield 139, 3) := dk_181 0 139 (dk_at dksX0_init_11 16 rfl rfl)
theorem dX0_init_280 : decode cX0_init 280 = .ok (.aload_n 0, 1) := dk_42 (dk_at dksX0_init_11 19 rfl rfl)
theorem dX0_init_281 : decode cX0_init 281 = .ok (.bipush 12, 2) := dk_16 12 (dk_at dksX0_init_11 20 rfl rfl)
theorem dX0_init_283 : decode cX0_init 283 = .ok (.newarray .int, 2) := dk_188_10 (dk_at dksX0_init_11 22 rfl rfl)
theorem dX0_init_285 : decode cX0_init 285 = .ok (.putfield 141, 3) := dk_181 0 141 (dk_at dksX0_init_12 0 rfl rfl)
theorem dX0_init_288 : decode cX0_init 288 = .ok (.aload_n 0, 1) := dk_42 (dk_at dksX0_init_12 3 rfl rfl)
theorem dX0_init_289 : decode cX0_init 289 = .ok (.bipush 12, 2) := dk_16 12 (dk_at dksX0_init_12 4 rfl rfl)
theorem dX0_init_291 : decode cX0_init 291 = .ok (.newarray .int, 2) := dk_188_10 (dk_at dksX0_init_12 6 rfl rfl)
theorem dX0_init_293 : decode cX0_init 293 = .ok (.putfield 143, 3) := dk_181 0 143 (dk_at dksX0_init_12 8 rfl rfl)
theorem dX0_init_296 : decode cX0_init 296 = .ok (.aload_n 0, 1) := dk_42 (dk_at dksX0_init_12 11 rfl rfl)
theorem dX0_init_297 : decode cX0_init 297 = .ok (.bipush 12, 2) := dk_16 12 (dk_at dksX0_init_12 12 rfl rfl)
theorem dX0_init_299 : decode cX0_init 299 = .ok (.newarray .int, 2) := dk_188_10 (dk_at dksX0_init_12 14 rfl rfl)
theorem dX0_init_301 : decode cX0_init 301 = .ok (.putfield 145, 3) := dk_181 0 145 (dk_at dksX0_init_12 16 rfl rfl)
theorem dX0_init_304 : decode cX0_init 304 = .ok (.aload_n 0, 1) := dk_42 (dk_at dksX0_init_12 19 rfl rfl)
theorem dX0_init_305 : decode cX0_init 305 = .ok (.bipush 8, 2) := dk_16 8 (dk_at dksX0_init_12 20 rfl rfl)
theorem dX0_init_307 : decode cX0_init 307 = .ok (.newarray .int, 2) := dk_188_10 (dk_at dksX0_init_12 22 rfl rfl)
theorem dX0_init_309 : decode cX0_init 309 = .ok (.putfield 147, 3) := dk_181 0 147 (dk_at dksX0_init_13 0 rfl rfl)
theorem dX0_init_312 : decode cX0_init 312 = .ok (.aload_n 0, 1) := dk_42 (dk_at dksX0_init_13 3 rfl rfl)
theorem dX0_init_313 : decode cX0_init 313 = .ok (.bipush 8, 2) := dk_16 8 (dk_at dksX0_init_13 4 rfl rfl)
theorem dX0_init_315 : decode cX0_init 315 = .ok (.newarray .int, 2) := dk_188_10 (dk_at dksX0_init_13 6 rfl rfl)
theorem dX0_init_317 : decode cX0_init 317 = .ok (.putfield 149, 3) := dk_181 0 149 (dk_at dksX0_init_13 8 rfl rfl)
theorem dX0_init_320 : decode cX0_init 320 = .ok (.aload_n 0, 1) := dk_42 (dk_at dksX0_init_13 11 rfl rfl)
theorem dX0_init_321 : decode cX0_init 321 = .ok (.bipush 8, 2) := dk_16 8 (dk_at dksX0_init_13 12 rfl rfl)
theorem dX0_init_323 : decode cX0_init 323 = .ok (.newarray .int, 2) := dk_188_10 (dk_at dksX0_init_13 14 rfl rfl)
theorem dX0_init_325 : decode cX0_init 325 = .ok (.putfield 152, 3) := dk_181 0 152 (dk_at dksX0_init_13 16 rfl rfl)
theorem dX0_init_328 : decode cX0_init 328 = .ok (.aload_n 0, 1) := dk_42 (dk_at dksX0_init_13 19 rfl rfl)
theorem dX0_init_329 : decode cX0_init 329 = .ok (.new 155, 3) := dk_187 0 155 (dk_at dksX0_init_13 20 rfl rfl)
theorem dX0_init_332 : decode cX0_init 332 = .ok (.dup, 1) := dk_89 (dk_at dksX0_init_13 23 rfl rfl)
theorem dX0_init_333 : decode cX0_init 333 = .ok (.aload_n 0, 1) := dk_42 (dk_at dksX0_init_14 0 rfl rfl)
theorem dX0_init_334 : decode cX0_init 334 = .ok (.invokespecial 157, 3) := dk_183 0 157 (dk_at dksX0_init_14 1 rfl rfl)
theorem dX0_init_337 : decode cX0_init 337 = .ok (.putfield 160, 3) := dk_181 0 160 (dk_at dksX0_init_14 4 rfl rfl)
theorem dX0_init_340 : decode cX0_init 340 = .ok (.aload_n 0, 1) := dk_42 (dk_at dksX0_init_14 7 rfl rfl)
theorem dX0_init_341 : decode cX0_init 341 = .ok (.new 155, 3) := dk_187 0 155 (dk_at dksX0_init_14 8 rfl rfl)
theorem dX0_init_344 : decode cX0_init 344 = .ok (.dup, 1) := dk_89 (dk_at dksX0_init_14 11 rfl rfl)
theorem dX0_init_345 : decode cX0_init 345 = .ok (.aload_n 0, 1) := dk_42 (dk_at dksX0_init_14 12 rfl rfl)
theorem dX0_init_346 : decode cX0_init 346 = .ok (.invokespecial 157, 3) := dk_183 0 157 (dk_at dksX0_init_14 13 rfl rfl)
theorem dX0_init_349 : decode cX0_init 349 = .ok (.putfield 164, 3) := dk_181 0 164 (dk_at dksX0_init_14 16 rfl rfl)
theorem dX0_init_352 : decode cX0_init 352 = .ok (.aload_n 0, 1) := dk_42 (dk_at dksX0_init_14 19 rfl rfl)
theorem dX0_init_353 : decode cX0_init 353 = .ok (.new 155, 3) := dk_187 0 155 (dk_at dksX0_init_14 20 rfl rfl)
theorem dX0_init_356 : decode cX0_init 356 = .ok (.dup, 1) := dk_89 (dk_at dksX0_init_14 23 rfl rfl)
theorem dX0_init_357 : decode cX0_init 357 = .ok (.aload_n 0, 1) := dk_42 (dk_at dksX0_init_15 0 rfl rfl)
theorem dX0_init_358 : decode cX0_init 358 = .ok (.invokespecial 157, 3) := dk_183 0 157 (dk_at dksX0_init_15 1 rfl rfl)
theorem dX0_init_361 : decode cX0_init 361 = .ok (.putfield 167, 3) := dk_181 0 167 (dk_at dksX0_init_15 4 rfl rfl)
theorem dX0_init_364 : decode cX0_init 364 = .ok (.aload_n 0, 1) := dk_42 (dk_at dksX0_init_15 7 rfl rfl)
theorem dX0_init_365 : decode cX0_init 365 = .ok (.sipush 600, 3) := dk_17 2 88 (dk_at dksX0_init_15 8 rfl rfl)
theorem dX0_init_368 : decode cX0_init 368 = .ok (.newarray .int, 2) := dk_188_10 (dk_at dksX0_init_15 11 rfl rfl)
theorem dX0_init_370 : decode cX0_init 370 = .ok (.putfield 170, 3) := dk_181 0 170 (dk_at dksX0_init_15 13 rfl rfl)
theorem dX0_init_373 : decode cX0_init 373 = .ok (.aload_n 0, 1) := dk_42 (dk_at dksX0_init_15 16 rfl rfl)
theorem dX0_init_374 : decode cX0_init 374 = .ok (.bipush 6, 2) := dk_16 6 (dk_at dksX0_init_15 17 rfl rfl)
theorem dX0_init_376 : decode cX0_init 376 = .ok (.anewarray 155, 3) := dk_189 0 155 (dk_at dksX0_init_15 19 rfl rfl)
theorem dX0_init_379 : decode cX0_init 379 = .ok (.putfield 173, 3) := dk_181 0 173 (dk_at dksX0_init_16 0 rfl rfl)
theorem dX0_init_382 : decode cX0_init 382 = .ok (.aload_n 0, 1) := dk_42 (dk_at dksX0_init_16 3 rfl rfl)
theorem dX0_init_383 : decode cX0_init 383 = .ok (.iconst 0, 1) := dk_3 (dk_at dksX0_init_16 4 rfl rfl)
theorem dX0_init_384 : decode cX0_init 384 = .ok (.anewarray 177, 3) := dk_189 0 177 (dk_at dksX0_init_16 5 rfl rfl)
theorem dX0_init_387 : decode cX0_init 387 = .ok (.putfield 179, 3) := dk_181 0 179 (dk_at dksX0_init_16 8 rfl rfl)
theorem dX0_init_390 : decode cX0_init 390 = .ok (.aload_n 0, 1) := dk_42 (dk_at dksX0_init_16 11 rfl rfl)
theorem dX0_init_391 : decode cX0_init 391 = .ok (.bipush 12, 2) := dk_16 12 (dk_at dksX0_init_16 12 rfl rfl)
theorem dX0_init_393 : decode cX0_init 393 = .ok (.newarray .int, 2) := dk_188_10 (dk_at dksX0_init_16 14 rfl rfl)
theorem dX0_init_395 : decode cX0_init 395 = .ok (.putfield 183, 3) := dk_181 0 183 (dk_at dksX0_init_16 16 rfl rfl)
theorem dX0_init_398 : decode cX0_init 398 = .ok (.aload_n 0, 1) := dk_42 (dk_at dksX0_init_16 19 rfl rfl)
theorem dX0_init_399 : decode cX0_init 399 = .ok (.bipush 10, 2) := dk_16 10 (dk_at dksX0_init_16 20 rfl rfl)
theorem dX0_init_401 : decode cX0_init 401 = .ok (.newarray .int, 2) := dk_188_10 (dk_at dksX0_init_16 22 rfl rfl)
theorem dX0_init_403 : decode cX0_init 403 = .ok (.putfield 186, 3) := dk_181 0 186 (dk_at dksX0_init_17 0 rfl rfl)
theorem dX0_init_406 : decode cX0_init 406 = .ok (.aload_n 0, 1) := dk_42 (dk_at dksX0_init_17 3 rfl rfl)
theorem dX0_init_407 : decode cX0_init 407 = .ok (.bipush 61, 2) := dk_16 61 (dk_at dksX0_init_17 4 rfl rfl)
theorem dX0_init_409 : decode cX0_init 409 = .ok (.newarray .int, 2) := dk_188_10 (dk_at dksX0_init_17 6 rfl rfl)
theorem dX0_init_411 : decode cX0_init 411 = .ok (.putfield 189, 3) := dk_181 0 189 (dk_at dksX0_init_17 8 rfl rfl)
theorem dX0_init_414 : decode cX0_init 414 = .ok (.aload_n 0, 1) := dk_42 (dk_at dksX0_init_17 11 rfl rfl)
theorem dX0_init_415 : decode cX0_init 415 = .ok (.bipush 8, 2) := dk_16 8 (dk_at dksX0_init_17 12 rfl rfl)
theorem dX0_init_417 : decode cX0_init 417 = .ok (.anewarray 192, 3) := dk_189 0 192 (dk_at dksX0_init_17 14 rfl rfl)
theorem dX0_init_420 : decode cX0_init 420 = .ok (.dup, 1) := dk_89 (dk_at dksX0_init_17 17 rfl rfl)
theorem dX0_init_421 : decode cX0_init 421 = .ok (.iconst 0, 1) := dk_3 (dk_at dksX0_init_17 18 rfl rfl)
theorem dX0_init_422 : decode cX0_init 422 = .ok (.aload_n 0, 1) := dk_42 (dk_at dksX0_init_17 19 rfl rfl)
theorem dX0_init_423 : decode cX0_init 423 = .ok (.getfield 141, 3) := dk_180 0 141 (dk_at dksX0_init_17 20 rfl rfl)
theorem dX0_init_426 : decode cX0_init 426 = .ok (.aastore, 1) := dk_83 (dk_at dksX0_init_17 23 rfl rfl)
theorem dX0_init_427 : decode cX0_init 427 = .ok (.dup, 1) := dk_89 (dk_at dksX0_init_18 0 rfl rfl)
theorem dX0_init_428 : decode cX0_init 428 = .ok (.iconst 1, 1) := dk_4 (dk_at dksX0_init_18 1 rfl rfl)
theorem dX0_init_429 : decode cX0_init 429 = .ok (.aload_n 0, 1) := dk_42 (dk_at dksX0_init_18 2 rfl rfl)
theorem dX0_init_430 : decode cX0_init 430 = .ok (.getfield 143, 3) := dk_180 0 143 (dk_at dksX0_init_18 3 rfl rfl)
theorem dX0_init_433 : decode cX0_init 433 = .ok (.aastore, 1) := dk_83 (dk_at dksX0_init_18 6 rfl rfl)
theorem dX0_init_434 : decode cX0_init 434 = .ok (.dup, 1) := dk_89 (dk_at dksX0_init_18 7 rfl rfl)
theorem dX0_init_435 : decode cX0_init 435 = .ok (.iconst 2, 1) := dk_5 (dk_at dksX0_init_18 8 rfl rfl)
theorem dX0_init_436 : decode cX0_init 436 = .ok (.aload_n 0, 1) := dk_42 (dk_at dksX0_init_18 9 rfl rfl)
theorem dX0_init_437 : decode cX0_init 437 = .ok (.getfield 145, 3) := dk_180 0 145 (dk_at dksX0_init_18 10 rfl rfl)
theorem dX0_init_440 : decode cX0_init 440 = .ok (.aastore, 1) := dk_83 (dk_at dksX0_init_18 13 rfl rfl)
theorem dX0_init_441 : decode cX0_init 441 = .ok (.dup, 1) := dk_89 (dk_at dksX0_init_18 14 rfl rfl)
theorem dX0_init_442 : decode cX0_init 442 = .ok (.iconst 3, 1) := dk_6 (dk_at dksX0_init_18 15 rfl rfl)
theorem dX0_init_443 : decode cX0_init 443 = .ok (.aload_n 0, 1) := dk_42 (dk_at dksX0_init_18 16 rfl rfl)
theorem dX0_init_444 : decode cX0_init 444 = .ok (.getfield 147, 3) := dk_180 0 147 (dk_at dksX0_init_18 17 rfl rfl)
theorem dX0_init_447 : decode cX0_init 447 = .ok (.aastore, 1) := dk_83 (dk_at dksX0_init_18 20 rfl rfl)
theorem dX0_init_448 : decode cX0_init 448 = .ok (.dup, 1) := dk_89 (dk_at dksX0_init_18 21 rfl rfl)
theorem dX0_init_449 : decode cX0_init 449 = .ok (.iconst 4, 1) := dk_7 (dk_at dksX0_init_18 22 rfl rfl)
theorem dX0_init_450 : decode cX0_init 450 = .ok (.aload_n 0, 1) := dk_42 (dk_at dksX0_init_18 23 rfl rfl)
theorem dX0_init_451 : decode cX0_init 451 = .ok (.getfield 149, 3) := dk_180 0 149 (dk_at dksX0_init_19 0 rfl rfl)
theorem dX0_init_454 : decode cX0_init 454 = .ok (.aastore, 1) := dk_83 (dk_at dksX0_init_19 3 rfl rfl)
theorem dX0_init_455 : decode cX0_init 455 = .ok (.dup, 1) := dk_89 (dk_at dksX0_init_19 4 rfl rfl)
theorem dX0_init_456 : decode cX0_init 456 = .ok (.iconst 5, 1) := dk_8 (dk_at dksX0_init_19 5 rfl rfl)
theorem dX0_init_457 : decode cX0_init 457 = .ok (.aload_n 0, 1) := dk_42 (dk_at dksX0_init_19 6 rfl rfl)
theorem dX0_init_458 : decode cX0_init 458 = .ok (.getfield 152, 3) := dk_180 0 152 (dk_at dksX0_init_19 7 rfl rfl)
theorem dX0_init_461 : decode cX0_init 461 = .ok (.aastore, 1) := dk_83 (dk_at dksX0_init_19 10 rfl rfl)
theorem dX0_init_462 : decode cX0_init 462 = .ok (.dup, 1) := dk_89 (dk_at dksX0_init_19 11 rfl rfl)
theorem dX0_init_463 : decode cX0_init 463 = .ok (.bipush 6, 2) := dk_16 6 (dk_at dksX0_init_19 12 rfl rfl)
theorem dX0_init_465 : decode cX0_init 465 = .ok (.aload_n 0, 1) := dk_42 (dk_at dksX0_init_19 14 rfl rfl)
theorem dX0_init_466 : decode cX0_init 466 = .ok (.getfield 186, 3) := dk_180 0 186 (dk_at dksX0_init_19 15 rfl rfl)
theorem dX0_init_469 : decode cX0_init 469 = .ok (.aastore, 1) := dk_83 (dk_at dksX0_init_19 18 rfl rfl)
theorem dX0_init_470 : decode cX0_init 470 = .ok (.dup, 1) := dk_89 (dk_at dksX0_init_19 19 rfl rfl)
theorem dX0_init_471 : decode cX0_init 471 = .ok (.bipush 7, 2) := dk_16 7 (dk_at dksX0_init_19 20 rfl rfl)
theorem dX0_init_473 : decode cX0_init 473 = .ok (.aload_n 0, 1) := dk_42 (dk_at dksX0_init_19 22 rfl rfl)
theorem dX0_init_474 : decode cX0_init 474 = .ok (.getfield 170, 3) := dk_180 0 170 (dk_at dksX0_init_20 0 rfl rfl)
theorem dX0_init_477 : decode cX0_init 477 = .ok (.aastore, 1) := dk_83 (dk_at dksX0_init_20 3 rfl rfl)
theorem dX0_init_478 : decode cX0_init 478 = .ok (.putfield 193, 3) := dk_181 0 193 (dk_at dksX0_init_20 4 rfl rfl)
theorem dX0_init_481 : decode cX0_init 481 = .ok (.aload_n 0, 1) := dk_42 (dk_at dksX0_init_20 7 rfl rfl)
theorem dX0_init_482 : decode cX0_init 482 = .ok (.bipush 8, 2) := dk_16 8 (dk_at dksX0_init_20 8 rfl rfl)
theorem dX0_init_484 : decode cX0_init 484 = .ok (.anewarray 192, 3) := dk_189 0 192 (dk_at dksX0_init_20 10 rfl rfl)
theorem dX0_init_487 : decode cX0_init 487 = .ok (.dup, 1) := dk_89 (dk_at dksX0_init_20 13 rfl rfl)
theorem dX0_init_488 : decode cX0_init 488 = .ok (.iconst 0, 1) := dk_3 (dk_at dksX0_init_20 14 rfl rfl)
theorem dX0_init_489 : decode cX0_init 489 = .ok (.bipush 12, 2) := dk_16 12 (dk_at dksX0_init_20 15 rfl rfl)
theorem dX0_init_491 : decode cX0_init 491 = .ok (.newarray .int, 2) := dk_188_10 (dk_at dksX0_init_20 17 rfl rfl)
theorem dX0_init_493 : decode cX0_init 493 = .ok (.aastore, 1) := dk_83 (dk_at dksX0_init_20 19 rfl rfl)
theorem dX0_init_494 : decode cX0_init 494 = .ok (.dup, 1) := dk_89 (dk_at dksX0_init_20 20 rfl rfl)
theorem dX0_init_495 : decode cX0_init 495 = .ok (.iconst 1, 1) := dk_4 (dk_at dksX0_init_20 21 rfl rfl)
theorem dX0_init_496 : decode cX0_init 496 = .ok (.bipush 12, 2) := dk_16 12 (dk_at dksX0_init_20 22 rfl rfl)
theorem dX0_init_498 : decode cX0_init 498 = .ok (.newarray .int, 2) := dk_188_10 (dk_at dksX0_init_21 0 rfl rfl)
theorem dX0_init_500 : decode cX0_init 500 = .ok (.aastore, 1) := dk_83 (dk_at dksX0_init_21 2 rfl rfl)
theorem dX0_init_501 : decode cX0_init 501 = .ok (.dup, 1) := dk_89 (dk_at dksX0_init_21 3 rfl rfl)
theorem dX0_init_502 : decode cX0_init 502 = .ok (.iconst 2, 1) := dk_5 (dk_at dksX0_init_21 4 rfl rfl)
theorem dX0_init_503 : decode cX0_init 503 = .ok (.bipush 12, 2) := dk_16 12 (dk_at dksX0_init_21 5 rfl rfl)
theorem dX0_init_505 : decode cX0_init 505 = .ok (.newarray .int, 2) := dk_188_10 (dk_at dksX0_init_21 7 rfl rfl)
theorem dX0_init_507 : decode cX0_init 507 = .ok (.aastore, 1) := dk_83 (dk_at dksX0_init_21 9 rfl rfl)
theorem dX0_init_508 : decode cX0_init 508 = .ok (.dup, 1) := dk_89 (dk_at dksX0_init_21 10 rfl rfl)
theorem dX0_init_509 : decode cX0_init 509 = .ok (.iconst 3, 1) := dk_6 (dk_at dksX0_init_21 11 rfl rfl)
theorem dX0_init_510 : decode cX0_init 510 = .ok (.bipush 8, 2) := dk_16 8 (dk_at dksX0_init_21 12 rfl rfl)
theorem dX0_init_512 : decode cX0_init 512 = .ok (.newarray .int, 2) := dk_188_10 (dk_at dksX0_init_21 14 rfl rfl)
theorem dX0_init_514 : decode cX0_init 514 = .ok (.aastore, 1) := dk_83 (dk_at dksX0_init_21 16 rfl rfl)
theorem dX0_init_515 : decode cX0_init 515 = .ok (.dup, 1) := dk_89 (dk_at dksX0_init_21 17 rfl rfl)
theorem dX0_init_516 : decode cX0_init 516 = .ok (.iconst 4, 1) := dk_7 (dk_at dksX0_init_21 18 rfl rfl)
theorem dX0_init_517 : decode cX0_init 517 = .ok (.bipush 8, 2) := dk_16 8 (dk_at dksX0_init_21 19 rfl rfl)
theorem dX0_init_519 : decode cX0_init 519 = .ok (.newarray .int, 2) := dk_188_10 (dk_at dksX0_init_21 21 rfl rfl)
theorem dX0_init_521 : decode cX0_init 521 = .ok (.aastore, 1) := dk_83 (dk_at dksX0_init_21 23 rfl rfl)
theorem dX0_init_522 : decode cX0_init 522 = .ok (.dup, 1) := dk_89 (dk_at dksX0_init_22 0 rfl rfl)
theorem dX0_init_523 : decode cX0_init 523 = .ok (.iconst 5, 1) := dk_8 (dk_at dksX0_init_22 1 rfl rfl)
theorem dX0_init_524 : decode cX0_init 524 = .ok (.bipush 8, 2) := dk_16 8 (dk_at dksX0_init_22 2 rfl rfl)
theorem dX0_init_526 : decode cX0_init 526 = .ok (.newarray .int, 2) := dk_188_10 (dk_at dksX0_init_22 4 rfl rfl)
theorem dX0_init_528 : decode cX0_init 528 = .ok (.aastore, 1) := dk_83 (dk_at dksX0_init_22 6 rfl rfl)
theorem dX0_init_529 : decode cX0_init 529 = .ok (.dup, 1) := dk_89 (dk_at dksX0_init_22 7 rfl rfl)
theorem dX0_init_530 : decode cX0_init 530 = .ok (.bipush 6, 2) := dk_16 6 (dk_at dksX0_init_22 8 rfl rfl)
theorem dX0_init_532 : decode cX0_init 532 = .ok (.bipush 10, 2) := dk_16 10 (dk_at dksX0_init_22 10 rfl rfl)
theorem dX0_init_534 : decode cX0_init 534 = .ok (.newarray .int, 2) := dk_188_10 (dk_at dksX0_init_22 12 rfl rfl)
theorem dX0_init_536 : decode cX0_init 536 = .ok (.aastore, 1) := dk_83 (dk_at dksX0_init_22 14 rfl rfl)
theorem dX0_init_537 : decode cX0_init 537 = .ok (.dup, 1) := dk_89 (dk_at dksX0_init_22 15 rfl rfl)
theorem dX0_init_538 : decode cX0_init 538 = .ok (.bipush 7, 2) := dk_16 7 (dk_at dksX0_init_22 16 rfl rfl)
theorem dX0_init_540 : decode cX0_init 540 = .ok (.sipush 600, 3) := dk_17 2 88 (dk_at dksX0_init_22 18 rfl rfl)
theorem dX0_init_543 : decode cX0_init 543 = .ok (.newarray .int, 2) := dk_188_10 (dk_at dksX0_init_22 21 rfl rfl)
theorem dX0_init_545 : decode cX0_init 545 = .ok (.aastore, 1) := dk_83 (dk_at dksX0_init_22 23 rfl rfl)
theorem dX0_init_546 : decode cX0_init 546 = .ok (.putfield 197, 3) := dk_181 0 197 (dk_at dksX0_init_23 0 rfl rfl)
theorem dX0_init_549 : decode cX0_init 549 = .ok (.iconst 0, 1) := dk_3 (dk_at dksX0_init_23 3 rfl rfl)
theorem dX0_init_550 : decode cX0_init 550 = .ok (.istore_n 1, 1) := dk_60 (dk_at dksX0_init_23 4 rfl rfl)
theorem dX0_init_551 : decode cX0_init 551 = .ok (.iload_n 1, 1) := dk_27 (dk_at dksX0_init_23 5 rfl rfl)
theorem dX0_init_552 : decode cX0_init 552 = .ok (.bipush 10, 2) := dk_16 10 (dk_at dksX0_init_23 6 rfl rfl)
theorem dX0_init_554 : decode cX0_init 554 = .ok (.if_icmp .ge 16, 3) := dk_162 0 16 (dk_at dksX0_init_23 8 rfl rfl)
theorem dX0_init_557 : decode cX0_init 557 = .ok (.aload_n 0, 1) := dk_42 (dk_at dksX0_init_23 11 rfl rfl)
theorem dX0_init_558 : decode cX0_init 558 = .ok (.getfield 186, 3) := dk_180 0 186 (dk_at dksX0_init_23 12 rfl rfl)
theorem dX0_init_561 : decode cX0_init 561 = .ok (.iload_n 1, 1) := dk_27 (dk_at dksX0_init_23 15 rfl rfl)
theorem dX0_init_562 : decode cX0_init 562 = .ok (.iload_n 1, 1) := dk_27 (dk_at dksX0_init_23 16 rfl rfl)
theorem dX0_init_563 : decode cX0_init 563 = .ok (.iastore, 1) := dk_79 (dk_at dksX0_init_23 17 rfl rfl)
theorem dX0_init_564 : decode cX0_init 564 = .ok (.iinc 1 1, 3) := dk_132 1 1 (dk_at dksX0_init_23 18 rfl rfl)
theorem dX0_init_567 : decode cX0_init 567 = .ok (.goto (-16), 3) := dk_167 255 240 (dk_at dksX0_init_23 21 rfl rfl)
theorem dX0_init_570 : decode cX0_init 570 = .ok (.return_, 1) := dk_177 (dk_at dksX0_init_24 0 rfl rfl)
abbrev cX0_feed : ByteArray := prog_1_method_9_code
def yX0_feed : MethodName := ⟨RX0, "feed", "(IIIII)I"⟩
def dkwX0_feed_2 : List UInt8 := [172]
abbrev dktX0_feed_2 : List UInt8 := dkwX0_feed_2 ++ []
def dkwX0_feed_1 : List UInt8 := [182, 0, 203, 42, 29, 182, 0, 203, 42, 21, 4, 182, 0, 203, 42, 21, 5, 182, 0, 203, 42, 180, 0, 200]
abbrev dktX0_feed_1 : List UInt8 := dkwX0_feed_1 ++ dktX0_feed_2
def dkwX0_feed_0 : List UInt8 := [42, 180, 0, 200, 16, 20, 96, 17, 1, 144, 164, 0, 5, 2, 172, 42, 27, 182, 0, 203, 42, 28]
abbrev dktX0_feed_0 : List UInt8 := dkwX0_feed_0 ++ dktX0_feed_1
theorem dksX0_feed_0 : cX0_feed.data.toList.drop 0 = dktX0_feed_0 := by decide +kernel
theorem dksX0_feed_1 : cX0_feed.data.toList.drop 22 = dktX0_feed_1 := dk_seg dksX0_feed_0 22 rfl rfl
theorem dksX0_feed_2 : cX0_feed.data.toList.drop 46 = dktX0_feed_2 := dk_seg dksX0_feed_1 24 rfl rfl
theorem dX0_feed_0 : decode cX0_feed 0 = .ok (.aload_n 0, 1) := dk_42 (dk_at dksX0_feed_0 0 rfl rfl)
theorem dX0_feed_1 : decode cX0_feed 1 = .ok (.getfield 200, 3) := dk_180 0 200 (dk_at dksX0_feed_0 1 rfl rfl)
theorem dX0_feed_4 : decode cX0_feed 4 = .ok (.bipush 20, 2) := dk_16 20 (dk_at dksX0_feed_0 4 rfl rfl)
theorem dX0_feed_6 : decode cX0_feed 6 = .ok (.iadd, 1) := dk_96 (dk_at dksX0_feed_0 6 rfl rfl)
theorem dX0_feed_7 : decode cX0_feed 7 = .ok (.sipush 400, 3) := dk_17 1 144 (dk_at dksX0_feed_0 7 rfl rfl)
theorem dX0_feed_10 : decode cX0_feed 10 = .ok (.if_icmp .le 5, 3) := dk_164 0 5 (dk_at dksX0_feed_0 10 rfl rfl)
theorem dX0_feed_13 : decode cX0_feed 13 = .ok (.iconst (-1), 1) := dk_2 (dk_at dksX0_feed_0 13 rfl rfl)
theorem dX0_feed_14 : decode cX0_feed 14 = .ok (.ireturn, 1) := dk_172 (dk_at dksX0_feed_0 14 rfl rfl)
theorem dX0_feed_15 : decode cX0_feed 15 = .ok (.aload_n 0, 1) := dk_42 (dk_at dksX0_feed_0 15 rfl rfl)
theorem dX0_feed_16 : decode cX0_feed 16 = .ok (.iload_n 1, 1) := dk_27 (dk_at dksX0_feed_0 16 rfl rfl)
theorem dX0_feed_17 : decode cX0_feed 17 = .ok (.invokevirtual 203, 3) := dk_182 0 203 (dk_at dksX0_feed_0 17 rfl rfl)
theorem dX0_feed_20 : decode cX0_feed 20 = .ok (.aload_n 0, 1) := dk_42 (dk_at dksX0_feed_0 20 rfl rfl)
theorem dX0_feed_21 : decode cX0_feed 21 = .ok (.iload_n 2, 1) := dk_28 (dk_at dksX0_feed_0 21 rfl rfl)
theorem dX0_feed_22 : decode cX0_feed 22 = .ok (.invokevirtual 203, 3) := dk_182 0 203 (dk_at dksX0_feed_1 0 rfl rfl)
theorem dX0_feed_25 : decode cX0_feed 25 = .ok (.aload_n 0, 1) := dk_42 (dk_at dksX0_feed_1 3 rfl rfl)
theorem dX0_feed_26 : decode cX0_feed 26 = .ok (.iload_n 3, 1) := dk_29 (dk_at dksX0_feed_1 4 rfl rfl)
theorem dX0_feed_27 : decode cX0_feed 27 = .ok (.invokevirtual 203, 3) := dk_182 0 203 (dk_at dksX0_feed_1 5 rfl rfl)
theorem dX0_feed_30 : decode cX0_feed 30 = .ok (.aload_n 0, 1) := dk_42 (dk_at dksX0_feed_1 8 rfl rfl)
theorem dX0_feed_31 : decode cX0_feed 31 = .ok (.iload 4, 2) := dk_21 4 (dk_at dksX0_feed_1 9 rfl rfl)
theorem dX0_feed_33 : decode cX0_feed 33 = .ok (.invokevirtual 203, 3) := dk_182 0 203 (dk_at dksX0_feed_1 11 rfl rfl)
theorem dX0_feed_36 : decode cX0_feed 36 = .ok (.aload_n 0, 1) := dk_42 (dk_at dksX0_feed_1 14 rfl rfl)
theorem dX0_feed_37 : decode cX0_feed 37 = .ok (.iload 5, 2) := dk_21 5 (dk_at dksX0_feed_1 15 rfl rfl)
theorem dX0_feed_39 : decode cX0_feed 39 = .ok (.invokevirtual 203, 3) := dk_182 0 203 (dk_at dksX0_feed_1 17 rfl rfl)
theorem dX0_feed_42 : decode cX0_feed 42 = .ok (.aload_n 0, 1) := dk_42 (dk_at dksX0_feed_1 20 rfl rfl)
theorem dX0_feed_43 : decode cX0_feed 43 = .ok (.getfield 200, 3) := dk_180 0 200 (dk_at dksX0_feed_1 21 rfl rfl)
theorem dX0_feed_46 : decode cX0_feed 46 = .ok (.ireturn, 1) := dk_172 (dk_at dksX0_feed_2 0 rfl rfl)
abbrev cX0_puts : ByteArray := prog_1_method_8_code
def yX0_puts : MethodName := ⟨RX0, "puts", "(I)V"⟩
def dkwX0_puts_1 : List UInt8 := [180, 0, 200, 4, 96, 181, 0, 200, 132, 2, 248, 167, 255, 226, 177]
abbrev dktX0_puts_1 : List UInt8 := dkwX0_puts_1 ++ []
def dkwX0_puts_0 : List UInt8 := [16, 24, 61, 28, 155, 0, 32, 42, 180, 0, 36, 42, 180, 0, 200, 27, 28, 122, 145, 84, 42, 89]
abbrev dktX0_puts_0 : List UInt8 := dkwX0_puts_0 ++ dktX0_puts_1
theorem dksX0_puts_0 : cX0_puts.data.toList.drop 0 = dktX0_puts_0 := by decide +kernel
theorem dksX0_puts_1 : cX0_puts.data.toList.drop 22 = dktX0_puts_1 := dk_seg dksX0_puts_0 22 rfl rfl
theorem dX0_puts_0 : decode cX0_puts 0 = .ok (.bipush 24, 2) := dk_16 24 (dk_at dksX0_puts_0 0 rfl rfl)
theorem dX0_puts_2 : decode cX0_puts 2 = .ok (.istore_n 2, 1) := dk_61 (dk_at dksX0_puts_0 2 rfl rfl)
theorem dX0_puts_3 : decode cX0_puts 3 = .ok (.iload_n 2, 1) := dk_28 (dk_at dksX0_puts_0 3 rfl rfl)
theorem dX0_puts_4 : decode cX0_puts 4 = .ok (.ifCond .lt 32, 3) := dk_155 0 32 (dk_at dksX0_puts_0 4 rfl rfl)
theorem dX0_puts_7 : decode cX0_puts 7 = .ok (.aload_n 0, 1) := dk_42 (dk_at dksX0_puts_0 7 rfl rfl)
theorem dX0_puts_8 : decode cX0_puts 8 = .ok (.getfield 36, 3) := dk_180 0 36 (dk_at dksX0_puts_0 8 rfl rfl)
theorem dX0_puts_11 : decode cX0_puts 11 = .ok (.aload_n 0, 1) := dk_42 (dk_at dksX0_puts_0 11 rfl rfl)
theorem dX0_puts_12 : decode cX0_puts 12 = .ok (.getfield 200, 3) := dk_180 0 200 (dk_at dksX0_puts_0 12 rfl rfl)
theorem dX0_puts_15 : decode cX0_puts 15 = .ok (.iload_n 1, 1) := dk_27 (dk_at dksX0_puts_0 15 rfl rfl)
theorem dX0_puts_16 : decode cX0_puts 16 = .ok (.iload_n 2, 1) := dk_28 (dk_at dksX0_puts_0 16 rfl rfl)
theorem dX0_puts_17 : decode cX0_puts 17 = .ok (.ishr, 1) := dk_122 (dk_at dksX0_puts_0 17 rfl rfl)
theorem dX0_puts_18 : decode cX0_puts 18 = .ok (.i2b, 1) := dk_145 (dk_at dksX0_puts_0 18 rfl rfl)
theorem dX0_puts_19 : decode cX0_puts 19 = .ok (.bastore, 1) := dk_84 (dk_at dksX0_puts_0 19 rfl rfl)
theorem dX0_puts_20 : decode cX0_puts 20 = .ok (.aload_n 0, 1) := dk_42 (dk_at dksX0_puts_0 20 rfl rfl)
theorem dX0_puts_21 : decode cX0_puts 21 = .ok (.dup, 1) := dk_89 (dk_at dksX0_puts_0 21 rfl rfl)
theorem dX0_puts_22 : decode cX0_puts 22 = .ok (.getfield 200, 3) := dk_180 0 200 (dk_at dksX0_puts_1 0 rfl rfl)
theorem dX0_puts_25 : decode cX0_puts 25 = .ok (.iconst 1, 1) := dk_4 (dk_at dksX0_puts_1 3 rfl rfl)
theorem dX0_puts_26 : decode cX0_puts 26 = .ok (.iadd, 1) := dk_96 (dk_at dksX0_puts_1 4 rfl rfl)
theorem dX0_puts_27 : decode cX0_puts 27 = .ok (.putfield 200, 3) := dk_181 0 200 (dk_at dksX0_puts_1 5 rfl rfl)
theorem dX0_puts_30 : decode cX0_puts 30 = .ok (.iinc 2 (-8), 3) := dk_132 2 248 (dk_at dksX0_puts_1 8 rfl rfl)
theorem dX0_puts_33 : decode cX0_puts 33 = .ok (.goto (-30), 3) := dk_167 255 226 (dk_at dksX0_puts_1 11 rfl rfl)
theorem dX0_puts_36 : decode cX0_puts 36 = .ok (.return_, 1) := dk_177 (dk_at dksX0_puts_1 14 rfl rfl)
abbrev cX0_end : ByteArray := prog_1_method_10_code
def yX0_end : MethodName := ⟨RX0, "end", "(I)Z"⟩
def dkwX0_end_0 : List UInt8 := [27, 3, 42, 180, 0, 200, 184, 0, 207, 154, 0, 5, 3, 172, 42, 27, 181, 0, 200, 4, 172]
abbrev dktX0_end_0 : List UInt8 := dkwX0_end_0 ++ []
theorem dksX0_end_0 : cX0_end.data.toList.drop 0 = dktX0_end_0 := by decide +kernel
theorem dX0_end_0 : decode cX0_end 0 = .ok (.iload_n 1, 1) := dk_27 (dk_at dksX0_end_0 0 rfl rfl)
theorem dX0_end_1 : decode cX0_end 1 = .ok (.iconst 0, 1) := dk_3 (dk_at dksX0_end_0 1 rfl rfl)
theorem dX0_end_2 : decode cX0_end 2 = .ok (.aload_n 0, 1) := dk_42 (dk_at dksX0_end_0 2 rfl rfl)
theorem dX0_end_3 : decode cX0_end 3 = .ok (.getfield 200, 3) := dk_180 0 200 (dk_at dksX0_end_0 3 rfl rfl)
theorem dX0_end_6 : decode cX0_end 6 = .ok (.invokestatic 207, 3) := dk_184 0 207 (dk_at dksX0_end_0 6 rfl rfl)
theorem dX0_end_9 : decode cX0_end 9 = .ok (.ifCond .ne 5, 3) := dk_154 0 5 (dk_at dksX0_end_0 9 rfl rfl)
theorem dX0_end_12 : decode cX0_end 12 = .ok (.iconst 0, 1) := dk_3 (dk_at dksX0_end_0 12 rfl rfl)
theorem dX0_end_13 : decode cX0_end 13 = .ok (.ireturn, 1) := dk_172 (dk_at dksX0_end_0 13 rfl rfl)
theorem dX0_end_14 : decode cX0_end 14 = .ok (.aload_n 0, 1) := dk_42 (dk_at dksX0_end_0 14 rfl rfl)
theorem dX0_end_15 : decode cX0_end 15 = .ok (.iload_n 1, 1) := dk_27 (dk_at dksX0_end_0 15 rfl rfl)
theorem dX0_end_16 : decode cX0_end 16 = .ok (.putfield 200, 3) := dk_181 0 200 (dk_at dksX0_end_0 16 rfl rfl)
theorem dX0_end_19 : decode cX0_end 19 = .ok (.iconst 1, 1) := dk_4 (dk_at dksX0_end_0 19 rfl rfl)
theorem dX0_end_20 : decode cX0_end 20 = .ok (.ireturn, 1) := dk_172 (dk_at dksX0_end_0 20 rfl rfl)
abbrev cX0_isIn : ByteArray := prog_1_method_1_code
def yX0_isIn : MethodName := ⟨RX0, "isIn", "(III)Z"⟩
def dkwX0_isIn_0 : List UInt8 := [26, 27, 161, 0, 12, 26, 28, 163, 0, 7, 4, 167, 0, 4, 3, 172]
abbrev dktX0_isIn_0 : List UInt8 := dkwX0_isIn_0 ++ []
theorem dksX0_isIn_0 : cX0_isIn.data.toList.drop 0 = dktX0_isIn_0 := by decide +kernel
theorem dX0_isIn_0 : decode cX0_isIn 0 = .ok (.iload_n 0, 1) := dk_26 (dk_at dksX0_isIn_0 0 rfl rfl)
theorem dX0_isIn_1 : decode cX0_isIn 1 = .ok (.iload_n 1, 1) := dk_27 (dk_at dksX0_isIn_0 1 rfl rfl)
theorem dX0_isIn_2 : decode cX0_isIn 2 = .ok (.if_icmp .lt 12, 3) := dk_161 0 12 (dk_at dksX0_isIn_0 2 rfl rfl)
theorem dX0_isIn_5 : decode cX0_isIn 5 = .ok (.iload_n 0, 1) := dk_26 (dk_at dksX0_isIn_0 5 rfl rfl)
theorem dX0_isIn_6 : decode cX0_isIn 6 = .ok (.iload_n 2, 1) := dk_28 (dk_at dksX0_isIn_0 6 rfl rfl)
theorem dX0_isIn_7 : decode cX0_isIn 7 = .ok (.if_icmp .gt 7, 3) := dk_163 0 7 (dk_at dksX0_isIn_0 7 rfl rfl)
theorem dX0_isIn_10 : decode cX0_isIn 10 = .ok (.iconst 1, 1) := dk_4 (dk_at dksX0_isIn_0 10 rfl rfl)
theorem dX0_isIn_11 : decode cX0_isIn 11 = .ok (.goto 4, 3) := dk_167 0 4 (dk_at dksX0_isIn_0 11 rfl rfl)
theorem dX0_isIn_14 : decode cX0_isIn 14 = .ok (.iconst 0, 1) := dk_3 (dk_at dksX0_isIn_0 14 rfl rfl)
theorem dX0_isIn_15 : decode cX0_isIn 15 = .ok (.ireturn, 1) := dk_172 (dk_at dksX0_isIn_0 15 rfl rfl)
abbrev cX0_text : ByteArray := prog_1_method_40_code
def yX0_text : MethodName := ⟨RX0, "text", "(I)I"⟩
def dkwX0_text_3 : List UInt8 := [191]
abbrev dktX0_text_3 : List UInt8 := dkwX0_text_3 ++ []
def dkwX0_text_2 : List UInt8 := [180, 1, 161, 181, 0, 112, 2, 62, 42, 3, 181, 0, 200, 29, 172, 58, 4, 42, 3, 181, 0, 200, 25, 4]
abbrev dktX0_text_2 : List UInt8 := dkwX0_text_2 ++ dktX0_text_3
def dkwX0_text_1 : List UInt8 := [167, 0, 4, 2, 61, 42, 3, 181, 0, 200, 28, 172, 77, 42, 44, 180, 1, 158, 181, 1, 152, 42, 44]
abbrev dktX0_text_1 : List UInt8 := dkwX0_text_1 ++ dktX0_text_2
def dkwX0_text_0 : List UInt8 := [42, 3, 181, 1, 152, 42, 2, 181, 0, 112, 27, 3, 6, 184, 0, 207, 153, 0, 11, 42, 27, 182, 1, 155]
abbrev dktX0_text_0 : List UInt8 := dkwX0_text_0 ++ dktX0_text_1
theorem dksX0_text_0 : cX0_text.data.toList.drop 0 = dktX0_text_0 := by decide +kernel
theorem dksX0_text_1 : cX0_text.data.toList.drop 24 = dktX0_text_1 := dk_seg dksX0_text_0 24 rfl rfl
theorem dksX0_text_2 : cX0_text.data.toList.drop 47 = dktX0_text_2 := dk_seg dksX0_text_1 23 rfl rfl
theorem dksX0_text_3 : cX0_text.data.toList.drop 71 = dktX0_text_3 := dk_seg dksX0_text_2 24 rfl rfl
theorem dX0_text_0 : decode cX0_text 0 = .ok (.aload_n 0, 1) := dk_42 (dk_at dksX0_text_0 0 rfl rfl)
theorem dX0_text_1 : decode cX0_text 1 = .ok (.iconst 0, 1) := dk_3 (dk_at dksX0_text_0 1 rfl rfl)
theorem dX0_text_2 : decode cX0_text 2 = .ok (.putfield 408, 3) := dk_181 1 152 (dk_at dksX0_text_0 2 rfl rfl)
theorem dX0_text_5 : decode cX0_text 5 = .ok (.aload_n 0, 1) := dk_42 (dk_at dksX0_text_0 5 rfl rfl)
theorem dX0_text_6 : decode cX0_text 6 = .ok (.iconst (-1), 1) := dk_2 (dk_at dksX0_text_0 6 rfl rfl)
theorem dX0_text_7 : decode cX0_text 7 = .ok (.putfield 112, 3) := dk_181 0 112 (dk_at dksX0_text_0 7 rfl rfl)
theorem dX0_text_10 : decode cX0_text 10 = .ok (.iload_n 1, 1) := dk_27 (dk_at dksX0_text_0 10 rfl rfl)
theorem dX0_text_11 : decode cX0_text 11 = .ok (.iconst 0, 1) := dk_3 (dk_at dksX0_text_0 11 rfl rfl)
theorem dX0_text_12 : decode cX0_text 12 = .ok (.iconst 3, 1) := dk_6 (dk_at dksX0_text_0 12 rfl rfl)
theorem dX0_text_13 : decode cX0_text 13 = .ok (.invokestatic 207, 3) := dk_184 0 207 (dk_at dksX0_text_0 13 rfl rfl)
theorem dX0_text_16 : decode cX0_text 16 = .ok (.ifCond .eq 11, 3) := dk_153 0 11 (dk_at dksX0_text_0 16 rfl rfl)
theorem dX0_text_19 : decode cX0_text 19 = .ok (.aload_n 0, 1) := dk_42 (dk_at dksX0_text_0 19 rfl rfl)
theorem dX0_text_20 : decode cX0_text 20 = .ok (.iload_n 1, 1) := dk_27 (dk_at dksX0_text_0 20 rfl rfl)
theorem dX0_text_21 : decode cX0_text 21 = .ok (.invokevirtual 411, 3) := dk_182 1 155 (dk_at dksX0_text_0 21 rfl rfl)
theorem dX0_text_24 : decode cX0_text 24 = .ok (.goto 4, 3) := dk_167 0 4 (dk_at dksX0_text_1 0 rfl rfl)
theorem dX0_text_27 : decode cX0_text 27 = .ok (.iconst (-1), 1) := dk_2 (dk_at dksX0_text_1 3 rfl rfl)
theorem dX0_text_28 : decode cX0_text 28 = .ok (.istore_n 2, 1) := dk_61 (dk_at dksX0_text_1 4 rfl rfl)
theorem dX0_text_29 : decode cX0_text 29 = .ok (.aload_n 0, 1) := dk_42 (dk_at dksX0_text_1 5 rfl rfl)
theorem dX0_text_30 : decode cX0_text 30 = .ok (.iconst 0, 1) := dk_3 (dk_at dksX0_text_1 6 rfl rfl)
theorem dX0_text_31 : decode cX0_text 31 = .ok (.putfield 200, 3) := dk_181 0 200 (dk_at dksX0_text_1 7 rfl rfl)
theorem dX0_text_34 : decode cX0_text 34 = .ok (.iload_n 2, 1) := dk_28 (dk_at dksX0_text_1 10 rfl rfl)
theorem dX0_text_35 : decode cX0_text 35 = .ok (.ireturn, 1) := dk_172 (dk_at dksX0_text_1 11 rfl rfl)
theorem dX0_text_36 : decode cX0_text 36 = .ok (.astore_n 2, 1) := dk_77 (dk_at dksX0_text_1 12 rfl rfl)
theorem dX0_text_37 : decode cX0_text 37 = .ok (.aload_n 0, 1) := dk_42 (dk_at dksX0_text_1 13 rfl rfl)
theorem dX0_text_38 : decode cX0_text 38 = .ok (.aload_n 2, 1) := dk_44 (dk_at dksX0_text_1 14 rfl rfl)
theorem dX0_text_39 : decode cX0_text 39 = .ok (.getfield 414, 3) := dk_180 1 158 (dk_at dksX0_text_1 15 rfl rfl)
theorem dX0_text_42 : decode cX0_text 42 = .ok (.putfield 408, 3) := dk_181 1 152 (dk_at dksX0_text_1 18 rfl rfl)
theorem dX0_text_45 : decode cX0_text 45 = .ok (.aload_n 0, 1) := dk_42 (dk_at dksX0_text_1 21 rfl rfl)
theorem dX0_text_46 : decode cX0_text 46 = .ok (.aload_n 2, 1) := dk_44 (dk_at dksX0_text_1 22 rfl rfl)
theorem dX0_text_47 : decode cX0_text 47 = .ok (.getfield 417, 3) := dk_180 1 161 (dk_at dksX0_text_2 0 rfl rfl)
theorem dX0_text_50 : decode cX0_text 50 = .ok (.putfield 112, 3) := dk_181 0 112 (dk_at dksX0_text_2 3 rfl rfl)
theorem dX0_text_53 : decode cX0_text 53 = .ok (.iconst (-1), 1) := dk_2 (dk_at dksX0_text_2 6 rfl rfl)
theorem dX0_text_54 : decode cX0_text 54 = .ok (.istore_n 3, 1) := dk_62 (dk_at dksX0_text_2 7 rfl rfl)
theorem dX0_text_55 : decode cX0_text 55 = .ok (.aload_n 0, 1) := dk_42 (dk_at dksX0_text_2 8 rfl rfl)
theorem dX0_text_56 : decode cX0_text 56 = .ok (.iconst 0, 1) := dk_3 (dk_at dksX0_text_2 9 rfl rfl)
theorem dX0_text_57 : decode cX0_text 57 = .ok (.putfield 200, 3) := dk_181 0 200 (dk_at dksX0_text_2 10 rfl rfl)
theorem dX0_text_60 : decode cX0_text 60 = .ok (.iload_n 3, 1) := dk_29 (dk_at dksX0_text_2 13 rfl rfl)
theorem dX0_text_61 : decode cX0_text 61 = .ok (.ireturn, 1) := dk_172 (dk_at dksX0_text_2 14 rfl rfl)
theorem dX0_text_62 : decode cX0_text 62 = .ok (.astore 4, 2) := dk_58 4 (dk_at dksX0_text_2 15 rfl rfl)
theorem dX0_text_64 : decode cX0_text 64 = .ok (.aload_n 0, 1) := dk_42 (dk_at dksX0_text_2 17 rfl rfl)
theorem dX0_text_65 : decode cX0_text 65 = .ok (.iconst 0, 1) := dk_3 (dk_at dksX0_text_2 18 rfl rfl)
theorem dX0_text_66 : decode cX0_text 66 = .ok (.putfield 200, 3) := dk_181 0 200 (dk_at dksX0_text_2 19 rfl rfl)
theorem dX0_text_69 : decode cX0_text 69 = .ok (.aload 4, 2) := dk_25 4 (dk_at dksX0_text_2 22 rfl rfl)
theorem dX0_text_71 : decode cX0_text 71 = .ok (.athrow, 1) := dk_191 (dk_at dksX0_text_3 0 rfl rfl)
abbrev cX0_readsText : ByteArray := prog_1_method_39_code
def yX0_readsText : MethodName := ⟨RX0, "readsText", "(I)I"⟩
def dkwX0_readsText_1 : List UInt8 := [180, 0, 119, 180, 1, 80, 172]
abbrev dktX0_readsText_1 : List UInt8 := dkwX0_readsText_1 ++ []
def dkwX0_readsText_0 : List UInt8 := [42, 27, 182, 1, 142, 27, 153, 0, 9, 42, 27, 182, 1, 145, 172, 42, 42, 182, 1, 148, 181, 0, 119, 42]
abbrev dktX0_readsText_0 : List UInt8 := dkwX0_readsText_0 ++ dktX0_readsText_1
theorem dksX0_readsText_0 : cX0_readsText.data.toList.drop 0 = dktX0_readsText_0 := by decide +kernel
theorem dksX0_readsText_1 : cX0_readsText.data.toList.drop 24 = dktX0_readsText_1 := dk_seg dksX0_readsText_0 24 rfl rfl
theorem dX0_readsText_0 : decode cX0_readsText 0 = .ok (.aload_n 0, 1) := dk_42 (dk_at dksX0_readsText_0 0 rfl rfl)
theorem dX0_readsText_1 : decode cX0_readsText 1 = .ok (.iload_n 1, 1) := dk_27 (dk_at dksX0_readsText_0 1 rfl rfl)
theorem dX0_readsText_2 : decode cX0_readsText 2 = .ok (.invokevirtual 398, 3) := dk_182 1 142 (dk_at dksX0_readsText_0 2 rfl rfl)
theorem dX0_readsText_5 : decode cX0_readsText 5 = .ok (.iload_n 1, 1) := dk_27 (dk_at dksX0_readsText_0 5 rfl rfl)
theorem dX0_readsText_6 : decode cX0_readsText 6 = .ok (.ifCond .eq 9, 3) := dk_153 0 9 (dk_at dksX0_readsText_0 6 rfl rfl)
theorem dX0_readsText_9 : decode cX0_readsText 9 = .ok (.aload_n 0, 1) := dk_42 (dk_at dksX0_readsText_0 9 rfl rfl)
theorem dX0_readsText_10 : decode cX0_readsText 10 = .ok (.iload_n 1, 1) := dk_27 (dk_at dksX0_readsText_0 10 rfl rfl)
theorem dX0_readsText_11 : decode cX0_readsText 11 = .ok (.invokevirtual 401, 3) := dk_182 1 145 (dk_at dksX0_readsText_0 11 rfl rfl)
theorem dX0_readsText_14 : decode cX0_readsText 14 = .ok (.ireturn, 1) := dk_172 (dk_at dksX0_readsText_0 14 rfl rfl)
theorem dX0_readsText_15 : decode cX0_readsText 15 = .ok (.aload_n 0, 1) := dk_42 (dk_at dksX0_readsText_0 15 rfl rfl)
theorem dX0_readsText_16 : decode cX0_readsText 16 = .ok (.aload_n 0, 1) := dk_42 (dk_at dksX0_readsText_0 16 rfl rfl)
theorem dX0_readsText_17 : decode cX0_readsText 17 = .ok (.invokevirtual 404, 3) := dk_182 1 148 (dk_at dksX0_readsText_0 17 rfl rfl)
theorem dX0_readsText_20 : decode cX0_readsText 20 = .ok (.putfield 119, 3) := dk_181 0 119 (dk_at dksX0_readsText_0 20 rfl rfl)
theorem dX0_readsText_23 : decode cX0_readsText 23 = .ok (.aload_n 0, 1) := dk_42 (dk_at dksX0_readsText_0 23 rfl rfl)
theorem dX0_readsText_24 : decode cX0_readsText 24 = .ok (.getfield 119, 3) := dk_180 0 119 (dk_at dksX0_readsText_1 0 rfl rfl)
theorem dX0_readsText_27 : decode cX0_readsText 27 = .ok (.getfield 336, 3) := dk_180 1 80 (dk_at dksX0_readsText_1 3 rfl rfl)
theorem dX0_readsText_30 : decode cX0_readsText 30 = .ok (.ireturn, 1) := dk_172 (dk_at dksX0_readsText_1 6 rfl rfl)
abbrev cX0_openText : ByteArray := prog_1_method_37_code
def yX0_openText : MethodName := ⟨RX0, "openText", "(I)V"⟩
def dkwX0_openText_2 : List UInt8 := [181, 0, 109, 42, 3, 181, 0, 215, 42, 3, 181, 1, 50, 42, 182, 1, 28, 177]
abbrev dktX0_openText_2 : List UInt8 := dkwX0_openText_2 ++ []
def dkwX0_openText_1 : List UInt8 := [180, 0, 100, 181, 0, 106, 42, 27, 154, 0, 10, 42, 180, 0, 97, 167, 0, 7, 42, 180, 0, 100]
abbrev dktX0_openText_1 : List UInt8 := dkwX0_openText_1 ++ dktX0_openText_2
def dkwX0_openText_0 : List UInt8 := [42, 42, 180, 0, 68, 27, 50, 181, 0, 103, 42, 27, 154, 0, 10, 42, 180, 0, 86, 167, 0, 7, 42]
abbrev dktX0_openText_0 : List UInt8 := dkwX0_openText_0 ++ dktX0_openText_1
theorem dksX0_openText_0 : cX0_openText.data.toList.drop 0 = dktX0_openText_0 := by decide +kernel
theorem dksX0_openText_1 : cX0_openText.data.toList.drop 23 = dktX0_openText_1 := dk_seg dksX0_openText_0 23 rfl rfl
theorem dksX0_openText_2 : cX0_openText.data.toList.drop 45 = dktX0_openText_2 := dk_seg dksX0_openText_1 22 rfl rfl
theorem dX0_openText_0 : decode cX0_openText 0 = .ok (.aload_n 0, 1) := dk_42 (dk_at dksX0_openText_0 0 rfl rfl)
theorem dX0_openText_1 : decode cX0_openText 1 = .ok (.aload_n 0, 1) := dk_42 (dk_at dksX0_openText_0 1 rfl rfl)
theorem dX0_openText_2 : decode cX0_openText 2 = .ok (.getfield 68, 3) := dk_180 0 68 (dk_at dksX0_openText_0 2 rfl rfl)
theorem dX0_openText_5 : decode cX0_openText 5 = .ok (.iload_n 1, 1) := dk_27 (dk_at dksX0_openText_0 5 rfl rfl)
theorem dX0_openText_6 : decode cX0_openText 6 = .ok (.aaload, 1) := dk_50 (dk_at dksX0_openText_0 6 rfl rfl)
theorem dX0_openText_7 : decode cX0_openText 7 = .ok (.putfield 103, 3) := dk_181 0 103 (dk_at dksX0_openText_0 7 rfl rfl)
theorem dX0_openText_10 : decode cX0_openText 10 = .ok (.aload_n 0, 1) := dk_42 (dk_at dksX0_openText_0 10 rfl rfl)
theorem dX0_openText_11 : decode cX0_openText 11 = .ok (.iload_n 1, 1) := dk_27 (dk_at dksX0_openText_0 11 rfl rfl)
theorem dX0_openText_12 : decode cX0_openText 12 = .ok (.ifCond .ne 10, 3) := dk_154 0 10 (dk_at dksX0_openText_0 12 rfl rfl)
theorem dX0_openText_15 : decode cX0_openText 15 = .ok (.aload_n 0, 1) := dk_42 (dk_at dksX0_openText_0 15 rfl rfl)
theorem dX0_openText_16 : decode cX0_openText 16 = .ok (.getfield 86, 3) := dk_180 0 86 (dk_at dksX0_openText_0 16 rfl rfl)
theorem dX0_openText_19 : decode cX0_openText 19 = .ok (.goto 7, 3) := dk_167 0 7 (dk_at dksX0_openText_0 19 rfl rfl)
theorem dX0_openText_22 : decode cX0_openText 22 = .ok (.aload_n 0, 1) := dk_42 (dk_at dksX0_openText_0 22 rfl rfl)
theorem dX0_openText_23 : decode cX0_openText 23 = .ok (.getfield 100, 3) := dk_180 0 100 (dk_at dksX0_openText_1 0 rfl rfl)
theorem dX0_openText_26 : decode cX0_openText 26 = .ok (.putfield 106, 3) := dk_181 0 106 (dk_at dksX0_openText_1 3 rfl rfl)
theorem dX0_openText_29 : decode cX0_openText 29 = .ok (.aload_n 0, 1) := dk_42 (dk_at dksX0_openText_1 6 rfl rfl)
theorem dX0_openText_30 : decode cX0_openText 30 = .ok (.iload_n 1, 1) := dk_27 (dk_at dksX0_openText_1 7 rfl rfl)
theorem dX0_openText_31 : decode cX0_openText 31 = .ok (.ifCond .ne 10, 3) := dk_154 0 10 (dk_at dksX0_openText_1 8 rfl rfl)
theorem dX0_openText_34 : decode cX0_openText 34 = .ok (.aload_n 0, 1) := dk_42 (dk_at dksX0_openText_1 11 rfl rfl)
theorem dX0_openText_35 : decode cX0_openText 35 = .ok (.getfield 97, 3) := dk_180 0 97 (dk_at dksX0_openText_1 12 rfl rfl)
theorem dX0_openText_38 : decode cX0_openText 38 = .ok (.goto 7, 3) := dk_167 0 7 (dk_at dksX0_openText_1 15 rfl rfl)
theorem dX0_openText_41 : decode cX0_openText 41 = .ok (.aload_n 0, 1) := dk_42 (dk_at dksX0_openText_1 18 rfl rfl)
theorem dX0_openText_42 : decode cX0_openText 42 = .ok (.getfield 100, 3) := dk_180 0 100 (dk_at dksX0_openText_1 19 rfl rfl)
theorem dX0_openText_45 : decode cX0_openText 45 = .ok (.putfield 109, 3) := dk_181 0 109 (dk_at dksX0_openText_2 0 rfl rfl)
theorem dX0_openText_48 : decode cX0_openText 48 = .ok (.aload_n 0, 1) := dk_42 (dk_at dksX0_openText_2 3 rfl rfl)
theorem dX0_openText_49 : decode cX0_openText 49 = .ok (.iconst 0, 1) := dk_3 (dk_at dksX0_openText_2 4 rfl rfl)
theorem dX0_openText_50 : decode cX0_openText 50 = .ok (.putfield 215, 3) := dk_181 0 215 (dk_at dksX0_openText_2 5 rfl rfl)
theorem dX0_openText_53 : decode cX0_openText 53 = .ok (.aload_n 0, 1) := dk_42 (dk_at dksX0_openText_2 8 rfl rfl)
theorem dX0_openText_54 : decode cX0_openText 54 = .ok (.iconst 0, 1) := dk_3 (dk_at dksX0_openText_2 9 rfl rfl)
theorem dX0_openText_55 : decode cX0_openText 55 = .ok (.putfield 306, 3) := dk_181 1 50 (dk_at dksX0_openText_2 10 rfl rfl)
theorem dX0_openText_58 : decode cX0_openText 58 = .ok (.aload_n 0, 1) := dk_42 (dk_at dksX0_openText_2 13 rfl rfl)
theorem dX0_openText_59 : decode cX0_openText 59 = .ok (.invokevirtual 284, 3) := dk_182 1 28 (dk_at dksX0_openText_2 14 rfl rfl)
theorem dX0_openText_62 : decode cX0_openText 62 = .ok (.return_, 1) := dk_177 (dk_at dksX0_openText_2 17 rfl rfl)
abbrev cX0_readNext : ByteArray := prog_1_method_18_code
def yX0_readNext : MethodName := ⟨RX0, "readNext", "()V"⟩
def dkwX0_readNext_12 : List UInt8 := [178, 0, 240, 181, 0, 227, 42, 27, 181, 0, 243, 177]
abbrev dktX0_readNext_12 : List UInt8 := dkwX0_readNext_12 ++ []
def dkwX0_readNext_11 : List UInt8 := [163, 0, 35, 42, 178, 1, 7, 181, 0, 227, 167, 0, 25, 19, 1, 10, 27, 182, 1, 12, 155, 0, 15, 42]
abbrev dktX0_readNext_11 : List UInt8 := dkwX0_readNext_11 ++ dktX0_readNext_12
def dkwX0_readNext_10 : List UInt8 := [89, 180, 0, 215, 4, 96, 181, 0, 215, 167, 255, 203, 42, 180, 0, 215, 42, 180, 0, 218, 100, 7]
abbrev dktX0_readNext_10 : List UInt8 := dkwX0_readNext_10 ++ dktX0_readNext_11
def dkwX0_readNext_9 : List UInt8 := [42, 180, 0, 243, 104, 42, 42, 180, 0, 215, 182, 0, 220, 96, 16, 48, 100, 184, 0, 1, 181, 0, 243, 42]
abbrev dktX0_readNext_9 : List UInt8 := dkwX0_readNext_9 ++ dktX0_readNext_10
def dkwX0_readNext_8 : List UInt8 := [100, 181, 0, 243, 42, 42, 180, 0, 215, 182, 0, 220, 184, 1, 3, 153, 0, 45, 42, 19, 1, 6, 16, 10]
abbrev dktX0_readNext_8 : List UInt8 := dkwX0_readNext_8 ++ dktX0_readNext_9
def dkwX0_readNext_7 : List UInt8 := [160, 0, 129, 42, 178, 0, 249, 181, 0, 227, 167, 0, 119, 27, 184, 1, 3, 153, 0, 90, 42, 27, 16, 48]
abbrev dktX0_readNext_7 : List UInt8 := dkwX0_readNext_7 ++ dktX0_readNext_8
def dkwX0_readNext_6 : List UInt8 := [160, 0, 153, 42, 42, 180, 0, 106, 182, 0, 255, 2, 160, 0, 141, 42, 42, 180, 0, 109, 182, 0, 255, 2]
abbrev dktX0_readNext_6 : List UInt8 := dkwX0_readNext_6 ++ dktX0_readNext_7
def dkwX0_readNext_5 : List UInt8 := [181, 0, 215, 167, 255, 232, 42, 178, 0, 231, 181, 0, 227, 42, 42, 180, 0, 103, 182, 0, 255, 2]
abbrev dktX0_readNext_5 : List UInt8 := dkwX0_readNext_5 ++ dktX0_readNext_6
def dkwX0_readNext_4 : List UInt8 := [153, 0, 83, 42, 42, 180, 0, 215, 182, 0, 220, 184, 0, 252, 153, 0, 16, 42, 89, 180, 0, 215, 4, 96]
abbrev dktX0_readNext_4 : List UInt8 := dkwX0_readNext_4 ++ dktX0_readNext_5
def dkwX0_readNext_3 : List UInt8 := [181, 0, 227, 27, 2, 160, 0, 4, 177, 42, 89, 180, 0, 215, 4, 96, 181, 0, 215, 27, 184, 0, 252]
abbrev dktX0_readNext_3 : List UInt8 := dkwX0_readNext_3 ++ dktX0_readNext_4
def dkwX0_readNext_2 : List UInt8 := [42, 42, 180, 0, 215, 182, 0, 220, 60, 42, 27, 2, 160, 0, 9, 178, 0, 246, 167, 0, 6, 178, 0, 249]
abbrev dktX0_readNext_2 : List UInt8 := dkwX0_readNext_2 ++ dktX0_readNext_3
def dkwX0_readNext_1 : List UInt8 := [160, 0, 16, 42, 89, 180, 0, 215, 4, 96, 181, 0, 215, 167, 255, 220, 42, 42, 180, 0, 215, 181, 0, 218]
abbrev dktX0_readNext_1 : List UInt8 := dkwX0_readNext_1 ++ dktX0_readNext_2
def dkwX0_readNext_0 : List UInt8 := [42, 42, 180, 0, 215, 182, 0, 220, 16, 32, 159, 0, 16, 42, 42, 180, 0, 215, 182, 0, 220, 16, 10]
abbrev dktX0_readNext_0 : List UInt8 := dkwX0_readNext_0 ++ dktX0_readNext_1
theorem dksX0_readNext_0 : cX0_readNext.data.toList.drop 0 = dktX0_readNext_0 := by decide +kernel
theorem dksX0_readNext_1 : cX0_readNext.data.toList.drop 23 = dktX0_readNext_1 := dk_seg dksX0_readNext_0 23 rfl rfl
theorem dksX0_readNext_2 : cX0_readNext.data.toList.drop 47 = dktX0_readNext_2 := dk_seg dksX0_readNext_1 24 rfl rfl
theorem dksX0_readNext_3 : cX0_readNext.data.toList.drop 71 = dktX0_readNext_3 := dk_seg dksX0_readNext_2 24 rfl rfl
theorem dksX0_readNext_4 : cX0_readNext.data.toList.drop 94 = dktX0_readNext_4 := dk_seg dksX0_readNext_3 23 rfl rfl
theorem dksX0_readNext_5 : cX0_readNext.data.toList.drop 118 = dktX0_readNext_5 := dk_seg dksX0_readNext_4 24 rfl rfl
theorem dksX0_readNext_6 : cX0_readNext.data.toList.drop 140 = dktX0_readNext_6 := dk_seg dksX0_readNext_5 22 rfl rfl
theorem dksX0_readNext_7 : cX0_readNext.data.toList.drop 164 = dktX0_readNext_7 := dk_seg dksX0_readNext_6 24 rfl rfl
theorem dksX0_readNext_8 : cX0_readNext.data.toList.drop 188 = dktX0_readNext_8 := dk_seg dksX0_readNext_7 24 rfl rfl
theorem dksX0_readNext_9 : cX0_readNext.data.toList.drop 212 = dktX0_readNext_9 := dk_seg dksX0_readNext_8 24 rfl rfl
theorem dksX0_readNext_10 : cX0_readNext.data.toList.drop 236 = dktX0_readNext_10 := dk_seg dksX0_readNext_9 24 rfl rfl
theorem dksX0_readNext_11 : cX0_readNext.data.toList.drop 258 = dktX0_readNext_11 := dk_seg dksX0_readNext_10 22 rfl rfl
theorem dksX0_readNext_12 : cX0_readNext.data.toList.drop 282 = dktX0_readNext_12 := dk_seg dksX0_readNext_11 24 rfl rfl
theorem dX0_readNext_0 : decode cX0_readNext 0 = .ok (.aload_n 0, 1) := dk_42 (dk_at dksX0_readNext_0 0 rfl rfl)
theorem dX0_readNext_1 : decode cX0_readNext 1 = .ok (.aload_n 0, 1) := dk_42 (dk_at dksX0_readNext_0 1 rfl rfl)
theorem dX0_readNext_2 : decode cX0_readNext 2 = .ok (.getfield 215, 3) := dk_180 0 215 (dk_at dksX0_readNext_0 2 rfl rfl)
theorem dX0_readNext_5 : decode cX0_readNext 5 = .ok (.invokevirtual 220, 3) := dk_182 0 220 (dk_at dksX0_readNext_0 5 rfl rfl)
theorem dX0_readNext_8 : decode cX0_readNext 8 = .ok (.bipush 32, 2) := dk_16 32 (dk_at dksX0_readNext_0 8 rfl rfl)
theorem dX0_readNext_10 : decode cX0_readNext 10 = .ok (.if_icmp .eq 16, 3) := dk_159 0 16 (dk_at dksX0_readNext_0 10 rfl rfl)
theorem dX0_readNext_13 : decode cX0_readNext 13 = .ok (.aload_n 0, 1) := dk_42 (dk_at dksX0_readNext_0 13 rfl rfl)
theorem dX0_readNext_14 : decode cX0_readNext 14 = .ok (.aload_n 0, 1) := dk_42 (dk_at dksX0_readNext_0 14 rfl rfl)
theorem dX0_readNext_15 : decode cX0_readNext 15 = .ok (.getfield 215, 3) := dk_180 0 215 (dk_at dksX0_readNext_0 15 rfl rfl)
theorem dX0_readNext_18 : decode cX0_readNext 18 = .ok (.invokevirtual 220, 3) := dk_182 0 220 (dk_at dksX0_readNext_0 18 rfl rfl)
theorem dX0_readNext_21 : decode cX0_readNext 21 = .ok (.bipush 10, 2) := dk_16 10 (dk_at dksX0_readNext_0 21 rfl rfl)
theorem dX0_readNext_23 : decode cX0_readNext 23 = .ok (.if_icmp .ne 16, 3) := dk_160 0 16 (dk_at dksX0_readNext_1 0 rfl rfl)
theorem dX0_readNext_26 : decode cX0_readNext 26 = .ok (.aload_n 0, 1) := dk_42 (dk_at dksX0_readNext_1 3 rfl rfl)
theorem dX0_readNext_27 : decode cX0_readNext 27 = .ok (.dup, 1) := dk_89 (dk_at dksX0_readNext_1 4 rfl rfl)
theorem dX0_readNext_28 : decode cX0_readNext 28 = .ok (.getfield 215, 3) := dk_180 0 215 (dk_at dksX0_readNext_1 5 rfl rfl)
theorem dX0_readNext_31 : decode cX0_readNext 31 = .ok (.iconst 1, 1) := dk_4 (dk_at dksX0_readNext_1 8 rfl rfl)
theorem dX0_readNext_32 : decode cX0_readNext 32 = .ok (.iadd, 1) := dk_96 (dk_at dksX0_readNext_1 9 rfl rfl)
theorem dX0_readNext_33 : decode cX0_readNext 33 = .ok (.putfield 215, 3) := dk_181 0 215 (dk_at dksX0_readNext_1 10 rfl rfl)
theorem dX0_readNext_36 : decode cX0_readNext 36 = .ok (.goto (-36), 3) := dk_167 255 220 (dk_at dksX0_readNext_1 13 rfl rfl)
theorem dX0_readNext_39 : decode cX0_readNext 39 = .ok (.aload_n 0, 1) := dk_42 (dk_at dksX0_readNext_1 16 rfl rfl)
theorem dX0_readNext_40 : decode cX0_readNext 40 = .ok (.aload_n 0, 1) := dk_42 (dk_at dksX0_readNext_1 17 rfl rfl)
theorem dX0_readNext_41 : decode cX0_readNext 41 = .ok (.getfield 215, 3) := dk_180 0 215 (dk_at dksX0_readNext_1 18 rfl rfl)
theorem dX0_readNext_44 : decode cX0_readNext 44 = .ok (.putfield 218, 3) := dk_181 0 218 (dk_at dksX0_readNext_1 21 rfl rfl)
theorem dX0_readNext_47 : decode cX0_readNext 47 = .ok (.aload_n 0, 1) := dk_42 (dk_at dksX0_readNext_2 0 rfl rfl)
theorem dX0_readNext_48 : decode cX0_readNext 48 = .ok (.aload_n 0, 1) := dk_42 (dk_at dksX0_readNext_2 1 rfl rfl)
theorem dX0_readNext_49 : decode cX0_readNext 49 = .ok (.getfield 215, 3) := dk_180 0 215 (dk_at dksX0_readNext_2 2 rfl rfl)
theorem dX0_readNext_52 : decode cX0_readNext 52 = .ok (.invokevirtual 220, 3) := dk_182 0 220 (dk_at dksX0_readNext_2 5 rfl rfl)
theorem dX0_readNext_55 : decode cX0_readNext 55 = .ok (.istore_n 1, 1) := dk_60 (dk_at dksX0_readNext_2 8 rfl rfl)
theorem dX0_readNext_56 : decode cX0_readNext 56 = .ok (.aload_n 0, 1) := dk_42 (dk_at dksX0_readNext_2 9 rfl rfl)
theorem dX0_readNext_57 : decode cX0_readNext 57 = .ok (.iload_n 1, 1) := dk_27 (dk_at dksX0_readNext_2 10 rfl rfl)
theorem dX0_readNext_58 : decode cX0_readNext 58 = .ok (.iconst (-1), 1) := dk_2 (dk_at dksX0_readNext_2 11 rfl rfl)
theorem dX0_readNext_59 : decode cX0_readNext 59 = .ok (.if_icmp .ne 9, 3) := dk_160 0 9 (dk_at dksX0_readNext_2 12 rfl rfl)
theorem dX0_readNext_62 : decode cX0_readNext 62 = .ok (.getstatic 246, 3) := dk_178 0 246 (dk_at dksX0_readNext_2 15 rfl rfl)
theorem dX0_readNext_65 : decode cX0_readNext 65 = .ok (.goto 6, 3) := dk_167 0 6 (dk_at dksX0_readNext_2 18 rfl rfl)
theorem dX0_readNext_68 : decode cX0_readNext 68 = .ok (.getstatic 249, 3) := dk_178 0 249 (dk_at dksX0_readNext_2 21 rfl rfl)
theorem dX0_readNext_71 : decode cX0_readNext 71 = .ok (.putfield 227, 3) := dk_181 0 227 (dk_at dksX0_readNext_3 0 rfl rfl)
theorem dX0_readNext_74 : decode cX0_readNext 74 = .ok (.iload_n 1, 1) := dk_27 (dk_at dksX0_readNext_3 3 rfl rfl)
theorem dX0_readNext_75 : decode cX0_readNext 75 = .ok (.iconst (-1), 1) := dk_2 (dk_at dksX0_readNext_3 4 rfl rfl)
theorem dX0_readNext_76 : decode cX0_readNext 76 = .ok (.if_icmp .ne 4, 3) := dk_160 0 4 (dk_at dksX0_readNext_3 5 rfl rfl)
theorem dX0_readNext_79 : decode cX0_readNext 79 = .ok (.return_, 1) := dk_177 (dk_at dksX0_readNext_3 8 rfl rfl)
theorem dX0_readNext_80 : decode cX0_readNext 80 = .ok (.aload_n 0, 1) := dk_42 (dk_at dksX0_readNext_3 9 rfl rfl)
theorem dX0_readNext_81 : decode cX0_readNext 81 = .ok (.dup, 1) := dk_89 (dk_at dksX0_readNext_3 10 rfl rfl)
theorem dX0_readNext_82 : decode cX0_readNext 82 = .ok (.getfield 215, 3) := dk_180 0 215 (dk_at dksX0_readNext_3 11 rfl rfl)
theorem dX0_readNext_85 : decode cX0_readNext 85 = .ok (.iconst 1, 1) := dk_4 (dk_at dksX0_readNext_3 14 rfl rfl)
theorem dX0_readNext_86 : decode cX0_readNext 86 = .ok (.iadd, 1) := dk_96 (dk_at dksX0_readNext_3 15 rfl rfl)
theorem dX0_readNext_87 : decode cX0_readNext 87 = .ok (.putfield 215, 3) := dk_181 0 215 (dk_at dksX0_readNext_3 16 rfl rfl)
theorem dX0_readNext_90 : decode cX0_readNext 90 = .ok (.iload_n 1, 1) := dk_27 (dk_at dksX0_readNext_3 19 rfl rfl)
theorem dX0_readNext_91 : decode cX0_readNext 91 = .ok (.invokestatic 252, 3) := dk_184 0 252 (dk_at dksX0_readNext_3 20 rfl rfl)
theorem dX0_readNext_94 : decode cX0_readNext 94 = .ok (.ifCond .eq 83, 3) := dk_153 0 83 (dk_at dksX0_readNext_4 0 rfl rfl)
theorem dX0_readNext_97 : decode cX0_readNext 97 = .ok (.aload_n 0, 1) := dk_42 (dk_at dksX0_readNext_4 3 rfl rfl)
theorem dX0_readNext_98 : decode cX0_readNext 98 = .ok (.aload_n 0, 1) := dk_42 (dk_at dksX0_readNext_4 4 rfl rfl)
theorem dX0_readNext_99 : decode cX0_readNext 99 = .ok (.getfield 215, 3) := dk_180 0 215 (dk_at dksX0_readNext_4 5 rfl rfl)
theorem dX0_readNext_102 : decode cX0_readNext 102 = .ok (.invokevirtual 220, 3) := dk_182 0 220 (dk_at dksX0_readNext_4 8 rfl rfl)
theorem dX0_readNext_105 : decode cX0_readNext 105 = .ok (.invokestatic 252, 3) := dk_184 0 252 (dk_at dksX0_readNext_4 11 rfl rfl)
theorem dX0_readNext_108 : decode cX0_readNext 108 = .ok (.ifCond .eq 16, 3) := dk_153 0 16 (dk_at dksX0_readNext_4 14 rfl rfl)
theorem dX0_readNext_111 : decode cX0_readNext 111 = .ok (.aload_n 0, 1) := dk_42 (dk_at dksX0_readNext_4 17 rfl rfl)
theorem dX0_readNext_112 : decode cX0_readNext 112 = .ok (.dup, 1) := dk_89 (dk_at dksX0_readNext_4 18 rfl rfl)
theorem dX0_readNext_113 : decode cX0_readNext 113 = .ok (.getfield 215, 3) := dk_180 0 215 (dk_at dksX0_readNext_4 19 rfl rfl)
theorem dX0_readNext_116 : decode cX0_readNext 116 = .ok (.iconst 1, 1) := dk_4 (dk_at dksX0_readNext_4 22 rfl rfl)
theorem dX0_readNext_117 : decode cX0_readNext 117 = .ok (.iadd, 1) := dk_96 (dk_at dksX0_readNext_4 23 rfl rfl)
theorem dX0_readNext_118 : decode cX0_readNext 118 = .ok (.putfield 215, 3) := dk_181 0 215 (dk_at dksX0_readNext_5 0 rfl rfl)
theorem dX0_readNext_121 : decode cX0_readNext 121 = .ok (.goto (-24), 3) := dk_167 255 232 (dk_at dksX0_readNext_5 3 rfl rfl)
theorem dX0_readNext_124 : decode cX0_readNext 124 = .ok (.aload_n 0, 1) := dk_42 (dk_at dksX0_readNext_5 6 rfl rfl)
theorem dX0_readNext_125 : decode cX0_readNext 125 = .ok (.getstatic 231, 3) := dk_178 0 231 (dk_at dksX0_readNext_5 7 rfl rfl)
theorem dX0_readNext_128 : decode cX0_readNext 128 = .ok (.putfield 227, 3) := dk_181 0 227 (dk_at dksX0_readNext_5 10 rfl rfl)
theorem dX0_readNext_131 : decode cX0_readNext 131 = .ok (.aload_n 0, 1) := dk_42 (dk_at dksX0_readNext_5 13 rfl rfl)
theorem dX0_readNext_132 : decode cX0_readNext 132 = .ok (.aload_n 0, 1) := dk_42 (dk_at dksX0_readNext_5 14 rfl rfl)
theorem dX0_readNext_133 : decode cX0_readNext 133 = .ok (.getfield 103, 3) := dk_180 0 103 (dk_at dksX0_readNext_5 15 rfl rfl)
theorem dX0_readNext_136 : decode cX0_readNext 136 = .ok (.invokevirtual 255, 3) := dk_182 0 255 (dk_at dksX0_readNext_5 18 rfl rfl)
theorem dX0_readNext_139 : decode cX0_readNext 139 = .ok (.iconst (-1), 1) := dk_2 (dk_at dksX0_readNext_5 21 rfl rfl)
theorem dX0_readNext_140 : decode cX0_readNext 140 = .ok (.if_icmp .ne 153, 3) := dk_160 0 153 (dk_at dksX0_readNext_6 0 rfl rfl)
theorem dX0_readNext_143 : decode cX0_readNext 143 = .ok (.aload_n 0, 1) := dk_42 (dk_at dksX0_readNext_6 3 rfl rfl)
theorem dX0_readNext_144 : decode cX0_readNext 144 = .ok (.aload_n 0, 1) := dk_42 (dk_at dksX0_readNext_6 4 rfl rfl)
theorem dX0_readNext_145 : decode cX0_readNext 145 = .ok (.getfield 106, 3) := dk_180 0 106 (dk_at dksX0_readNext_6 5 rfl rfl)
theorem dX0_readNext_148 : decode cX0_readNext 148 = .ok (.invokevirtual 255, 3) := dk_182 0 255 (dk_at dksX0_readNext_6 8 rfl rfl)
theorem dX0_readNext_151 : decode cX0_readNext 151 = .ok (.iconst (-1), 1) := dk_2 (dk_at dksX0_readNext_6 11 rfl rfl)
theorem dX0_readNext_152 : decode cX0_readNext 152 = .ok (.if_icmp .ne 141, 3) := dk_160 0 141 (dk_at dksX0_readNext_6 12 rfl rfl)
theorem dX0_readNext_155 : decode cX0_readNext 155 = .ok (.aload_n 0, 1) := dk_42 (dk_at dksX0_readNext_6 15 rfl rfl)
theorem dX0_readNext_156 : decode cX0_readNext 156 = .ok (.aload_n 0, 1) := dk_42 (dk_at dksX0_readNext_6 16 rfl rfl)
theorem dX0_readNext_157 : decode cX0_readNext 157 = .ok (.getfield 109, 3) := dk_180 0 109 (dk_at dksX0_readNext_6 17 rfl rfl)
theorem dX0_readNext_160 : decode cX0_readNext 160 = .ok (.invokevirtual 255, 3) := dk_182 0 255 (dk_at dksX0_readNext_6 20 rfl rfl)
theorem dX0_readNext_163 : decode cX0_readNext 163 = .ok (.iconst (-1), 1) := dk_2 (dk_at dksX0_readNext_6 23 rfl rfl)
theorem dX0_readNext_164 : decode cX0_readNext 164 = .ok (.if_icmp .ne 129, 3) := dk_160 0 129 (dk_at dksX0_readNext_7 0 rfl rfl)
theorem dX0_readNext_167 : decode cX0_readNext 167 = .ok (.aload_n 0, 1) := dk_42 (dk_at dksX0_readNext_7 3 rfl rfl)
theorem dX0_readNext_168 : decode cX0_readNext 168 = .ok (.getstatic 249, 3) := dk_178 0 249 (dk_at dksX0_readNext_7 4 rfl rfl)
theorem dX0_readNext_171 : decode cX0_readNext 171 = .ok (.putfield 227, 3) := dk_181 0 227 (dk_at dksX0_readNext_7 7 rfl rfl)
theorem dX0_readNext_174 : decode cX0_readNext 174 = .ok (.goto 119, 3) := dk_167 0 119 (dk_at dksX0_readNext_7 10 rfl rfl)
theorem dX0_readNext_177 : decode cX0_readNext 177 = .ok (.iload_n 1, 1) := dk_27 (dk_at dksX0_readNext_7 13 rfl rfl)
theorem dX0_readNext_178 : decode cX0_readNext 178 = .ok (.invokestatic 259, 3) := dk_184 1 3 (dk_at dksX0_readNext_7 14 rfl rfl)
theorem dX0_readNext_181 : decode cX0_readNext 181 = .ok (.ifCond .eq 90, 3) := dk_153 0 90 (dk_at dksX0_readNext_7 17 rfl rfl)
theorem dX0_readNext_184 : decode cX0_readNext 184 = .ok (.aload_n 0, 1) := dk_42 (dk_at dksX0_readNext_7 20 rfl rfl)
theorem dX0_readNext_185 : decode cX0_readNext 185 = .ok (.iload_n 1, 1) := dk_27 (dk_at dksX0_readNext_7 21 rfl rfl)
theorem dX0_readNext_186 : decode cX0_readNext 186 = .ok (.bipush 48, 2) := dk_16 48 (dk_at dksX0_readNext_7 22 rfl rfl)
theorem dX0_readNext_188 : decode cX0_readNext 188 = .ok (.isub, 1) := dk_100 (dk_at dksX0_readNext_8 0 rfl rfl)
theorem dX0_readNext_189 : decode cX0_readNext 189 = .ok (.putfield 243, 3) := dk_181 0 243 (dk_at dksX0_readNext_8 1 rfl rfl)
theorem dX0_readNext_192 : decode cX0_readNext 192 = .ok (.aload_n 0, 1) := dk_42 (dk_at dksX0_readNext_8 4 rfl rfl)
theorem dX0_readNext_193 : decode cX0_readNext 193 = .ok (.aload_n 0, 1) := dk_42 (dk_at dksX0_readNext_8 5 rfl rfl)
theorem dX0_readNext_194 : decode cX0_readNext 194 = .ok (.getfield 215, 3) := dk_180 0 215 (dk_at dksX0_readNext_8 6 rfl rfl)
theorem dX0_readNext_197 : decode cX0_readNext 197 = .ok (.invokevirtual 220, 3) := dk_182 0 220 (dk_at dksX0_readNext_8 9 rfl rfl)
theorem dX0_readNext_200 : decode cX0_readNext 200 = .ok (.invokestatic 259, 3) := dk_184 1 3 (dk_at dksX0_readNext_8 12 rfl rfl)
theorem dX0_readNext_203 : decode cX0_readNext 203 = .ok (.ifCond .eq 45, 3) := dk_153 0 45 (dk_at dksX0_readNext_8 15 rfl rfl)
theorem dX0_readNext_206 : decode cX0_readNext 206 = .ok (.aload_n 0, 1) := dk_42 (dk_at dksX0_readNext_8 18 rfl rfl)
theorem dX0_readNext_207 : decode cX0_readNext 207 = .ok (.ldc_w 262, 3) := dk_19 1 6 (dk_at dksX0_readNext_8 19 rfl rfl)
theorem dX0_readNext_210 : decode cX0_readNext 210 = .ok (.bipush 10, 2) := dk_16 10 (dk_at dksX0_readNext_8 22 rfl rfl)
theorem dX0_readNext_212 : decode cX0_readNext 212 = .ok (.aload_n 0, 1) := dk_42 (dk_at dksX0_readNext_9 0 rfl rfl)
theorem dX0_readNext_213 : decode cX0_readNext 213 = .ok (.getfield 243, 3) := dk_180 0 243 (dk_at dksX0_readNext_9 1 rfl rfl)
theorem dX0_readNext_216 : decode cX0_readNext 216 = .ok (.imul, 1) := dk_104 (dk_at dksX0_readNext_9 4 rfl rfl)
theorem dX0_readNext_217 : decode cX0_readNext 217 = .ok (.aload_n 0, 1) := dk_42 (dk_at dksX0_readNext_9 5 rfl rfl)
theorem dX0_readNext_218 : decode cX0_readNext 218 = .ok (.aload_n 0, 1) := dk_42 (dk_at dksX0_readNext_9 6 rfl rfl)
theorem dX0_readNext_219 : decode cX0_readNext 219 = .ok (.getfield 215, 3) := dk_180 0 215 (dk_at dksX0_readNext_9 7 rfl rfl)
theorem dX0_readNext_222 : decode cX0_readNext 222 = .ok (.invokevirtual 220, 3) := dk_182 0 220 (dk_at dksX0_readNext_9 10 rfl rfl)
theorem dX0_readNext_225 : decode cX0_readNext 225 = .ok (.iadd, 1) := dk_96 (dk_at dksX0_readNext_9 13 rfl rfl)
theorem dX0_readNext_226 : decode cX0_readNext 226 = .ok (.bipush 48, 2) := dk_16 48 (dk_at dksX0_readNext_9 14 rfl rfl)
theorem dX0_readNext_228 : decode cX0_readNext 228 = .ok (.isub, 1) := dk_100 (dk_at dksX0_readNext_9 16 rfl rfl)
theorem dX0_readNext_229 : decode cX0_readNext 229 = .ok (.invokestatic 1, 3) := dk_184 0 1 (dk_at dksX0_readNext_9 17 rfl rfl)
theorem dX0_readNext_232 : decode cX0_readNext 232 = .ok (.putfield 243, 3) := dk_181 0 243 (dk_at dksX0_readNext_9 20 rfl rfl)
theorem dX0_readNext_235 : decode cX0_readNext 235 = .ok (.aload_n 0, 1) := dk_42 (dk_at dksX0_readNext_9 23 rfl rfl)
theorem dX0_readNext_236 : decode cX0_readNext 236 = .ok (.dup, 1) := dk_89 (dk_at dksX0_readNext_10 0 rfl rfl)
theorem dX0_readNext_237 : decode cX0_readNext 237 = .ok (.getfield 215, 3) := dk_180 0 215 (dk_at dksX0_readNext_10 1 rfl rfl)
theorem dX0_readNext_240 : decode cX0_readNext 240 = .ok (.iconst 1, 1) := dk_4 (dk_at dksX0_readNext_10 4 rfl rfl)
theorem dX0_readNext_241 : decode cX0_readNext 241 = .ok (.iadd, 1) := dk_96 (dk_at dksX0_readNext_10 5 rfl rfl)
theorem dX0_readNext_242 : decode cX0_readNext 242 = .ok (.putfield 215, 3) := dk_181 0 215 (dk_at dksX0_readNext_10 6 rfl rfl)
theorem dX0_readNext_245 : decode cX0_readNext 245 = .ok (.goto (-53), 3) := dk_167 255 203 (dk_at dksX0_readNext_10 9 rfl rfl)
theorem dX0_readNext_248 : decode cX0_readNext 248 = .ok (.aload_n 0, 1) := dk_42 (dk_at dksX0_readNext_10 12 rfl rfl)
theorem dX0_readNext_249 : decode cX0_readNext 249 = .ok (.getfield 215, 3) := dk_180 0 215 (dk_at dksX0_readNext_10 13 rfl rfl)
theorem dX0_readNext_252 : decode cX0_readNext 252 = .ok (.aload_n 0, 1) := dk_42 (dk_at dksX0_readNext_10 16 rfl rfl)
theorem dX0_readNext_253 : decode cX0_readNext 253 = .ok (.getfield 218, 3) := dk_180 0 218 (dk_at dksX0_readNext_10 17 rfl rfl)
theorem dX0_readNext_256 : decode cX0_readNext 256 = .ok (.isub, 1) := dk_100 (dk_at dksX0_readNext_10 20 rfl rfl)
theorem dX0_readNext_257 : decode cX0_readNext 257 = .ok (.iconst 4, 1) := dk_7 (dk_at dksX0_readNext_10 21 rfl rfl)
theorem dX0_readNext_258 : decode cX0_readNext 258 = .ok (.if_icmp .gt 35, 3) := dk_163 0 35 (dk_at dksX0_readNext_11 0 rfl rfl)
theorem dX0_readNext_261 : decode cX0_readNext 261 = .ok (.aload_n 0, 1) := dk_42 (dk_at dksX0_readNext_11 3 rfl rfl)
theorem dX0_readNext_262 : decode cX0_readNext 262 = .ok (.getstatic 263, 3) := dk_178 1 7 (dk_at dksX0_readNext_11 4 rfl rfl)
theorem dX0_readNext_265 : decode cX0_readNext 265 = .ok (.putfield 227, 3) := dk_181 0 227 (dk_at dksX0_readNext_11 7 rfl rfl)
theorem dX0_readNext_268 : decode cX0_readNext 268 = .ok (.goto 25, 3) := dk_167 0 25 (dk_at dksX0_readNext_11 10 rfl rfl)
theorem dX0_readNext_271 : decode cX0_readNext 271 = .ok (.ldc_w 266, 3) := dk_19 1 10 (dk_at dksX0_readNext_11 13 rfl rfl)
theorem dX0_readNext_274 : decode cX0_readNext 274 = .ok (.iload_n 1, 1) := dk_27 (dk_at dksX0_readNext_11 16 rfl rfl)
theorem dX0_readNext_275 : decode cX0_readNext 275 = .ok (.invokevirtual 268, 3) := dk_182 1 12 (dk_at dksX0_readNext_11 17 rfl rfl)
theorem dX0_readNext_278 : decode cX0_readNext 278 = .ok (.ifCond .lt 15, 3) := dk_155 0 15 (dk_at dksX0_readNext_11 20 rfl rfl)
theorem dX0_readNext_281 : decode cX0_readNext 281 = .ok (.aload_n 0, 1) := dk_42 (dk_at dksX0_readNext_11 23 rfl rfl)
theorem dX0_readNext_282 : decode cX0_readNext 282 = .ok (.getstatic 240, 3) := dk_178 0 240 (dk_at dksX0_readNext_12 0 rfl rfl)
theorem dX0_readNext_285 : decode cX0_readNext 285 = .ok (.putfield 227, 3) := dk_181 0 227 (dk_at dksX0_readNext_12 3 rfl rfl)
theorem dX0_readNext_288 : decode cX0_readNext 288 = .ok (.aload_n 0, 1) := dk_42 (dk_at dksX0_readNext_12 6 rfl rfl)
theorem dX0_readNext_289 : decode cX0_readNext 289 = .ok (.iload_n 1, 1) := dk_27 (dk_at dksX0_readNext_12 7 rfl rfl)
theorem dX0_readNext_290 : decode cX0_readNext 290 = .ok (.putfield 243, 3) := dk_181 0 243 (dk_at dksX0_readNext_12 8 rfl rfl)
theorem dX0_readNext_293 : decode cX0_readNext 293 = .ok (.return_, 1) := dk_177 (dk_at dksX0_readNext_12 11 rfl rfl)
abbrev cX0_raw : ByteArray := prog_1_method_11_code
def yX0_raw : MethodName := ⟨RX0, "raw", "(I)I"⟩
def dkwX0_raw_0 : List UInt8 := [27, 42, 180, 0, 200, 162, 0, 16, 42, 180, 0, 36, 27, 51, 17, 0, 255, 126, 167, 0, 4, 2, 172]
abbrev dktX0_raw_0 : List UInt8 := dkwX0_raw_0 ++ []
theorem dksX0_raw_0 : cX0_raw.data.toList.drop 0 = dktX0_raw_0 := by decide +kernel
theorem dX0_raw_0 : decode cX0_raw 0 = .ok (.iload_n 1, 1) := dk_27 (dk_at dksX0_raw_0 0 rfl rfl)
theorem dX0_raw_1 : decode cX0_raw 1 = .ok (.aload_n 0, 1) := dk_42 (dk_at dksX0_raw_0 1 rfl rfl)
theorem dX0_raw_2 : decode cX0_raw 2 = .ok (.getfield 200, 3) := dk_180 0 200 (dk_at dksX0_raw_0 2 rfl rfl)
theorem dX0_raw_5 : decode cX0_raw 5 = .ok (.if_icmp .ge 16, 3) := dk_162 0 16 (dk_at dksX0_raw_0 5 rfl rfl)
theorem dX0_raw_8 : decode cX0_raw 8 = .ok (.aload_n 0, 1) := dk_42 (dk_at dksX0_raw_0 8 rfl rfl)
theorem dX0_raw_9 : decode cX0_raw 9 = .ok (.getfield 36, 3) := dk_180 0 36 (dk_at dksX0_raw_0 9 rfl rfl)
theorem dX0_raw_12 : decode cX0_raw 12 = .ok (.iload_n 1, 1) := dk_27 (dk_at dksX0_raw_0 12 rfl rfl)
theorem dX0_raw_13 : decode cX0_raw 13 = .ok (.baload, 1) := dk_51 (dk_at dksX0_raw_0 13 rfl rfl)
theorem dX0_raw_14 : decode cX0_raw 14 = .ok (.sipush 255, 3) := dk_17 0 255 (dk_at dksX0_raw_0 14 rfl rfl)
theorem dX0_raw_17 : decode cX0_raw 17 = .ok (.iand, 1) := dk_126 (dk_at dksX0_raw_0 17 rfl rfl)
theorem dX0_raw_18 : decode cX0_raw 18 = .ok (.goto 4, 3) := dk_167 0 4 (dk_at dksX0_raw_0 18 rfl rfl)
theorem dX0_raw_21 : decode cX0_raw 21 = .ok (.iconst (-1), 1) := dk_2 (dk_at dksX0_raw_0 21 rfl rfl)
theorem dX0_raw_22 : decode cX0_raw 22 = .ok (.ireturn, 1) := dk_172 (dk_at dksX0_raw_0 22 rfl rfl)
abbrev cX0_isLetter : ByteArray := prog_1_method_12_code
def yX0_isLetter : MethodName := ⟨RX0, "isLetter", "(I)Z"⟩
def dkwX0_isLetter_1 : List UInt8 := [167, 0, 4, 3, 172]
abbrev dktX0_isLetter_1 : List UInt8 := dkwX0_isLetter_1 ++ []
def dkwX0_isLetter_0 : List UInt8 := [26, 16, 97, 16, 122, 184, 0, 207, 154, 0, 14, 26, 16, 65, 16, 90, 184, 0, 207, 153, 0, 7, 4]
abbrev dktX0_isLetter_0 : List UInt8 := dkwX0_isLetter_0 ++ dktX0_isLetter_1
theorem dksX0_isLetter_0 : cX0_isLetter.data.toList.drop 0 = dktX0_isLetter_0 := by decide +kernel
theorem dksX0_isLetter_1 : cX0_isLetter.data.toList.drop 23 = dktX0_isLetter_1 := dk_seg dksX0_isLetter_0 23 rfl rfl
theorem dX0_isLetter_0 : decode cX0_isLetter 0 = .ok (.iload_n 0, 1) := dk_26 (dk_at dksX0_isLetter_0 0 rfl rfl)
theorem dX0_isLetter_1 : decode cX0_isLetter 1 = .ok (.bipush 97, 2) := dk_16 97 (dk_at dksX0_isLetter_0 1 rfl rfl)
theorem dX0_isLetter_3 : decode cX0_isLetter 3 = .ok (.bipush 122, 2) := dk_16 122 (dk_at dksX0_isLetter_0 3 rfl rfl)
theorem dX0_isLetter_5 : decode cX0_isLetter 5 = .ok (.invokestatic 207, 3) := dk_184 0 207 (dk_at dksX0_isLetter_0 5 rfl rfl)
theorem dX0_isLetter_8 : decode cX0_isLetter 8 = .ok (.ifCond .ne 14, 3) := dk_154 0 14 (dk_at dksX0_isLetter_0 8 rfl rfl)
theorem dX0_isLetter_11 : decode cX0_isLetter 11 = .ok (.iload_n 0, 1) := dk_26 (dk_at dksX0_isLetter_0 11 rfl rfl)
theorem dX0_isLetter_12 : decode cX0_isLetter 12 = .ok (.bipush 65, 2) := dk_16 65 (dk_at dksX0_isLetter_0 12 rfl rfl)
theorem dX0_isLetter_14 : decode cX0_isLetter 14 = .ok (.bipush 90, 2) := dk_16 90 (dk_at dksX0_isLetter_0 14 rfl rfl)
theorem dX0_isLetter_16 : decode cX0_isLetter 16 = .ok (.invokestatic 207, 3) := dk_184 0 207 (dk_at dksX0_isLetter_0 16 rfl rfl)
theorem dX0_isLetter_19 : decode cX0_isLetter 19 = .ok (.ifCond .eq 7, 3) := dk_153 0 7 (dk_at dksX0_isLetter_0 19 rfl rfl)
theorem dX0_isLetter_22 : decode cX0_isLetter 22 = .ok (.iconst 1, 1) := dk_4 (dk_at dksX0_isLetter_0 22 rfl rfl)
theorem dX0_isLetter_23 : decode cX0_isLetter 23 = .ok (.goto 4, 3) := dk_167 0 4 (dk_at dksX0_isLetter_1 0 rfl rfl)
theorem dX0_isLetter_26 : decode cX0_isLetter 26 = .ok (.iconst 0, 1) := dk_3 (dk_at dksX0_isLetter_1 3 rfl rfl)
theorem dX0_isLetter_27 : decode cX0_isLetter 27 = .ok (.ireturn, 1) := dk_172 (dk_at dksX0_isLetter_1 4 rfl rfl)
abbrev cX0_wordOf : ByteArray := prog_1_method_15_code
def yX0_wordOf : MethodName := ⟨RX0, "wordOf", "([Ljava/lang/String;)I"⟩
def dkwX0_wordOf_1 : List UInt8 := [182, 0, 236, 153, 0, 5, 28, 172, 132, 2, 1, 167, 255, 225, 2, 172]
abbrev dktX0_wordOf_1 : List UInt8 := dkwX0_wordOf_1 ++ []
def dkwX0_wordOf_0 : List UInt8 := [3, 61, 28, 43, 190, 162, 0, 31, 42, 180, 0, 227, 178, 0, 231, 166, 0, 21, 42, 43, 28, 50]
abbrev dktX0_wordOf_0 : List UInt8 := dkwX0_wordOf_0 ++ dktX0_wordOf_1
theorem dksX0_wordOf_0 : cX0_wordOf.data.toList.drop 0 = dktX0_wordOf_0 := by decide +kernel
theorem dksX0_wordOf_1 : cX0_wordOf.data.toList.drop 22 = dktX0_wordOf_1 := dk_seg dksX0_wordOf_0 22 rfl rfl
theorem dX0_wordOf_0 : decode cX0_wordOf 0 = .ok (.iconst 0, 1) := dk_3 (dk_at dksX0_wordOf_0 0 rfl rfl)
theorem dX0_wordOf_1 : decode cX0_wordOf 1 = .ok (.istore_n 2, 1) := dk_61 (dk_at dksX0_wordOf_0 1 rfl rfl)
theorem dX0_wordOf_2 : decode cX0_wordOf 2 = .ok (.iload_n 2, 1) := dk_28 (dk_at dksX0_wordOf_0 2 rfl rfl)
theorem dX0_wordOf_3 : decode cX0_wordOf 3 = .ok (.aload_n 1, 1) := dk_43 (dk_at dksX0_wordOf_0 3 rfl rfl)
theorem dX0_wordOf_4 : decode cX0_wordOf 4 = .ok (.arraylength, 1) := dk_190 (dk_at dksX0_wordOf_0 4 rfl rfl)
theorem dX0_wordOf_5 : decode cX0_wordOf 5 = .ok (.if_icmp .ge 31, 3) := dk_162 0 31 (dk_at dksX0_wordOf_0 5 rfl rfl)
theorem dX0_wordOf_8 : decode cX0_wordOf 8 = .ok (.aload_n 0, 1) := dk_42 (dk_at dksX0_wordOf_0 8 rfl rfl)
theorem dX0_wordOf_9 : decode cX0_wordOf 9 = .ok (.getfield 227, 3) := dk_180 0 227 (dk_at dksX0_wordOf_0 9 rfl rfl)
theorem dX0_wordOf_12 : decode cX0_wordOf 12 = .ok (.getstatic 231, 3) := dk_178 0 231 (dk_at dksX0_wordOf_0 12 rfl rfl)
theorem dX0_wordOf_15 : decode cX0_wordOf 15 = .ok (.if_acmp .ne 21, 3) := dk_166 0 21 (dk_at dksX0_wordOf_0 15 rfl rfl)
theorem dX0_wordOf_18 : decode cX0_wordOf 18 = .ok (.aload_n 0, 1) := dk_42 (dk_at dksX0_wordOf_0 18 rfl rfl)
theorem dX0_wordOf_19 : decode cX0_wordOf 19 = .ok (.aload_n 1, 1) := dk_43 (dk_at dksX0_wordOf_0 19 rfl rfl)
theorem dX0_wordOf_20 : decode cX0_wordOf 20 = .ok (.iload_n 2, 1) := dk_28 (dk_at dksX0_wordOf_0 20 rfl rfl)
theorem dX0_wordOf_21 : decode cX0_wordOf 21 = .ok (.aaload, 1) := dk_50 (dk_at dksX0_wordOf_0 21 rfl rfl)
theorem dX0_wordOf_22 : decode cX0_wordOf 22 = .ok (.invokevirtual 236, 3) := dk_182 0 236 (dk_at dksX0_wordOf_1 0 rfl rfl)
theorem dX0_wordOf_25 : decode cX0_wordOf 25 = .ok (.ifCond .eq 5, 3) := dk_153 0 5 (dk_at dksX0_wordOf_1 3 rfl rfl)
theorem dX0_wordOf_28 : decode cX0_wordOf 28 = .ok (.iload_n 2, 1) := dk_28 (dk_at dksX0_wordOf_1 6 rfl rfl)
theorem dX0_wordOf_29 : decode cX0_wordOf 29 = .ok (.ireturn, 1) := dk_172 (dk_at dksX0_wordOf_1 7 rfl rfl)
theorem dX0_wordOf_30 : decode cX0_wordOf 30 = .ok (.iinc 2 1, 3) := dk_132 2 1 (dk_at dksX0_wordOf_1 8 rfl rfl)
theorem dX0_wordOf_33 : decode cX0_wordOf 33 = .ok (.goto (-31), 3) := dk_167 255 225 (dk_at dksX0_wordOf_1 11 rfl rfl)
theorem dX0_wordOf_36 : decode cX0_wordOf 36 = .ok (.iconst (-1), 1) := dk_2 (dk_at dksX0_wordOf_1 14 rfl rfl)
theorem dX0_wordOf_37 : decode cX0_wordOf 37 = .ok (.ireturn, 1) := dk_172 (dk_at dksX0_wordOf_1 15 rfl rfl)
abbrev cX0_spells : ByteArray := prog_1_method_14_code
def yX0_spells : MethodName := ⟨RX0, "spells", "(Ljava/lang/String;)Z"⟩
def dkwX0_spells_2 : List UInt8 := [3, 172, 132, 2, 1, 167, 255, 225, 4, 172]
abbrev dktX0_spells_2 : List UInt8 := dkwX0_spells_2 ++ []
def dkwX0_spells_1 : List UInt8 := [182, 0, 211, 162, 0, 29, 42, 42, 180, 0, 218, 28, 96, 182, 0, 220, 43, 28, 182, 0, 223, 159, 0, 5]
abbrev dktX0_spells_1 : List UInt8 := dkwX0_spells_1 ++ dktX0_spells_2
def dkwX0_spells_0 : List UInt8 := [43, 182, 0, 211, 42, 180, 0, 215, 42, 180, 0, 218, 100, 159, 0, 5, 3, 172, 3, 61, 28, 43]
abbrev dktX0_spells_0 : List UInt8 := dkwX0_spells_0 ++ dktX0_spells_1
theorem dksX0_spells_0 : cX0_spells.data.toList.drop 0 = dktX0_spells_0 := by decide +kernel
theorem dksX0_spells_1 : cX0_spells.data.toList.drop 22 = dktX0_spells_1 := dk_seg dksX0_spells_0 22 rfl rfl
theorem dksX0_spells_2 : cX0_spells.data.toList.drop 46 = dktX0_spells_2 := dk_seg dksX0_spells_1 24 rfl rfl
theorem dX0_spells_0 : decode cX0_spells 0 = .ok (.aload_n 1, 1) := dk_43 (dk_at dksX0_spells_0 0 rfl rfl)
theorem dX0_spells_1 : decode cX0_spells 1 = .ok (.invokevirtual 211, 3) := dk_182 0 211 (dk_at dksX0_spells_0 1 rfl rfl)
theorem dX0_spells_4 : decode cX0_spells 4 = .ok (.aload_n 0, 1) := dk_42 (dk_at dksX0_spells_0 4 rfl rfl)
theorem dX0_spells_5 : decode cX0_spells 5 = .ok (.getfield 215, 3) := dk_180 0 215 (dk_at dksX0_spells_0 5 rfl rfl)
theorem dX0_spells_8 : decode cX0_spells 8 = .ok (.aload_n 0, 1) := dk_42 (dk_at dksX0_spells_0 8 rfl rfl)
theorem dX0_spells_9 : decode cX0_spells 9 = .ok (.getfield 218, 3) := dk_180 0 218 (dk_at dksX0_spells_0 9 rfl rfl)
theorem dX0_spells_12 : decode cX0_spells 12 = .ok (.isub, 1) := dk_100 (dk_at dksX0_spells_0 12 rfl rfl)
theorem dX0_spells_13 : decode cX0_spells 13 = .ok (.if_icmp .eq 5, 3) := dk_159 0 5 (dk_at dksX0_spells_0 13 rfl rfl)
theorem dX0_spells_16 : decode cX0_spells 16 = .ok (.iconst 0, 1) := dk_3 (dk_at dksX0_spells_0 16 rfl rfl)
theorem dX0_spells_17 : decode cX0_spells 17 = .ok (.ireturn, 1) := dk_172 (dk_at dksX0_spells_0 17 rfl rfl)
theorem dX0_spells_18 : decode cX0_spells 18 = .ok (.iconst 0, 1) := dk_3 (dk_at dksX0_spells_0 18 rfl rfl)
theorem dX0_spells_19 : decode cX0_spells 19 = .ok (.istore_n 2, 1) := dk_61 (dk_at dksX0_spells_0 19 rfl rfl)
theorem dX0_spells_20 : decode cX0_spells 20 = .ok (.iload_n 2, 1) := dk_28 (dk_at dksX0_spells_0 20 rfl rfl)
theorem dX0_spells_21 : decode cX0_spells 21 = .ok (.aload_n 1, 1) := dk_43 (dk_at dksX0_spells_0 21 rfl rfl)
theorem dX0_spells_22 : decode cX0_spells 22 = .ok (.invokevirtual 211, 3) := dk_182 0 211 (dk_at dksX0_spells_1 0 rfl rfl)
theorem dX0_spells_25 : decode cX0_spells 25 = .ok (.if_icmp .ge 29, 3) := dk_162 0 29 (dk_at dksX0_spells_1 3 rfl rfl)
theorem dX0_spells_28 : decode cX0_spells 28 = .ok (.aload_n 0, 1) := dk_42 (dk_at dksX0_spells_1 6 rfl rfl)
theorem dX0_spells_29 : decode cX0_spells 29 = .ok (.aload_n 0, 1) := dk_42 (dk_at dksX0_spells_1 7 rfl rfl)
theorem dX0_spells_30 : decode cX0_spells 30 = .ok (.getfield 218, 3) := dk_180 0 218 (dk_at dksX0_spells_1 8 rfl rfl)
theorem dX0_spells_33 : decode cX0_spells 33 = .ok (.iload_n 2, 1) := dk_28 (dk_at dksX0_spells_1 11 rfl rfl)
theorem dX0_spells_34 : decode cX0_spells 34 = .ok (.iadd, 1) := dk_96 (dk_at dksX0_spells_1 12 rfl rfl)
theorem dX0_spells_35 : decode cX0_spells 35 = .ok (.invokevirtual 220, 3) := dk_182 0 220 (dk_at dksX0_spells_1 13 rfl rfl)
theorem dX0_spells_38 : decode cX0_spells 38 = .ok (.aload_n 1, 1) := dk_43 (dk_at dksX0_spells_1 16 rfl rfl)
theorem dX0_spells_39 : decode cX0_spells 39 = .ok (.iload_n 2, 1) := dk_28 (dk_at dksX0_spells_1 17 rfl rfl)
theorem dX0_spells_40 : decode cX0_spells 40 = .ok (.invokevirtual 223, 3) := dk_182 0 223 (dk_at dksX0_spells_1 18 rfl rfl)
theorem dX0_spells_43 : decode cX0_spells 43 = .ok (.if_icmp .eq 5, 3) := dk_159 0 5 (dk_at dksX0_spells_1 21 rfl rfl)
theorem dX0_spells_46 : decode cX0_spells 46 = .ok (.iconst 0, 1) := dk_3 (dk_at dksX0_spells_2 0 rfl rfl)
theorem dX0_spells_47 : decode cX0_spells 47 = .ok (.ireturn, 1) := dk_172 (dk_at dksX0_spells_2 1 rfl rfl)
theorem dX0_spells_48 : decode cX0_spells 48 = .ok (.iinc 2 1, 3) := dk_132 2 1 (dk_at dksX0_spells_2 2 rfl rfl)
theorem dX0_spells_51 : decode cX0_spells 51 = .ok (.goto (-31), 3) := dk_167 255 225 (dk_at dksX0_spells_2 5 rfl rfl)
theorem dX0_spells_54 : decode cX0_spells 54 = .ok (.iconst 1, 1) := dk_4 (dk_at dksX0_spells_2 8 rfl rfl)
theorem dX0_spells_55 : decode cX0_spells 55 = .ok (.ireturn, 1) := dk_172 (dk_at dksX0_spells_2 9 rfl rfl)
abbrev cX0_isDigit : ByteArray := prog_1_method_13_code
def yX0_isDigit : MethodName := ⟨RX0, "isDigit", "(I)Z"⟩
def dkwX0_isDigit_0 : List UInt8 := [26, 16, 48, 16, 57, 184, 0, 207, 172]
abbrev dktX0_isDigit_0 : List UInt8 := dkwX0_isDigit_0 ++ []
theorem dksX0_isDigit_0 : cX0_isDigit.data.toList.drop 0 = dktX0_isDigit_0 := by decide +kernel
theorem dX0_isDigit_0 : decode cX0_isDigit 0 = .ok (.iload_n 0, 1) := dk_26 (dk_at dksX0_isDigit_0 0 rfl rfl)
theorem dX0_isDigit_1 : decode cX0_isDigit 1 = .ok (.bipush 48, 2) := dk_16 48 (dk_at dksX0_isDigit_0 1 rfl rfl)
theorem dX0_isDigit_3 : decode cX0_isDigit 3 = .ok (.bipush 57, 2) := dk_16 57 (dk_at dksX0_isDigit_0 3 rfl rfl)
theorem dX0_isDigit_5 : decode cX0_isDigit 5 = .ok (.invokestatic 207, 3) := dk_184 0 207 (dk_at dksX0_isDigit_0 5 rfl rfl)
theorem dX0_isDigit_8 : decode cX0_isDigit 8 = .ok (.ireturn, 1) := dk_172 (dk_at dksX0_isDigit_0 8 rfl rfl)
abbrev cX0_readsOther : ByteArray := prog_1_method_38_code
def yX0_readsOther : MethodName := ⟨RX0, "readsOther", "(I)I"⟩
def dkwX0_readsOther_4 : List UInt8 := [61, 42, 3, 181, 1, 139, 28, 172]
abbrev dktX0_readsOther_4 : List UInt8 := dkwX0_readsOther_4 ++ []
def dkwX0_readsOther_3 : List UInt8 := [181, 0, 135, 42, 180, 0, 135, 190, 61, 167, 0, 16, 42, 42, 182, 1, 135, 181, 0, 139, 42, 180, 1, 124]
abbrev dktX0_readsOther_3 : List UInt8 := dkwX0_readsOther_3 ++ dktX0_readsOther_4
def dkwX0_readsOther_2 : List UInt8 := [42, 42, 182, 1, 127, 181, 0, 129, 42, 180, 0, 129, 190, 61, 167, 0, 33, 42, 42, 182, 1, 131]
abbrev dktX0_readsOther_2 : List UInt8 := dkwX0_readsOther_2 ++ dktX0_readsOther_3
def dkwX0_readsOther_1 : List UInt8 := [171, 0, 0, 0, 0, 0, 61, 0, 0, 0, 2, 0, 0, 0, 1, 0, 0, 0, 27, 0, 0, 0, 2, 0, 0, 0, 44]
abbrev dktX0_readsOther_1 : List UInt8 := dkwX0_readsOther_1 ++ dktX0_readsOther_2
def dkwX0_readsOther_0 : List UInt8 := [27]
abbrev dktX0_readsOther_0 : List UInt8 := dkwX0_readsOther_0 ++ dktX0_readsOther_1
theorem dksX0_readsOther_0 : cX0_readsOther.data.toList.drop 0 = dktX0_readsOther_0 := by decide +kernel
theorem dksX0_readsOther_1 : cX0_readsOther.data.toList.drop 1 = dktX0_readsOther_1 := dk_seg dksX0_readsOther_0 1 rfl rfl
theorem dksX0_readsOther_2 : cX0_readsOther.data.toList.drop 28 = dktX0_readsOther_2 := dk_seg dksX0_readsOther_1 27 rfl rfl
theorem dksX0_readsOther_3 : cX0_readsOther.data.toList.drop 50 = dktX0_readsOther_3 := dk_seg dksX0_readsOther_2 22 rfl rfl
theorem dksX0_readsOther_4 : cX0_readsOther.data.toList.drop 74 = dktX0_readsOther_4 := dk_seg dksX0_readsOther_3 24 rfl rfl
theorem dX0_readsOther_0 : decode cX0_readsOther 0 = .ok (.iload_n 1, 1) := dk_27 (dk_at dksX0_readsOther_0 0 rfl rfl)
theorem dX0_readsOther_1 : decode cX0_readsOther 1 = .ok (.lookupswitch 61 #[(1, 27), (2, 44)], 27) := by decide +kernel
theorem dX0_readsOther_28 : decode cX0_readsOther 28 = .ok (.aload_n 0, 1) := dk_42 (dk_at dksX0_readsOther_2 0 rfl rfl)
theorem dX0_readsOther_29 : decode cX0_readsOther 29 = .ok (.aload_n 0, 1) := dk_42 (dk_at dksX0_readsOther_2 1 rfl rfl)
theorem dX0_readsOther_30 : decode cX0_readsOther 30 = .ok (.invokevirtual 383, 3) := dk_182 1 127 (dk_at dksX0_readsOther_2 2 rfl rfl)
theorem dX0_readsOther_33 : decode cX0_readsOther 33 = .ok (.putfield 129, 3) := dk_181 0 129 (dk_at dksX0_readsOther_2 5 rfl rfl)
theorem dX0_readsOther_36 : decode cX0_readsOther 36 = .ok (.aload_n 0, 1) := dk_42 (dk_at dksX0_readsOther_2 8 rfl rfl)
theorem dX0_readsOther_37 : decode cX0_readsOther 37 = .ok (.getfield 129, 3) := dk_180 0 129 (dk_at dksX0_readsOther_2 9 rfl rfl)
theorem dX0_readsOther_40 : decode cX0_readsOther 40 = .ok (.arraylength, 1) := dk_190 (dk_at dksX0_readsOther_2 12 rfl rfl)
theorem dX0_readsOther_41 : decode cX0_readsOther 41 = .ok (.istore_n 2, 1) := dk_61 (dk_at dksX0_readsOther_2 13 rfl rfl)
theorem dX0_readsOther_42 : decode cX0_readsOther 42 = .ok (.goto 33, 3) := dk_167 0 33 (dk_at dksX0_readsOther_2 14 rfl rfl)
theorem dX0_readsOther_45 : decode cX0_readsOther 45 = .ok (.aload_n 0, 1) := dk_42 (dk_at dksX0_readsOther_2 17 rfl rfl)
theorem dX0_readsOther_46 : decode cX0_readsOther 46 = .ok (.aload_n 0, 1) := dk_42 (dk_at dksX0_readsOther_2 18 rfl rfl)
theorem dX0_readsOther_47 : decode cX0_readsOther 47 = .ok (.invokevirtual 387, 3) := dk_182 1 131 (dk_at dksX0_readsOther_2 19 rfl rfl)
theorem dX0_readsOther_50 : decode cX0_readsOther 50 = .ok (.putfield 135, 3) := dk_181 0 135 (dk_at dksX0_readsOther_3 0 rfl rfl)
theorem dX0_readsOther_53 : decode cX0_readsOther 53 = .ok (.aload_n 0, 1) := dk_42 (dk_at dksX0_readsOther_3 3 rfl rfl)
theorem dX0_readsOther_54 : decode cX0_readsOther 54 = .ok (.getfield 135, 3) := dk_180 0 135 (dk_at dksX0_readsOther_3 4 rfl rfl)
theorem dX0_readsOther_57 : decode cX0_readsOther 57 = .ok (.arraylength, 1) := dk_190 (dk_at dksX0_readsOther_3 7 rfl rfl)
theorem dX0_readsOther_58 : decode cX0_readsOther 58 = .ok (.istore_n 2, 1) := dk_61 (dk_at dksX0_readsOther_3 8 rfl rfl)
theorem dX0_readsOther_59 : decode cX0_readsOther 59 = .ok (.goto 16, 3) := dk_167 0 16 (dk_at dksX0_readsOther_3 9 rfl rfl)
theorem dX0_readsOther_62 : decode cX0_readsOther 62 = .ok (.aload_n 0, 1) := dk_42 (dk_at dksX0_readsOther_3 12 rfl rfl)
theorem dX0_readsOther_63 : decode cX0_readsOther 63 = .ok (.aload_n 0, 1) := dk_42 (dk_at dksX0_readsOther_3 13 rfl rfl)
theorem dX0_readsOther_64 : decode cX0_readsOther 64 = .ok (.invokevirtual 391, 3) := dk_182 1 135 (dk_at dksX0_readsOther_3 14 rfl rfl)
theorem dX0_readsOther_67 : decode cX0_readsOther 67 = .ok (.putfield 139, 3) := dk_181 0 139 (dk_at dksX0_readsOther_3 17 rfl rfl)
theorem dX0_readsOther_70 : decode cX0_readsOther 70 = .ok (.aload_n 0, 1) := dk_42 (dk_at dksX0_readsOther_3 20 rfl rfl)
theorem dX0_readsOther_71 : decode cX0_readsOther 71 = .ok (.getfield 380, 3) := dk_180 1 124 (dk_at dksX0_readsOther_3 21 rfl rfl)
theorem dX0_readsOther_74 : decode cX0_readsOther 74 = .ok (.istore_n 2, 1) := dk_61 (dk_at dksX0_readsOther_4 0 rfl rfl)
theorem dX0_readsOther_75 : decode cX0_readsOther 75 = .ok (.aload_n 0, 1) := dk_42 (dk_at dksX0_readsOther_4 1 rfl rfl)
theorem dX0_readsOther_76 : decode cX0_readsOther 76 = .ok (.iconst 0, 1) := dk_3 (dk_at dksX0_readsOther_4 2 rfl rfl)
theorem dX0_readsOther_77 : decode cX0_readsOther 77 = .ok (.putfield 395, 3) := dk_181 1 139 (dk_at dksX0_readsOther_4 3 rfl rfl)
theorem dX0_readsOther_80 : decode cX0_readsOther 80 = .ok (.iload_n 2, 1) := dk_28 (dk_at dksX0_readsOther_4 6 rfl rfl)
theorem dX0_readsOther_81 : decode cX0_readsOther 81 = .ok (.ireturn, 1) := dk_172 (dk_at dksX0_readsOther_4 7 rfl rfl)
abbrev cX0_readsStatute : ByteArray := prog_1_method_34_code
def yX0_readsStatute : MethodName := ⟨RX0, "readsStatute", "()[LEncores$Rule;"⟩
def dkwX0_readsStatute_3 : List UInt8 := [162, 0, 17, 45, 21, 4, 43, 21, 4, 50, 83, 132, 4, 1, 167, 255, 238, 45, 176]
abbrev dktX0_readsStatute_3 : List UInt8 := dkwX0_readsStatute_3 ++ []
def dkwX0_readsStatute_2 : List UInt8 := [16, 59, 182, 1, 70, 132, 2, 1, 167, 255, 208, 28, 189, 0, 127, 78, 3, 54, 4, 21, 4, 45, 190]
abbrev dktX0_readsStatute_2 : List UInt8 := dkwX0_readsStatute_2 ++ dktX0_readsStatute_3
def dkwX0_readsStatute_1 : List UInt8 := [182, 0, 255, 3, 6, 184, 0, 207, 182, 1, 24, 42, 28, 182, 1, 83, 43, 28, 42, 182, 1, 116, 83, 42]
abbrev dktX0_readsStatute_1 : List UInt8 := dkwX0_readsStatute_1 ++ dktX0_readsStatute_2
def dkwX0_readsStatute_0 : List UInt8 := [16, 16, 189, 0, 127, 76, 3, 61, 42, 180, 0, 227, 178, 0, 246, 165, 0, 44, 42, 42, 42, 180, 0, 103]
abbrev dktX0_readsStatute_0 : List UInt8 := dkwX0_readsStatute_0 ++ dktX0_readsStatute_1
theorem dksX0_readsStatute_0 : cX0_readsStatute.data.toList.drop 0 = dktX0_readsStatute_0 := by decide +kernel
theorem dksX0_readsStatute_1 : cX0_readsStatute.data.toList.drop 24 = dktX0_readsStatute_1 := dk_seg dksX0_readsStatute_0 24 rfl rfl
theorem dksX0_readsStatute_2 : cX0_readsStatute.data.toList.drop 48 = dktX0_readsStatute_2 := dk_seg dksX0_readsStatute_1 24 rfl rfl
theorem dksX0_readsStatute_3 : cX0_readsStatute.data.toList.drop 71 = dktX0_readsStatute_3 := dk_seg dksX0_readsStatute_2 23 rfl rfl
theorem dX0_readsStatute_0 : decode cX0_readsStatute 0 = .ok (.bipush 16, 2) := dk_16 16 (dk_at dksX0_readsStatute_0 0 rfl rfl)
theorem dX0_readsStatute_2 : decode cX0_readsStatute 2 = .ok (.anewarray 127, 3) := dk_189 0 127 (dk_at dksX0_readsStatute_0 2 rfl rfl)
theorem dX0_readsStatute_5 : decode cX0_readsStatute 5 = .ok (.astore_n 1, 1) := dk_76 (dk_at dksX0_readsStatute_0 5 rfl rfl)
theorem dX0_readsStatute_6 : decode cX0_readsStatute 6 = .ok (.iconst 0, 1) := dk_3 (dk_at dksX0_readsStatute_0 6 rfl rfl)
theorem dX0_readsStatute_7 : decode cX0_readsStatute 7 = .ok (.istore_n 2, 1) := dk_61 (dk_at dksX0_readsStatute_0 7 rfl rfl)
theorem dX0_readsStatute_8 : decode cX0_readsStatute 8 = .ok (.aload_n 0, 1) := dk_42 (dk_at dksX0_readsStatute_0 8 rfl rfl)
theorem dX0_readsStatute_9 : decode cX0_readsStatute 9 = .ok (.getfield 227, 3) := dk_180 0 227 (dk_at dksX0_readsStatute_0 9 rfl rfl)
theorem dX0_readsStatute_12 : decode cX0_readsStatute 12 = .ok (.getstatic 246, 3) := dk_178 0 246 (dk_at dksX0_readsStatute_0 12 rfl rfl)
theorem dX0_readsStatute_15 : decode cX0_readsStatute 15 = .ok (.if_acmp .eq 44, 3) := dk_165 0 44 (dk_at dksX0_readsStatute_0 15 rfl rfl)
theorem dX0_readsStatute_18 : decode cX0_readsStatute 18 = .ok (.aload_n 0, 1) := dk_42 (dk_at dksX0_readsStatute_0 18 rfl rfl)
theorem dX0_readsStatute_19 : decode cX0_readsStatute 19 = .ok (.aload_n 0, 1) := dk_42 (dk_at dksX0_readsStatute_0 19 rfl rfl)
theorem dX0_readsStatute_20 : decode cX0_readsStatute 20 = .ok (.aload_n 0, 1) := dk_42 (dk_at dksX0_readsStatute_0 20 rfl rfl)
theorem dX0_readsStatute_21 : decode cX0_readsStatute 21 = .ok (.getfield 103, 3) := dk_180 0 103 (dk_at dksX0_readsStatute_0 21 rfl rfl)
theorem dX0_readsStatute_24 : decode cX0_readsStatute 24 = .ok (.invokevirtual 255, 3) := dk_182 0 255 (dk_at dksX0_readsStatute_1 0 rfl rfl)
theorem dX0_readsStatute_27 : decode cX0_readsStatute 27 = .ok (.iconst 0, 1) := dk_3 (dk_at dksX0_readsStatute_1 3 rfl rfl)
theorem dX0_readsStatute_28 : decode cX0_readsStatute 28 = .ok (.iconst 3, 1) := dk_6 (dk_at dksX0_readsStatute_1 4 rfl rfl)
theorem dX0_readsStatute_29 : decode cX0_readsStatute 29 = .ok (.invokestatic 207, 3) := dk_184 0 207 (dk_at dksX0_readsStatute_1 5 rfl rfl)
theorem dX0_readsStatute_32 : decode cX0_readsStatute 32 = .ok (.invokevirtual 280, 3) := dk_182 1 24 (dk_at dksX0_readsStatute_1 8 rfl rfl)
theorem dX0_readsStatute_35 : decode cX0_readsStatute 35 = .ok (.aload_n 0, 1) := dk_42 (dk_at dksX0_readsStatute_1 11 rfl rfl)
theorem dX0_readsStatute_36 : decode cX0_readsStatute 36 = .ok (.iload_n 2, 1) := dk_28 (dk_at dksX0_readsStatute_1 12 rfl rfl)
theorem dX0_readsStatute_37 : decode cX0_readsStatute 37 = .ok (.invokevirtual 339, 3) := dk_182 1 83 (dk_at dksX0_readsStatute_1 13 rfl rfl)
theorem dX0_readsStatute_40 : decode cX0_readsStatute 40 = .ok (.aload_n 1, 1) := dk_43 (dk_at dksX0_readsStatute_1 16 rfl rfl)
theorem dX0_readsStatute_41 : decode cX0_readsStatute 41 = .ok (.iload_n 2, 1) := dk_28 (dk_at dksX0_readsStatute_1 17 rfl rfl)
theorem dX0_readsStatute_42 : decode cX0_readsStatute 42 = .ok (.aload_n 0, 1) := dk_42 (dk_at dksX0_readsStatute_1 18 rfl rfl)
theorem dX0_readsStatute_43 : decode cX0_readsStatute 43 = .ok (.invokevirtual 372, 3) := dk_182 1 116 (dk_at dksX0_readsStatute_1 19 rfl rfl)
theorem dX0_readsStatute_46 : decode cX0_readsStatute 46 = .ok (.aastore, 1) := dk_83 (dk_at dksX0_readsStatute_1 22 rfl rfl)
theorem dX0_readsStatute_47 : decode cX0_readsStatute 47 = .ok (.aload_n 0, 1) := dk_42 (dk_at dksX0_readsStatute_1 23 rfl rfl)
theorem dX0_readsStatute_48 : decode cX0_readsStatute 48 = .ok (.bipush 59, 2) := dk_16 59 (dk_at dksX0_readsStatute_2 0 rfl rfl)
theorem dX0_readsStatute_50 : decode cX0_readsStatute 50 = .ok (.invokevirtual 326, 3) := dk_182 1 70 (dk_at dksX0_readsStatute_2 2 rfl rfl)
theorem dX0_readsStatute_53 : decode cX0_readsStatute 53 = .ok (.iinc 2 1, 3) := dk_132 2 1 (dk_at dksX0_readsStatute_2 5 rfl rfl)
theorem dX0_readsStatute_56 : decode cX0_readsStatute 56 = .ok (.goto (-48), 3) := dk_167 255 208 (dk_at dksX0_readsStatute_2 8 rfl rfl)
theorem dX0_readsStatute_59 : decode cX0_readsStatute 59 = .ok (.iload_n 2, 1) := dk_28 (dk_at dksX0_readsStatute_2 11 rfl rfl)
theorem dX0_readsStatute_60 : decode cX0_readsStatute 60 = .ok (.anewarray 127, 3) := dk_189 0 127 (dk_at dksX0_readsStatute_2 12 rfl rfl)
theorem dX0_readsStatute_63 : decode cX0_readsStatute 63 = .ok (.astore_n 3, 1) := dk_78 (dk_at dksX0_readsStatute_2 15 rfl rfl)
theorem dX0_readsStatute_64 : decode cX0_readsStatute 64 = .ok (.iconst 0, 1) := dk_3 (dk_at dksX0_readsStatute_2 16 rfl rfl)
theorem dX0_readsStatute_65 : decode cX0_readsStatute 65 = .ok (.istore 4, 2) := dk_54 4 (dk_at dksX0_readsStatute_2 17 rfl rfl)
theorem dX0_readsStatute_67 : decode cX0_readsStatute 67 = .ok (.iload 4, 2) := dk_21 4 (dk_at dksX0_readsStatute_2 19 rfl rfl)
theorem dX0_readsStatute_69 : decode cX0_readsStatute 69 = .ok (.aload_n 3, 1) := dk_45 (dk_at dksX0_readsStatute_2 21 rfl rfl)
theorem dX0_readsStatute_70 : decode cX0_readsStatute 70 = .ok (.arraylength, 1) := dk_190 (dk_at dksX0_readsStatute_2 22 rfl rfl)
theorem dX0_readsStatute_71 : decode cX0_readsStatute 71 = .ok (.if_icmp .ge 17, 3) := dk_162 0 17 (dk_at dksX0_readsStatute_3 0 rfl rfl)
theorem dX0_readsStatute_74 : decode cX0_readsStatute 74 = .ok (.aload_n 3, 1) := dk_45 (dk_at dksX0_readsStatute_3 3 rfl rfl)
theorem dX0_readsStatute_75 : decode cX0_readsStatute 75 = .ok (.iload 4, 2) := dk_21 4 (dk_at dksX0_readsStatute_3 4 rfl rfl)
theorem dX0_readsStatute_77 : decode cX0_readsStatute 77 = .ok (.aload_n 1, 1) := dk_43 (dk_at dksX0_readsStatute_3 6 rfl rfl)
theorem dX0_readsStatute_78 : decode cX0_readsStatute 78 = .ok (.iload 4, 2) := dk_21 4 (dk_at dksX0_readsStatute_3 7 rfl rfl)
theorem dX0_readsStatute_80 : decode cX0_readsStatute 80 = .ok (.aaload, 1) := dk_50 (dk_at dksX0_readsStatute_3 9 rfl rfl)
theorem dX0_readsStatute_81 : decode cX0_readsStatute 81 = .ok (.aastore, 1) := dk_83 (dk_at dksX0_readsStatute_3 10 rfl rfl)
theorem dX0_readsStatute_82 : decode cX0_readsStatute 82 = .ok (.iinc 4 1, 3) := dk_132 4 1 (dk_at dksX0_readsStatute_3 11 rfl rfl)
theorem dX0_readsStatute_85 : decode cX0_readsStatute 85 = .ok (.goto (-18), 3) := dk_167 255 238 (dk_at dksX0_readsStatute_3 14 rfl rfl)
theorem dX0_readsStatute_88 : decode cX0_readsStatute 88 = .ok (.aload_n 3, 1) := dk_45 (dk_at dksX0_readsStatute_3 17 rfl rfl)
theorem dX0_readsStatute_89 : decode cX0_readsStatute 89 = .ok (.areturn, 1) := dk_176 (dk_at dksX0_readsStatute_3 18 rfl rfl)
abbrev cX0_must : ByteArray := prog_1_method_19_code
def yX0_must : MethodName := ⟨RX0, "must", "(Z)V"⟩
def dkwX0_must_0 : List UInt8 := [27, 154, 0, 16, 187, 1, 15, 89, 4, 42, 180, 0, 218, 183, 1, 17, 191, 177]
abbrev dktX0_must_0 : List UInt8 := dkwX0_must_0 ++ []
theorem dksX0_must_0 : cX0_must.data.toList.drop 0 = dktX0_must_0 := by decide +kernel
theorem dX0_must_0 : decode cX0_must 0 = .ok (.iload_n 1, 1) := dk_27 (dk_at dksX0_must_0 0 rfl rfl)
theorem dX0_must_1 : decode cX0_must 1 = .ok (.ifCond .ne 16, 3) := dk_154 0 16 (dk_at dksX0_must_0 1 rfl rfl)
theorem dX0_must_4 : decode cX0_must 4 = .ok (.new 271, 3) := dk_187 1 15 (dk_at dksX0_must_0 4 rfl rfl)
theorem dX0_must_7 : decode cX0_must 7 = .ok (.dup, 1) := dk_89 (dk_at dksX0_must_0 7 rfl rfl)
theorem dX0_must_8 : decode cX0_must 8 = .ok (.iconst 1, 1) := dk_4 (dk_at dksX0_must_0 8 rfl rfl)
theorem dX0_must_9 : decode cX0_must 9 = .ok (.aload_n 0, 1) := dk_42 (dk_at dksX0_must_0 9 rfl rfl)
theorem dX0_must_10 : decode cX0_must 10 = .ok (.getfield 218, 3) := dk_180 0 218 (dk_at dksX0_must_0 10 rfl rfl)
theorem dX0_must_13 : decode cX0_must 13 = .ok (.invokespecial 273, 3) := dk_183 1 17 (dk_at dksX0_must_0 13 rfl rfl)
theorem dX0_must_16 : decode cX0_must 16 = .ok (.athrow, 1) := dk_191 (dk_at dksX0_must_0 16 rfl rfl)
theorem dX0_must_17 : decode cX0_must 17 = .ok (.return_, 1) := dk_177 (dk_at dksX0_must_0 17 rfl rfl)
abbrev cX0_isRoom : ByteArray := prog_1_method_30_code
def yX0_isRoom : MethodName := ⟨RX0, "isRoom", "(I)V"⟩
def dkwX0_isRoom_0 : List UInt8 := [27, 16, 16, 160, 0, 16, 187, 1, 15, 89, 6, 42, 180, 0, 218, 183, 1, 17, 191, 177]
abbrev dktX0_isRoom_0 : List UInt8 := dkwX0_isRoom_0 ++ []
theorem dksX0_isRoom_0 : cX0_isRoom.data.toList.drop 0 = dktX0_isRoom_0 := by decide +kernel
theorem dX0_isRoom_0 : decode cX0_isRoom 0 = .ok (.iload_n 1, 1) := dk_27 (dk_at dksX0_isRoom_0 0 rfl rfl)
theorem dX0_isRoom_1 : decode cX0_isRoom 1 = .ok (.bipush 16, 2) := dk_16 16 (dk_at dksX0_isRoom_0 1 rfl rfl)
theorem dX0_isRoom_3 : decode cX0_isRoom 3 = .ok (.if_icmp .ne 16, 3) := dk_160 0 16 (dk_at dksX0_isRoom_0 3 rfl rfl)
theorem dX0_isRoom_6 : decode cX0_isRoom 6 = .ok (.new 271, 3) := dk_187 1 15 (dk_at dksX0_isRoom_0 6 rfl rfl)
theorem dX0_isRoom_9 : decode cX0_isRoom 9 = .ok (.dup, 1) := dk_89 (dk_at dksX0_isRoom_0 9 rfl rfl)
theorem dX0_isRoom_10 : decode cX0_isRoom 10 = .ok (.iconst 3, 1) := dk_6 (dk_at dksX0_isRoom_0 10 rfl rfl)
theorem dX0_isRoom_11 : decode cX0_isRoom 11 = .ok (.aload_n 0, 1) := dk_42 (dk_at dksX0_isRoom_0 11 rfl rfl)
theorem dX0_isRoom_12 : decode cX0_isRoom 12 = .ok (.getfield 218, 3) := dk_180 0 218 (dk_at dksX0_isRoom_0 12 rfl rfl)
theorem dX0_isRoom_15 : decode cX0_isRoom 15 = .ok (.invokespecial 273, 3) := dk_183 1 17 (dk_at dksX0_isRoom_0 15 rfl rfl)
theorem dX0_isRoom_18 : decode cX0_isRoom 18 = .ok (.athrow, 1) := dk_191 (dk_at dksX0_isRoom_0 18 rfl rfl)
theorem dX0_isRoom_19 : decode cX0_isRoom 19 = .ok (.return_, 1) := dk_177 (dk_at dksX0_isRoom_0 19 rfl rfl)
abbrev cX0_rule : ByteArray := prog_1_method_33_code
def yX0_rule : MethodName := ⟨RX0, "rule", "()LEncores$Rule;"⟩
def dkwX0_rule_5 : List UInt8 := [4, 17, 39, 15, 182, 1, 103, 3, 183, 1, 110, 176]
abbrev dktX0_rule_5 : List UInt8 := dkwX0_rule_5 ++ []
def dkwX0_rule_4 : List UInt8 := [89, 27, 42, 3, 42, 180, 1, 113, 4, 100, 182, 1, 103, 3, 183, 1, 110, 176, 187, 0, 127, 89, 27, 42]
abbrev dktX0_rule_4 : List UInt8 := dkwX0_rule_4 ++ dktX0_rule_5
def dkwX0_rule_3 : List UInt8 := [183, 1, 110, 176, 187, 0, 127, 89, 27, 42, 3, 16, 20, 182, 1, 103, 3, 183, 1, 110, 176, 187, 0, 127]
abbrev dktX0_rule_3 : List UInt8 := dkwX0_rule_3 ++ dktX0_rule_4
def dkwX0_rule_2 : List UInt8 := [42, 4, 16, 99, 182, 1, 103, 61, 187, 0, 127, 89, 27, 28, 42, 18, 58, 3, 17, 39, 15, 182, 1, 106]
abbrev dktX0_rule_2 : List UInt8 := dkwX0_rule_2 ++ dktX0_rule_3
def dkwX0_rule_1 : List UInt8 := [170, 0, 0, 0, 0, 0, 0, 94, 0, 0, 0, 0, 0, 0, 0, 2, 0, 0, 0, 28, 0, 0, 0, 56, 0, 0, 0, 73]
abbrev dktX0_rule_1 : List UInt8 := dkwX0_rule_1 ++ dktX0_rule_2
def dkwX0_rule_0 : List UInt8 := [42, 42, 180, 0, 103, 182, 0, 255, 60, 42, 27, 3, 6, 184, 0, 207, 182, 1, 24, 42, 182, 1, 28, 27]
abbrev dktX0_rule_0 : List UInt8 := dkwX0_rule_0 ++ dktX0_rule_1
theorem dksX0_rule_0 : cX0_rule.data.toList.drop 0 = dktX0_rule_0 := by decide +kernel
theorem dksX0_rule_1 : cX0_rule.data.toList.drop 24 = dktX0_rule_1 := dk_seg dksX0_rule_0 24 rfl rfl
theorem dksX0_rule_2 : cX0_rule.data.toList.drop 52 = dktX0_rule_2 := dk_seg dksX0_rule_1 28 rfl rfl
theorem dksX0_rule_3 : cX0_rule.data.toList.drop 76 = dktX0_rule_3 := dk_seg dksX0_rule_2 24 rfl rfl
theorem dksX0_rule_4 : cX0_rule.data.toList.drop 100 = dktX0_rule_4 := dk_seg dksX0_rule_3 24 rfl rfl
theorem dksX0_rule_5 : cX0_rule.data.toList.drop 124 = dktX0_rule_5 := dk_seg dksX0_rule_4 24 rfl rfl
theorem dX0_rule_0 : decode cX0_rule 0 = .ok (.aload_n 0, 1) := dk_42 (dk_at dksX0_rule_0 0 rfl rfl)
theorem dX0_rule_1 : decode cX0_rule 1 = .ok (.aload_n 0, 1) := dk_42 (dk_at dksX0_rule_0 1 rfl rfl)
theorem dX0_rule_2 : decode cX0_rule 2 = .ok (.getfield 103, 3) := dk_180 0 103 (dk_at dksX0_rule_0 2 rfl rfl)
theorem dX0_rule_5 : decode cX0_rule 5 = .ok (.invokevirtual 255, 3) := dk_182 0 255 (dk_at dksX0_rule_0 5 rfl rfl)
theorem dX0_rule_8 : decode cX0_rule 8 = .ok (.istore_n 1, 1) := dk_60 (dk_at dksX0_rule_0 8 rfl rfl)
theorem dX0_rule_9 : decode cX0_rule 9 = .ok (.aload_n 0, 1) := dk_42 (dk_at dksX0_rule_0 9 rfl rfl)
theorem dX0_rule_10 : decode cX0_rule 10 = .ok (.iload_n 1, 1) := dk_27 (dk_at dksX0_rule_0 10 rfl rfl)
theorem dX0_rule_11 : decode cX0_rule 11 = .ok (.iconst 0, 1) := dk_3 (dk_at dksX0_rule_0 11 rfl rfl)
theorem dX0_rule_12 : decode cX0_rule 12 = .ok (.iconst 3, 1) := dk_6 (dk_at dksX0_rule_0 12 rfl rfl)
theorem dX0_rule_13 : decode cX0_rule 13 = .ok (.invokestatic 207, 3) := dk_184 0 207 (dk_at dksX0_rule_0 13 rfl rfl)
theorem dX0_rule_16 : decode cX0_rule 16 = .ok (.invokevirtual 280, 3) := dk_182 1 24 (dk_at dksX0_rule_0 16 rfl rfl)
theorem dX0_rule_19 : decode cX0_rule 19 = .ok (.aload_n 0, 1) := dk_42 (dk_at dksX0_rule_0 19 rfl rfl)
theorem dX0_rule_20 : decode cX0_rule 20 = .ok (.invokevirtual 284, 3) := dk_182 1 28 (dk_at dksX0_rule_0 20 rfl rfl)
theorem dX0_rule_23 : decode cX0_rule 23 = .ok (.iload_n 1, 1) := dk_27 (dk_at dksX0_rule_0 23 rfl rfl)
theorem dX0_rule_24 : decode cX0_rule 24 = .ok (.tableswitch 94 0 2 #[28, 56, 73], 28) := by decide +kernel
theorem dX0_rule_52 : decode cX0_rule 52 = .ok (.aload_n 0, 1) := dk_42 (dk_at dksX0_rule_2 0 rfl rfl)
theorem dX0_rule_53 : decode cX0_rule 53 = .ok (.iconst 1, 1) := dk_4 (dk_at dksX0_rule_2 1 rfl rfl)
theorem dX0_rule_54 : decode cX0_rule 54 = .ok (.bipush 99, 2) := dk_16 99 (dk_at dksX0_rule_2 2 rfl rfl)
theorem dX0_rule_56 : decode cX0_rule 56 = .ok (.invokevirtual 359, 3) := dk_182 1 103 (dk_at dksX0_rule_2 4 rfl rfl)
theorem dX0_rule_59 : decode cX0_rule 59 = .ok (.istore_n 2, 1) := dk_61 (dk_at dksX0_rule_2 7 rfl rfl)
theorem dX0_rule_60 : decode cX0_rule 60 = .ok (.new 127, 3) := dk_187 0 127 (dk_at dksX0_rule_2 8 rfl rfl)
theorem dX0_rule_63 : decode cX0_rule 63 = .ok (.dup, 1) := dk_89 (dk_at dksX0_rule_2 11 rfl rfl)
theorem dX0_rule_64 : decode cX0_rule 64 = .ok (.iload_n 1, 1) := dk_27 (dk_at dksX0_rule_2 12 rfl rfl)
theorem dX0_rule_65 : decode cX0_rule 65 = .ok (.iload_n 2, 1) := dk_28 (dk_at dksX0_rule_2 13 rfl rfl)
theorem dX0_rule_66 : decode cX0_rule 66 = .ok (.aload_n 0, 1) := dk_42 (dk_at dksX0_rule_2 14 rfl rfl)
theorem dX0_rule_67 : decode cX0_rule 67 = .ok (.ldc 58, 2) := dk_18 58 (dk_at dksX0_rule_2 15 rfl rfl)
theorem dX0_rule_69 : decode cX0_rule 69 = .ok (.iconst 0, 1) := dk_3 (dk_at dksX0_rule_2 17 rfl rfl)
theorem dX0_rule_70 : decode cX0_rule 70 = .ok (.sipush 9999, 3) := dk_17 39 15 (dk_at dksX0_rule_2 18 rfl rfl)
theorem dX0_rule_73 : decode cX0_rule 73 = .ok (.invokevirtual 362, 3) := dk_182 1 106 (dk_at dksX0_rule_2 21 rfl rfl)
theorem dX0_rule_76 : decode cX0_rule 76 = .ok (.invokespecial 366, 3) := dk_183 1 110 (dk_at dksX0_rule_3 0 rfl rfl)
theorem dX0_rule_79 : decode cX0_rule 79 = .ok (.areturn, 1) := dk_176 (dk_at dksX0_rule_3 3 rfl rfl)
theorem dX0_rule_80 : decode cX0_rule 80 = .ok (.new 127, 3) := dk_187 0 127 (dk_at dksX0_rule_3 4 rfl rfl)
theorem dX0_rule_83 : decode cX0_rule 83 = .ok (.dup, 1) := dk_89 (dk_at dksX0_rule_3 7 rfl rfl)
theorem dX0_rule_84 : decode cX0_rule 84 = .ok (.iload_n 1, 1) := dk_27 (dk_at dksX0_rule_3 8 rfl rfl)
theorem dX0_rule_85 : decode cX0_rule 85 = .ok (.aload_n 0, 1) := dk_42 (dk_at dksX0_rule_3 9 rfl rfl)
theorem dX0_rule_86 : decode cX0_rule 86 = .ok (.iconst 0, 1) := dk_3 (dk_at dksX0_rule_3 10 rfl rfl)
theorem dX0_rule_87 : decode cX0_rule 87 = .ok (.bipush 20, 2) := dk_16 20 (dk_at dksX0_rule_3 11 rfl rfl)
theorem dX0_rule_89 : decode cX0_rule 89 = .ok (.invokevirtual 359, 3) := dk_182 1 103 (dk_at dksX0_rule_3 13 rfl rfl)
theorem dX0_rule_92 : decode cX0_rule 92 = .ok (.iconst 0, 1) := dk_3 (dk_at dksX0_rule_3 16 rfl rfl)
theorem dX0_rule_93 : decode cX0_rule 93 = .ok (.invokespecial 366, 3) := dk_183 1 110 (dk_at dksX0_rule_3 17 rfl rfl)
theorem dX0_rule_96 : decode cX0_rule 96 = .ok (.areturn, 1) := dk_176 (dk_at dksX0_rule_3 20 rfl rfl)
theorem dX0_rule_97 : decode cX0_rule 97 = .ok (.new 127, 3) := dk_187 0 127 (dk_at dksX0_rule_3 21 rfl rfl)
theorem dX0_rule_100 : decode cX0_rule 100 = .ok (.dup, 1) := dk_89 (dk_at dksX0_rule_4 0 rfl rfl)
theorem dX0_rule_101 : decode cX0_rule 101 = .ok (.iload_n 1, 1) := dk_27 (dk_at dksX0_rule_4 1 rfl rfl)
theorem dX0_rule_102 : decode cX0_rule 102 = .ok (.aload_n 0, 1) := dk_42 (dk_at dksX0_rule_4 2 rfl rfl)
theorem dX0_rule_103 : decode cX0_rule 103 = .ok (.iconst 0, 1) := dk_3 (dk_at dksX0_rule_4 3 rfl rfl)
theorem dX0_rule_104 : decode cX0_rule 104 = .ok (.aload_n 0, 1) := dk_42 (dk_at dksX0_rule_4 4 rfl rfl)
theorem dX0_rule_105 : decode cX0_rule 105 = .ok (.getfield 369, 3) := dk_180 1 113 (dk_at dksX0_rule_4 5 rfl rfl)
theorem dX0_rule_108 : decode cX0_rule 108 = .ok (.iconst 1, 1) := dk_4 (dk_at dksX0_rule_4 8 rfl rfl)
theorem dX0_rule_109 : decode cX0_rule 109 = .ok (.isub, 1) := dk_100 (dk_at dksX0_rule_4 9 rfl rfl)
theorem dX0_rule_110 : decode cX0_rule 110 = .ok (.invokevirtual 359, 3) := dk_182 1 103 (dk_at dksX0_rule_4 10 rfl rfl)
theorem dX0_rule_113 : decode cX0_rule 113 = .ok (.iconst 0, 1) := dk_3 (dk_at dksX0_rule_4 13 rfl rfl)
theorem dX0_rule_114 : decode cX0_rule 114 = .ok (.invokespecial 366, 3) := dk_183 1 110 (dk_at dksX0_rule_4 14 rfl rfl)
theorem dX0_rule_117 : decode cX0_rule 117 = .ok (.areturn, 1) := dk_176 (dk_at dksX0_rule_4 17 rfl rfl)
theorem dX0_rule_118 : decode cX0_rule 118 = .ok (.new 127, 3) := dk_187 0 127 (dk_at dksX0_rule_4 18 rfl rfl)
theorem dX0_rule_121 : decode cX0_rule 121 = .ok (.dup, 1) := dk_89 (dk_at dksX0_rule_4 21 rfl rfl)
theorem dX0_rule_122 : decode cX0_rule 122 = .ok (.iload_n 1, 1) := dk_27 (dk_at dksX0_rule_4 22 rfl rfl)
theorem dX0_rule_123 : decode cX0_rule 123 = .ok (.aload_n 0, 1) := dk_42 (dk_at dksX0_rule_4 23 rfl rfl)
theorem dX0_rule_124 : decode cX0_rule 124 = .ok (.iconst 1, 1) := dk_4 (dk_at dksX0_rule_5 0 rfl rfl)
theorem dX0_rule_125 : decode cX0_rule 125 = .ok (.sipush 9999, 3) := dk_17 39 15 (dk_at dksX0_rule_5 1 rfl rfl)
theorem dX0_rule_128 : decode cX0_rule 128 = .ok (.invokevirtual 359, 3) := dk_182 1 103 (dk_at dksX0_rule_5 4 rfl rfl)
theorem dX0_rule_131 : decode cX0_rule 131 = .ok (.iconst 0, 1) := dk_3 (dk_at dksX0_rule_5 7 rfl rfl)
theorem dX0_rule_132 : decode cX0_rule 132 = .ok (.invokespecial 366, 3) := dk_183 1 110 (dk_at dksX0_rule_5 8 rfl rfl)
theorem dX0_rule_135 : decode cX0_rule 135 = .ok (.areturn, 1) := dk_176 (dk_at dksX0_rule_5 11 rfl rfl)
abbrev cX0_number : ByteArray := prog_1_method_31_code
def yX0_number : MethodName := ⟨RX0, "number", "(II)I"⟩
def dkwX0_number_2 : List UInt8 := [62, 42, 182, 1, 28, 29, 172]
abbrev dktX0_number_2 : List UInt8 := dkwX0_number_2 ++ []
def dkwX0_number_1 : List UInt8 := [28, 184, 0, 207, 154, 0, 16, 187, 1, 15, 89, 5, 42, 180, 0, 218, 183, 1, 17, 191, 42, 180, 0, 243]
abbrev dktX0_number_1 : List UInt8 := dkwX0_number_1 ++ dktX0_number_2
def dkwX0_number_0 : List UInt8 := [42, 42, 180, 0, 227, 178, 1, 7, 166, 0, 7, 4, 167, 0, 4, 3, 182, 1, 24, 42, 180, 0, 243, 27]
abbrev dktX0_number_0 : List UInt8 := dkwX0_number_0 ++ dktX0_number_1
theorem dksX0_number_0 : cX0_number.data.toList.drop 0 = dktX0_number_0 := by decide +kernel
theorem dksX0_number_1 : cX0_number.data.toList.drop 24 = dktX0_number_1 := dk_seg dksX0_number_0 24 rfl rfl
theorem dksX0_number_2 : cX0_number.data.toList.drop 48 = dktX0_number_2 := dk_seg dksX0_number_1 24 rfl rfl
theorem dX0_number_0 : decode cX0_number 0 = .ok (.aload_n 0, 1) := dk_42 (dk_at dksX0_number_0 0 rfl rfl)
theorem dX0_number_1 : decode cX0_number 1 = .ok (.aload_n 0, 1) := dk_42 (dk_at dksX0_number_0 1 rfl rfl)
theorem dX0_number_2 : decode cX0_number 2 = .ok (.getfield 227, 3) := dk_180 0 227 (dk_at dksX0_number_0 2 rfl rfl)
theorem dX0_number_5 : decode cX0_number 5 = .ok (.getstatic 263, 3) := dk_178 1 7 (dk_at dksX0_number_0 5 rfl rfl)
theorem dX0_number_8 : decode cX0_number 8 = .ok (.if_acmp .ne 7, 3) := dk_166 0 7 (dk_at dksX0_number_0 8 rfl rfl)
theorem dX0_number_11 : decode cX0_number 11 = .ok (.iconst 1, 1) := dk_4 (dk_at dksX0_number_0 11 rfl rfl)
theorem dX0_number_12 : decode cX0_number 12 = .ok (.goto 4, 3) := dk_167 0 4 (dk_at dksX0_number_0 12 rfl rfl)
theorem dX0_number_15 : decode cX0_number 15 = .ok (.iconst 0, 1) := dk_3 (dk_at dksX0_number_0 15 rfl rfl)
theorem dX0_number_16 : decode cX0_number 16 = .ok (.invokevirtual 280, 3) := dk_182 1 24 (dk_at dksX0_number_0 16 rfl rfl)
theorem dX0_number_19 : decode cX0_number 19 = .ok (.aload_n 0, 1) := dk_42 (dk_at dksX0_number_0 19 rfl rfl)
theorem dX0_number_20 : decode cX0_number 20 = .ok (.getfield 243, 3) := dk_180 0 243 (dk_at dksX0_number_0 20 rfl rfl)
theorem dX0_number_23 : decode cX0_number 23 = .ok (.iload_n 1, 1) := dk_27 (dk_at dksX0_number_0 23 rfl rfl)
theorem dX0_number_24 : decode cX0_number 24 = .ok (.iload_n 2, 1) := dk_28 (dk_at dksX0_number_1 0 rfl rfl)
theorem dX0_number_25 : decode cX0_number 25 = .ok (.invokestatic 207, 3) := dk_184 0 207 (dk_at dksX0_number_1 1 rfl rfl)
theorem dX0_number_28 : decode cX0_number 28 = .ok (.ifCond .ne 16, 3) := dk_154 0 16 (dk_at dksX0_number_1 4 rfl rfl)
theorem dX0_number_31 : decode cX0_number 31 = .ok (.new 271, 3) := dk_187 1 15 (dk_at dksX0_number_1 7 rfl rfl)
theorem dX0_number_34 : decode cX0_number 34 = .ok (.dup, 1) := dk_89 (dk_at dksX0_number_1 10 rfl rfl)
theorem dX0_number_35 : decode cX0_number 35 = .ok (.iconst 2, 1) := dk_5 (dk_at dksX0_number_1 11 rfl rfl)
theorem dX0_number_36 : decode cX0_number 36 = .ok (.aload_n 0, 1) := dk_42 (dk_at dksX0_number_1 12 rfl rfl)
theorem dX0_number_37 : decode cX0_number 37 = .ok (.getfield 218, 3) := dk_180 0 218 (dk_at dksX0_number_1 13 rfl rfl)
theorem dX0_number_40 : decode cX0_number 40 = .ok (.invokespecial 273, 3) := dk_183 1 17 (dk_at dksX0_number_1 16 rfl rfl)
theorem dX0_number_43 : decode cX0_number 43 = .ok (.athrow, 1) := dk_191 (dk_at dksX0_number_1 19 rfl rfl)
theorem dX0_number_44 : decode cX0_number 44 = .ok (.aload_n 0, 1) := dk_42 (dk_at dksX0_number_1 20 rfl rfl)
theorem dX0_number_45 : decode cX0_number 45 = .ok (.getfield 243, 3) := dk_180 0 243 (dk_at dksX0_number_1 21 rfl rfl)
theorem dX0_number_48 : decode cX0_number 48 = .ok (.istore_n 3, 1) := dk_62 (dk_at dksX0_number_2 0 rfl rfl)
theorem dX0_number_49 : decode cX0_number 49 = .ok (.aload_n 0, 1) := dk_42 (dk_at dksX0_number_2 1 rfl rfl)
theorem dX0_number_50 : decode cX0_number 50 = .ok (.invokevirtual 284, 3) := dk_182 1 28 (dk_at dksX0_number_2 2 rfl rfl)
theorem dX0_number_53 : decode cX0_number 53 = .ok (.iload_n 3, 1) := dk_29 (dk_at dksX0_number_2 5 rfl rfl)
theorem dX0_number_54 : decode cX0_number 54 = .ok (.ireturn, 1) := dk_172 (dk_at dksX0_number_2 6 rfl rfl)
abbrev cX0_told : ByteArray := prog_1_method_32_code
def yX0_told : MethodName := ⟨RX0, "told", "(Ljava/lang/String;II)I"⟩
def dkwX0_told_0 : List UInt8 := [42, 42, 43, 182, 1, 53, 182, 1, 24, 42, 182, 1, 28, 42, 28, 29, 182, 1, 103, 172]
abbrev dktX0_told_0 : List UInt8 := dkwX0_told_0 ++ []
theorem dksX0_told_0 : cX0_told.data.toList.drop 0 = dktX0_told_0 := by decide +kernel
theorem dX0_told_0 : decode cX0_told 0 = .ok (.aload_n 0, 1) := dk_42 (dk_at dksX0_told_0 0 rfl rfl)
theorem dX0_told_1 : decode cX0_told 1 = .ok (.aload_n 0, 1) := dk_42 (dk_at dksX0_told_0 1 rfl rfl)
theorem dX0_told_2 : decode cX0_told 2 = .ok (.aload_n 1, 1) := dk_43 (dk_at dksX0_told_0 2 rfl rfl)
theorem dX0_told_3 : decode cX0_told 3 = .ok (.invokevirtual 309, 3) := dk_182 1 53 (dk_at dksX0_told_0 3 rfl rfl)
theorem dX0_told_6 : decode cX0_told 6 = .ok (.invokevirtual 280, 3) := dk_182 1 24 (dk_at dksX0_told_0 6 rfl rfl)
theorem dX0_told_9 : decode cX0_told 9 = .ok (.aload_n 0, 1) := dk_42 (dk_at dksX0_told_0 9 rfl rfl)
theorem dX0_told_10 : decode cX0_told 10 = .ok (.invokevirtual 284, 3) := dk_182 1 28 (dk_at dksX0_told_0 10 rfl rfl)
theorem dX0_told_13 : decode cX0_told 13 = .ok (.aload_n 0, 1) := dk_42 (dk_at dksX0_told_0 13 rfl rfl)
theorem dX0_told_14 : decode cX0_told 14 = .ok (.iload_n 2, 1) := dk_28 (dk_at dksX0_told_0 14 rfl rfl)
theorem dX0_told_15 : decode cX0_told 15 = .ok (.iload_n 3, 1) := dk_29 (dk_at dksX0_told_0 15 rfl rfl)
theorem dX0_told_16 : decode cX0_told 16 = .ok (.invokevirtual 359, 3) := dk_182 1 103 (dk_at dksX0_told_0 16 rfl rfl)
theorem dX0_told_19 : decode cX0_told 19 = .ok (.ireturn, 1) := dk_172 (dk_at dksX0_told_0 19 rfl rfl)
abbrev cX0_isWord : ByteArray := prog_1_method_16_code
def yX0_isWord : MethodName := ⟨RX0, "isWord", "(Ljava/lang/String;)Z"⟩
def dkwX0_isWord_0 : List UInt8 := [42, 180, 0, 227, 178, 0, 231, 166, 0, 15, 42, 43, 182, 0, 236, 153, 0, 7, 4, 167, 0, 4, 3, 172]
abbrev dktX0_isWord_0 : List UInt8 := dkwX0_isWord_0 ++ []
theorem dksX0_isWord_0 : cX0_isWord.data.toList.drop 0 = dktX0_isWord_0 := by decide +kernel
theorem dX0_isWord_0 : decode cX0_isWord 0 = .ok (.aload_n 0, 1) := dk_42 (dk_at dksX0_isWord_0 0 rfl rfl)
theorem dX0_isWord_1 : decode cX0_isWord 1 = .ok (.getfield 227, 3) := dk_180 0 227 (dk_at dksX0_isWord_0 1 rfl rfl)
theorem dX0_isWord_4 : decode cX0_isWord 4 = .ok (.getstatic 231, 3) := dk_178 0 231 (dk_at dksX0_isWord_0 4 rfl rfl)
theorem dX0_isWord_7 : decode cX0_isWord 7 = .ok (.if_acmp .ne 15, 3) := dk_166 0 15 (dk_at dksX0_isWord_0 7 rfl rfl)
theorem dX0_isWord_10 : decode cX0_isWord 10 = .ok (.aload_n 0, 1) := dk_42 (dk_at dksX0_isWord_0 10 rfl rfl)
theorem dX0_isWord_11 : decode cX0_isWord 11 = .ok (.aload_n 1, 1) := dk_43 (dk_at dksX0_isWord_0 11 rfl rfl)
theorem dX0_isWord_12 : decode cX0_isWord 12 = .ok (.invokevirtual 236, 3) := dk_182 0 236 (dk_at dksX0_isWord_0 12 rfl rfl)
theorem dX0_isWord_15 : decode cX0_isWord 15 = .ok (.ifCond .eq 7, 3) := dk_153 0 7 (dk_at dksX0_isWord_0 15 rfl rfl)
theorem dX0_isWord_18 : decode cX0_isWord 18 = .ok (.iconst 1, 1) := dk_4 (dk_at dksX0_isWord_0 18 rfl rfl)
theorem dX0_isWord_19 : decode cX0_isWord 19 = .ok (.goto 4, 3) := dk_167 0 4 (dk_at dksX0_isWord_0 19 rfl rfl)
theorem dX0_isWord_22 : decode cX0_isWord 22 = .ok (.iconst 0, 1) := dk_3 (dk_at dksX0_isWord_0 22 rfl rfl)
theorem dX0_isWord_23 : decode cX0_isWord 23 = .ok (.ireturn, 1) := dk_172 (dk_at dksX0_isWord_0 23 rfl rfl)
abbrev cX0_takesSign : ByteArray := prog_1_method_20_code
def yX0_takesSign : MethodName := ⟨RX0, "takesSign", "(C)V"⟩
def dkwX0_takesSign_0 : List UInt8 := [42, 42, 27, 182, 1, 20, 182, 1, 24, 42, 182, 1, 28, 177]
abbrev dktX0_takesSign_0 : List UInt8 := dkwX0_takesSign_0 ++ []
theorem dksX0_takesSign_0 : cX0_takesSign.data.toList.drop 0 = dktX0_takesSign_0 := by decide +kernel
theorem dX0_takesSign_0 : decode cX0_takesSign 0 = .ok (.aload_n 0, 1) := dk_42 (dk_at dksX0_takesSign_0 0 rfl rfl)
theorem dX0_takesSign_1 : decode cX0_takesSign 1 = .ok (.aload_n 0, 1) := dk_42 (dk_at dksX0_takesSign_0 1 rfl rfl)
theorem dX0_takesSign_2 : decode cX0_takesSign 2 = .ok (.iload_n 1, 1) := dk_27 (dk_at dksX0_takesSign_0 2 rfl rfl)
theorem dX0_takesSign_3 : decode cX0_takesSign 3 = .ok (.invokevirtual 276, 3) := dk_182 1 20 (dk_at dksX0_takesSign_0 3 rfl rfl)
theorem dX0_takesSign_6 : decode cX0_takesSign 6 = .ok (.invokevirtual 280, 3) := dk_182 1 24 (dk_at dksX0_takesSign_0 6 rfl rfl)
theorem dX0_takesSign_9 : decode cX0_takesSign 9 = .ok (.aload_n 0, 1) := dk_42 (dk_at dksX0_takesSign_0 9 rfl rfl)
theorem dX0_takesSign_10 : decode cX0_takesSign 10 = .ok (.invokevirtual 284, 3) := dk_182 1 28 (dk_at dksX0_takesSign_0 10 rfl rfl)
theorem dX0_takesSign_13 : decode cX0_takesSign 13 = .ok (.return_, 1) := dk_177 (dk_at dksX0_takesSign_0 13 rfl rfl)
abbrev cX0_isSign : ByteArray := prog_1_method_17_code
def yX0_isSign : MethodName := ⟨RX0, "isSign", "(C)Z"⟩
def dkwX0_isSign_0 : List UInt8 := [42, 180, 0, 227, 178, 0, 240, 166, 0, 15, 42, 180, 0, 243, 27, 160, 0, 7, 4, 167, 0, 4, 3, 172]
abbrev dktX0_isSign_0 : List UInt8 := dkwX0_isSign_0 ++ []
theorem dksX0_isSign_0 : cX0_isSign.data.toList.drop 0 = dktX0_isSign_0 := by decide +kernel
theorem dX0_isSign_0 : decode cX0_isSign 0 = .ok (.aload_n 0, 1) := dk_42 (dk_at dksX0_isSign_0 0 rfl rfl)
theorem dX0_isSign_1 : decode cX0_isSign 1 = .ok (.getfield 227, 3) := dk_180 0 227 (dk_at dksX0_isSign_0 1 rfl rfl)
theorem dX0_isSign_4 : decode cX0_isSign 4 = .ok (.getstatic 240, 3) := dk_178 0 240 (dk_at dksX0_isSign_0 4 rfl rfl)
theorem dX0_isSign_7 : decode cX0_isSign 7 = .ok (.if_acmp .ne 15, 3) := dk_166 0 15 (dk_at dksX0_isSign_0 7 rfl rfl)
theorem dX0_isSign_10 : decode cX0_isSign 10 = .ok (.aload_n 0, 1) := dk_42 (dk_at dksX0_isSign_0 10 rfl rfl)
theorem dX0_isSign_11 : decode cX0_isSign 11 = .ok (.getfield 243, 3) := dk_180 0 243 (dk_at dksX0_isSign_0 11 rfl rfl)
theorem dX0_isSign_14 : decode cX0_isSign 14 = .ok (.iload_n 1, 1) := dk_27 (dk_at dksX0_isSign_0 14 rfl rfl)
theorem dX0_isSign_15 : decode cX0_isSign 15 = .ok (.if_icmp .ne 7, 3) := dk_160 0 7 (dk_at dksX0_isSign_0 15 rfl rfl)
theorem dX0_isSign_18 : decode cX0_isSign 18 = .ok (.iconst 1, 1) := dk_4 (dk_at dksX0_isSign_0 18 rfl rfl)
theorem dX0_isSign_19 : decode cX0_isSign 19 = .ok (.goto 4, 3) := dk_167 0 4 (dk_at dksX0_isSign_0 19 rfl rfl)
theorem dX0_isSign_22 : decode cX0_isSign 22 = .ok (.iconst 0, 1) := dk_3 (dk_at dksX0_isSign_0 22 rfl rfl)
theorem dX0_isSign_23 : decode cX0_isSign 23 = .ok (.ireturn, 1) := dk_172 (dk_at dksX0_isSign_0 23 rfl rfl)
abbrev cX0_readsProgramme : ByteArray := prog_1_method_35_code
def yX0_readsProgramme : MethodName := ⟨RX0, "readsProgramme", "()[LEncores$Turn;"⟩
def dkwX0_readsProgramme_4 : List UInt8 := [162, 0, 17, 45, 21, 4, 43, 21, 4, 50, 83, 132, 4, 1, 167, 255, 238, 45, 176]
abbrev dktX0_readsProgramme_4 : List UInt8 := dkwX0_readsProgramme_4 ++ []
def dkwX0_readsProgramme_3 : List UInt8 := [16, 59, 182, 1, 70, 132, 2, 1, 167, 255, 187, 28, 189, 0, 133, 78, 3, 54, 4, 21, 4, 45, 190]
abbrev dktX0_readsProgramme_3 : List UInt8 := dkwX0_readsProgramme_3 ++ dktX0_readsProgramme_4
def dkwX0_readsProgramme_2 : List UInt8 := [187, 0, 133, 89, 29, 42, 18, 62, 3, 42, 180, 1, 120, 4, 100, 182, 1, 106, 183, 1, 123, 83, 42]
abbrev dktX0_readsProgramme_2 : List UInt8 := dkwX0_readsProgramme_2 ++ dktX0_readsProgramme_3
def dkwX0_readsProgramme_1 : List UInt8 := [182, 1, 53, 182, 1, 24, 42, 28, 182, 1, 83, 42, 18, 60, 3, 17, 39, 15, 182, 1, 106, 62, 43, 28]
abbrev dktX0_readsProgramme_1 : List UInt8 := dkwX0_readsProgramme_1 ++ dktX0_readsProgramme_2
def dkwX0_readsProgramme_0 : List UInt8 := [16, 16, 189, 0, 133, 76, 3, 61, 42, 180, 0, 227, 178, 0, 246, 165, 0, 65, 42, 42, 18, 60]
abbrev dktX0_readsProgramme_0 : List UInt8 := dkwX0_readsProgramme_0 ++ dktX0_readsProgramme_1
theorem dksX0_readsProgramme_0 : cX0_readsProgramme.data.toList.drop 0 = dktX0_readsProgramme_0 := by decide +kernel
theorem dksX0_readsProgramme_1 : cX0_readsProgramme.data.toList.drop 22 = dktX0_readsProgramme_1 := dk_seg dksX0_readsProgramme_0 22 rfl rfl
theorem dksX0_readsProgramme_2 : cX0_readsProgramme.data.toList.drop 46 = dktX0_readsProgramme_2 := dk_seg dksX0_readsProgramme_1 24 rfl rfl
theorem dksX0_readsProgramme_3 : cX0_readsProgramme.data.toList.drop 69 = dktX0_readsProgramme_3 := dk_seg dksX0_readsProgramme_2 23 rfl rfl
theorem dksX0_readsProgramme_4 : cX0_readsProgramme.data.toList.drop 92 = dktX0_readsProgramme_4 := dk_seg dksX0_readsProgramme_3 23 rfl rfl
theorem dX0_readsProgramme_0 : decode cX0_readsProgramme 0 = .ok (.bipush 16, 2) := dk_16 16 (dk_at dksX0_readsProgramme_0 0 rfl rfl)
theorem dX0_readsProgramme_2 : decode cX0_readsProgramme 2 = .ok (.anewarray 133, 3) := dk_189 0 133 (dk_at dksX0_readsProgramme_0 2 rfl rfl)
theorem dX0_readsProgramme_5 : decode cX0_readsProgramme 5 = .ok (.astore_n 1, 1) := dk_76 (dk_at dksX0_readsProgramme_0 5 rfl rfl)
theorem dX0_readsProgramme_6 : decode cX0_readsProgramme 6 = .ok (.iconst 0, 1) := dk_3 (dk_at dksX0_readsProgramme_0 6 rfl rfl)
theorem dX0_readsProgramme_7 : decode cX0_readsProgramme 7 = .ok (.istore_n 2, 1) := dk_61 (dk_at dksX0_readsProgramme_0 7 rfl rfl)
theorem dX0_readsProgramme_8 : decode cX0_readsProgramme 8 = .ok (.aload_n 0, 1) := dk_42 (dk_at dksX0_readsProgramme_0 8 rfl rfl)
theorem dX0_readsProgramme_9 : decode cX0_readsProgramme 9 = .ok (.getfield 227, 3) := dk_180 0 227 (dk_at dksX0_readsProgramme_0 9 rfl rfl)
theorem dX0_readsProgramme_12 : decode cX0_readsProgramme 12 = .ok (.getstatic 246, 3) := dk_178 0 246 (dk_at dksX0_readsProgramme_0 12 rfl rfl)
theorem dX0_readsProgramme_15 : decode cX0_readsProgramme 15 = .ok (.if_acmp .eq 65, 3) := dk_165 0 65 (dk_at dksX0_readsProgramme_0 15 rfl rfl)
theorem dX0_readsProgramme_18 : decode cX0_readsProgramme 18 = .ok (.aload_n 0, 1) := dk_42 (dk_at dksX0_readsProgramme_0 18 rfl rfl)
theorem dX0_readsProgramme_19 : decode cX0_readsProgramme 19 = .ok (.aload_n 0, 1) := dk_42 (dk_at dksX0_readsProgramme_0 19 rfl rfl)
theorem dX0_readsProgramme_20 : decode cX0_readsProgramme 20 = .ok (.ldc 60, 2) := dk_18 60 (dk_at dksX0_readsProgramme_0 20 rfl rfl)
theorem dX0_readsProgramme_22 : decode cX0_readsProgramme 22 = .ok (.invokevirtual 309, 3) := dk_182 1 53 (dk_at dksX0_readsProgramme_1 0 rfl rfl)
theorem dX0_readsProgramme_25 : decode cX0_readsProgramme 25 = .ok (.invokevirtual 280, 3) := dk_182 1 24 (dk_at dksX0_readsProgramme_1 3 rfl rfl)
theorem dX0_readsProgramme_28 : decode cX0_readsProgramme 28 = .ok (.aload_n 0, 1) := dk_42 (dk_at dksX0_readsProgramme_1 6 rfl rfl)
theorem dX0_readsProgramme_29 : decode cX0_readsProgramme 29 = .ok (.iload_n 2, 1) := dk_28 (dk_at dksX0_readsProgramme_1 7 rfl rfl)
theorem dX0_readsProgramme_30 : decode cX0_readsProgramme 30 = .ok (.invokevirtual 339, 3) := dk_182 1 83 (dk_at dksX0_readsProgramme_1 8 rfl rfl)
theorem dX0_readsProgramme_33 : decode cX0_readsProgramme 33 = .ok (.aload_n 0, 1) := dk_42 (dk_at dksX0_readsProgramme_1 11 rfl rfl)
theorem dX0_readsProgramme_34 : decode cX0_readsProgramme 34 = .ok (.ldc 60, 2) := dk_18 60 (dk_at dksX0_readsProgramme_1 12 rfl rfl)
theorem dX0_readsProgramme_36 : decode cX0_readsProgramme 36 = .ok (.iconst 0, 1) := dk_3 (dk_at dksX0_readsProgramme_1 14 rfl rfl)
theorem dX0_readsProgramme_37 : decode cX0_readsProgramme 37 = .ok (.sipush 9999, 3) := dk_17 39 15 (dk_at dksX0_readsProgramme_1 15 rfl rfl)
theorem dX0_readsProgramme_40 : decode cX0_readsProgramme 40 = .ok (.invokevirtual 362, 3) := dk_182 1 106 (dk_at dksX0_readsProgramme_1 18 rfl rfl)
theorem dX0_readsProgramme_43 : decode cX0_readsProgramme 43 = .ok (.istore_n 3, 1) := dk_62 (dk_at dksX0_readsProgramme_1 21 rfl rfl)
theorem dX0_readsProgramme_44 : decode cX0_readsProgramme 44 = .ok (.aload_n 1, 1) := dk_43 (dk_at dksX0_readsProgramme_1 22 rfl rfl)
theorem dX0_readsProgramme_45 : decode cX0_readsProgramme 45 = .ok (.iload_n 2, 1) := dk_28 (dk_at dksX0_readsProgramme_1 23 rfl rfl)
theorem dX0_readsProgramme_46 : decode cX0_readsProgramme 46 = .ok (.new 133, 3) := dk_187 0 133 (dk_at dksX0_readsProgramme_2 0 rfl rfl)
theorem dX0_readsProgramme_49 : decode cX0_readsProgramme 49 = .ok (.dup, 1) := dk_89 (dk_at dksX0_readsProgramme_2 3 rfl rfl)
theorem dX0_readsProgramme_50 : decode cX0_readsProgramme 50 = .ok (.iload_n 3, 1) := dk_29 (dk_at dksX0_readsProgramme_2 4 rfl rfl)
theorem dX0_readsProgramme_51 : decode cX0_readsProgramme 51 = .ok (.aload_n 0, 1) := dk_42 (dk_at dksX0_readsProgramme_2 5 rfl rfl)
theorem dX0_readsProgramme_52 : decode cX0_readsProgramme 52 = .ok (.ldc 62, 2) := dk_18 62 (dk_at dksX0_readsProgramme_2 6 rfl rfl)
theorem dX0_readsProgramme_54 : decode cX0_readsProgramme 54 = .ok (.iconst 0, 1) := dk_3 (dk_at dksX0_readsProgramme_2 8 rfl rfl)
theorem dX0_readsProgramme_55 : decode cX0_readsProgramme 55 = .ok (.aload_n 0, 1) := dk_42 (dk_at dksX0_readsProgramme_2 9 rfl rfl)
theorem dX0_readsProgramme_56 : decode cX0_readsProgramme 56 = .ok (.getfield 376, 3) := dk_180 1 120 (dk_at dksX0_readsProgramme_2 10 rfl rfl)
theorem dX0_readsProgramme_59 : decode cX0_readsProgramme 59 = .ok (.iconst 1, 1) := dk_4 (dk_at dksX0_readsProgramme_2 13 rfl rfl)
theorem dX0_readsProgramme_60 : decode cX0_readsProgramme 60 = .ok (.isub, 1) := dk_100 (dk_at dksX0_readsProgramme_2 14 rfl rfl)
theorem dX0_readsProgramme_61 : decode cX0_readsProgramme 61 = .ok (.invokevirtual 362, 3) := dk_182 1 106 (dk_at dksX0_readsProgramme_2 15 rfl rfl)
theorem dX0_readsProgramme_64 : decode cX0_readsProgramme 64 = .ok (.invokespecial 379, 3) := dk_183 1 123 (dk_at dksX0_readsProgramme_2 18 rfl rfl)
theorem dX0_readsProgramme_67 : decode cX0_readsProgramme 67 = .ok (.aastore, 1) := dk_83 (dk_at dksX0_readsProgramme_2 21 rfl rfl)
theorem dX0_readsProgramme_68 : decode cX0_readsProgramme 68 = .ok (.aload_n 0, 1) := dk_42 (dk_at dksX0_readsProgramme_2 22 rfl rfl)
theorem dX0_readsProgramme_69 : decode cX0_readsProgramme 69 = .ok (.bipush 59, 2) := dk_16 59 (dk_at dksX0_readsProgramme_3 0 rfl rfl)
theorem dX0_readsProgramme_71 : decode cX0_readsProgramme 71 = .ok (.invokevirtual 326, 3) := dk_182 1 70 (dk_at dksX0_readsProgramme_3 2 rfl rfl)
theorem dX0_readsProgramme_74 : decode cX0_readsProgramme 74 = .ok (.iinc 2 1, 3) := dk_132 2 1 (dk_at dksX0_readsProgramme_3 5 rfl rfl)
theorem dX0_readsProgramme_77 : decode cX0_readsProgramme 77 = .ok (.goto (-69), 3) := dk_167 255 187 (dk_at dksX0_readsProgramme_3 8 rfl rfl)
theorem dX0_readsProgramme_80 : decode cX0_readsProgramme 80 = .ok (.iload_n 2, 1) := dk_28 (dk_at dksX0_readsProgramme_3 11 rfl rfl)
theorem dX0_readsProgramme_81 : decode cX0_readsProgramme 81 = .ok (.anewarray 133, 3) := dk_189 0 133 (dk_at dksX0_readsProgramme_3 12 rfl rfl)
theorem dX0_readsProgramme_84 : decode cX0_readsProgramme 84 = .ok (.astore_n 3, 1) := dk_78 (dk_at dksX0_readsProgramme_3 15 rfl rfl)
theorem dX0_readsProgramme_85 : decode cX0_readsProgramme 85 = .ok (.iconst 0, 1) := dk_3 (dk_at dksX0_readsProgramme_3 16 rfl rfl)
theorem dX0_readsProgramme_86 : decode cX0_readsProgramme 86 = .ok (.istore 4, 2) := dk_54 4 (dk_at dksX0_readsProgramme_3 17 rfl rfl)
theorem dX0_readsProgramme_88 : decode cX0_readsProgramme 88 = .ok (.iload 4, 2) := dk_21 4 (dk_at dksX0_readsProgramme_3 19 rfl rfl)
theorem dX0_readsProgramme_90 : decode cX0_readsProgramme 90 = .ok (.aload_n 3, 1) := dk_45 (dk_at dksX0_readsProgramme_3 21 rfl rfl)
theorem dX0_readsProgramme_91 : decode cX0_readsProgramme 91 = .ok (.arraylength, 1) := dk_190 (dk_at dksX0_readsProgramme_3 22 rfl rfl)
theorem dX0_readsProgramme_92 : decode cX0_readsProgramme 92 = .ok (.if_icmp .ge 17, 3) := dk_162 0 17 (dk_at dksX0_readsProgramme_4 0 rfl rfl)
theorem dX0_readsProgramme_95 : decode cX0_readsProgramme 95 = .ok (.aload_n 3, 1) := dk_45 (dk_at dksX0_readsProgramme_4 3 rfl rfl)
theorem dX0_readsProgramme_96 : decode cX0_readsProgramme 96 = .ok (.iload 4, 2) := dk_21 4 (dk_at dksX0_readsProgramme_4 4 rfl rfl)
theorem dX0_readsProgramme_98 : decode cX0_readsProgramme 98 = .ok (.aload_n 1, 1) := dk_43 (dk_at dksX0_readsProgramme_4 6 rfl rfl)
theorem dX0_readsProgramme_99 : decode cX0_readsProgramme 99 = .ok (.iload 4, 2) := dk_21 4 (dk_at dksX0_readsProgramme_4 7 rfl rfl)
theorem dX0_readsProgramme_101 : decode cX0_readsProgramme 101 = .ok (.aaload, 1) := dk_50 (dk_at dksX0_readsProgramme_4 9 rfl rfl)
theorem dX0_readsProgramme_102 : decode cX0_readsProgramme 102 = .ok (.aastore, 1) := dk_83 (dk_at dksX0_readsProgramme_4 10 rfl rfl)
theorem dX0_readsProgramme_103 : decode cX0_readsProgramme 103 = .ok (.iinc 4 1, 3) := dk_132 4 1 (dk_at dksX0_readsProgramme_4 11 rfl rfl)
theorem dX0_readsProgramme_106 : decode cX0_readsProgramme 106 = .ok (.goto (-18), 3) := dk_167 255 238 (dk_at dksX0_readsProgramme_4 14 rfl rfl)
theorem dX0_readsProgramme_109 : decode cX0_readsProgramme 109 = .ok (.aload_n 3, 1) := dk_45 (dk_at dksX0_readsProgramme_4 17 rfl rfl)
theorem dX0_readsProgramme_110 : decode cX0_readsProgramme 110 = .ok (.areturn, 1) := dk_176 (dk_at dksX0_readsProgramme_4 18 rfl rfl)
abbrev cX0_readsGallery : ByteArray := prog_1_method_36_code
def yX0_readsGallery : MethodName := ⟨RX0, "readsGallery", "()[I"⟩
def dkwX0_readsGallery_5 : List UInt8 := [182, 1, 70, 132, 2, 1, 167, 255, 138, 42, 28, 181, 1, 124, 43, 176]
abbrev dktX0_readsGallery_5 : List UInt8 := dkwX0_readsGallery_5 ++ []
def dkwX0_readsGallery_4 : List UInt8 := [43, 29, 92, 46, 4, 21, 5, 120, 128, 79, 43, 21, 5, 92, 46, 4, 29, 120, 128, 79, 42, 16, 59]
abbrev dktX0_readsGallery_4 : List UInt8 := dkwX0_readsGallery_4 ++ dktX0_readsGallery_5
def dkwX0_readsGallery_3 : List UInt8 := [4, 100, 182, 1, 103, 54, 5, 29, 21, 5, 160, 0, 14, 187, 1, 15, 89, 5, 21, 4, 183, 1, 17, 191]
abbrev dktX0_readsGallery_3 : List UInt8 := dkwX0_readsGallery_3 ++ dktX0_readsGallery_4
def dkwX0_readsGallery_2 : List UInt8 := [18, 66, 182, 1, 53, 182, 1, 24, 42, 182, 1, 28, 42, 180, 0, 218, 54, 4, 42, 3, 42, 180, 1, 113]
abbrev dktX0_readsGallery_2 : List UInt8 := dkwX0_readsGallery_2 ++ dktX0_readsGallery_3
def dkwX0_readsGallery_1 : List UInt8 := [182, 1, 24, 42, 28, 182, 1, 83, 42, 18, 64, 3, 42, 180, 1, 113, 4, 100, 182, 1, 106, 62, 42, 42]
abbrev dktX0_readsGallery_1 : List UInt8 := dkwX0_readsGallery_1 ++ dktX0_readsGallery_2
def dkwX0_readsGallery_0 : List UInt8 := [16, 12, 188, 10, 76, 3, 61, 42, 180, 0, 227, 178, 0, 246, 165, 0, 114, 42, 42, 18, 64, 182, 1, 53]
abbrev dktX0_readsGallery_0 : List UInt8 := dkwX0_readsGallery_0 ++ dktX0_readsGallery_1
theorem dksX0_readsGallery_0 : cX0_readsGallery.data.toList.drop 0 = dktX0_readsGallery_0 := by decide +kernel
theorem dksX0_readsGallery_1 : cX0_readsGallery.data.toList.drop 24 = dktX0_readsGallery_1 := dk_seg dksX0_readsGallery_0 24 rfl rfl
theorem dksX0_readsGallery_2 : cX0_readsGallery.data.toList.drop 48 = dktX0_readsGallery_2 := dk_seg dksX0_readsGallery_1 24 rfl rfl
theorem dksX0_readsGallery_3 : cX0_readsGallery.data.toList.drop 72 = dktX0_readsGallery_3 := dk_seg dksX0_readsGallery_2 24 rfl rfl
theorem dksX0_readsGallery_4 : cX0_readsGallery.data.toList.drop 96 = dktX0_readsGallery_4 := dk_seg dksX0_readsGallery_3 24 rfl rfl
theorem dksX0_readsGallery_5 : cX0_readsGallery.data.toList.drop 119 = dktX0_readsGallery_5 := dk_seg dksX0_readsGallery_4 23 rfl rfl
theorem dX0_readsGallery_0 : decode cX0_readsGallery 0 = .ok (.bipush 12, 2) := dk_16 12 (dk_at dksX0_readsGallery_0 0 rfl rfl)
theorem dX0_readsGallery_2 : decode cX0_readsGallery 2 = .ok (.newarray .int, 2) := dk_188_10 (dk_at dksX0_readsGallery_0 2 rfl rfl)
theorem dX0_readsGallery_4 : decode cX0_readsGallery 4 = .ok (.astore_n 1, 1) := dk_76 (dk_at dksX0_readsGallery_0 4 rfl rfl)
theorem dX0_readsGallery_5 : decode cX0_readsGallery 5 = .ok (.iconst 0, 1) := dk_3 (dk_at dksX0_readsGallery_0 5 rfl rfl)
theorem dX0_readsGallery_6 : decode cX0_readsGallery 6 = .ok (.istore_n 2, 1) := dk_61 (dk_at dksX0_readsGallery_0 6 rfl rfl)
theorem dX0_readsGallery_7 : decode cX0_readsGallery 7 = .ok (.aload_n 0, 1) := dk_42 (dk_at dksX0_readsGallery_0 7 rfl rfl)
theorem dX0_readsGallery_8 : decode cX0_readsGallery 8 = .ok (.getfield 227, 3) := dk_180 0 227 (dk_at dksX0_readsGallery_0 8 rfl rfl)
theorem dX0_readsGallery_11 : decode cX0_readsGallery 11 = .ok (.getstatic 246, 3) := dk_178 0 246 (dk_at dksX0_readsGallery_0 11 rfl rfl)
theorem dX0_readsGallery_14 : decode cX0_readsGallery 14 = .ok (.if_acmp .eq 114, 3) := dk_165 0 114 (dk_at dksX0_readsGallery_0 14 rfl rfl)
theorem dX0_readsGallery_17 : decode cX0_readsGallery 17 = .ok (.aload_n 0, 1) := dk_42 (dk_at dksX0_readsGallery_0 17 rfl rfl)
theorem dX0_readsGallery_18 : decode cX0_readsGallery 18 = .ok (.aload_n 0, 1) := dk_42 (dk_at dksX0_readsGallery_0 18 rfl rfl)
theorem dX0_readsGallery_19 : decode cX0_readsGallery 19 = .ok (.ldc 64, 2) := dk_18 64 (dk_at dksX0_readsGallery_0 19 rfl rfl)
theorem dX0_readsGallery_21 : decode cX0_readsGallery 21 = .ok (.invokevirtual 309, 3) := dk_182 1 53 (dk_at dksX0_readsGallery_0 21 rfl rfl)
theorem dX0_readsGallery_24 : decode cX0_readsGallery 24 = .ok (.invokevirtual 280, 3) := dk_182 1 24 (dk_at dksX0_readsGallery_1 0 rfl rfl)
theorem dX0_readsGallery_27 : decode cX0_readsGallery 27 = .ok (.aload_n 0, 1) := dk_42 (dk_at dksX0_readsGallery_1 3 rfl rfl)
theorem dX0_readsGallery_28 : decode cX0_readsGallery 28 = .ok (.iload_n 2, 1) := dk_28 (dk_at dksX0_readsGallery_1 4 rfl rfl)
theorem dX0_readsGallery_29 : decode cX0_readsGallery 29 = .ok (.invokevirtual 339, 3) := dk_182 1 83 (dk_at dksX0_readsGallery_1 5 rfl rfl)
theorem dX0_readsGallery_32 : decode cX0_readsGallery 32 = .ok (.aload_n 0, 1) := dk_42 (dk_at dksX0_readsGallery_1 8 rfl rfl)
theorem dX0_readsGallery_33 : decode cX0_readsGallery 33 = .ok (.ldc 64, 2) := dk_18 64 (dk_at dksX0_readsGallery_1 9 rfl rfl)
theorem dX0_readsGallery_35 : decode cX0_readsGallery 35 = .ok (.iconst 0, 1) := dk_3 (dk_at dksX0_readsGallery_1 11 rfl rfl)
theorem dX0_readsGallery_36 : decode cX0_readsGallery 36 = .ok (.aload_n 0, 1) := dk_42 (dk_at dksX0_readsGallery_1 12 rfl rfl)
theorem dX0_readsGallery_37 : decode cX0_readsGallery 37 = .ok (.getfield 369, 3) := dk_180 1 113 (dk_at dksX0_readsGallery_1 13 rfl rfl)
theorem dX0_readsGallery_40 : decode cX0_readsGallery 40 = .ok (.iconst 1, 1) := dk_4 (dk_at dksX0_readsGallery_1 16 rfl rfl)
theorem dX0_readsGallery_41 : decode cX0_readsGallery 41 = .ok (.isub, 1) := dk_100 (dk_at dksX0_readsGallery_1 17 rfl rfl)
theorem dX0_readsGallery_42 : decode cX0_readsGallery 42 = .ok (.invokevirtual 362, 3) := dk_182 1 106 (dk_at dksX0_readsGallery_1 18 rfl rfl)
theorem dX0_readsGallery_45 : decode cX0_readsGallery 45 = .ok (.istore_n 3, 1) := dk_62 (dk_at dksX0_readsGallery_1 21 rfl rfl)
theorem dX0_readsGallery_46 : decode cX0_readsGallery 46 = .ok (.aload_n 0, 1) := dk_42 (dk_at dksX0_readsGallery_1 22 rfl rfl)
theorem dX0_readsGallery_47 : decode cX0_readsGallery 47 = .ok (.aload_n 0, 1) := dk_42 (dk_at dksX0_readsGallery_1 23 rfl rfl)
theorem dX0_readsGallery_48 : decode cX0_readsGallery 48 = .ok (.ldc 66, 2) := dk_18 66 (dk_at dksX0_readsGallery_2 0 rfl rfl)
theorem dX0_readsGallery_50 : decode cX0_readsGallery 50 = .ok (.invokevirtual 309, 3) := dk_182 1 53 (dk_at dksX0_readsGallery_2 2 rfl rfl)
theorem dX0_readsGallery_53 : decode cX0_readsGallery 53 = .ok (.invokevirtual 280, 3) := dk_182 1 24 (dk_at dksX0_readsGallery_2 5 rfl rfl)
theorem dX0_readsGallery_56 : decode cX0_readsGallery 56 = .ok (.aload_n 0, 1) := dk_42 (dk_at dksX0_readsGallery_2 8 rfl rfl)
theorem dX0_readsGallery_57 : decode cX0_readsGallery 57 = .ok (.invokevirtual 284, 3) := dk_182 1 28 (dk_at dksX0_readsGallery_2 9 rfl rfl)
theorem dX0_readsGallery_60 : decode cX0_readsGallery 60 = .ok (.aload_n 0, 1) := dk_42 (dk_at dksX0_readsGallery_2 12 rfl rfl)
theorem dX0_readsGallery_61 : decode cX0_readsGallery 61 = .ok (.getfield 218, 3) := dk_180 0 218 (dk_at dksX0_readsGallery_2 13 rfl rfl)
theorem dX0_readsGallery_64 : decode cX0_readsGallery 64 = .ok (.istore 4, 2) := dk_54 4 (dk_at dksX0_readsGallery_2 16 rfl rfl)
theorem dX0_readsGallery_66 : decode cX0_readsGallery 66 = .ok (.aload_n 0, 1) := dk_42 (dk_at dksX0_readsGallery_2 18 rfl rfl)
theorem dX0_readsGallery_67 : decode cX0_readsGallery 67 = .ok (.iconst 0, 1) := dk_3 (dk_at dksX0_readsGallery_2 19 rfl rfl)
theorem dX0_readsGallery_68 : decode cX0_readsGallery 68 = .ok (.aload_n 0, 1) := dk_42 (dk_at dksX0_readsGallery_2 20 rfl rfl)
theorem dX0_readsGallery_69 : decode cX0_readsGallery 69 = .ok (.getfield 369, 3) := dk_180 1 113 (dk_at dksX0_readsGallery_2 21 rfl rfl)
theorem dX0_readsGallery_72 : decode cX0_readsGallery 72 = .ok (.iconst 1, 1) := dk_4 (dk_at dksX0_readsGallery_3 0 rfl rfl)
theorem dX0_readsGallery_73 : decode cX0_readsGallery 73 = .ok (.isub, 1) := dk_100 (dk_at dksX0_readsGallery_3 1 rfl rfl)
theorem dX0_readsGallery_74 : decode cX0_readsGallery 74 = .ok (.invokevirtual 359, 3) := dk_182 1 103 (dk_at dksX0_readsGallery_3 2 rfl rfl)
theorem dX0_readsGallery_77 : decode cX0_readsGallery 77 = .ok (.istore 5, 2) := dk_54 5 (dk_at dksX0_readsGallery_3 5 rfl rfl)
theorem dX0_readsGallery_79 : decode cX0_readsGallery 79 = .ok (.iload_n 3, 1) := dk_29 (dk_at dksX0_readsGallery_3 7 rfl rfl)
theorem dX0_readsGallery_80 : decode cX0_readsGallery 80 = .ok (.iload 5, 2) := dk_21 5 (dk_at dksX0_readsGallery_3 8 rfl rfl)
theorem dX0_readsGallery_82 : decode cX0_readsGallery 82 = .ok (.if_icmp .ne 14, 3) := dk_160 0 14 (dk_at dksX0_readsGallery_3 10 rfl rfl)
theorem dX0_readsGallery_85 : decode cX0_readsGallery 85 = .ok (.new 271, 3) := dk_187 1 15 (dk_at dksX0_readsGallery_3 13 rfl rfl)
theorem dX0_readsGallery_88 : decode cX0_readsGallery 88 = .ok (.dup, 1) := dk_89 (dk_at dksX0_readsGallery_3 16 rfl rfl)
theorem dX0_readsGallery_89 : decode cX0_readsGallery 89 = .ok (.iconst 2, 1) := dk_5 (dk_at dksX0_readsGallery_3 17 rfl rfl)
theorem dX0_readsGallery_90 : decode cX0_readsGallery 90 = .ok (.iload 4, 2) := dk_21 4 (dk_at dksX0_readsGallery_3 18 rfl rfl)
theorem dX0_readsGallery_92 : decode cX0_readsGallery 92 = .ok (.invokespecial 273, 3) := dk_183 1 17 (dk_at dksX0_readsGallery_3 20 rfl rfl)
theorem dX0_readsGallery_95 : decode cX0_readsGallery 95 = .ok (.athrow, 1) := dk_191 (dk_at dksX0_readsGallery_3 23 rfl rfl)
theorem dX0_readsGallery_96 : decode cX0_readsGallery 96 = .ok (.aload_n 1, 1) := dk_43 (dk_at dksX0_readsGallery_4 0 rfl rfl)
theorem dX0_readsGallery_97 : decode cX0_readsGallery 97 = .ok (.iload_n 3, 1) := dk_29 (dk_at dksX0_readsGallery_4 1 rfl rfl)
theorem dX0_readsGallery_98 : decode cX0_readsGallery 98 = .ok (.dup2, 1) := dk_92 (dk_at dksX0_readsGallery_4 2 rfl rfl)
theorem dX0_readsGallery_99 : decode cX0_readsGallery 99 = .ok (.iaload, 1) := dk_46 (dk_at dksX0_readsGallery_4 3 rfl rfl)
theorem dX0_readsGallery_100 : decode cX0_readsGallery 100 = .ok (.iconst 1, 1) := dk_4 (dk_at dksX0_readsGallery_4 4 rfl rfl)
theorem dX0_readsGallery_101 : decode cX0_readsGallery 101 = .ok (.iload 5, 2) := dk_21 5 (dk_at dksX0_readsGallery_4 5 rfl rfl)
theorem dX0_readsGallery_103 : decode cX0_readsGallery 103 = .ok (.ishl, 1) := dk_120 (dk_at dksX0_readsGallery_4 7 rfl rfl)
theorem dX0_readsGallery_104 : decode cX0_readsGallery 104 = .ok (.ior, 1) := dk_128 (dk_at dksX0_readsGallery_4 8 rfl rfl)
theorem dX0_readsGallery_105 : decode cX0_readsGallery 105 = .ok (.iastore, 1) := dk_79 (dk_at dksX0_readsGallery_4 9 rfl rfl)
theorem dX0_readsGallery_106 : decode cX0_readsGallery 106 = .ok (.aload_n 1, 1) := dk_43 (dk_at dksX0_readsGallery_4 10 rfl rfl)
theorem dX0_readsGallery_107 : decode cX0_readsGallery 107 = .ok (.iload 5, 2) := dk_21 5 (dk_at dksX0_readsGallery_4 11 rfl rfl)
theorem dX0_readsGallery_109 : decode cX0_readsGallery 109 = .ok (.dup2, 1) := dk_92 (dk_at dksX0_readsGallery_4 13 rfl rfl)
theorem dX0_readsGallery_110 : decode cX0_readsGallery 110 = .ok (.iaload, 1) := dk_46 (dk_at dksX0_readsGallery_4 14 rfl rfl)
theorem dX0_readsGallery_111 : decode cX0_readsGallery 111 = .ok (.iconst 1, 1) := dk_4 (dk_at dksX0_readsGallery_4 15 rfl rfl)
theorem dX0_readsGallery_112 : decode cX0_readsGallery 112 = .ok (.iload_n 3, 1) := dk_29 (dk_at dksX0_readsGallery_4 16 rfl rfl)
theorem dX0_readsGallery_113 : decode cX0_readsGallery 113 = .ok (.ishl, 1) := dk_120 (dk_at dksX0_readsGallery_4 17 rfl rfl)
theorem dX0_readsGallery_114 : decode cX0_readsGallery 114 = .ok (.ior, 1) := dk_128 (dk_at dksX0_readsGallery_4 18 rfl rfl)
theorem dX0_readsGallery_115 : decode cX0_readsGallery 115 = .ok (.iastore, 1) := dk_79 (dk_at dksX0_readsGallery_4 19 rfl rfl)
theorem dX0_readsGallery_116 : decode cX0_readsGallery 116 = .ok (.aload_n 0, 1) := dk_42 (dk_at dksX0_readsGallery_4 20 rfl rfl)
theorem dX0_readsGallery_117 : decode cX0_readsGallery 117 = .ok (.bipush 59, 2) := dk_16 59 (dk_at dksX0_readsGallery_4 21 rfl rfl)
theorem dX0_readsGallery_119 : decode cX0_readsGallery 119 = .ok (.invokevirtual 326, 3) := dk_182 1 70 (dk_at dksX0_readsGallery_5 0 rfl rfl)
theorem dX0_readsGallery_122 : decode cX0_readsGallery 122 = .ok (.iinc 2 1, 3) := dk_132 2 1 (dk_at dksX0_readsGallery_5 3 rfl rfl)
theorem dX0_readsGallery_125 : decode cX0_readsGallery 125 = .ok (.goto (-118), 3) := dk_167 255 138 (dk_at dksX0_readsGallery_5 6 rfl rfl)
theorem dX0_readsGallery_128 : decode cX0_readsGallery 128 = .ok (.aload_n 0, 1) := dk_42 (dk_at dksX0_readsGallery_5 9 rfl rfl)
theorem dX0_readsGallery_129 : decode cX0_readsGallery 129 = .ok (.iload_n 2, 1) := dk_28 (dk_at dksX0_readsGallery_5 10 rfl rfl)
theorem dX0_readsGallery_130 : decode cX0_readsGallery 130 = .ok (.putfield 380, 3) := dk_181 1 124 (dk_at dksX0_readsGallery_5 11 rfl rfl)
theorem dX0_readsGallery_133 : decode cX0_readsGallery 133 = .ok (.aload_n 1, 1) := dk_43 (dk_at dksX0_readsGallery_5 14 rfl rfl)
theorem dX0_readsGallery_134 : decode cX0_readsGallery 134 = .ok (.areturn, 1) := dk_176 (dk_at dksX0_readsGallery_5 15 rfl rfl)
abbrev cX0_readsLaw : ByteArray := prog_1_method_28_code
def yX0_readsLaw : MethodName := ⟨RX0, "readsLaw", "()LEncores$Text;"⟩
def dkwX0_readsLaw_5 : List UInt8 := [96, 181, 1, 80, 167, 255, 146, 43, 176]
abbrev dktX0_readsLaw_5 : List UInt8 := dkwX0_readsLaw_5 ++ []
def dkwX0_readsLaw_4 : List UInt8 := [180, 1, 92, 43, 180, 1, 80, 42, 182, 1, 67, 83, 42, 16, 59, 182, 1, 70, 43, 89, 180, 1, 80, 4]
abbrev dktX0_readsLaw_4 : List UInt8 := dkwX0_readsLaw_4 ++ dktX0_readsLaw_5
def dkwX0_readsLaw_3 : List UInt8 := [180, 1, 80, 42, 182, 1, 74, 83, 42, 18, 89, 182, 1, 53, 153, 0, 20, 42, 182, 1, 28, 43]
abbrev dktX0_readsLaw_3 : List UInt8 := dkwX0_readsLaw_3 ++ dktX0_readsLaw_4
def dkwX0_readsLaw_2 : List UInt8 := [182, 1, 83, 42, 182, 1, 28, 43, 180, 1, 86, 43, 180, 1, 80, 28, 79, 43, 180, 1, 89, 43]
abbrev dktX0_readsLaw_2 : List UInt8 := dkwX0_readsLaw_2 ++ dktX0_readsLaw_3
def dkwX0_readsLaw_1 : List UInt8 := [182, 0, 255, 61, 42, 28, 2, 159, 0, 7, 4, 167, 0, 4, 3, 182, 1, 24, 42, 43, 180, 1, 80]
abbrev dktX0_readsLaw_1 : List UInt8 := dkwX0_readsLaw_1 ++ dktX0_readsLaw_2
def dkwX0_readsLaw_0 : List UInt8 := [187, 0, 116, 89, 183, 0, 118, 76, 42, 180, 0, 227, 178, 0, 246, 165, 0, 106, 42, 42, 180, 0, 103]
abbrev dktX0_readsLaw_0 : List UInt8 := dkwX0_readsLaw_0 ++ dktX0_readsLaw_1
theorem dksX0_readsLaw_0 : cX0_readsLaw.data.toList.drop 0 = dktX0_readsLaw_0 := by decide +kernel
theorem dksX0_readsLaw_1 : cX0_readsLaw.data.toList.drop 23 = dktX0_readsLaw_1 := dk_seg dksX0_readsLaw_0 23 rfl rfl
theorem dksX0_readsLaw_2 : cX0_readsLaw.data.toList.drop 46 = dktX0_readsLaw_2 := dk_seg dksX0_readsLaw_1 23 rfl rfl
theorem dksX0_readsLaw_3 : cX0_readsLaw.data.toList.drop 68 = dktX0_readsLaw_3 := dk_seg dksX0_readsLaw_2 22 rfl rfl
theorem dksX0_readsLaw_4 : cX0_readsLaw.data.toList.drop 90 = dktX0_readsLaw_4 := dk_seg dksX0_readsLaw_3 22 rfl rfl
theorem dksX0_readsLaw_5 : cX0_readsLaw.data.toList.drop 114 = dktX0_readsLaw_5 := dk_seg dksX0_readsLaw_4 24 rfl rfl
theorem dX0_readsLaw_0 : decode cX0_readsLaw 0 = .ok (.new 116, 3) := dk_187 0 116 (dk_at dksX0_readsLaw_0 0 rfl rfl)
theorem dX0_readsLaw_3 : decode cX0_readsLaw 3 = .ok (.dup, 1) := dk_89 (dk_at dksX0_readsLaw_0 3 rfl rfl)
theorem dX0_readsLaw_4 : decode cX0_readsLaw 4 = .ok (.invokespecial 118, 3) := dk_183 0 118 (dk_at dksX0_readsLaw_0 4 rfl rfl)
theorem dX0_readsLaw_7 : decode cX0_readsLaw 7 = .ok (.astore_n 1, 1) := dk_76 (dk_at dksX0_readsLaw_0 7 rfl rfl)
theorem dX0_readsLaw_8 : decode cX0_readsLaw 8 = .ok (.aload_n 0, 1) := dk_42 (dk_at dksX0_readsLaw_0 8 rfl rfl)
theorem dX0_readsLaw_9 : decode cX0_readsLaw 9 = .ok (.getfield 227, 3) := dk_180 0 227 (dk_at dksX0_readsLaw_0 9 rfl rfl)
theorem dX0_readsLaw_12 : decode cX0_readsLaw 12 = .ok (.getstatic 246, 3) := dk_178 0 246 (dk_at dksX0_readsLaw_0 12 rfl rfl)
theorem dX0_readsLaw_15 : decode cX0_readsLaw 15 = .ok (.if_acmp .eq 106, 3) := dk_165 0 106 (dk_at dksX0_readsLaw_0 15 rfl rfl)
theorem dX0_readsLaw_18 : decode cX0_readsLaw 18 = .ok (.aload_n 0, 1) := dk_42 (dk_at dksX0_readsLaw_0 18 rfl rfl)
theorem dX0_readsLaw_19 : decode cX0_readsLaw 19 = .ok (.aload_n 0, 1) := dk_42 (dk_at dksX0_readsLaw_0 19 rfl rfl)
theorem dX0_readsLaw_20 : decode cX0_readsLaw 20 = .ok (.getfield 103, 3) := dk_180 0 103 (dk_at dksX0_readsLaw_0 20 rfl rfl)
theorem dX0_readsLaw_23 : decode cX0_readsLaw 23 = .ok (.invokevirtual 255, 3) := dk_182 0 255 (dk_at dksX0_readsLaw_1 0 rfl rfl)
theorem dX0_readsLaw_26 : decode cX0_readsLaw 26 = .ok (.istore_n 2, 1) := dk_61 (dk_at dksX0_readsLaw_1 3 rfl rfl)
theorem dX0_readsLaw_27 : decode cX0_readsLaw 27 = .ok (.aload_n 0, 1) := dk_42 (dk_at dksX0_readsLaw_1 4 rfl rfl)
theorem dX0_readsLaw_28 : decode cX0_readsLaw 28 = .ok (.iload_n 2, 1) := dk_28 (dk_at dksX0_readsLaw_1 5 rfl rfl)
theorem dX0_readsLaw_29 : decode cX0_readsLaw 29 = .ok (.iconst (-1), 1) := dk_2 (dk_at dksX0_readsLaw_1 6 rfl rfl)
theorem dX0_readsLaw_30 : decode cX0_readsLaw 30 = .ok (.if_icmp .eq 7, 3) := dk_159 0 7 (dk_at dksX0_readsLaw_1 7 rfl rfl)
theorem dX0_readsLaw_33 : decode cX0_readsLaw 33 = .ok (.iconst 1, 1) := dk_4 (dk_at dksX0_readsLaw_1 10 rfl rfl)
theorem dX0_readsLaw_34 : decode cX0_readsLaw 34 = .ok (.goto 4, 3) := dk_167 0 4 (dk_at dksX0_readsLaw_1 11 rfl rfl)
theorem dX0_readsLaw_37 : decode cX0_readsLaw 37 = .ok (.iconst 0, 1) := dk_3 (dk_at dksX0_readsLaw_1 14 rfl rfl)
theorem dX0_readsLaw_38 : decode cX0_readsLaw 38 = .ok (.invokevirtual 280, 3) := dk_182 1 24 (dk_at dksX0_readsLaw_1 15 rfl rfl)
theorem dX0_readsLaw_41 : decode cX0_readsLaw 41 = .ok (.aload_n 0, 1) := dk_42 (dk_at dksX0_readsLaw_1 18 rfl rfl)
theorem dX0_readsLaw_42 : decode cX0_readsLaw 42 = .ok (.aload_n 1, 1) := dk_43 (dk_at dksX0_readsLaw_1 19 rfl rfl)
theorem dX0_readsLaw_43 : decode cX0_readsLaw 43 = .ok (.getfield 336, 3) := dk_180 1 80 (dk_at dksX0_readsLaw_1 20 rfl rfl)
theorem dX0_readsLaw_46 : decode cX0_readsLaw 46 = .ok (.invokevirtual 339, 3) := dk_182 1 83 (dk_at dksX0_readsLaw_2 0 rfl rfl)
theorem dX0_readsLaw_49 : decode cX0_readsLaw 49 = .ok (.aload_n 0, 1) := dk_42 (dk_at dksX0_readsLaw_2 3 rfl rfl)
theorem dX0_readsLaw_50 : decode cX0_readsLaw 50 = .ok (.invokevirtual 284, 3) := dk_182 1 28 (dk_at dksX0_readsLaw_2 4 rfl rfl)
theorem dX0_readsLaw_53 : decode cX0_readsLaw 53 = .ok (.aload_n 1, 1) := dk_43 (dk_at dksX0_readsLaw_2 7 rfl rfl)
theorem dX0_readsLaw_54 : decode cX0_readsLaw 54 = .ok (.getfield 342, 3) := dk_180 1 86 (dk_at dksX0_readsLaw_2 8 rfl rfl)
theorem dX0_readsLaw_57 : decode cX0_readsLaw 57 = .ok (.aload_n 1, 1) := dk_43 (dk_at dksX0_readsLaw_2 11 rfl rfl)
theorem dX0_readsLaw_58 : decode cX0_readsLaw 58 = .ok (.getfield 336, 3) := dk_180 1 80 (dk_at dksX0_readsLaw_2 12 rfl rfl)
theorem dX0_readsLaw_61 : decode cX0_readsLaw 61 = .ok (.iload_n 2, 1) := dk_28 (dk_at dksX0_readsLaw_2 15 rfl rfl)
theorem dX0_readsLaw_62 : decode cX0_readsLaw 62 = .ok (.iastore, 1) := dk_79 (dk_at dksX0_readsLaw_2 16 rfl rfl)
theorem dX0_readsLaw_63 : decode cX0_readsLaw 63 = .ok (.aload_n 1, 1) := dk_43 (dk_at dksX0_readsLaw_2 17 rfl rfl)
theorem dX0_readsLaw_64 : decode cX0_readsLaw 64 = .ok (.getfield 345, 3) := dk_180 1 89 (dk_at dksX0_readsLaw_2 18 rfl rfl)
theorem dX0_readsLaw_67 : decode cX0_readsLaw 67 = .ok (.aload_n 1, 1) := dk_43 (dk_at dksX0_readsLaw_2 21 rfl rfl)
theorem dX0_readsLaw_68 : decode cX0_readsLaw 68 = .ok (.getfield 336, 3) := dk_180 1 80 (dk_at dksX0_readsLaw_3 0 rfl rfl)
theorem dX0_readsLaw_71 : decode cX0_readsLaw 71 = .ok (.aload_n 0, 1) := dk_42 (dk_at dksX0_readsLaw_3 3 rfl rfl)
theorem dX0_readsLaw_72 : decode cX0_readsLaw 72 = .ok (.invokevirtual 330, 3) := dk_182 1 74 (dk_at dksX0_readsLaw_3 4 rfl rfl)
theorem dX0_readsLaw_75 : decode cX0_readsLaw 75 = .ok (.aastore, 1) := dk_83 (dk_at dksX0_readsLaw_3 7 rfl rfl)
theorem dX0_readsLaw_76 : decode cX0_readsLaw 76 = .ok (.aload_n 0, 1) := dk_42 (dk_at dksX0_readsLaw_3 8 rfl rfl)
theorem dX0_readsLaw_77 : decode cX0_readsLaw 77 = .ok (.ldc 89, 2) := dk_18 89 (dk_at dksX0_readsLaw_3 9 rfl rfl)
theorem dX0_readsLaw_79 : decode cX0_readsLaw 79 = .ok (.invokevirtual 309, 3) := dk_182 1 53 (dk_at dksX0_readsLaw_3 11 rfl rfl)
theorem dX0_readsLaw_82 : decode cX0_readsLaw 82 = .ok (.ifCond .eq 20, 3) := dk_153 0 20 (dk_at dksX0_readsLaw_3 14 rfl rfl)
theorem dX0_readsLaw_85 : decode cX0_readsLaw 85 = .ok (.aload_n 0, 1) := dk_42 (dk_at dksX0_readsLaw_3 17 rfl rfl)
theorem dX0_readsLaw_86 : decode cX0_readsLaw 86 = .ok (.invokevirtual 284, 3) := dk_182 1 28 (dk_at dksX0_readsLaw_3 18 rfl rfl)
theorem dX0_readsLaw_89 : decode cX0_readsLaw 89 = .ok (.aload_n 1, 1) := dk_43 (dk_at dksX0_readsLaw_3 21 rfl rfl)
theorem dX0_readsLaw_90 : decode cX0_readsLaw 90 = .ok (.getfield 348, 3) := dk_180 1 92 (dk_at dksX0_readsLaw_4 0 rfl rfl)
theorem dX0_readsLaw_93 : decode cX0_readsLaw 93 = .ok (.aload_n 1, 1) := dk_43 (dk_at dksX0_readsLaw_4 3 rfl rfl)
theorem dX0_readsLaw_94 : decode cX0_readsLaw 94 = .ok (.getfield 336, 3) := dk_180 1 80 (dk_at dksX0_readsLaw_4 4 rfl rfl)
theorem dX0_readsLaw_97 : decode cX0_readsLaw 97 = .ok (.aload_n 0, 1) := dk_42 (dk_at dksX0_readsLaw_4 7 rfl rfl)
theorem dX0_readsLaw_98 : decode cX0_readsLaw 98 = .ok (.invokevirtual 323, 3) := dk_182 1 67 (dk_at dksX0_readsLaw_4 8 rfl rfl)
theorem dX0_readsLaw_101 : decode cX0_readsLaw 101 = .ok (.aastore, 1) := dk_83 (dk_at dksX0_readsLaw_4 11 rfl rfl)
theorem dX0_readsLaw_102 : decode cX0_readsLaw 102 = .ok (.aload_n 0, 1) := dk_42 (dk_at dksX0_readsLaw_4 12 rfl rfl)
theorem dX0_readsLaw_103 : decode cX0_readsLaw 103 = .ok (.bipush 59, 2) := dk_16 59 (dk_at dksX0_readsLaw_4 13 rfl rfl)
theorem dX0_readsLaw_105 : decode cX0_readsLaw 105 = .ok (.invokevirtual 326, 3) := dk_182 1 70 (dk_at dksX0_readsLaw_4 15 rfl rfl)
theorem dX0_readsLaw_108 : decode cX0_readsLaw 108 = .ok (.aload_n 1, 1) := dk_43 (dk_at dksX0_readsLaw_4 18 rfl rfl)
theorem dX0_readsLaw_109 : decode cX0_readsLaw 109 = .ok (.dup, 1) := dk_89 (dk_at dksX0_readsLaw_4 19 rfl rfl)
theorem dX0_readsLaw_110 : decode cX0_readsLaw 110 = .ok (.getfield 336, 3) := dk_180 1 80 (dk_at dksX0_readsLaw_4 20 rfl rfl)
theorem dX0_readsLaw_113 : decode cX0_readsLaw 113 = .ok (.iconst 1, 1) := dk_4 (dk_at dksX0_readsLaw_4 23 rfl rfl)
theorem dX0_readsLaw_114 : decode cX0_readsLaw 114 = .ok (.iadd, 1) := dk_96 (dk_at dksX0_readsLaw_5 0 rfl rfl)
theorem dX0_readsLaw_115 : decode cX0_readsLaw 115 = .ok (.putfield 336, 3) := dk_181 1 80 (dk_at dksX0_readsLaw_5 1 rfl rfl)
theorem dX0_readsLaw_118 : decode cX0_readsLaw 118 = .ok (.goto (-110), 3) := dk_167 255 146 (dk_at dksX0_readsLaw_5 4 rfl rfl)
theorem dX0_readsLaw_121 : decode cX0_readsLaw 121 = .ok (.aload_n 1, 1) := dk_43 (dk_at dksX0_readsLaw_5 7 rfl rfl)
theorem dX0_readsLaw_122 : decode cX0_readsLaw 122 = .ok (.areturn, 1) := dk_176 (dk_at dksX0_readsLaw_5 8 rfl rfl)
abbrev cX0_sum : ByteArray := prog_1_method_23_code
def yX0_sum : MethodName := ⟨RX0, "sum", "()LEncores$Term;"⟩
def dkwX0_sum_2 : List UInt8 := [167, 255, 214, 43, 176]
abbrev dktX0_sum_2 : List UInt8 := dkwX0_sum_2 ++ []
def dkwX0_sum_1 : List UInt8 := [180, 0, 243, 146, 61, 42, 182, 1, 28, 187, 1, 42, 89, 28, 43, 42, 182, 1, 47, 183, 1, 44, 76]
abbrev dktX0_sum_1 : List UInt8 := dkwX0_sum_1 ++ dktX0_sum_2
def dkwX0_sum_0 : List UInt8 := [42, 182, 1, 47, 76, 42, 16, 43, 182, 1, 20, 154, 0, 12, 42, 16, 45, 182, 1, 20, 153, 0, 30, 42]
abbrev dktX0_sum_0 : List UInt8 := dkwX0_sum_0 ++ dktX0_sum_1
theorem dksX0_sum_0 : cX0_sum.data.toList.drop 0 = dktX0_sum_0 := by decide +kernel
theorem dksX0_sum_1 : cX0_sum.data.toList.drop 24 = dktX0_sum_1 := dk_seg dksX0_sum_0 24 rfl rfl
theorem dksX0_sum_2 : cX0_sum.data.toList.drop 47 = dktX0_sum_2 := dk_seg dksX0_sum_1 23 rfl rfl
theorem dX0_sum_0 : decode cX0_sum 0 = .ok (.aload_n 0, 1) := dk_42 (dk_at dksX0_sum_0 0 rfl rfl)
theorem dX0_sum_1 : decode cX0_sum 1 = .ok (.invokevirtual 303, 3) := dk_182 1 47 (dk_at dksX0_sum_0 1 rfl rfl)
theorem dX0_sum_4 : decode cX0_sum 4 = .ok (.astore_n 1, 1) := dk_76 (dk_at dksX0_sum_0 4 rfl rfl)
theorem dX0_sum_5 : decode cX0_sum 5 = .ok (.aload_n 0, 1) := dk_42 (dk_at dksX0_sum_0 5 rfl rfl)
theorem dX0_sum_6 : decode cX0_sum 6 = .ok (.bipush 43, 2) := dk_16 43 (dk_at dksX0_sum_0 6 rfl rfl)
theorem dX0_sum_8 : decode cX0_sum 8 = .ok (.invokevirtual 276, 3) := dk_182 1 20 (dk_at dksX0_sum_0 8 rfl rfl)
theorem dX0_sum_11 : decode cX0_sum 11 = .ok (.ifCond .ne 12, 3) := dk_154 0 12 (dk_at dksX0_sum_0 11 rfl rfl)
theorem dX0_sum_14 : decode cX0_sum 14 = .ok (.aload_n 0, 1) := dk_42 (dk_at dksX0_sum_0 14 rfl rfl)
theorem dX0_sum_15 : decode cX0_sum 15 = .ok (.bipush 45, 2) := dk_16 45 (dk_at dksX0_sum_0 15 rfl rfl)
theorem dX0_sum_17 : decode cX0_sum 17 = .ok (.invokevirtual 276, 3) := dk_182 1 20 (dk_at dksX0_sum_0 17 rfl rfl)
theorem dX0_sum_20 : decode cX0_sum 20 = .ok (.ifCond .eq 30, 3) := dk_153 0 30 (dk_at dksX0_sum_0 20 rfl rfl)
theorem dX0_sum_23 : decode cX0_sum 23 = .ok (.aload_n 0, 1) := dk_42 (dk_at dksX0_sum_0 23 rfl rfl)
theorem dX0_sum_24 : decode cX0_sum 24 = .ok (.getfield 243, 3) := dk_180 0 243 (dk_at dksX0_sum_1 0 rfl rfl)
theorem dX0_sum_27 : decode cX0_sum 27 = .ok (.i2c, 1) := dk_146 (dk_at dksX0_sum_1 3 rfl rfl)
theorem dX0_sum_28 : decode cX0_sum 28 = .ok (.istore_n 2, 1) := dk_61 (dk_at dksX0_sum_1 4 rfl rfl)
theorem dX0_sum_29 : decode cX0_sum 29 = .ok (.aload_n 0, 1) := dk_42 (dk_at dksX0_sum_1 5 rfl rfl)
theorem dX0_sum_30 : decode cX0_sum 30 = .ok (.invokevirtual 284, 3) := dk_182 1 28 (dk_at dksX0_sum_1 6 rfl rfl)
theorem dX0_sum_33 : decode cX0_sum 33 = .ok (.new 298, 3) := dk_187 1 42 (dk_at dksX0_sum_1 9 rfl rfl)
theorem dX0_sum_36 : decode cX0_sum 36 = .ok (.dup, 1) := dk_89 (dk_at dksX0_sum_1 12 rfl rfl)
theorem dX0_sum_37 : decode cX0_sum 37 = .ok (.iload_n 2, 1) := dk_28 (dk_at dksX0_sum_1 13 rfl rfl)
theorem dX0_sum_38 : decode cX0_sum 38 = .ok (.aload_n 1, 1) := dk_43 (dk_at dksX0_sum_1 14 rfl rfl)
theorem dX0_sum_39 : decode cX0_sum 39 = .ok (.aload_n 0, 1) := dk_42 (dk_at dksX0_sum_1 15 rfl rfl)
theorem dX0_sum_40 : decode cX0_sum 40 = .ok (.invokevirtual 303, 3) := dk_182 1 47 (dk_at dksX0_sum_1 16 rfl rfl)
theorem dX0_sum_43 : decode cX0_sum 43 = .ok (.invokespecial 300, 3) := dk_183 1 44 (dk_at dksX0_sum_1 19 rfl rfl)
theorem dX0_sum_46 : decode cX0_sum 46 = .ok (.astore_n 1, 1) := dk_76 (dk_at dksX0_sum_1 22 rfl rfl)
theorem dX0_sum_47 : decode cX0_sum 47 = .ok (.goto (-42), 3) := dk_167 255 214 (dk_at dksX0_sum_2 0 rfl rfl)
theorem dX0_sum_50 : decode cX0_sum 50 = .ok (.aload_n 1, 1) := dk_43 (dk_at dksX0_sum_2 3 rfl rfl)
theorem dX0_sum_51 : decode cX0_sum 51 = .ok (.areturn, 1) := dk_176 (dk_at dksX0_sum_2 4 rfl rfl)
abbrev cX0_product : ByteArray := prog_1_method_22_code
def yX0_product : MethodName := ⟨RX0, "product", "()LEncores$Term;"⟩
def dkwX0_product_4 : List UInt8 := [43, 176]
abbrev dktX0_product_4 : List UInt8 := dkwX0_product_4 ++ []
def dkwX0_product_3 : List UInt8 := [180, 0, 218, 183, 1, 17, 191, 187, 1, 42, 89, 28, 43, 42, 182, 1, 38, 183, 1, 44, 76, 167, 255, 169]
abbrev dktX0_product_3 : List UInt8 := dkwX0_product_3 ++ dktX0_product_4
def dkwX0_product_2 : List UInt8 := [166, 0, 7, 4, 167, 0, 4, 3, 182, 1, 24, 42, 180, 0, 243, 154, 0, 16, 187, 1, 15, 89, 5, 42]
abbrev dktX0_product_2 : List UInt8 := dkwX0_product_2 ++ dktX0_product_3
def dkwX0_product_1 : List UInt8 := [180, 0, 243, 146, 61, 42, 182, 1, 28, 28, 16, 47, 160, 0, 42, 42, 42, 180, 0, 227, 178, 1, 7]
abbrev dktX0_product_1 : List UInt8 := dkwX0_product_1 ++ dktX0_product_2
def dkwX0_product_0 : List UInt8 := [42, 182, 1, 38, 76, 42, 16, 42, 182, 1, 20, 154, 0, 12, 42, 16, 47, 182, 1, 20, 153, 0, 75, 42]
abbrev dktX0_product_0 : List UInt8 := dkwX0_product_0 ++ dktX0_product_1
theorem dksX0_product_0 : cX0_product.data.toList.drop 0 = dktX0_product_0 := by decide +kernel
theorem dksX0_product_1 : cX0_product.data.toList.drop 24 = dktX0_product_1 := dk_seg dksX0_product_0 24 rfl rfl
theorem dksX0_product_2 : cX0_product.data.toList.drop 47 = dktX0_product_2 := dk_seg dksX0_product_1 23 rfl rfl
theorem dksX0_product_3 : cX0_product.data.toList.drop 71 = dktX0_product_3 := dk_seg dksX0_product_2 24 rfl rfl
theorem dksX0_product_4 : cX0_product.data.toList.drop 95 = dktX0_product_4 := dk_seg dksX0_product_3 24 rfl rfl
theorem dX0_product_0 : decode cX0_product 0 = .ok (.aload_n 0, 1) := dk_42 (dk_at dksX0_product_0 0 rfl rfl)
theorem dX0_product_1 : decode cX0_product 1 = .ok (.invokevirtual 294, 3) := dk_182 1 38 (dk_at dksX0_product_0 1 rfl rfl)
theorem dX0_product_4 : decode cX0_product 4 = .ok (.astore_n 1, 1) := dk_76 (dk_at dksX0_product_0 4 rfl rfl)
theorem dX0_product_5 : decode cX0_product 5 = .ok (.aload_n 0, 1) := dk_42 (dk_at dksX0_product_0 5 rfl rfl)
theorem dX0_product_6 : decode cX0_product 6 = .ok (.bipush 42, 2) := dk_16 42 (dk_at dksX0_product_0 6 rfl rfl)
theorem dX0_product_8 : decode cX0_product 8 = .ok (.invokevirtual 276, 3) := dk_182 1 20 (dk_at dksX0_product_0 8 rfl rfl)
theorem dX0_product_11 : decode cX0_product 11 = .ok (.ifCond .ne 12, 3) := dk_154 0 12 (dk_at dksX0_product_0 11 rfl rfl)
theorem dX0_product_14 : decode cX0_product 14 = .ok (.aload_n 0, 1) := dk_42 (dk_at dksX0_product_0 14 rfl rfl)
theorem dX0_product_15 : decode cX0_product 15 = .ok (.bipush 47, 2) := dk_16 47 (dk_at dksX0_product_0 15 rfl rfl)
theorem dX0_product_17 : decode cX0_product 17 = .ok (.invokevirtual 276, 3) := dk_182 1 20 (dk_at dksX0_product_0 17 rfl rfl)
theorem dX0_product_20 : decode cX0_product 20 = .ok (.ifCond .eq 75, 3) := dk_153 0 75 (dk_at dksX0_product_0 20 rfl rfl)
theorem dX0_product_23 : decode cX0_product 23 = .ok (.aload_n 0, 1) := dk_42 (dk_at dksX0_product_0 23 rfl rfl)
theorem dX0_product_24 : decode cX0_product 24 = .ok (.getfield 243, 3) := dk_180 0 243 (dk_at dksX0_product_1 0 rfl rfl)
theorem dX0_product_27 : decode cX0_product 27 = .ok (.i2c, 1) := dk_146 (dk_at dksX0_product_1 3 rfl rfl)
theorem dX0_product_28 : decode cX0_product 28 = .ok (.istore_n 2, 1) := dk_61 (dk_at dksX0_product_1 4 rfl rfl)
theorem dX0_product_29 : decode cX0_product 29 = .ok (.aload_n 0, 1) := dk_42 (dk_at dksX0_product_1 5 rfl rfl)
theorem dX0_product_30 : decode cX0_product 30 = .ok (.invokevirtual 284, 3) := dk_182 1 28 (dk_at dksX0_product_1 6 rfl rfl)
theorem dX0_product_33 : decode cX0_product 33 = .ok (.iload_n 2, 1) := dk_28 (dk_at dksX0_product_1 9 rfl rfl)
theorem dX0_product_34 : decode cX0_product 34 = .ok (.bipush 47, 2) := dk_16 47 (dk_at dksX0_product_1 10 rfl rfl)
theorem dX0_product_36 : decode cX0_product 36 = .ok (.if_icmp .ne 42, 3) := dk_160 0 42 (dk_at dksX0_product_1 12 rfl rfl)
theorem dX0_product_39 : decode cX0_product 39 = .ok (.aload_n 0, 1) := dk_42 (dk_at dksX0_product_1 15 rfl rfl)
theorem dX0_product_40 : decode cX0_product 40 = .ok (.aload_n 0, 1) := dk_42 (dk_at dksX0_product_1 16 rfl rfl)
theorem dX0_product_41 : decode cX0_product 41 = .ok (.getfield 227, 3) := dk_180 0 227 (dk_at dksX0_product_1 17 rfl rfl)
theorem dX0_product_44 : decode cX0_product 44 = .ok (.getstatic 263, 3) := dk_178 1 7 (dk_at dksX0_product_1 20 rfl rfl)
theorem dX0_product_47 : decode cX0_product 47 = .ok (.if_acmp .ne 7, 3) := dk_166 0 7 (dk_at dksX0_product_2 0 rfl rfl)
theorem dX0_product_50 : decode cX0_product 50 = .ok (.iconst 1, 1) := dk_4 (dk_at dksX0_product_2 3 rfl rfl)
theorem dX0_product_51 : decode cX0_product 51 = .ok (.goto 4, 3) := dk_167 0 4 (dk_at dksX0_product_2 4 rfl rfl)
theorem dX0_product_54 : decode cX0_product 54 = .ok (.iconst 0, 1) := dk_3 (dk_at dksX0_product_2 7 rfl rfl)
theorem dX0_product_55 : decode cX0_product 55 = .ok (.invokevirtual 280, 3) := dk_182 1 24 (dk_at dksX0_product_2 8 rfl rfl)
theorem dX0_product_58 : decode cX0_product 58 = .ok (.aload_n 0, 1) := dk_42 (dk_at dksX0_product_2 11 rfl rfl)
theorem dX0_product_59 : decode cX0_product 59 = .ok (.getfield 243, 3) := dk_180 0 243 (dk_at dksX0_product_2 12 rfl rfl)
theorem dX0_product_62 : decode cX0_product 62 = .ok (.ifCond .ne 16, 3) := dk_154 0 16 (dk_at dksX0_product_2 15 rfl rfl)
theorem dX0_product_65 : decode cX0_product 65 = .ok (.new 271, 3) := dk_187 1 15 (dk_at dksX0_product_2 18 rfl rfl)
theorem dX0_product_68 : decode cX0_product 68 = .ok (.dup, 1) := dk_89 (dk_at dksX0_product_2 21 rfl rfl)
theorem dX0_product_69 : decode cX0_product 69 = .ok (.iconst 2, 1) := dk_5 (dk_at dksX0_product_2 22 rfl rfl)
theorem dX0_product_70 : decode cX0_product 70 = .ok (.aload_n 0, 1) := dk_42 (dk_at dksX0_product_2 23 rfl rfl)
theorem dX0_product_71 : decode cX0_product 71 = .ok (.getfield 218, 3) := dk_180 0 218 (dk_at dksX0_product_3 0 rfl rfl)
theorem dX0_product_74 : decode cX0_product 74 = .ok (.invokespecial 273, 3) := dk_183 1 17 (dk_at dksX0_product_3 3 rfl rfl)
theorem dX0_product_77 : decode cX0_product 77 = .ok (.athrow, 1) := dk_191 (dk_at dksX0_product_3 6 rfl rfl)
theorem dX0_product_78 : decode cX0_product 78 = .ok (.new 298, 3) := dk_187 1 42 (dk_at dksX0_product_3 7 rfl rfl)
theorem dX0_product_81 : decode cX0_product 81 = .ok (.dup, 1) := dk_89 (dk_at dksX0_product_3 10 rfl rfl)
theorem dX0_product_82 : decode cX0_product 82 = .ok (.iload_n 2, 1) := dk_28 (dk_at dksX0_product_3 11 rfl rfl)
theorem dX0_product_83 : decode cX0_product 83 = .ok (.aload_n 1, 1) := dk_43 (dk_at dksX0_product_3 12 rfl rfl)
theorem dX0_product_84 : decode cX0_product 84 = .ok (.aload_n 0, 1) := dk_42 (dk_at dksX0_product_3 13 rfl rfl)
theorem dX0_product_85 : decode cX0_product 85 = .ok (.invokevirtual 294, 3) := dk_182 1 38 (dk_at dksX0_product_3 14 rfl rfl)
theorem dX0_product_88 : decode cX0_product 88 = .ok (.invokespecial 300, 3) := dk_183 1 44 (dk_at dksX0_product_3 17 rfl rfl)
theorem dX0_product_91 : decode cX0_product 91 = .ok (.astore_n 1, 1) := dk_76 (dk_at dksX0_product_3 20 rfl rfl)
theorem dX0_product_92 : decode cX0_product 92 = .ok (.goto (-87), 3) := dk_167 255 169 (dk_at dksX0_product_3 21 rfl rfl)
theorem dX0_product_95 : decode cX0_product 95 = .ok (.aload_n 1, 1) := dk_43 (dk_at dksX0_product_4 0 rfl rfl)
theorem dX0_product_96 : decode cX0_product 96 = .ok (.areturn, 1) := dk_176 (dk_at dksX0_product_4 1 rfl rfl)
abbrev cX0_unit : ByteArray := prog_1_method_21_code
def yX0_unit : MethodName := ⟨RX0, "unit", "()LEncores$Term;"⟩
def dkwX0_unit_2 : List UInt8 := [182, 1, 24, 42, 182, 1, 28, 187, 1, 35, 89, 27, 183, 1, 37, 176]
abbrev dktX0_unit_2 : List UInt8 := dkwX0_unit_2 ++ []
def dkwX0_unit_1 : List UInt8 := [183, 1, 33, 176, 42, 42, 180, 0, 106, 182, 0, 255, 60, 42, 27, 2, 159, 0, 7, 4, 167, 0, 4, 3]
abbrev dktX0_unit_1 : List UInt8 := dkwX0_unit_1 ++ dktX0_unit_2
def dkwX0_unit_0 : List UInt8 := [42, 180, 0, 227, 178, 1, 7, 166, 0, 21, 42, 180, 0, 243, 60, 42, 182, 1, 28, 187, 1, 31, 89, 27]
abbrev dktX0_unit_0 : List UInt8 := dkwX0_unit_0 ++ dktX0_unit_1
theorem dksX0_unit_0 : cX0_unit.data.toList.drop 0 = dktX0_unit_0 := by decide +kernel
theorem dksX0_unit_1 : cX0_unit.data.toList.drop 24 = dktX0_unit_1 := dk_seg dksX0_unit_0 24 rfl rfl
theorem dksX0_unit_2 : cX0_unit.data.toList.drop 48 = dktX0_unit_2 := dk_seg dksX0_unit_1 24 rfl rfl
theorem dX0_unit_0 : decode cX0_unit 0 = .ok (.aload_n 0, 1) := dk_42 (dk_at dksX0_unit_0 0 rfl rfl)
theorem dX0_unit_1 : decode cX0_unit 1 = .ok (.getfield 227, 3) := dk_180 0 227 (dk_at dksX0_unit_0 1 rfl rfl)
theorem dX0_unit_4 : decode cX0_unit 4 = .ok (.getstatic 263, 3) := dk_178 1 7 (dk_at dksX0_unit_0 4 rfl rfl)
theorem dX0_unit_7 : decode cX0_unit 7 = .ok (.if_acmp .ne 21, 3) := dk_166 0 21 (dk_at dksX0_unit_0 7 rfl rfl)
theorem dX0_unit_10 : decode cX0_unit 10 = .ok (.aload_n 0, 1) := dk_42 (dk_at dksX0_unit_0 10 rfl rfl)
theorem dX0_unit_11 : decode cX0_unit 11 = .ok (.getfield 243, 3) := dk_180 0 243 (dk_at dksX0_unit_0 11 rfl rfl)
theorem dX0_unit_14 : decode cX0_unit 14 = .ok (.istore_n 1, 1) := dk_60 (dk_at dksX0_unit_0 14 rfl rfl)
theorem dX0_unit_15 : decode cX0_unit 15 = .ok (.aload_n 0, 1) := dk_42 (dk_at dksX0_unit_0 15 rfl rfl)
theorem dX0_unit_16 : decode cX0_unit 16 = .ok (.invokevirtual 284, 3) := dk_182 1 28 (dk_at dksX0_unit_0 16 rfl rfl)
theorem dX0_unit_19 : decode cX0_unit 19 = .ok (.new 287, 3) := dk_187 1 31 (dk_at dksX0_unit_0 19 rfl rfl)
theorem dX0_unit_22 : decode cX0_unit 22 = .ok (.dup, 1) := dk_89 (dk_at dksX0_unit_0 22 rfl rfl)
theorem dX0_unit_23 : decode cX0_unit 23 = .ok (.iload_n 1, 1) := dk_27 (dk_at dksX0_unit_0 23 rfl rfl)
theorem dX0_unit_24 : decode cX0_unit 24 = .ok (.invokespecial 289, 3) := dk_183 1 33 (dk_at dksX0_unit_1 0 rfl rfl)
theorem dX0_unit_27 : decode cX0_unit 27 = .ok (.areturn, 1) := dk_176 (dk_at dksX0_unit_1 3 rfl rfl)
theorem dX0_unit_28 : decode cX0_unit 28 = .ok (.aload_n 0, 1) := dk_42 (dk_at dksX0_unit_1 4 rfl rfl)
theorem dX0_unit_29 : decode cX0_unit 29 = .ok (.aload_n 0, 1) := dk_42 (dk_at dksX0_unit_1 5 rfl rfl)
theorem dX0_unit_30 : decode cX0_unit 30 = .ok (.getfield 106, 3) := dk_180 0 106 (dk_at dksX0_unit_1 6 rfl rfl)
theorem dX0_unit_33 : decode cX0_unit 33 = .ok (.invokevirtual 255, 3) := dk_182 0 255 (dk_at dksX0_unit_1 9 rfl rfl)
theorem dX0_unit_36 : decode cX0_unit 36 = .ok (.istore_n 1, 1) := dk_60 (dk_at dksX0_unit_1 12 rfl rfl)
theorem dX0_unit_37 : decode cX0_unit 37 = .ok (.aload_n 0, 1) := dk_42 (dk_at dksX0_unit_1 13 rfl rfl)
theorem dX0_unit_38 : decode cX0_unit 38 = .ok (.iload_n 1, 1) := dk_27 (dk_at dksX0_unit_1 14 rfl rfl)
theorem dX0_unit_39 : decode cX0_unit 39 = .ok (.iconst (-1), 1) := dk_2 (dk_at dksX0_unit_1 15 rfl rfl)
theorem dX0_unit_40 : decode cX0_unit 40 = .ok (.if_icmp .eq 7, 3) := dk_159 0 7 (dk_at dksX0_unit_1 16 rfl rfl)
theorem dX0_unit_43 : decode cX0_unit 43 = .ok (.iconst 1, 1) := dk_4 (dk_at dksX0_unit_1 19 rfl rfl)
theorem dX0_unit_44 : decode cX0_unit 44 = .ok (.goto 4, 3) := dk_167 0 4 (dk_at dksX0_unit_1 20 rfl rfl)
theorem dX0_unit_47 : decode cX0_unit 47 = .ok (.iconst 0, 1) := dk_3 (dk_at dksX0_unit_1 23 rfl rfl)
theorem dX0_unit_48 : decode cX0_unit 48 = .ok (.invokevirtual 280, 3) := dk_182 1 24 (dk_at dksX0_unit_2 0 rfl rfl)
theorem dX0_unit_51 : decode cX0_unit 51 = .ok (.aload_n 0, 1) := dk_42 (dk_at dksX0_unit_2 3 rfl rfl)
theorem dX0_unit_52 : decode cX0_unit 52 = .ok (.invokevirtual 284, 3) := dk_182 1 28 (dk_at dksX0_unit_2 4 rfl rfl)
theorem dX0_unit_55 : decode cX0_unit 55 = .ok (.new 291, 3) := dk_187 1 35 (dk_at dksX0_unit_2 7 rfl rfl)
theorem dX0_unit_58 : decode cX0_unit 58 = .ok (.dup, 1) := dk_89 (dk_at dksX0_unit_2 10 rfl rfl)
theorem dX0_unit_59 : decode cX0_unit 59 = .ok (.iload_n 1, 1) := dk_27 (dk_at dksX0_unit_2 11 rfl rfl)
theorem dX0_unit_60 : decode cX0_unit 60 = .ok (.invokespecial 293, 3) := dk_183 1 37 (dk_at dksX0_unit_2 12 rfl rfl)
theorem dX0_unit_63 : decode cX0_unit 63 = .ok (.areturn, 1) := dk_176 (dk_at dksX0_unit_2 15 rfl rfl)
abbrev cX0_any : ByteArray := prog_1_method_27_code
def yX0_any : MethodName := ⟨RX0, "any", "()LEncores$Term;"⟩
def dkwX0_any_1 : List UInt8 := [43, 42, 182, 1, 77, 183, 1, 44, 76, 167, 255, 228, 43, 176]
abbrev dktX0_any_1 : List UInt8 := dkwX0_any_1 ++ []
def dkwX0_any_0 : List UInt8 := [42, 182, 1, 77, 76, 42, 18, 91, 182, 1, 53, 153, 0, 25, 42, 182, 1, 28, 187, 1, 42, 89, 16, 124]
abbrev dktX0_any_0 : List UInt8 := dkwX0_any_0 ++ dktX0_any_1
theorem dksX0_any_0 : cX0_any.data.toList.drop 0 = dktX0_any_0 := by decide +kernel
theorem dksX0_any_1 : cX0_any.data.toList.drop 24 = dktX0_any_1 := dk_seg dksX0_any_0 24 rfl rfl
theorem dX0_any_0 : decode cX0_any 0 = .ok (.aload_n 0, 1) := dk_42 (dk_at dksX0_any_0 0 rfl rfl)
theorem dX0_any_1 : decode cX0_any 1 = .ok (.invokevirtual 333, 3) := dk_182 1 77 (dk_at dksX0_any_0 1 rfl rfl)
theorem dX0_any_4 : decode cX0_any 4 = .ok (.astore_n 1, 1) := dk_76 (dk_at dksX0_any_0 4 rfl rfl)
theorem dX0_any_5 : decode cX0_any 5 = .ok (.aload_n 0, 1) := dk_42 (dk_at dksX0_any_0 5 rfl rfl)
theorem dX0_any_6 : decode cX0_any 6 = .ok (.ldc 91, 2) := dk_18 91 (dk_at dksX0_any_0 6 rfl rfl)
theorem dX0_any_8 : decode cX0_any 8 = .ok (.invokevirtual 309, 3) := dk_182 1 53 (dk_at dksX0_any_0 8 rfl rfl)
theorem dX0_any_11 : decode cX0_any 11 = .ok (.ifCond .eq 25, 3) := dk_153 0 25 (dk_at dksX0_any_0 11 rfl rfl)
theorem dX0_any_14 : decode cX0_any 14 = .ok (.aload_n 0, 1) := dk_42 (dk_at dksX0_any_0 14 rfl rfl)
theorem dX0_any_15 : decode cX0_any 15 = .ok (.invokevirtual 284, 3) := dk_182 1 28 (dk_at dksX0_any_0 15 rfl rfl)
theorem dX0_any_18 : decode cX0_any 18 = .ok (.new 298, 3) := dk_187 1 42 (dk_at dksX0_any_0 18 rfl rfl)
theorem dX0_any_21 : decode cX0_any 21 = .ok (.dup, 1) := dk_89 (dk_at dksX0_any_0 21 rfl rfl)
theorem dX0_any_22 : decode cX0_any 22 = .ok (.bipush 124, 2) := dk_16 124 (dk_at dksX0_any_0 22 rfl rfl)
theorem dX0_any_24 : decode cX0_any 24 = .ok (.aload_n 1, 1) := dk_43 (dk_at dksX0_any_1 0 rfl rfl)
theorem dX0_any_25 : decode cX0_any 25 = .ok (.aload_n 0, 1) := dk_42 (dk_at dksX0_any_1 1 rfl rfl)
theorem dX0_any_26 : decode cX0_any 26 = .ok (.invokevirtual 333, 3) := dk_182 1 77 (dk_at dksX0_any_1 2 rfl rfl)
theorem dX0_any_29 : decode cX0_any 29 = .ok (.invokespecial 300, 3) := dk_183 1 44 (dk_at dksX0_any_1 5 rfl rfl)
theorem dX0_any_32 : decode cX0_any 32 = .ok (.astore_n 1, 1) := dk_76 (dk_at dksX0_any_1 8 rfl rfl)
theorem dX0_any_33 : decode cX0_any 33 = .ok (.goto (-28), 3) := dk_167 255 228 (dk_at dksX0_any_1 9 rfl rfl)
theorem dX0_any_36 : decode cX0_any 36 = .ok (.aload_n 1, 1) := dk_43 (dk_at dksX0_any_1 12 rfl rfl)
theorem dX0_any_37 : decode cX0_any 37 = .ok (.areturn, 1) := dk_176 (dk_at dksX0_any_1 13 rfl rfl)
abbrev cX0_both : ByteArray := prog_1_method_26_code
def yX0_both : MethodName := ⟨RX0, "both", "()LEncores$Term;"⟩
def dkwX0_both_1 : List UInt8 := [43, 42, 182, 1, 59, 183, 1, 44, 76, 167, 255, 228, 43, 176]
abbrev dktX0_both_1 : List UInt8 := dkwX0_both_1 ++ []
def dkwX0_both_0 : List UInt8 := [42, 182, 1, 59, 76, 42, 18, 93, 182, 1, 53, 153, 0, 25, 42, 182, 1, 28, 187, 1, 42, 89, 16, 38]
abbrev dktX0_both_0 : List UInt8 := dkwX0_both_0 ++ dktX0_both_1
theorem dksX0_both_0 : cX0_both.data.toList.drop 0 = dktX0_both_0 := by decide +kernel
theorem dksX0_both_1 : cX0_both.data.toList.drop 24 = dktX0_both_1 := dk_seg dksX0_both_0 24 rfl rfl
theorem dX0_both_0 : decode cX0_both 0 = .ok (.aload_n 0, 1) := dk_42 (dk_at dksX0_both_0 0 rfl rfl)
theorem dX0_both_1 : decode cX0_both 1 = .ok (.invokevirtual 315, 3) := dk_182 1 59 (dk_at dksX0_both_0 1 rfl rfl)
theorem dX0_both_4 : decode cX0_both 4 = .ok (.astore_n 1, 1) := dk_76 (dk_at dksX0_both_0 4 rfl rfl)
theorem dX0_both_5 : decode cX0_both 5 = .ok (.aload_n 0, 1) := dk_42 (dk_at dksX0_both_0 5 rfl rfl)
theorem dX0_both_6 : decode cX0_both 6 = .ok (.ldc 93, 2) := dk_18 93 (dk_at dksX0_both_0 6 rfl rfl)
theorem dX0_both_8 : decode cX0_both 8 = .ok (.invokevirtual 309, 3) := dk_182 1 53 (dk_at dksX0_both_0 8 rfl rfl)
theorem dX0_both_11 : decode cX0_both 11 = .ok (.ifCond .eq 25, 3) := dk_153 0 25 (dk_at dksX0_both_0 11 rfl rfl)
theorem dX0_both_14 : decode cX0_both 14 = .ok (.aload_n 0, 1) := dk_42 (dk_at dksX0_both_0 14 rfl rfl)
theorem dX0_both_15 : decode cX0_both 15 = .ok (.invokevirtual 284, 3) := dk_182 1 28 (dk_at dksX0_both_0 15 rfl rfl)
theorem dX0_both_18 : decode cX0_both 18 = .ok (.new 298, 3) := dk_187 1 42 (dk_at dksX0_both_0 18 rfl rfl)
theorem dX0_both_21 : decode cX0_both 21 = .ok (.dup, 1) := dk_89 (dk_at dksX0_both_0 21 rfl rfl)
theorem dX0_both_22 : decode cX0_both 22 = .ok (.bipush 38, 2) := dk_16 38 (dk_at dksX0_both_0 22 rfl rfl)
theorem dX0_both_24 : decode cX0_both 24 = .ok (.aload_n 1, 1) := dk_43 (dk_at dksX0_both_1 0 rfl rfl)
theorem dX0_both_25 : decode cX0_both 25 = .ok (.aload_n 0, 1) := dk_42 (dk_at dksX0_both_1 1 rfl rfl)
theorem dX0_both_26 : decode cX0_both 26 = .ok (.invokevirtual 315, 3) := dk_182 1 59 (dk_at dksX0_both_1 2 rfl rfl)
theorem dX0_both_29 : decode cX0_both 29 = .ok (.invokespecial 300, 3) := dk_183 1 44 (dk_at dksX0_both_1 5 rfl rfl)
theorem dX0_both_32 : decode cX0_both 32 = .ok (.astore_n 1, 1) := dk_76 (dk_at dksX0_both_1 8 rfl rfl)
theorem dX0_both_33 : decode cX0_both 33 = .ok (.goto (-28), 3) := dk_167 255 228 (dk_at dksX0_both_1 9 rfl rfl)
theorem dX0_both_36 : decode cX0_both 36 = .ok (.aload_n 1, 1) := dk_43 (dk_at dksX0_both_1 12 rfl rfl)
theorem dX0_both_37 : decode cX0_both 37 = .ok (.areturn, 1) := dk_176 (dk_at dksX0_both_1 13 rfl rfl)
abbrev cX0_oneOf : ByteArray := prog_1_method_25_code
def yX0_oneOf : MethodName := ⟨RX0, "oneOf", "()LEncores$Term;"⟩
def dkwX0_oneOf_5 : List UInt8 := [146, 61, 42, 182, 1, 28, 187, 1, 42, 89, 28, 43, 42, 182, 1, 74, 183, 1, 44, 176]
abbrev dktX0_oneOf_5 : List UInt8 := dkwX0_oneOf_5 ++ []
def dkwX0_oneOf_4 : List UInt8 := [154, 0, 12, 42, 16, 62, 182, 1, 20, 153, 0, 7, 4, 167, 0, 4, 3, 182, 1, 24, 42, 180, 0, 243]
abbrev dktX0_oneOf_4 : List UInt8 := dkwX0_oneOf_4 ++ dktX0_oneOf_5
def dkwX0_oneOf_3 : List UInt8 := [43, 176, 42, 182, 1, 74, 76, 42, 42, 16, 60, 182, 1, 20, 154, 0, 21, 42, 16, 61, 182, 1, 20]
abbrev dktX0_oneOf_3 : List UInt8 := dkwX0_oneOf_3 ++ dktX0_oneOf_4
def dkwX0_oneOf_2 : List UInt8 := [182, 1, 56, 42, 182, 1, 67, 76, 42, 16, 41, 182, 1, 70, 42, 89, 180, 1, 50, 4, 100, 181, 1, 50]
abbrev dktX0_oneOf_2 : List UInt8 := dkwX0_oneOf_2 ++ dktX0_oneOf_3
def dkwX0_oneOf_1 : List UInt8 := [100, 181, 1, 50, 187, 1, 62, 89, 43, 183, 1, 64, 176, 42, 16, 40, 182, 1, 20, 153, 0, 30, 42]
abbrev dktX0_oneOf_1 : List UInt8 := dkwX0_oneOf_1 ++ dktX0_oneOf_2
def dkwX0_oneOf_0 : List UInt8 := [42, 18, 95, 182, 1, 53, 153, 0, 31, 42, 182, 1, 56, 42, 182, 1, 59, 76, 42, 89, 180, 1, 50, 4]
abbrev dktX0_oneOf_0 : List UInt8 := dkwX0_oneOf_0 ++ dktX0_oneOf_1
theorem dksX0_oneOf_0 : cX0_oneOf.data.toList.drop 0 = dktX0_oneOf_0 := by decide +kernel
theorem dksX0_oneOf_1 : cX0_oneOf.data.toList.drop 24 = dktX0_oneOf_1 := dk_seg dksX0_oneOf_0 24 rfl rfl
theorem dksX0_oneOf_2 : cX0_oneOf.data.toList.drop 47 = dktX0_oneOf_2 := dk_seg dksX0_oneOf_1 23 rfl rfl
theorem dksX0_oneOf_3 : cX0_oneOf.data.toList.drop 71 = dktX0_oneOf_3 := dk_seg dksX0_oneOf_2 24 rfl rfl
theorem dksX0_oneOf_4 : cX0_oneOf.data.toList.drop 94 = dktX0_oneOf_4 := dk_seg dksX0_oneOf_3 23 rfl rfl
theorem dksX0_oneOf_5 : cX0_oneOf.data.toList.drop 118 = dktX0_oneOf_5 := dk_seg dksX0_oneOf_4 24 rfl rfl
theorem dX0_oneOf_0 : decode cX0_oneOf 0 = .ok (.aload_n 0, 1) := dk_42 (dk_at dksX0_oneOf_0 0 rfl rfl)
theorem dX0_oneOf_1 : decode cX0_oneOf 1 = .ok (.ldc 95, 2) := dk_18 95 (dk_at dksX0_oneOf_0 1 rfl rfl)
theorem dX0_oneOf_3 : decode cX0_oneOf 3 = .ok (.invokevirtual 309, 3) := dk_182 1 53 (dk_at dksX0_oneOf_0 3 rfl rfl)
theorem dX0_oneOf_6 : decode cX0_oneOf 6 = .ok (.ifCond .eq 31, 3) := dk_153 0 31 (dk_at dksX0_oneOf_0 6 rfl rfl)
theorem dX0_oneOf_9 : decode cX0_oneOf 9 = .ok (.aload_n 0, 1) := dk_42 (dk_at dksX0_oneOf_0 9 rfl rfl)
theorem dX0_oneOf_10 : decode cX0_oneOf 10 = .ok (.invokevirtual 312, 3) := dk_182 1 56 (dk_at dksX0_oneOf_0 10 rfl rfl)
theorem dX0_oneOf_13 : decode cX0_oneOf 13 = .ok (.aload_n 0, 1) := dk_42 (dk_at dksX0_oneOf_0 13 rfl rfl)
theorem dX0_oneOf_14 : decode cX0_oneOf 14 = .ok (.invokevirtual 315, 3) := dk_182 1 59 (dk_at dksX0_oneOf_0 14 rfl rfl)
theorem dX0_oneOf_17 : decode cX0_oneOf 17 = .ok (.astore_n 1, 1) := dk_76 (dk_at dksX0_oneOf_0 17 rfl rfl)
theorem dX0_oneOf_18 : decode cX0_oneOf 18 = .ok (.aload_n 0, 1) := dk_42 (dk_at dksX0_oneOf_0 18 rfl rfl)
theorem dX0_oneOf_19 : decode cX0_oneOf 19 = .ok (.dup, 1) := dk_89 (dk_at dksX0_oneOf_0 19 rfl rfl)
theorem dX0_oneOf_20 : decode cX0_oneOf 20 = .ok (.getfield 306, 3) := dk_180 1 50 (dk_at dksX0_oneOf_0 20 rfl rfl)
theorem dX0_oneOf_23 : decode cX0_oneOf 23 = .ok (.iconst 1, 1) := dk_4 (dk_at dksX0_oneOf_0 23 rfl rfl)
theorem dX0_oneOf_24 : decode cX0_oneOf 24 = .ok (.isub, 1) := dk_100 (dk_at dksX0_oneOf_1 0 rfl rfl)
theorem dX0_oneOf_25 : decode cX0_oneOf 25 = .ok (.putfield 306, 3) := dk_181 1 50 (dk_at dksX0_oneOf_1 1 rfl rfl)
theorem dX0_oneOf_28 : decode cX0_oneOf 28 = .ok (.new 318, 3) := dk_187 1 62 (dk_at dksX0_oneOf_1 4 rfl rfl)
theorem dX0_oneOf_31 : decode cX0_oneOf 31 = .ok (.dup, 1) := dk_89 (dk_at dksX0_oneOf_1 7 rfl rfl)
theorem dX0_oneOf_32 : decode cX0_oneOf 32 = .ok (.aload_n 1, 1) := dk_43 (dk_at dksX0_oneOf_1 8 rfl rfl)
theorem dX0_oneOf_33 : decode cX0_oneOf 33 = .ok (.invokespecial 320, 3) := dk_183 1 64 (dk_at dksX0_oneOf_1 9 rfl rfl)
theorem dX0_oneOf_36 : decode cX0_oneOf 36 = .ok (.areturn, 1) := dk_176 (dk_at dksX0_oneOf_1 12 rfl rfl)
theorem dX0_oneOf_37 : decode cX0_oneOf 37 = .ok (.aload_n 0, 1) := dk_42 (dk_at dksX0_oneOf_1 13 rfl rfl)
theorem dX0_oneOf_38 : decode cX0_oneOf 38 = .ok (.bipush 40, 2) := dk_16 40 (dk_at dksX0_oneOf_1 14 rfl rfl)
theorem dX0_oneOf_40 : decode cX0_oneOf 40 = .ok (.invokevirtual 276, 3) := dk_182 1 20 (dk_at dksX0_oneOf_1 16 rfl rfl)
theorem dX0_oneOf_43 : decode cX0_oneOf 43 = .ok (.ifCond .eq 30, 3) := dk_153 0 30 (dk_at dksX0_oneOf_1 19 rfl rfl)
theorem dX0_oneOf_46 : decode cX0_oneOf 46 = .ok (.aload_n 0, 1) := dk_42 (dk_at dksX0_oneOf_1 22 rfl rfl)
theorem dX0_oneOf_47 : decode cX0_oneOf 47 = .ok (.invokevirtual 312, 3) := dk_182 1 56 (dk_at dksX0_oneOf_2 0 rfl rfl)
theorem dX0_oneOf_50 : decode cX0_oneOf 50 = .ok (.aload_n 0, 1) := dk_42 (dk_at dksX0_oneOf_2 3 rfl rfl)
theorem dX0_oneOf_51 : decode cX0_oneOf 51 = .ok (.invokevirtual 323, 3) := dk_182 1 67 (dk_at dksX0_oneOf_2 4 rfl rfl)
theorem dX0_oneOf_54 : decode cX0_oneOf 54 = .ok (.astore_n 1, 1) := dk_76 (dk_at dksX0_oneOf_2 7 rfl rfl)
theorem dX0_oneOf_55 : decode cX0_oneOf 55 = .ok (.aload_n 0, 1) := dk_42 (dk_at dksX0_oneOf_2 8 rfl rfl)
theorem dX0_oneOf_56 : decode cX0_oneOf 56 = .ok (.bipush 41, 2) := dk_16 41 (dk_at dksX0_oneOf_2 9 rfl rfl)
theorem dX0_oneOf_58 : decode cX0_oneOf 58 = .ok (.invokevirtual 326, 3) := dk_182 1 70 (dk_at dksX0_oneOf_2 11 rfl rfl)
theorem dX0_oneOf_61 : decode cX0_oneOf 61 = .ok (.aload_n 0, 1) := dk_42 (dk_at dksX0_oneOf_2 14 rfl rfl)
theorem dX0_oneOf_62 : decode cX0_oneOf 62 = .ok (.dup, 1) := dk_89 (dk_at dksX0_oneOf_2 15 rfl rfl)
theorem dX0_oneOf_63 : decode cX0_oneOf 63 = .ok (.getfield 306, 3) := dk_180 1 50 (dk_at dksX0_oneOf_2 16 rfl rfl)
theorem dX0_oneOf_66 : decode cX0_oneOf 66 = .ok (.iconst 1, 1) := dk_4 (dk_at dksX0_oneOf_2 19 rfl rfl)
theorem dX0_oneOf_67 : decode cX0_oneOf 67 = .ok (.isub, 1) := dk_100 (dk_at dksX0_oneOf_2 20 rfl rfl)
theorem dX0_oneOf_68 : decode cX0_oneOf 68 = .ok (.putfield 306, 3) := dk_181 1 50 (dk_at dksX0_oneOf_2 21 rfl rfl)
theorem dX0_oneOf_71 : decode cX0_oneOf 71 = .ok (.aload_n 1, 1) := dk_43 (dk_at dksX0_oneOf_3 0 rfl rfl)
theorem dX0_oneOf_72 : decode cX0_oneOf 72 = .ok (.areturn, 1) := dk_176 (dk_at dksX0_oneOf_3 1 rfl rfl)
theorem dX0_oneOf_73 : decode cX0_oneOf 73 = .ok (.aload_n 0, 1) := dk_42 (dk_at dksX0_oneOf_3 2 rfl rfl)
theorem dX0_oneOf_74 : decode cX0_oneOf 74 = .ok (.invokevirtual 330, 3) := dk_182 1 74 (dk_at dksX0_oneOf_3 3 rfl rfl)
theorem dX0_oneOf_77 : decode cX0_oneOf 77 = .ok (.astore_n 1, 1) := dk_76 (dk_at dksX0_oneOf_3 6 rfl rfl)
theorem dX0_oneOf_78 : decode cX0_oneOf 78 = .ok (.aload_n 0, 1) := dk_42 (dk_at dksX0_oneOf_3 7 rfl rfl)
theorem dX0_oneOf_79 : decode cX0_oneOf 79 = .ok (.aload_n 0, 1) := dk_42 (dk_at dksX0_oneOf_3 8 rfl rfl)
theorem dX0_oneOf_80 : decode cX0_oneOf 80 = .ok (.bipush 60, 2) := dk_16 60 (dk_at dksX0_oneOf_3 9 rfl rfl)
theorem dX0_oneOf_82 : decode cX0_oneOf 82 = .ok (.invokevirtual 276, 3) := dk_182 1 20 (dk_at dksX0_oneOf_3 11 rfl rfl)
theorem dX0_oneOf_85 : decode cX0_oneOf 85 = .ok (.ifCond .ne 21, 3) := dk_154 0 21 (dk_at dksX0_oneOf_3 14 rfl rfl)
theorem dX0_oneOf_88 : decode cX0_oneOf 88 = .ok (.aload_n 0, 1) := dk_42 (dk_at dksX0_oneOf_3 17 rfl rfl)
theorem dX0_oneOf_89 : decode cX0_oneOf 89 = .ok (.bipush 61, 2) := dk_16 61 (dk_at dksX0_oneOf_3 18 rfl rfl)
theorem dX0_oneOf_91 : decode cX0_oneOf 91 = .ok (.invokevirtual 276, 3) := dk_182 1 20 (dk_at dksX0_oneOf_3 20 rfl rfl)
theorem dX0_oneOf_94 : decode cX0_oneOf 94 = .ok (.ifCond .ne 12, 3) := dk_154 0 12 (dk_at dksX0_oneOf_4 0 rfl rfl)
theorem dX0_oneOf_97 : decode cX0_oneOf 97 = .ok (.aload_n 0, 1) := dk_42 (dk_at dksX0_oneOf_4 3 rfl rfl)
theorem dX0_oneOf_98 : decode cX0_oneOf 98 = .ok (.bipush 62, 2) := dk_16 62 (dk_at dksX0_oneOf_4 4 rfl rfl)
theorem dX0_oneOf_100 : decode cX0_oneOf 100 = .ok (.invokevirtual 276, 3) := dk_182 1 20 (dk_at dksX0_oneOf_4 6 rfl rfl)
theorem dX0_oneOf_103 : decode cX0_oneOf 103 = .ok (.ifCond .eq 7, 3) := dk_153 0 7 (dk_at dksX0_oneOf_4 9 rfl rfl)
theorem dX0_oneOf_106 : decode cX0_oneOf 106 = .ok (.iconst 1, 1) := dk_4 (dk_at dksX0_oneOf_4 12 rfl rfl)
theorem dX0_oneOf_107 : decode cX0_oneOf 107 = .ok (.goto 4, 3) := dk_167 0 4 (dk_at dksX0_oneOf_4 13 rfl rfl)
theorem dX0_oneOf_110 : decode cX0_oneOf 110 = .ok (.iconst 0, 1) := dk_3 (dk_at dksX0_oneOf_4 16 rfl rfl)
theorem dX0_oneOf_111 : decode cX0_oneOf 111 = .ok (.invokevirtual 280, 3) := dk_182 1 24 (dk_at dksX0_oneOf_4 17 rfl rfl)
theorem dX0_oneOf_114 : decode cX0_oneOf 114 = .ok (.aload_n 0, 1) := dk_42 (dk_at dksX0_oneOf_4 20 rfl rfl)
theorem dX0_oneOf_115 : decode cX0_oneOf 115 = .ok (.getfield 243, 3) := dk_180 0 243 (dk_at dksX0_oneOf_4 21 rfl rfl)
theorem dX0_oneOf_118 : decode cX0_oneOf 118 = .ok (.i2c, 1) := dk_146 (dk_at dksX0_oneOf_5 0 rfl rfl)
theorem dX0_oneOf_119 : decode cX0_oneOf 119 = .ok (.istore_n 2, 1) := dk_61 (dk_at dksX0_oneOf_5 1 rfl rfl)
theorem dX0_oneOf_120 : decode cX0_oneOf 120 = .ok (.aload_n 0, 1) := dk_42 (dk_at dksX0_oneOf_5 2 rfl rfl)
theorem dX0_oneOf_121 : decode cX0_oneOf 121 = .ok (.invokevirtual 284, 3) := dk_182 1 28 (dk_at dksX0_oneOf_5 3 rfl rfl)
theorem dX0_oneOf_124 : decode cX0_oneOf 124 = .ok (.new 298, 3) := dk_187 1 42 (dk_at dksX0_oneOf_5 6 rfl rfl)
theorem dX0_oneOf_127 : decode cX0_oneOf 127 = .ok (.dup, 1) := dk_89 (dk_at dksX0_oneOf_5 9 rfl rfl)
theorem dX0_oneOf_128 : decode cX0_oneOf 128 = .ok (.iload_n 2, 1) := dk_28 (dk_at dksX0_oneOf_5 10 rfl rfl)
theorem dX0_oneOf_129 : decode cX0_oneOf 129 = .ok (.aload_n 1, 1) := dk_43 (dk_at dksX0_oneOf_5 11 rfl rfl)
theorem dX0_oneOf_130 : decode cX0_oneOf 130 = .ok (.aload_n 0, 1) := dk_42 (dk_at dksX0_oneOf_5 12 rfl rfl)
theorem dX0_oneOf_131 : decode cX0_oneOf 131 = .ok (.invokevirtual 330, 3) := dk_182 1 74 (dk_at dksX0_oneOf_5 13 rfl rfl)
theorem dX0_oneOf_134 : decode cX0_oneOf 134 = .ok (.invokespecial 300, 3) := dk_183 1 44 (dk_at dksX0_oneOf_5 16 rfl rfl)
theorem dX0_oneOf_137 : decode cX0_oneOf 137 = .ok (.areturn, 1) := dk_176 (dk_at dksX0_oneOf_5 19 rfl rfl)
abbrev cX0_opens : ByteArray := prog_1_method_24_code
def yX0_opens : MethodName := ⟨RX0, "opens", "()V"⟩
def dkwX0_opens_1 : List UInt8 := [180, 1, 50, 4, 96, 181, 1, 50, 42, 182, 1, 28, 177]
abbrev dktX0_opens_1 : List UInt8 := dkwX0_opens_1 ++ []
def dkwX0_opens_0 : List UInt8 := [42, 180, 1, 50, 16, 8, 160, 0, 16, 187, 1, 15, 89, 6, 42, 180, 0, 218, 183, 1, 17, 191, 42, 89]
abbrev dktX0_opens_0 : List UInt8 := dkwX0_opens_0 ++ dktX0_opens_1
theorem dksX0_opens_0 : cX0_opens.data.toList.drop 0 = dktX0_opens_0 := by decide +kernel
theorem dksX0_opens_1 : cX0_opens.data.toList.drop 24 = dktX0_opens_1 := dk_seg dksX0_opens_0 24 rfl rfl
theorem dX0_opens_0 : decode cX0_opens 0 = .ok (.aload_n 0, 1) := dk_42 (dk_at dksX0_opens_0 0 rfl rfl)
theorem dX0_opens_1 : decode cX0_opens 1 = .ok (.getfield 306, 3) := dk_180 1 50 (dk_at dksX0_opens_0 1 rfl rfl)
theorem dX0_opens_4 : decode cX0_opens 4 = .ok (.bipush 8, 2) := dk_16 8 (dk_at dksX0_opens_0 4 rfl rfl)
theorem dX0_opens_6 : decode cX0_opens 6 = .ok (.if_icmp .ne 16, 3) := dk_160 0 16 (dk_at dksX0_opens_0 6 rfl rfl)
theorem dX0_opens_9 : decode cX0_opens 9 = .ok (.new 271, 3) := dk_187 1 15 (dk_at dksX0_opens_0 9 rfl rfl)
theorem dX0_opens_12 : decode cX0_opens 12 = .ok (.dup, 1) := dk_89 (dk_at dksX0_opens_0 12 rfl rfl)
theorem dX0_opens_13 : decode cX0_opens 13 = .ok (.iconst 3, 1) := dk_6 (dk_at dksX0_opens_0 13 rfl rfl)
theorem dX0_opens_14 : decode cX0_opens 14 = .ok (.aload_n 0, 1) := dk_42 (dk_at dksX0_opens_0 14 rfl rfl)
theorem dX0_opens_15 : decode cX0_opens 15 = .ok (.getfield 218, 3) := dk_180 0 218 (dk_at dksX0_opens_0 15 rfl rfl)
theorem dX0_opens_18 : decode cX0_opens 18 = .ok (.invokespecial 273, 3) := dk_183 1 17 (dk_at dksX0_opens_0 18 rfl rfl)
theorem dX0_opens_21 : decode cX0_opens 21 = .ok (.athrow, 1) := dk_191 (dk_at dksX0_opens_0 21 rfl rfl)
theorem dX0_opens_22 : decode cX0_opens 22 = .ok (.aload_n 0, 1) := dk_42 (dk_at dksX0_opens_0 22 rfl rfl)
theorem dX0_opens_23 : decode cX0_opens 23 = .ok (.dup, 1) := dk_89 (dk_at dksX0_opens_0 23 rfl rfl)
theorem dX0_opens_24 : decode cX0_opens 24 = .ok (.getfield 306, 3) := dk_180 1 50 (dk_at dksX0_opens_1 0 rfl rfl)
theorem dX0_opens_27 : decode cX0_opens 27 = .ok (.iconst 1, 1) := dk_4 (dk_at dksX0_opens_1 3 rfl rfl)
theorem dX0_opens_28 : decode cX0_opens 28 = .ok (.iadd, 1) := dk_96 (dk_at dksX0_opens_1 4 rfl rfl)
theorem dX0_opens_29 : decode cX0_opens 29 = .ok (.putfield 306, 3) := dk_181 1 50 (dk_at dksX0_opens_1 5 rfl rfl)
theorem dX0_opens_32 : decode cX0_opens 32 = .ok (.aload_n 0, 1) := dk_42 (dk_at dksX0_opens_1 8 rfl rfl)
theorem dX0_opens_33 : decode cX0_opens 33 = .ok (.invokevirtual 284, 3) := dk_182 1 28 (dk_at dksX0_opens_1 9 rfl rfl)
theorem dX0_opens_36 : decode cX0_opens 36 = .ok (.return_, 1) := dk_177 (dk_at dksX0_opens_1 12 rfl rfl)
abbrev cX0_fault : ByteArray := prog_1_method_41_code
def yX0_fault : MethodName := ⟨RX0, "fault", "(I)I"⟩
def dkwX0_fault_1 : List UInt8 := [172]
abbrev dktX0_fault_1 : List UInt8 := dkwX0_fault_1 ++ []
def dkwX0_fault_0 : List UInt8 := [27, 154, 0, 10, 42, 180, 1, 152, 167, 0, 16, 27, 4, 160, 0, 10, 42, 180, 0, 112, 167, 0, 4, 2]
abbrev dktX0_fault_0 : List UInt8 := dkwX0_fault_0 ++ dktX0_fault_1
theorem dksX0_fault_0 : cX0_fault.data.toList.drop 0 = dktX0_fault_0 := by decide +kernel
theorem dksX0_fault_1 : cX0_fault.data.toList.drop 24 = dktX0_fault_1 := dk_seg dksX0_fault_0 24 rfl rfl
theorem dX0_fault_0 : decode cX0_fault 0 = .ok (.iload_n 1, 1) := dk_27 (dk_at dksX0_fault_0 0 rfl rfl)
theorem dX0_fault_1 : decode cX0_fault 1 = .ok (.ifCond .ne 10, 3) := dk_154 0 10 (dk_at dksX0_fault_0 1 rfl rfl)
theorem dX0_fault_4 : decode cX0_fault 4 = .ok (.aload_n 0, 1) := dk_42 (dk_at dksX0_fault_0 4 rfl rfl)
theorem dX0_fault_5 : decode cX0_fault 5 = .ok (.getfield 408, 3) := dk_180 1 152 (dk_at dksX0_fault_0 5 rfl rfl)
theorem dX0_fault_8 : decode cX0_fault 8 = .ok (.goto 16, 3) := dk_167 0 16 (dk_at dksX0_fault_0 8 rfl rfl)
theorem dX0_fault_11 : decode cX0_fault 11 = .ok (.iload_n 1, 1) := dk_27 (dk_at dksX0_fault_0 11 rfl rfl)
theorem dX0_fault_12 : decode cX0_fault 12 = .ok (.iconst 1, 1) := dk_4 (dk_at dksX0_fault_0 12 rfl rfl)
theorem dX0_fault_13 : decode cX0_fault 13 = .ok (.if_icmp .ne 10, 3) := dk_160 0 10 (dk_at dksX0_fault_0 13 rfl rfl)
theorem dX0_fault_16 : decode cX0_fault 16 = .ok (.aload_n 0, 1) := dk_42 (dk_at dksX0_fault_0 16 rfl rfl)
theorem dX0_fault_17 : decode cX0_fault 17 = .ok (.getfield 112, 3) := dk_180 0 112 (dk_at dksX0_fault_0 17 rfl rfl)
theorem dX0_fault_20 : decode cX0_fault 20 = .ok (.goto 4, 3) := dk_167 0 4 (dk_at dksX0_fault_0 20 rfl rfl)
theorem dX0_fault_23 : decode cX0_fault 23 = .ok (.iconst (-1), 1) := dk_2 (dk_at dksX0_fault_0 23 rfl rfl)
theorem dX0_fault_24 : decode cX0_fault 24 = .ok (.ireturn, 1) := dk_172 (dk_at dksX0_fault_1 0 rfl rfl)
abbrev cX0_undo : ByteArray := prog_1_method_47_code
def yX0_undo : MethodName := ⟨RX0, "undo", "()Z"⟩
def dkwX0_undo_1 : List UInt8 := [180, 0, 173, 42, 180, 1, 139, 50, 182, 1, 178, 4, 172]
abbrev dktX0_undo_1 : List UInt8 := dkwX0_undo_1 ++ []
def dkwX0_undo_0 : List UInt8 := [42, 180, 1, 139, 154, 0, 5, 3, 172, 42, 89, 180, 1, 139, 4, 100, 181, 1, 139, 42, 180, 0, 160, 42]
abbrev dktX0_undo_0 : List UInt8 := dkwX0_undo_0 ++ dktX0_undo_1
theorem dksX0_undo_0 : cX0_undo.data.toList.drop 0 = dktX0_undo_0 := by decide +kernel
theorem dksX0_undo_1 : cX0_undo.data.toList.drop 24 = dktX0_undo_1 := dk_seg dksX0_undo_0 24 rfl rfl
theorem dX0_undo_0 : decode cX0_undo 0 = .ok (.aload_n 0, 1) := dk_42 (dk_at dksX0_undo_0 0 rfl rfl)
theorem dX0_undo_1 : decode cX0_undo 1 = .ok (.getfield 395, 3) := dk_180 1 139 (dk_at dksX0_undo_0 1 rfl rfl)
theorem dX0_undo_4 : decode cX0_undo 4 = .ok (.ifCond .ne 5, 3) := dk_154 0 5 (dk_at dksX0_undo_0 4 rfl rfl)
theorem dX0_undo_7 : decode cX0_undo 7 = .ok (.iconst 0, 1) := dk_3 (dk_at dksX0_undo_0 7 rfl rfl)
theorem dX0_undo_8 : decode cX0_undo 8 = .ok (.ireturn, 1) := dk_172 (dk_at dksX0_undo_0 8 rfl rfl)
theorem dX0_undo_9 : decode cX0_undo 9 = .ok (.aload_n 0, 1) := dk_42 (dk_at dksX0_undo_0 9 rfl rfl)
theorem dX0_undo_10 : decode cX0_undo 10 = .ok (.dup, 1) := dk_89 (dk_at dksX0_undo_0 10 rfl rfl)
theorem dX0_undo_11 : decode cX0_undo 11 = .ok (.getfield 395, 3) := dk_180 1 139 (dk_at dksX0_undo_0 11 rfl rfl)
theorem dX0_undo_14 : decode cX0_undo 14 = .ok (.iconst 1, 1) := dk_4 (dk_at dksX0_undo_0 14 rfl rfl)
theorem dX0_undo_15 : decode cX0_undo 15 = .ok (.isub, 1) := dk_100 (dk_at dksX0_undo_0 15 rfl rfl)
theorem dX0_undo_16 : decode cX0_undo 16 = .ok (.putfield 395, 3) := dk_181 1 139 (dk_at dksX0_undo_0 16 rfl rfl)
theorem dX0_undo_19 : decode cX0_undo 19 = .ok (.aload_n 0, 1) := dk_42 (dk_at dksX0_undo_0 19 rfl rfl)
theorem dX0_undo_20 : decode cX0_undo 20 = .ok (.getfield 160, 3) := dk_180 0 160 (dk_at dksX0_undo_0 20 rfl rfl)
theorem dX0_undo_23 : decode cX0_undo 23 = .ok (.aload_n 0, 1) := dk_42 (dk_at dksX0_undo_0 23 rfl rfl)
theorem dX0_undo_24 : decode cX0_undo 24 = .ok (.getfield 173, 3) := dk_180 0 173 (dk_at dksX0_undo_1 0 rfl rfl)
theorem dX0_undo_27 : decode cX0_undo 27 = .ok (.aload_n 0, 1) := dk_42 (dk_at dksX0_undo_1 3 rfl rfl)
theorem dX0_undo_28 : decode cX0_undo 28 = .ok (.getfield 395, 3) := dk_180 1 139 (dk_at dksX0_undo_1 4 rfl rfl)
theorem dX0_undo_31 : decode cX0_undo 31 = .ok (.aaload, 1) := dk_50 (dk_at dksX0_undo_1 7 rfl rfl)
theorem dX0_undo_32 : decode cX0_undo 32 = .ok (.invokevirtual 434, 3) := dk_182 1 178 (dk_at dksX0_undo_1 8 rfl rfl)
theorem dX0_undo_35 : decode cX0_undo 35 = .ok (.iconst 1, 1) := dk_4 (dk_at dksX0_undo_1 11 rfl rfl)
theorem dX0_undo_36 : decode cX0_undo 36 = .ok (.ireturn, 1) := dk_172 (dk_at dksX0_undo_1 12 rfl rfl)
abbrev cX0_copies : ByteArray := prog_1_method_4_code
def yX0_copies : MethodName := ⟨RX0, "copies", "([I[I)V"⟩
def dkwX0_copies_0 : List UInt8 := [42, 3, 43, 3, 42, 190, 184, 0, 10, 177]
abbrev dktX0_copies_0 : List UInt8 := dkwX0_copies_0 ++ []
theorem dksX0_copies_0 : cX0_copies.data.toList.drop 0 = dktX0_copies_0 := by decide +kernel
theorem dX0_copies_0 : decode cX0_copies 0 = .ok (.aload_n 0, 1) := dk_42 (dk_at dksX0_copies_0 0 rfl rfl)
theorem dX0_copies_1 : decode cX0_copies 1 = .ok (.iconst 0, 1) := dk_3 (dk_at dksX0_copies_0 1 rfl rfl)
theorem dX0_copies_2 : decode cX0_copies 2 = .ok (.aload_n 1, 1) := dk_43 (dk_at dksX0_copies_0 2 rfl rfl)
theorem dX0_copies_3 : decode cX0_copies 3 = .ok (.iconst 0, 1) := dk_3 (dk_at dksX0_copies_0 3 rfl rfl)
theorem dX0_copies_4 : decode cX0_copies 4 = .ok (.aload_n 0, 1) := dk_42 (dk_at dksX0_copies_0 4 rfl rfl)
theorem dX0_copies_5 : decode cX0_copies 5 = .ok (.arraylength, 1) := dk_190 (dk_at dksX0_copies_0 5 rfl rfl)
theorem dX0_copies_6 : decode cX0_copies 6 = .ok (.invokestatic 10, 3) := dk_184 0 10 (dk_at dksX0_copies_0 6 rfl rfl)
theorem dX0_copies_9 : decode cX0_copies 9 = .ok (.return_, 1) := dk_177 (dk_at dksX0_copies_0 9 rfl rfl)
abbrev cX0_state : ByteArray := prog_1_method_50_code
def yX0_state : MethodName := ⟨RX0, "state", "(I)I"⟩
def dkwX0_state_0 : List UInt8 := [42, 180, 0, 160, 180, 1, 182, 61, 42, 180, 0, 160, 27, 181, 1, 182, 42, 3, 181, 1, 139, 28, 172]
abbrev dktX0_state_0 : List UInt8 := dkwX0_state_0 ++ []
theorem dksX0_state_0 : cX0_state.data.toList.drop 0 = dktX0_state_0 := by decide +kernel
theorem dX0_state_0 : decode cX0_state 0 = .ok (.aload_n 0, 1) := dk_42 (dk_at dksX0_state_0 0 rfl rfl)
theorem dX0_state_1 : decode cX0_state 1 = .ok (.getfield 160, 3) := dk_180 0 160 (dk_at dksX0_state_0 1 rfl rfl)
theorem dX0_state_4 : decode cX0_state 4 = .ok (.getfield 438, 3) := dk_180 1 182 (dk_at dksX0_state_0 4 rfl rfl)
theorem dX0_state_7 : decode cX0_state 7 = .ok (.istore_n 2, 1) := dk_61 (dk_at dksX0_state_0 7 rfl rfl)
theorem dX0_state_8 : decode cX0_state 8 = .ok (.aload_n 0, 1) := dk_42 (dk_at dksX0_state_0 8 rfl rfl)
theorem dX0_state_9 : decode cX0_state 9 = .ok (.getfield 160, 3) := dk_180 0 160 (dk_at dksX0_state_0 9 rfl rfl)
theorem dX0_state_12 : decode cX0_state 12 = .ok (.iload_n 1, 1) := dk_27 (dk_at dksX0_state_0 12 rfl rfl)
theorem dX0_state_13 : decode cX0_state 13 = .ok (.putfield 438, 3) := dk_181 1 182 (dk_at dksX0_state_0 13 rfl rfl)
theorem dX0_state_16 : decode cX0_state 16 = .ok (.aload_n 0, 1) := dk_42 (dk_at dksX0_state_0 16 rfl rfl)
theorem dX0_state_17 : decode cX0_state 17 = .ok (.iconst 0, 1) := dk_3 (dk_at dksX0_state_0 17 rfl rfl)
theorem dX0_state_18 : decode cX0_state 18 = .ok (.putfield 395, 3) := dk_181 1 139 (dk_at dksX0_state_0 18 rfl rfl)
theorem dX0_state_21 : decode cX0_state 21 = .ok (.iload_n 2, 1) := dk_28 (dk_at dksX0_state_0 21 rfl rfl)
theorem dX0_state_22 : decode cX0_state 22 = .ok (.ireturn, 1) := dk_172 (dk_at dksX0_state_0 22 rfl rfl)
abbrev cX0_hearer : ByteArray := prog_1_method_51_code
def yX0_hearer : MethodName := ⟨RX0, "hearer", "(III)I"⟩
def dkwX0_hearer_5 : List UInt8 := [180, 1, 113, 4, 96, 181, 1, 113, 42, 3, 181, 1, 139, 21, 4, 172]
abbrev dktX0_hearer_5 : List UInt8 := dkwX0_hearer_5 ++ []
def dkwX0_hearer_4 : List UInt8 := [181, 1, 187, 42, 180, 0, 160, 89, 180, 1, 190, 4, 21, 4, 120, 2, 130, 126, 181, 1, 190, 42, 89]
abbrev dktX0_hearer_4 : List UInt8 := dkwX0_hearer_4 ++ dktX0_hearer_5
def dkwX0_hearer_3 : List UInt8 := [180, 0, 160, 180, 1, 185, 21, 4, 3, 79, 42, 180, 0, 160, 89, 180, 1, 187, 4, 21, 4, 120, 128]
abbrev dktX0_hearer_3 : List UInt8 := dkwX0_hearer_3 ++ dktX0_hearer_4
def dkwX0_hearer_2 : List UInt8 := [180, 0, 141, 21, 4, 27, 79, 42, 180, 0, 143, 21, 4, 28, 79, 42, 180, 0, 145, 21, 4, 29, 79, 42]
abbrev dktX0_hearer_2 : List UInt8 := dkwX0_hearer_2 ++ dktX0_hearer_3
def dkwX0_hearer_1 : List UInt8 := [184, 0, 207, 153, 0, 12, 42, 180, 1, 113, 16, 12, 160, 0, 5, 2, 172, 42, 180, 1, 113, 54, 4, 42]
abbrev dktX0_hearer_1 : List UInt8 := dkwX0_hearer_1 ++ dktX0_hearer_2
def dkwX0_hearer_0 : List UInt8 := [27, 3, 16, 9, 184, 0, 207, 153, 0, 32, 28, 3, 16, 9, 184, 0, 207, 153, 0, 22, 29, 3, 16, 9]
abbrev dktX0_hearer_0 : List UInt8 := dkwX0_hearer_0 ++ dktX0_hearer_1
theorem dksX0_hearer_0 : cX0_hearer.data.toList.drop 0 = dktX0_hearer_0 := by decide +kernel
theorem dksX0_hearer_1 : cX0_hearer.data.toList.drop 24 = dktX0_hearer_1 := dk_seg dksX0_hearer_0 24 rfl rfl
theorem dksX0_hearer_2 : cX0_hearer.data.toList.drop 48 = dktX0_hearer_2 := dk_seg dksX0_hearer_1 24 rfl rfl
theorem dksX0_hearer_3 : cX0_hearer.data.toList.drop 72 = dktX0_hearer_3 := dk_seg dksX0_hearer_2 24 rfl rfl
theorem dksX0_hearer_4 : cX0_hearer.data.toList.drop 95 = dktX0_hearer_4 := dk_seg dksX0_hearer_3 23 rfl rfl
theorem dksX0_hearer_5 : cX0_hearer.data.toList.drop 118 = dktX0_hearer_5 := dk_seg dksX0_hearer_4 23 rfl rfl
theorem dX0_hearer_0 : decode cX0_hearer 0 = .ok (.iload_n 1, 1) := dk_27 (dk_at dksX0_hearer_0 0 rfl rfl)
theorem dX0_hearer_1 : decode cX0_hearer 1 = .ok (.iconst 0, 1) := dk_3 (dk_at dksX0_hearer_0 1 rfl rfl)
theorem dX0_hearer_2 : decode cX0_hearer 2 = .ok (.bipush 9, 2) := dk_16 9 (dk_at dksX0_hearer_0 2 rfl rfl)
theorem dX0_hearer_4 : decode cX0_hearer 4 = .ok (.invokestatic 207, 3) := dk_184 0 207 (dk_at dksX0_hearer_0 4 rfl rfl)
theorem dX0_hearer_7 : decode cX0_hearer 7 = .ok (.ifCond .eq 32, 3) := dk_153 0 32 (dk_at dksX0_hearer_0 7 rfl rfl)
theorem dX0_hearer_10 : decode cX0_hearer 10 = .ok (.iload_n 2, 1) := dk_28 (dk_at dksX0_hearer_0 10 rfl rfl)
theorem dX0_hearer_11 : decode cX0_hearer 11 = .ok (.iconst 0, 1) := dk_3 (dk_at dksX0_hearer_0 11 rfl rfl)
theorem dX0_hearer_12 : decode cX0_hearer 12 = .ok (.bipush 9, 2) := dk_16 9 (dk_at dksX0_hearer_0 12 rfl rfl)
theorem dX0_hearer_14 : decode cX0_hearer 14 = .ok (.invokestatic 207, 3) := dk_184 0 207 (dk_at dksX0_hearer_0 14 rfl rfl)
theorem dX0_hearer_17 : decode cX0_hearer 17 = .ok (.ifCond .eq 22, 3) := dk_153 0 22 (dk_at dksX0_hearer_0 17 rfl rfl)
theorem dX0_hearer_20 : decode cX0_hearer 20 = .ok (.iload_n 3, 1) := dk_29 (dk_at dksX0_hearer_0 20 rfl rfl)
theorem dX0_hearer_21 : decode cX0_hearer 21 = .ok (.iconst 0, 1) := dk_3 (dk_at dksX0_hearer_0 21 rfl rfl)
theorem dX0_hearer_22 : decode cX0_hearer 22 = .ok (.bipush 9, 2) := dk_16 9 (dk_at dksX0_hearer_0 22 rfl rfl)
theorem dX0_hearer_24 : decode cX0_hearer 24 = .ok (.invokestatic 207, 3) := dk_184 0 207 (dk_at dksX0_hearer_1 0 rfl rfl)
theorem dX0_hearer_27 : decode cX0_hearer 27 = .ok (.ifCond .eq 12, 3) := dk_153 0 12 (dk_at dksX0_hearer_1 3 rfl rfl)
theorem dX0_hearer_30 : decode cX0_hearer 30 = .ok (.aload_n 0, 1) := dk_42 (dk_at dksX0_hearer_1 6 rfl rfl)
theorem dX0_hearer_31 : decode cX0_hearer 31 = .ok (.getfield 369, 3) := dk_180 1 113 (dk_at dksX0_hearer_1 7 rfl rfl)
theorem dX0_hearer_34 : decode cX0_hearer 34 = .ok (.bipush 12, 2) := dk_16 12 (dk_at dksX0_hearer_1 10 rfl rfl)
theorem dX0_hearer_36 : decode cX0_hearer 36 = .ok (.if_icmp .ne 5, 3) := dk_160 0 5 (dk_at dksX0_hearer_1 12 rfl rfl)
theorem dX0_hearer_39 : decode cX0_hearer 39 = .ok (.iconst (-1), 1) := dk_2 (dk_at dksX0_hearer_1 15 rfl rfl)
theorem dX0_hearer_40 : decode cX0_hearer 40 = .ok (.ireturn, 1) := dk_172 (dk_at dksX0_hearer_1 16 rfl rfl)
theorem dX0_hearer_41 : decode cX0_hearer 41 = .ok (.aload_n 0, 1) := dk_42 (dk_at dksX0_hearer_1 17 rfl rfl)
theorem dX0_hearer_42 : decode cX0_hearer 42 = .ok (.getfield 369, 3) := dk_180 1 113 (dk_at dksX0_hearer_1 18 rfl rfl)
theorem dX0_hearer_45 : decode cX0_hearer 45 = .ok (.istore 4, 2) := dk_54 4 (dk_at dksX0_hearer_1 21 rfl rfl)
theorem dX0_hearer_47 : decode cX0_hearer 47 = .ok (.aload_n 0, 1) := dk_42 (dk_at dksX0_hearer_1 23 rfl rfl)
theorem dX0_hearer_48 : decode cX0_hearer 48 = .ok (.getfield 141, 3) := dk_180 0 141 (dk_at dksX0_hearer_2 0 rfl rfl)
theorem dX0_hearer_51 : decode cX0_hearer 51 = .ok (.iload 4, 2) := dk_21 4 (dk_at dksX0_hearer_2 3 rfl rfl)
theorem dX0_hearer_53 : decode cX0_hearer 53 = .ok (.iload_n 1, 1) := dk_27 (dk_at dksX0_hearer_2 5 rfl rfl)
theorem dX0_hearer_54 : decode cX0_hearer 54 = .ok (.iastore, 1) := dk_79 (dk_at dksX0_hearer_2 6 rfl rfl)
theorem dX0_hearer_55 : decode cX0_hearer 55 = .ok (.aload_n 0, 1) := dk_42 (dk_at dksX0_hearer_2 7 rfl rfl)
theorem dX0_hearer_56 : decode cX0_hearer 56 = .ok (.getfield 143, 3) := dk_180 0 143 (dk_at dksX0_hearer_2 8 rfl rfl)
theorem dX0_hearer_59 : decode cX0_hearer 59 = .ok (.iload 4, 2) := dk_21 4 (dk_at dksX0_hearer_2 11 rfl rfl)
theorem dX0_hearer_61 : decode cX0_hearer 61 = .ok (.iload_n 2, 1) := dk_28 (dk_at dksX0_hearer_2 13 rfl rfl)
theorem dX0_hearer_62 : decode cX0_hearer 62 = .ok (.iastore, 1) := dk_79 (dk_at dksX0_hearer_2 14 rfl rfl)
theorem dX0_hearer_63 : decode cX0_hearer 63 = .ok (.aload_n 0, 1) := dk_42 (dk_at dksX0_hearer_2 15 rfl rfl)
theorem dX0_hearer_64 : decode cX0_hearer 64 = .ok (.getfield 145, 3) := dk_180 0 145 (dk_at dksX0_hearer_2 16 rfl rfl)
theorem dX0_hearer_67 : decode cX0_hearer 67 = .ok (.iload 4, 2) := dk_21 4 (dk_at dksX0_hearer_2 19 rfl rfl)
theorem dX0_hearer_69 : decode cX0_hearer 69 = .ok (.iload_n 3, 1) := dk_29 (dk_at dksX0_hearer_2 21 rfl rfl)
theorem dX0_hearer_70 : decode cX0_hearer 70 = .ok (.iastore, 1) := dk_79 (dk_at dksX0_hearer_2 22 rfl rfl)
theorem dX0_hearer_71 : decode cX0_hearer 71 = .ok (.aload_n 0, 1) := dk_42 (dk_at dksX0_hearer_2 23 rfl rfl)
theorem dX0_hearer_72 : decode cX0_hearer 72 = .ok (.getfield 160, 3) := dk_180 0 160 (dk_at dksX0_hearer_3 0 rfl rfl)
theorem dX0_hearer_75 : decode cX0_hearer 75 = .ok (.getfield 441, 3) := dk_180 1 185 (dk_at dksX0_hearer_3 3 rfl rfl)
theorem dX0_hearer_78 : decode cX0_hearer 78 = .ok (.iload 4, 2) := dk_21 4 (dk_at dksX0_hearer_3 6 rfl rfl)
theorem dX0_hearer_80 : decode cX0_hearer 80 = .ok (.iconst 0, 1) := dk_3 (dk_at dksX0_hearer_3 8 rfl rfl)
theorem dX0_hearer_81 : decode cX0_hearer 81 = .ok (.iastore, 1) := dk_79 (dk_at dksX0_hearer_3 9 rfl rfl)
theorem dX0_hearer_82 : decode cX0_hearer 82 = .ok (.aload_n 0, 1) := dk_42 (dk_at dksX0_hearer_3 10 rfl rfl)
theorem dX0_hearer_83 : decode cX0_hearer 83 = .ok (.getfield 160, 3) := dk_180 0 160 (dk_at dksX0_hearer_3 11 rfl rfl)
theorem dX0_hearer_86 : decode cX0_hearer 86 = .ok (.dup, 1) := dk_89 (dk_at dksX0_hearer_3 14 rfl rfl)
theorem dX0_hearer_87 : decode cX0_hearer 87 = .ok (.getfield 443, 3) := dk_180 1 187 (dk_at dksX0_hearer_3 15 rfl rfl)
theorem dX0_hearer_90 : decode cX0_hearer 90 = .ok (.iconst 1, 1) := dk_4 (dk_at dksX0_hearer_3 18 rfl rfl)
theorem dX0_hearer_91 : decode cX0_hearer 91 = .ok (.iload 4, 2) := dk_21 4 (dk_at dksX0_hearer_3 19 rfl rfl)
theorem dX0_hearer_93 : decode cX0_hearer 93 = .ok (.ishl, 1) := dk_120 (dk_at dksX0_hearer_3 21 rfl rfl)
theorem dX0_hearer_94 : decode cX0_hearer 94 = .ok (.ior, 1) := dk_128 (dk_at dksX0_hearer_3 22 rfl rfl)
theorem dX0_hearer_95 : decode cX0_hearer 95 = .ok (.putfield 443, 3) := dk_181 1 187 (dk_at dksX0_hearer_4 0 rfl rfl)
theorem dX0_hearer_98 : decode cX0_hearer 98 = .ok (.aload_n 0, 1) := dk_42 (dk_at dksX0_hearer_4 3 rfl rfl)
theorem dX0_hearer_99 : decode cX0_hearer 99 = .ok (.getfield 160, 3) := dk_180 0 160 (dk_at dksX0_hearer_4 4 rfl rfl)
theorem dX0_hearer_102 : decode cX0_hearer 102 = .ok (.dup, 1) := dk_89 (dk_at dksX0_hearer_4 7 rfl rfl)
theorem dX0_hearer_103 : decode cX0_hearer 103 = .ok (.getfield 446, 3) := dk_180 1 190 (dk_at dksX0_hearer_4 8 rfl rfl)
theorem dX0_hearer_106 : decode cX0_hearer 106 = .ok (.iconst 1, 1) := dk_4 (dk_at dksX0_hearer_4 11 rfl rfl)
theorem dX0_hearer_107 : decode cX0_hearer 107 = .ok (.iload 4, 2) := dk_21 4 (dk_at dksX0_hearer_4 12 rfl rfl)
theorem dX0_hearer_109 : decode cX0_hearer 109 = .ok (.ishl, 1) := dk_120 (dk_at dksX0_hearer_4 14 rfl rfl)
theorem dX0_hearer_110 : decode cX0_hearer 110 = .ok (.iconst (-1), 1) := dk_2 (dk_at dksX0_hearer_4 15 rfl rfl)
theorem dX0_hearer_111 : decode cX0_hearer 111 = .ok (.ixor, 1) := dk_130 (dk_at dksX0_hearer_4 16 rfl rfl)
theorem dX0_hearer_112 : decode cX0_hearer 112 = .ok (.iand, 1) := dk_126 (dk_at dksX0_hearer_4 17 rfl rfl)
theorem dX0_hearer_113 : decode cX0_hearer 113 = .ok (.putfield 446, 3) := dk_181 1 190 (dk_at dksX0_hearer_4 18 rfl rfl)
theorem dX0_hearer_116 : decode cX0_hearer 116 = .ok (.aload_n 0, 1) := dk_42 (dk_at dksX0_hearer_4 21 rfl rfl)
theorem dX0_hearer_117 : decode cX0_hearer 117 = .ok (.dup, 1) := dk_89 (dk_at dksX0_hearer_4 22 rfl rfl)
theorem dX0_hearer_118 : decode cX0_hearer 118 = .ok (.getfield 369, 3) := dk_180 1 113 (dk_at dksX0_hearer_5 0 rfl rfl)
theorem dX0_hearer_121 : decode cX0_hearer 121 = .ok (.iconst 1, 1) := dk_4 (dk_at dksX0_hearer_5 3 rfl rfl)
theorem dX0_hearer_122 : decode cX0_hearer 122 = .ok (.iadd, 1) := dk_96 (dk_at dksX0_hearer_5 4 rfl rfl)
theorem dX0_hearer_123 : decode cX0_hearer 123 = .ok (.putfield 369, 3) := dk_181 1 113 (dk_at dksX0_hearer_5 5 rfl rfl)
theorem dX0_hearer_126 : decode cX0_hearer 126 = .ok (.aload_n 0, 1) := dk_42 (dk_at dksX0_hearer_5 8 rfl rfl)
theorem dX0_hearer_127 : decode cX0_hearer 127 = .ok (.iconst 0, 1) := dk_3 (dk_at dksX0_hearer_5 9 rfl rfl)
theorem dX0_hearer_128 : decode cX0_hearer 128 = .ok (.putfield 395, 3) := dk_181 1 139 (dk_at dksX0_hearer_5 10 rfl rfl)
theorem dX0_hearer_131 : decode cX0_hearer 131 = .ok (.iload 4, 2) := dk_21 4 (dk_at dksX0_hearer_5 13 rfl rfl)
theorem dX0_hearer_133 : decode cX0_hearer 133 = .ok (.ireturn, 1) := dk_172 (dk_at dksX0_hearer_5 15 rfl rfl)
abbrev cX0_deed : ByteArray := prog_1_method_52_code
def yX0_deed : MethodName := ⟨RX0, "deed", "(III)I"⟩
def dkwX0_deed_4 : List UInt8 := [180, 1, 120, 4, 96, 181, 1, 120, 42, 3, 181, 1, 139, 21, 4, 172]
abbrev dktX0_deed_4 : List UInt8 := dkwX0_deed_4 ++ []
def dkwX0_deed_3 : List UInt8 := [180, 0, 160, 180, 1, 193, 21, 4, 3, 79, 42, 180, 0, 160, 180, 1, 195, 21, 4, 3, 79, 42, 89]
abbrev dktX0_deed_3 : List UInt8 := dkwX0_deed_3 ++ dktX0_deed_4
def dkwX0_deed_2 : List UInt8 := [180, 0, 147, 21, 4, 27, 79, 42, 180, 0, 149, 21, 4, 28, 79, 42, 180, 0, 152, 21, 4, 29, 79, 42]
abbrev dktX0_deed_2 : List UInt8 := dkwX0_deed_2 ++ dktX0_deed_3
def dkwX0_deed_1 : List UInt8 := [184, 0, 207, 153, 0, 12, 42, 180, 1, 120, 16, 8, 160, 0, 5, 2, 172, 42, 180, 1, 120, 54, 4, 42]
abbrev dktX0_deed_1 : List UInt8 := dkwX0_deed_1 ++ dktX0_deed_2
def dkwX0_deed_0 : List UInt8 := [27, 3, 16, 9, 184, 0, 207, 153, 0, 32, 28, 4, 16, 60, 184, 0, 207, 153, 0, 22, 29, 3, 16, 99]
abbrev dktX0_deed_0 : List UInt8 := dkwX0_deed_0 ++ dktX0_deed_1
theorem dksX0_deed_0 : cX0_deed.data.toList.drop 0 = dktX0_deed_0 := by decide +kernel
theorem dksX0_deed_1 : cX0_deed.data.toList.drop 24 = dktX0_deed_1 := dk_seg dksX0_deed_0 24 rfl rfl
theorem dksX0_deed_2 : cX0_deed.data.toList.drop 48 = dktX0_deed_2 := dk_seg dksX0_deed_1 24 rfl rfl
theorem dksX0_deed_3 : cX0_deed.data.toList.drop 72 = dktX0_deed_3 := dk_seg dksX0_deed_2 24 rfl rfl
theorem dksX0_deed_4 : cX0_deed.data.toList.drop 95 = dktX0_deed_4 := dk_seg dksX0_deed_3 23 rfl rfl
theorem dX0_deed_0 : decode cX0_deed 0 = .ok (.iload_n 1, 1) := dk_27 (dk_at dksX0_deed_0 0 rfl rfl)
theorem dX0_deed_1 : decode cX0_deed 1 = .ok (.iconst 0, 1) := dk_3 (dk_at dksX0_deed_0 1 rfl rfl)
theorem dX0_deed_2 : decode cX0_deed 2 = .ok (.bipush 9, 2) := dk_16 9 (dk_at dksX0_deed_0 2 rfl rfl)
theorem dX0_deed_4 : decode cX0_deed 4 = .ok (.invokestatic 207, 3) := dk_184 0 207 (dk_at dksX0_deed_0 4 rfl rfl)
theorem dX0_deed_7 : decode cX0_deed 7 = .ok (.ifCond .eq 32, 3) := dk_153 0 32 (dk_at dksX0_deed_0 7 rfl rfl)
theorem dX0_deed_10 : decode cX0_deed 10 = .ok (.iload_n 2, 1) := dk_28 (dk_at dksX0_deed_0 10 rfl rfl)
theorem dX0_deed_11 : decode cX0_deed 11 = .ok (.iconst 1, 1) := dk_4 (dk_at dksX0_deed_0 11 rfl rfl)
theorem dX0_deed_12 : decode cX0_deed 12 = .ok (.bipush 60, 2) := dk_16 60 (dk_at dksX0_deed_0 12 rfl rfl)
theorem dX0_deed_14 : decode cX0_deed 14 = .ok (.invokestatic 207, 3) := dk_184 0 207 (dk_at dksX0_deed_0 14 rfl rfl)
theorem dX0_deed_17 : decode cX0_deed 17 = .ok (.ifCond .eq 22, 3) := dk_153 0 22 (dk_at dksX0_deed_0 17 rfl rfl)
theorem dX0_deed_20 : decode cX0_deed 20 = .ok (.iload_n 3, 1) := dk_29 (dk_at dksX0_deed_0 20 rfl rfl)
theorem dX0_deed_21 : decode cX0_deed 21 = .ok (.iconst 0, 1) := dk_3 (dk_at dksX0_deed_0 21 rfl rfl)
theorem dX0_deed_22 : decode cX0_deed 22 = .ok (.bipush 99, 2) := dk_16 99 (dk_at dksX0_deed_0 22 rfl rfl)
theorem dX0_deed_24 : decode cX0_deed 24 = .ok (.invokestatic 207, 3) := dk_184 0 207 (dk_at dksX0_deed_1 0 rfl rfl)
theorem dX0_deed_27 : decode cX0_deed 27 = .ok (.ifCond .eq 12, 3) := dk_153 0 12 (dk_at dksX0_deed_1 3 rfl rfl)
theorem dX0_deed_30 : decode cX0_deed 30 = .ok (.aload_n 0, 1) := dk_42 (dk_at dksX0_deed_1 6 rfl rfl)
theorem dX0_deed_31 : decode cX0_deed 31 = .ok (.getfield 376, 3) := dk_180 1 120 (dk_at dksX0_deed_1 7 rfl rfl)
theorem dX0_deed_34 : decode cX0_deed 34 = .ok (.bipush 8, 2) := dk_16 8 (dk_at dksX0_deed_1 10 rfl rfl)
theorem dX0_deed_36 : decode cX0_deed 36 = .ok (.if_icmp .ne 5, 3) := dk_160 0 5 (dk_at dksX0_deed_1 12 rfl rfl)
theorem dX0_deed_39 : decode cX0_deed 39 = .ok (.iconst (-1), 1) := dk_2 (dk_at dksX0_deed_1 15 rfl rfl)
theorem dX0_deed_40 : decode cX0_deed 40 = .ok (.ireturn, 1) := dk_172 (dk_at dksX0_deed_1 16 rfl rfl)
theorem dX0_deed_41 : decode cX0_deed 41 = .ok (.aload_n 0, 1) := dk_42 (dk_at dksX0_deed_1 17 rfl rfl)
theorem dX0_deed_42 : decode cX0_deed 42 = .ok (.getfield 376, 3) := dk_180 1 120 (dk_at dksX0_deed_1 18 rfl rfl)
theorem dX0_deed_45 : decode cX0_deed 45 = .ok (.istore 4, 2) := dk_54 4 (dk_at dksX0_deed_1 21 rfl rfl)
theorem dX0_deed_47 : decode cX0_deed 47 = .ok (.aload_n 0, 1) := dk_42 (dk_at dksX0_deed_1 23 rfl rfl)
theorem dX0_deed_48 : decode cX0_deed 48 = .ok (.getfield 147, 3) := dk_180 0 147 (dk_at dksX0_deed_2 0 rfl rfl)
theorem dX0_deed_51 : decode cX0_deed 51 = .ok (.iload 4, 2) := dk_21 4 (dk_at dksX0_deed_2 3 rfl rfl)
theorem dX0_deed_53 : decode cX0_deed 53 = .ok (.iload_n 1, 1) := dk_27 (dk_at dksX0_deed_2 5 rfl rfl)
theorem dX0_deed_54 : decode cX0_deed 54 = .ok (.iastore, 1) := dk_79 (dk_at dksX0_deed_2 6 rfl rfl)
theorem dX0_deed_55 : decode cX0_deed 55 = .ok (.aload_n 0, 1) := dk_42 (dk_at dksX0_deed_2 7 rfl rfl)
theorem dX0_deed_56 : decode cX0_deed 56 = .ok (.getfield 149, 3) := dk_180 0 149 (dk_at dksX0_deed_2 8 rfl rfl)
theorem dX0_deed_59 : decode cX0_deed 59 = .ok (.iload 4, 2) := dk_21 4 (dk_at dksX0_deed_2 11 rfl rfl)
theorem dX0_deed_61 : decode cX0_deed 61 = .ok (.iload_n 2, 1) := dk_28 (dk_at dksX0_deed_2 13 rfl rfl)
theorem dX0_deed_62 : decode cX0_deed 62 = .ok (.iastore, 1) := dk_79 (dk_at dksX0_deed_2 14 rfl rfl)
theorem dX0_deed_63 : decode cX0_deed 63 = .ok (.aload_n 0, 1) := dk_42 (dk_at dksX0_deed_2 15 rfl rfl)
theorem dX0_deed_64 : decode cX0_deed 64 = .ok (.getfield 152, 3) := dk_180 0 152 (dk_at dksX0_deed_2 16 rfl rfl)
theorem dX0_deed_67 : decode cX0_deed 67 = .ok (.iload 4, 2) := dk_21 4 (dk_at dksX0_deed_2 19 rfl rfl)
theorem dX0_deed_69 : decode cX0_deed 69 = .ok (.iload_n 3, 1) := dk_29 (dk_at dksX0_deed_2 21 rfl rfl)
theorem dX0_deed_70 : decode cX0_deed 70 = .ok (.iastore, 1) := dk_79 (dk_at dksX0_deed_2 22 rfl rfl)
theorem dX0_deed_71 : decode cX0_deed 71 = .ok (.aload_n 0, 1) := dk_42 (dk_at dksX0_deed_2 23 rfl rfl)
theorem dX0_deed_72 : decode cX0_deed 72 = .ok (.getfield 160, 3) := dk_180 0 160 (dk_at dksX0_deed_3 0 rfl rfl)
theorem dX0_deed_75 : decode cX0_deed 75 = .ok (.getfield 449, 3) := dk_180 1 193 (dk_at dksX0_deed_3 3 rfl rfl)
theorem dX0_deed_78 : decode cX0_deed 78 = .ok (.iload 4, 2) := dk_21 4 (dk_at dksX0_deed_3 6 rfl rfl)
theorem dX0_deed_80 : decode cX0_deed 80 = .ok (.iconst 0, 1) := dk_3 (dk_at dksX0_deed_3 8 rfl rfl)
theorem dX0_deed_81 : decode cX0_deed 81 = .ok (.iastore, 1) := dk_79 (dk_at dksX0_deed_3 9 rfl rfl)
theorem dX0_deed_82 : decode cX0_deed 82 = .ok (.aload_n 0, 1) := dk_42 (dk_at dksX0_deed_3 10 rfl rfl)
theorem dX0_deed_83 : decode cX0_deed 83 = .ok (.getfield 160, 3) := dk_180 0 160 (dk_at dksX0_deed_3 11 rfl rfl)
theorem dX0_deed_86 : decode cX0_deed 86 = .ok (.getfield 451, 3) := dk_180 1 195 (dk_at dksX0_deed_3 14 rfl rfl)
theorem dX0_deed_89 : decode cX0_deed 89 = .ok (.iload 4, 2) := dk_21 4 (dk_at dksX0_deed_3 17 rfl rfl)
theorem dX0_deed_91 : decode cX0_deed 91 = .ok (.iconst 0, 1) := dk_3 (dk_at dksX0_deed_3 19 rfl rfl)
theorem dX0_deed_92 : decode cX0_deed 92 = .ok (.iastore, 1) := dk_79 (dk_at dksX0_deed_3 20 rfl rfl)
theorem dX0_deed_93 : decode cX0_deed 93 = .ok (.aload_n 0, 1) := dk_42 (dk_at dksX0_deed_3 21 rfl rfl)
theorem dX0_deed_94 : decode cX0_deed 94 = .ok (.dup, 1) := dk_89 (dk_at dksX0_deed_3 22 rfl rfl)
theorem dX0_deed_95 : decode cX0_deed 95 = .ok (.getfield 376, 3) := dk_180 1 120 (dk_at dksX0_deed_4 0 rfl rfl)
theorem dX0_deed_98 : decode cX0_deed 98 = .ok (.iconst 1, 1) := dk_4 (dk_at dksX0_deed_4 3 rfl rfl)
theorem dX0_deed_99 : decode cX0_deed 99 = .ok (.iadd, 1) := dk_96 (dk_at dksX0_deed_4 4 rfl rfl)
theorem dX0_deed_100 : decode cX0_deed 100 = .ok (.putfield 376, 3) := dk_181 1 120 (dk_at dksX0_deed_4 5 rfl rfl)
theorem dX0_deed_103 : decode cX0_deed 103 = .ok (.aload_n 0, 1) := dk_42 (dk_at dksX0_deed_4 8 rfl rfl)
theorem dX0_deed_104 : decode cX0_deed 104 = .ok (.iconst 0, 1) := dk_3 (dk_at dksX0_deed_4 9 rfl rfl)
theorem dX0_deed_105 : decode cX0_deed 105 = .ok (.putfield 395, 3) := dk_181 1 139 (dk_at dksX0_deed_4 10 rfl rfl)
theorem dX0_deed_108 : decode cX0_deed 108 = .ok (.iload 4, 2) := dk_21 4 (dk_at dksX0_deed_4 13 rfl rfl)
theorem dX0_deed_110 : decode cX0_deed 110 = .ok (.ireturn, 1) := dk_172 (dk_at dksX0_deed_4 15 rfl rfl)
abbrev cX0_set : ByteArray := prog_1_method_54_code
def yX0_set : MethodName := ⟨RX0, "set", "(III)Z"⟩
def dkwX0_set_3 : List UInt8 := [42, 180, 0, 160, 180, 1, 193, 28, 29, 79, 42, 3, 181, 1, 139, 4, 172]
abbrev dktX0_set_3 : List UInt8 := dkwX0_set_3 ++ []
def dkwX0_set_2 : List UInt8 := [27, 6, 160, 0, 10, 42, 180, 0, 145, 167, 0, 22, 27, 7, 160, 0, 10, 42, 180, 0, 147, 167, 0, 10]
abbrev dktX0_set_2 : List UInt8 := dkwX0_set_2 ++ dktX0_set_3
def dkwX0_set_1 : List UInt8 := [27, 4, 160, 0, 10, 42, 180, 0, 141, 167, 0, 46, 27, 5, 160, 0, 10, 42, 180, 0, 143, 167, 0, 34]
abbrev dktX0_set_1 : List UInt8 := dkwX0_set_1 ++ dktX0_set_2
def dkwX0_set_0 : List UInt8 := [42, 27, 28, 29, 182, 1, 204, 154, 0, 5, 3, 172, 27, 154, 0, 11, 42, 29, 181, 1, 207, 167, 0, 61]
abbrev dktX0_set_0 : List UInt8 := dkwX0_set_0 ++ dktX0_set_1
theorem dksX0_set_0 : cX0_set.data.toList.drop 0 = dktX0_set_0 := by decide +kernel
theorem dksX0_set_1 : cX0_set.data.toList.drop 24 = dktX0_set_1 := dk_seg dksX0_set_0 24 rfl rfl
theorem dksX0_set_2 : cX0_set.data.toList.drop 48 = dktX0_set_2 := dk_seg dksX0_set_1 24 rfl rfl
theorem dksX0_set_3 : cX0_set.data.toList.drop 72 = dktX0_set_3 := dk_seg dksX0_set_2 24 rfl rfl
theorem dX0_set_0 : decode cX0_set 0 = .ok (.aload_n 0, 1) := dk_42 (dk_at dksX0_set_0 0 rfl rfl)
theorem dX0_set_1 : decode cX0_set 1 = .ok (.iload_n 1, 1) := dk_27 (dk_at dksX0_set_0 1 rfl rfl)
theorem dX0_set_2 : decode cX0_set 2 = .ok (.iload_n 2, 1) := dk_28 (dk_at dksX0_set_0 2 rfl rfl)
theorem dX0_set_3 : decode cX0_set 3 = .ok (.iload_n 3, 1) := dk_29 (dk_at dksX0_set_0 3 rfl rfl)
theorem dX0_set_4 : decode cX0_set 4 = .ok (.invokevirtual 460, 3) := dk_182 1 204 (dk_at dksX0_set_0 4 rfl rfl)
theorem dX0_set_7 : decode cX0_set 7 = .ok (.ifCond .ne 5, 3) := dk_154 0 5 (dk_at dksX0_set_0 7 rfl rfl)
theorem dX0_set_10 : decode cX0_set 10 = .ok (.iconst 0, 1) := dk_3 (dk_at dksX0_set_0 10 rfl rfl)
theorem dX0_set_11 : decode cX0_set 11 = .ok (.ireturn, 1) := dk_172 (dk_at dksX0_set_0 11 rfl rfl)
theorem dX0_set_12 : decode cX0_set 12 = .ok (.iload_n 1, 1) := dk_27 (dk_at dksX0_set_0 12 rfl rfl)
theorem dX0_set_13 : decode cX0_set 13 = .ok (.ifCond .ne 11, 3) := dk_154 0 11 (dk_at dksX0_set_0 13 rfl rfl)
theorem dX0_set_16 : decode cX0_set 16 = .ok (.aload_n 0, 1) := dk_42 (dk_at dksX0_set_0 16 rfl rfl)
theorem dX0_set_17 : decode cX0_set 17 = .ok (.iload_n 3, 1) := dk_29 (dk_at dksX0_set_0 17 rfl rfl)
theorem dX0_set_18 : decode cX0_set 18 = .ok (.putfield 463, 3) := dk_181 1 207 (dk_at dksX0_set_0 18 rfl rfl)
theorem dX0_set_21 : decode cX0_set 21 = .ok (.goto 61, 3) := dk_167 0 61 (dk_at dksX0_set_0 21 rfl rfl)
theorem dX0_set_24 : decode cX0_set 24 = .ok (.iload_n 1, 1) := dk_27 (dk_at dksX0_set_1 0 rfl rfl)
theorem dX0_set_25 : decode cX0_set 25 = .ok (.iconst 1, 1) := dk_4 (dk_at dksX0_set_1 1 rfl rfl)
theorem dX0_set_26 : decode cX0_set 26 = .ok (.if_icmp .ne 10, 3) := dk_160 0 10 (dk_at dksX0_set_1 2 rfl rfl)
theorem dX0_set_29 : decode cX0_set 29 = .ok (.aload_n 0, 1) := dk_42 (dk_at dksX0_set_1 5 rfl rfl)
theorem dX0_set_30 : decode cX0_set 30 = .ok (.getfield 141, 3) := dk_180 0 141 (dk_at dksX0_set_1 6 rfl rfl)
theorem dX0_set_33 : decode cX0_set 33 = .ok (.goto 46, 3) := dk_167 0 46 (dk_at dksX0_set_1 9 rfl rfl)
theorem dX0_set_36 : decode cX0_set 36 = .ok (.iload_n 1, 1) := dk_27 (dk_at dksX0_set_1 12 rfl rfl)
theorem dX0_set_37 : decode cX0_set 37 = .ok (.iconst 2, 1) := dk_5 (dk_at dksX0_set_1 13 rfl rfl)
theorem dX0_set_38 : decode cX0_set 38 = .ok (.if_icmp .ne 10, 3) := dk_160 0 10 (dk_at dksX0_set_1 14 rfl rfl)
theorem dX0_set_41 : decode cX0_set 41 = .ok (.aload_n 0, 1) := dk_42 (dk_at dksX0_set_1 17 rfl rfl)
theorem dX0_set_42 : decode cX0_set 42 = .ok (.getfield 143, 3) := dk_180 0 143 (dk_at dksX0_set_1 18 rfl rfl)
theorem dX0_set_45 : decode cX0_set 45 = .ok (.goto 34, 3) := dk_167 0 34 (dk_at dksX0_set_1 21 rfl rfl)
theorem dX0_set_48 : decode cX0_set 48 = .ok (.iload_n 1, 1) := dk_27 (dk_at dksX0_set_2 0 rfl rfl)
theorem dX0_set_49 : decode cX0_set 49 = .ok (.iconst 3, 1) := dk_6 (dk_at dksX0_set_2 1 rfl rfl)
theorem dX0_set_50 : decode cX0_set 50 = .ok (.if_icmp .ne 10, 3) := dk_160 0 10 (dk_at dksX0_set_2 2 rfl rfl)
theorem dX0_set_53 : decode cX0_set 53 = .ok (.aload_n 0, 1) := dk_42 (dk_at dksX0_set_2 5 rfl rfl)
theorem dX0_set_54 : decode cX0_set 54 = .ok (.getfield 145, 3) := dk_180 0 145 (dk_at dksX0_set_2 6 rfl rfl)
theorem dX0_set_57 : decode cX0_set 57 = .ok (.goto 22, 3) := dk_167 0 22 (dk_at dksX0_set_2 9 rfl rfl)
theorem dX0_set_60 : decode cX0_set 60 = .ok (.iload_n 1, 1) := dk_27 (dk_at dksX0_set_2 12 rfl rfl)
theorem dX0_set_61 : decode cX0_set 61 = .ok (.iconst 4, 1) := dk_7 (dk_at dksX0_set_2 13 rfl rfl)
theorem dX0_set_62 : decode cX0_set 62 = .ok (.if_icmp .ne 10, 3) := dk_160 0 10 (dk_at dksX0_set_2 14 rfl rfl)
theorem dX0_set_65 : decode cX0_set 65 = .ok (.aload_n 0, 1) := dk_42 (dk_at dksX0_set_2 17 rfl rfl)
theorem dX0_set_66 : decode cX0_set 66 = .ok (.getfield 147, 3) := dk_180 0 147 (dk_at dksX0_set_2 18 rfl rfl)
theorem dX0_set_69 : decode cX0_set 69 = .ok (.goto 10, 3) := dk_167 0 10 (dk_at dksX0_set_2 21 rfl rfl)
theorem dX0_set_72 : decode cX0_set 72 = .ok (.aload_n 0, 1) := dk_42 (dk_at dksX0_set_3 0 rfl rfl)
theorem dX0_set_73 : decode cX0_set 73 = .ok (.getfield 160, 3) := dk_180 0 160 (dk_at dksX0_set_3 1 rfl rfl)
theorem dX0_set_76 : decode cX0_set 76 = .ok (.getfield 449, 3) := dk_180 1 193 (dk_at dksX0_set_3 4 rfl rfl)
theorem dX0_set_79 : decode cX0_set 79 = .ok (.iload_n 2, 1) := dk_28 (dk_at dksX0_set_3 7 rfl rfl)
theorem dX0_set_80 : decode cX0_set 80 = .ok (.iload_n 3, 1) := dk_29 (dk_at dksX0_set_3 8 rfl rfl)
theorem dX0_set_81 : decode cX0_set 81 = .ok (.iastore, 1) := dk_79 (dk_at dksX0_set_3 9 rfl rfl)
theorem dX0_set_82 : decode cX0_set 82 = .ok (.aload_n 0, 1) := dk_42 (dk_at dksX0_set_3 10 rfl rfl)
theorem dX0_set_83 : decode cX0_set 83 = .ok (.iconst 0, 1) := dk_3 (dk_at dksX0_set_3 11 rfl rfl)
theorem dX0_set_84 : decode cX0_set 84 = .ok (.putfield 395, 3) := dk_181 1 139 (dk_at dksX0_set_3 12 rfl rfl)
theorem dX0_set_87 : decode cX0_set 87 = .ok (.iconst 1, 1) := dk_4 (dk_at dksX0_set_3 15 rfl rfl)
theorem dX0_set_88 : decode cX0_set 88 = .ok (.ireturn, 1) := dk_172 (dk_at dksX0_set_3 16 rfl rfl)
abbrev cX0_canSet : ByteArray := prog_1_method_53_code
def yX0_canSet : MethodName := ⟨RX0, "canSet", "(III)Z"⟩
def dkwX0_canSet_3 : List UInt8 := [167, 0, 5, 16, 99, 184, 0, 207, 153, 0, 7, 4, 167, 0, 4, 3, 172]
abbrev dktX0_canSet_3 : List UInt8 := dkwX0_canSet_3 ++ []
def dkwX0_canSet_2 : List UInt8 := [8, 184, 0, 207, 153, 0, 35, 42, 28, 182, 1, 201, 153, 0, 27, 29, 3, 27, 7, 160, 0, 8, 16, 9]
abbrev dktX0_canSet_2 : List UInt8 := dkwX0_canSet_2 ++ dktX0_canSet_3
def dkwX0_canSet_1 : List UInt8 := [182, 1, 198, 153, 0, 17, 29, 3, 16, 9, 184, 0, 207, 153, 0, 7, 4, 167, 0, 4, 3, 172, 27, 7]
abbrev dktX0_canSet_1 : List UInt8 := dkwX0_canSet_1 ++ dktX0_canSet_2
def dkwX0_canSet_0 : List UInt8 := [27, 154, 0, 12, 29, 3, 17, 3, 232, 184, 0, 207, 172, 27, 4, 6, 184, 0, 207, 153, 0, 27, 42, 28]
abbrev dktX0_canSet_0 : List UInt8 := dkwX0_canSet_0 ++ dktX0_canSet_1
theorem dksX0_canSet_0 : cX0_canSet.data.toList.drop 0 = dktX0_canSet_0 := by decide +kernel
theorem dksX0_canSet_1 : cX0_canSet.data.toList.drop 24 = dktX0_canSet_1 := dk_seg dksX0_canSet_0 24 rfl rfl
theorem dksX0_canSet_2 : cX0_canSet.data.toList.drop 48 = dktX0_canSet_2 := dk_seg dksX0_canSet_1 24 rfl rfl
theorem dksX0_canSet_3 : cX0_canSet.data.toList.drop 72 = dktX0_canSet_3 := dk_seg dksX0_canSet_2 24 rfl rfl
theorem dX0_canSet_0 : decode cX0_canSet 0 = .ok (.iload_n 1, 1) := dk_27 (dk_at dksX0_canSet_0 0 rfl rfl)
theorem dX0_canSet_1 : decode cX0_canSet 1 = .ok (.ifCond .ne 12, 3) := dk_154 0 12 (dk_at dksX0_canSet_0 1 rfl rfl)
theorem dX0_canSet_4 : decode cX0_canSet 4 = .ok (.iload_n 3, 1) := dk_29 (dk_at dksX0_canSet_0 4 rfl rfl)
theorem dX0_canSet_5 : decode cX0_canSet 5 = .ok (.iconst 0, 1) := dk_3 (dk_at dksX0_canSet_0 5 rfl rfl)
theorem dX0_canSet_6 : decode cX0_canSet 6 = .ok (.sipush 1000, 3) := dk_17 3 232 (dk_at dksX0_canSet_0 6 rfl rfl)
theorem dX0_canSet_9 : decode cX0_canSet 9 = .ok (.invokestatic 207, 3) := dk_184 0 207 (dk_at dksX0_canSet_0 9 rfl rfl)
theorem dX0_canSet_12 : decode cX0_canSet 12 = .ok (.ireturn, 1) := dk_172 (dk_at dksX0_canSet_0 12 rfl rfl)
theorem dX0_canSet_13 : decode cX0_canSet 13 = .ok (.iload_n 1, 1) := dk_27 (dk_at dksX0_canSet_0 13 rfl rfl)
theorem dX0_canSet_14 : decode cX0_canSet 14 = .ok (.iconst 1, 1) := dk_4 (dk_at dksX0_canSet_0 14 rfl rfl)
theorem dX0_canSet_15 : decode cX0_canSet 15 = .ok (.iconst 3, 1) := dk_6 (dk_at dksX0_canSet_0 15 rfl rfl)
theorem dX0_canSet_16 : decode cX0_canSet 16 = .ok (.invokestatic 207, 3) := dk_184 0 207 (dk_at dksX0_canSet_0 16 rfl rfl)
theorem dX0_canSet_19 : decode cX0_canSet 19 = .ok (.ifCond .eq 27, 3) := dk_153 0 27 (dk_at dksX0_canSet_0 19 rfl rfl)
theorem dX0_canSet_22 : decode cX0_canSet 22 = .ok (.aload_n 0, 1) := dk_42 (dk_at dksX0_canSet_0 22 rfl rfl)
theorem dX0_canSet_23 : decode cX0_canSet 23 = .ok (.iload_n 2, 1) := dk_28 (dk_at dksX0_canSet_0 23 rfl rfl)
theorem dX0_canSet_24 : decode cX0_canSet 24 = .ok (.invokevirtual 454, 3) := dk_182 1 198 (dk_at dksX0_canSet_1 0 rfl rfl)
theorem dX0_canSet_27 : decode cX0_canSet 27 = .ok (.ifCond .eq 17, 3) := dk_153 0 17 (dk_at dksX0_canSet_1 3 rfl rfl)
theorem dX0_canSet_30 : decode cX0_canSet 30 = .ok (.iload_n 3, 1) := dk_29 (dk_at dksX0_canSet_1 6 rfl rfl)
theorem dX0_canSet_31 : decode cX0_canSet 31 = .ok (.iconst 0, 1) := dk_3 (dk_at dksX0_canSet_1 7 rfl rfl)
theorem dX0_canSet_32 : decode cX0_canSet 32 = .ok (.bipush 9, 2) := dk_16 9 (dk_at dksX0_canSet_1 8 rfl rfl)
theorem dX0_canSet_34 : decode cX0_canSet 34 = .ok (.invokestatic 207, 3) := dk_184 0 207 (dk_at dksX0_canSet_1 10 rfl rfl)
theorem dX0_canSet_37 : decode cX0_canSet 37 = .ok (.ifCond .eq 7, 3) := dk_153 0 7 (dk_at dksX0_canSet_1 13 rfl rfl)
theorem dX0_canSet_40 : decode cX0_canSet 40 = .ok (.iconst 1, 1) := dk_4 (dk_at dksX0_canSet_1 16 rfl rfl)
theorem dX0_canSet_41 : decode cX0_canSet 41 = .ok (.goto 4, 3) := dk_167 0 4 (dk_at dksX0_canSet_1 17 rfl rfl)
theorem dX0_canSet_44 : decode cX0_canSet 44 = .ok (.iconst 0, 1) := dk_3 (dk_at dksX0_canSet_1 20 rfl rfl)
theorem dX0_canSet_45 : decode cX0_canSet 45 = .ok (.ireturn, 1) := dk_172 (dk_at dksX0_canSet_1 21 rfl rfl)
theorem dX0_canSet_46 : decode cX0_canSet 46 = .ok (.iload_n 1, 1) := dk_27 (dk_at dksX0_canSet_1 22 rfl rfl)
theorem dX0_canSet_47 : decode cX0_canSet 47 = .ok (.iconst 4, 1) := dk_7 (dk_at dksX0_canSet_1 23 rfl rfl)
theorem dX0_canSet_48 : decode cX0_canSet 48 = .ok (.iconst 5, 1) := dk_8 (dk_at dksX0_canSet_2 0 rfl rfl)
theorem dX0_canSet_49 : decode cX0_canSet 49 = .ok (.invokestatic 207, 3) := dk_184 0 207 (dk_at dksX0_canSet_2 1 rfl rfl)
theorem dX0_canSet_52 : decode cX0_canSet 52 = .ok (.ifCond .eq 35, 3) := dk_153 0 35 (dk_at dksX0_canSet_2 4 rfl rfl)
theorem dX0_canSet_55 : decode cX0_canSet 55 = .ok (.aload_n 0, 1) := dk_42 (dk_at dksX0_canSet_2 7 rfl rfl)
theorem dX0_canSet_56 : decode cX0_canSet 56 = .ok (.iload_n 2, 1) := dk_28 (dk_at dksX0_canSet_2 8 rfl rfl)
theorem dX0_canSet_57 : decode cX0_canSet 57 = .ok (.invokevirtual 457, 3) := dk_182 1 201 (dk_at dksX0_canSet_2 9 rfl rfl)
theorem dX0_canSet_60 : decode cX0_canSet 60 = .ok (.ifCond .eq 27, 3) := dk_153 0 27 (dk_at dksX0_canSet_2 12 rfl rfl)
theorem dX0_canSet_63 : decode cX0_canSet 63 = .ok (.iload_n 3, 1) := dk_29 (dk_at dksX0_canSet_2 15 rfl rfl)
theorem dX0_canSet_64 : decode cX0_canSet 64 = .ok (.iconst 0, 1) := dk_3 (dk_at dksX0_canSet_2 16 rfl rfl)
theorem dX0_canSet_65 : decode cX0_canSet 65 = .ok (.iload_n 1, 1) := dk_27 (dk_at dksX0_canSet_2 17 rfl rfl)
theorem dX0_canSet_66 : decode cX0_canSet 66 = .ok (.iconst 4, 1) := dk_7 (dk_at dksX0_canSet_2 18 rfl rfl)
theorem dX0_canSet_67 : decode cX0_canSet 67 = .ok (.if_icmp .ne 8, 3) := dk_160 0 8 (dk_at dksX0_canSet_2 19 rfl rfl)
theorem dX0_canSet_70 : decode cX0_canSet 70 = .ok (.bipush 9, 2) := dk_16 9 (dk_at dksX0_canSet_2 22 rfl rfl)
theorem dX0_canSet_72 : decode cX0_canSet 72 = .ok (.goto 5, 3) := dk_167 0 5 (dk_at dksX0_canSet_3 0 rfl rfl)
theorem dX0_canSet_75 : decode cX0_canSet 75 = .ok (.bipush 99, 2) := dk_16 99 (dk_at dksX0_canSet_3 3 rfl rfl)
theorem dX0_canSet_77 : decode cX0_canSet 77 = .ok (.invokestatic 207, 3) := dk_184 0 207 (dk_at dksX0_canSet_3 5 rfl rfl)
theorem dX0_canSet_80 : decode cX0_canSet 80 = .ok (.ifCond .eq 7, 3) := dk_153 0 7 (dk_at dksX0_canSet_3 8 rfl rfl)
theorem dX0_canSet_83 : decode cX0_canSet 83 = .ok (.iconst 1, 1) := dk_4 (dk_at dksX0_canSet_3 11 rfl rfl)
theorem dX0_canSet_84 : decode cX0_canSet 84 = .ok (.goto 4, 3) := dk_167 0 4 (dk_at dksX0_canSet_3 12 rfl rfl)
theorem dX0_canSet_87 : decode cX0_canSet 87 = .ok (.iconst 0, 1) := dk_3 (dk_at dksX0_canSet_3 15 rfl rfl)
theorem dX0_canSet_88 : decode cX0_canSet 88 = .ok (.ireturn, 1) := dk_172 (dk_at dksX0_canSet_3 16 rfl rfl)
abbrev cX0_isHearer : ByteArray := prog_1_method_48_code
def yX0_isHearer : MethodName := ⟨RX0, "isHearer", "(I)Z"⟩
def dkwX0_isHearer_0 : List UInt8 := [27, 3, 42, 180, 1, 113, 4, 100, 184, 0, 207, 172]
abbrev dktX0_isHearer_0 : List UInt8 := dkwX0_isHearer_0 ++ []
theorem dksX0_isHearer_0 : cX0_isHearer.data.toList.drop 0 = dktX0_isHearer_0 := by decide +kernel
theorem dX0_isHearer_0 : decode cX0_isHearer 0 = .ok (.iload_n 1, 1) := dk_27 (dk_at dksX0_isHearer_0 0 rfl rfl)
theorem dX0_isHearer_1 : decode cX0_isHearer 1 = .ok (.iconst 0, 1) := dk_3 (dk_at dksX0_isHearer_0 1 rfl rfl)
theorem dX0_isHearer_2 : decode cX0_isHearer 2 = .ok (.aload_n 0, 1) := dk_42 (dk_at dksX0_isHearer_0 2 rfl rfl)
theorem dX0_isHearer_3 : decode cX0_isHearer 3 = .ok (.getfield 369, 3) := dk_180 1 113 (dk_at dksX0_isHearer_0 3 rfl rfl)
theorem dX0_isHearer_6 : decode cX0_isHearer 6 = .ok (.iconst 1, 1) := dk_4 (dk_at dksX0_isHearer_0 6 rfl rfl)
theorem dX0_isHearer_7 : decode cX0_isHearer 7 = .ok (.isub, 1) := dk_100 (dk_at dksX0_isHearer_0 7 rfl rfl)
theorem dX0_isHearer_8 : decode cX0_isHearer 8 = .ok (.invokestatic 207, 3) := dk_184 0 207 (dk_at dksX0_isHearer_0 8 rfl rfl)
theorem dX0_isHearer_11 : decode cX0_isHearer 11 = .ok (.ireturn, 1) := dk_172 (dk_at dksX0_isHearer_0 11 rfl rfl)
abbrev cX0_isDeed : ByteArray := prog_1_method_49_code
def yX0_isDeed : MethodName := ⟨RX0, "isDeed", "(I)Z"⟩
def dkwX0_isDeed_0 : List UInt8 := [27, 3, 42, 180, 1, 120, 4, 100, 184, 0, 207, 172]
abbrev dktX0_isDeed_0 : List UInt8 := dkwX0_isDeed_0 ++ []
theorem dksX0_isDeed_0 : cX0_isDeed.data.toList.drop 0 = dktX0_isDeed_0 := by decide +kernel
theorem dX0_isDeed_0 : decode cX0_isDeed 0 = .ok (.iload_n 1, 1) := dk_27 (dk_at dksX0_isDeed_0 0 rfl rfl)
theorem dX0_isDeed_1 : decode cX0_isDeed 1 = .ok (.iconst 0, 1) := dk_3 (dk_at dksX0_isDeed_0 1 rfl rfl)
theorem dX0_isDeed_2 : decode cX0_isDeed 2 = .ok (.aload_n 0, 1) := dk_42 (dk_at dksX0_isDeed_0 2 rfl rfl)
theorem dX0_isDeed_3 : decode cX0_isDeed 3 = .ok (.getfield 376, 3) := dk_180 1 120 (dk_at dksX0_isDeed_0 3 rfl rfl)
theorem dX0_isDeed_6 : decode cX0_isDeed 6 = .ok (.iconst 1, 1) := dk_4 (dk_at dksX0_isDeed_0 6 rfl rfl)
theorem dX0_isDeed_7 : decode cX0_isDeed 7 = .ok (.isub, 1) := dk_100 (dk_at dksX0_isDeed_0 7 rfl rfl)
theorem dX0_isDeed_8 : decode cX0_isDeed 8 = .ok (.invokestatic 207, 3) := dk_184 0 207 (dk_at dksX0_isDeed_0 8 rfl rfl)
theorem dX0_isDeed_11 : decode cX0_isDeed 11 = .ok (.ireturn, 1) := dk_172 (dk_at dksX0_isDeed_0 11 rfl rfl)
abbrev cX0_perform : ByteArray := prog_1_method_55_code
def yX0_perform : MethodName := ⟨RX0, "perform", "(I)I"⟩
def dkwX0_perform_1 : List UInt8 := [96, 17, 39, 15, 161, 0, 5, 2, 172, 42, 182, 1, 213, 42, 180, 0, 160, 27, 182, 1, 216, 172]
abbrev dktX0_perform_1 : List UInt8 := dkwX0_perform_1 ++ []
def dkwX0_perform_0 : List UInt8 := [42, 27, 182, 1, 201, 153, 0, 26, 42, 180, 0, 160, 180, 1, 210, 16, 21, 42, 180, 0, 149, 27, 46, 104]
abbrev dktX0_perform_0 : List UInt8 := dkwX0_perform_0 ++ dktX0_perform_1
theorem dksX0_perform_0 : cX0_perform.data.toList.drop 0 = dktX0_perform_0 := by decide +kernel
theorem dksX0_perform_1 : cX0_perform.data.toList.drop 24 = dktX0_perform_1 := dk_seg dksX0_perform_0 24 rfl rfl
theorem dX0_perform_0 : decode cX0_perform 0 = .ok (.aload_n 0, 1) := dk_42 (dk_at dksX0_perform_0 0 rfl rfl)
theorem dX0_perform_1 : decode cX0_perform 1 = .ok (.iload_n 1, 1) := dk_27 (dk_at dksX0_perform_0 1 rfl rfl)
theorem dX0_perform_2 : decode cX0_perform 2 = .ok (.invokevirtual 457, 3) := dk_182 1 201 (dk_at dksX0_perform_0 2 rfl rfl)
theorem dX0_perform_5 : decode cX0_perform 5 = .ok (.ifCond .eq 26, 3) := dk_153 0 26 (dk_at dksX0_perform_0 5 rfl rfl)
theorem dX0_perform_8 : decode cX0_perform 8 = .ok (.aload_n 0, 1) := dk_42 (dk_at dksX0_perform_0 8 rfl rfl)
theorem dX0_perform_9 : decode cX0_perform 9 = .ok (.getfield 160, 3) := dk_180 0 160 (dk_at dksX0_perform_0 9 rfl rfl)
theorem dX0_perform_12 : decode cX0_perform 12 = .ok (.getfield 466, 3) := dk_180 1 210 (dk_at dksX0_perform_0 12 rfl rfl)
theorem dX0_perform_15 : decode cX0_perform 15 = .ok (.bipush 21, 2) := dk_16 21 (dk_at dksX0_perform_0 15 rfl rfl)
theorem dX0_perform_17 : decode cX0_perform 17 = .ok (.aload_n 0, 1) := dk_42 (dk_at dksX0_perform_0 17 rfl rfl)
theorem dX0_perform_18 : decode cX0_perform 18 = .ok (.getfield 149, 3) := dk_180 0 149 (dk_at dksX0_perform_0 18 rfl rfl)
theorem dX0_perform_21 : decode cX0_perform 21 = .ok (.iload_n 1, 1) := dk_27 (dk_at dksX0_perform_0 21 rfl rfl)
theorem dX0_perform_22 : decode cX0_perform 22 = .ok (.iaload, 1) := dk_46 (dk_at dksX0_perform_0 22 rfl rfl)
theorem dX0_perform_23 : decode cX0_perform 23 = .ok (.imul, 1) := dk_104 (dk_at dksX0_perform_0 23 rfl rfl)
theorem dX0_perform_24 : decode cX0_perform 24 = .ok (.iadd, 1) := dk_96 (dk_at dksX0_perform_1 0 rfl rfl)
theorem dX0_perform_25 : decode cX0_perform 25 = .ok (.sipush 9999, 3) := dk_17 39 15 (dk_at dksX0_perform_1 1 rfl rfl)
theorem dX0_perform_28 : decode cX0_perform 28 = .ok (.if_icmp .lt 5, 3) := dk_161 0 5 (dk_at dksX0_perform_1 4 rfl rfl)
theorem dX0_perform_31 : decode cX0_perform 31 = .ok (.iconst (-1), 1) := dk_2 (dk_at dksX0_perform_1 7 rfl rfl)
theorem dX0_perform_32 : decode cX0_perform 32 = .ok (.ireturn, 1) := dk_172 (dk_at dksX0_perform_1 8 rfl rfl)
theorem dX0_perform_33 : decode cX0_perform 33 = .ok (.aload_n 0, 1) := dk_42 (dk_at dksX0_perform_1 9 rfl rfl)
theorem dX0_perform_34 : decode cX0_perform 34 = .ok (.invokevirtual 469, 3) := dk_182 1 213 (dk_at dksX0_perform_1 10 rfl rfl)
theorem dX0_perform_37 : decode cX0_perform 37 = .ok (.aload_n 0, 1) := dk_42 (dk_at dksX0_perform_1 13 rfl rfl)
theorem dX0_perform_38 : decode cX0_perform 38 = .ok (.getfield 160, 3) := dk_180 0 160 (dk_at dksX0_perform_1 14 rfl rfl)
theorem dX0_perform_41 : decode cX0_perform 41 = .ok (.iload_n 1, 1) := dk_27 (dk_at dksX0_perform_1 17 rfl rfl)
theorem dX0_perform_42 : decode cX0_perform 42 = .ok (.invokevirtual 472, 3) := dk_182 1 216 (dk_at dksX0_perform_1 18 rfl rfl)
theorem dX0_perform_45 : decode cX0_perform 45 = .ok (.ireturn, 1) := dk_172 (dk_at dksX0_perform_1 21 rfl rfl)
abbrev cX0_keepsAhead : ByteArray := prog_1_method_46_code
def yX0_keepsAhead : MethodName := ⟨RX0, "keepsAhead", "()V"⟩
def dkwX0_keepsAhead_4 : List UInt8 := [180, 0, 160, 182, 1, 178, 42, 89, 180, 1, 139, 4, 96, 181, 1, 139, 177]
abbrev dktX0_keepsAhead_4 : List UInt8 := dkwX0_keepsAhead_4 ++ []
def dkwX0_keepsAhead_3 : List UInt8 := [180, 1, 139, 187, 0, 155, 89, 42, 183, 0, 157, 83, 42, 180, 0, 173, 42, 180, 1, 139, 50, 42]
abbrev dktX0_keepsAhead_3 : List UInt8 := dkwX0_keepsAhead_3 ++ dktX0_keepsAhead_4
def dkwX0_keepsAhead_2 : List UInt8 := [180, 1, 139, 43, 83, 42, 180, 0, 173, 42, 180, 1, 139, 50, 199, 0, 20, 42, 180, 0, 173, 42]
abbrev dktX0_keepsAhead_2 : List UInt8 := dkwX0_keepsAhead_2 ++ dktX0_keepsAhead_3
def dkwX0_keepsAhead_1 : List UInt8 := [180, 0, 173, 3, 8, 184, 0, 10, 42, 89, 180, 1, 139, 4, 100, 181, 1, 139, 42, 180, 0, 173, 42]
abbrev dktX0_keepsAhead_1 : List UInt8 := dkwX0_keepsAhead_1 ++ dktX0_keepsAhead_2
def dkwX0_keepsAhead_0 : List UInt8 := [42, 180, 1, 139, 16, 6, 160, 0, 44, 42, 180, 0, 173, 3, 50, 76, 42, 180, 0, 173, 4, 42]
abbrev dktX0_keepsAhead_0 : List UInt8 := dkwX0_keepsAhead_0 ++ dktX0_keepsAhead_1
theorem dksX0_keepsAhead_0 : cX0_keepsAhead.data.toList.drop 0 = dktX0_keepsAhead_0 := by decide +kernel
theorem dksX0_keepsAhead_1 : cX0_keepsAhead.data.toList.drop 22 = dktX0_keepsAhead_1 := dk_seg dksX0_keepsAhead_0 22 rfl rfl
theorem dksX0_keepsAhead_2 : cX0_keepsAhead.data.toList.drop 45 = dktX0_keepsAhead_2 := dk_seg dksX0_keepsAhead_1 23 rfl rfl
theorem dksX0_keepsAhead_3 : cX0_keepsAhead.data.toList.drop 67 = dktX0_keepsAhead_3 := dk_seg dksX0_keepsAhead_2 22 rfl rfl
theorem dksX0_keepsAhead_4 : cX0_keepsAhead.data.toList.drop 89 = dktX0_keepsAhead_4 := dk_seg dksX0_keepsAhead_3 22 rfl rfl
theorem dX0_keepsAhead_0 : decode cX0_keepsAhead 0 = .ok (.aload_n 0, 1) := dk_42 (dk_at dksX0_keepsAhead_0 0 rfl rfl)
theorem dX0_keepsAhead_1 : decode cX0_keepsAhead 1 = .ok (.getfield 395, 3) := dk_180 1 139 (dk_at dksX0_keepsAhead_0 1 rfl rfl)
theorem dX0_keepsAhead_4 : decode cX0_keepsAhead 4 = .ok (.bipush 6, 2) := dk_16 6 (dk_at dksX0_keepsAhead_0 4 rfl rfl)
theorem dX0_keepsAhead_6 : decode cX0_keepsAhead 6 = .ok (.if_icmp .ne 44, 3) := dk_160 0 44 (dk_at dksX0_keepsAhead_0 6 rfl rfl)
theorem dX0_keepsAhead_9 : decode cX0_keepsAhead 9 = .ok (.aload_n 0, 1) := dk_42 (dk_at dksX0_keepsAhead_0 9 rfl rfl)
theorem dX0_keepsAhead_10 : decode cX0_keepsAhead 10 = .ok (.getfield 173, 3) := dk_180 0 173 (dk_at dksX0_keepsAhead_0 10 rfl rfl)
theorem dX0_keepsAhead_13 : decode cX0_keepsAhead 13 = .ok (.iconst 0, 1) := dk_3 (dk_at dksX0_keepsAhead_0 13 rfl rfl)
theorem dX0_keepsAhead_14 : decode cX0_keepsAhead 14 = .ok (.aaload, 1) := dk_50 (dk_at dksX0_keepsAhead_0 14 rfl rfl)
theorem dX0_keepsAhead_15 : decode cX0_keepsAhead 15 = .ok (.astore_n 1, 1) := dk_76 (dk_at dksX0_keepsAhead_0 15 rfl rfl)
theorem dX0_keepsAhead_16 : decode cX0_keepsAhead 16 = .ok (.aload_n 0, 1) := dk_42 (dk_at dksX0_keepsAhead_0 16 rfl rfl)
theorem dX0_keepsAhead_17 : decode cX0_keepsAhead 17 = .ok (.getfield 173, 3) := dk_180 0 173 (dk_at dksX0_keepsAhead_0 17 rfl rfl)
theorem dX0_keepsAhead_20 : decode cX0_keepsAhead 20 = .ok (.iconst 1, 1) := dk_4 (dk_at dksX0_keepsAhead_0 20 rfl rfl)
theorem dX0_keepsAhead_21 : decode cX0_keepsAhead 21 = .ok (.aload_n 0, 1) := dk_42 (dk_at dksX0_keepsAhead_0 21 rfl rfl)
theorem dX0_keepsAhead_22 : decode cX0_keepsAhead 22 = .ok (.getfield 173, 3) := dk_180 0 173 (dk_at dksX0_keepsAhead_1 0 rfl rfl)
theorem dX0_keepsAhead_25 : decode cX0_keepsAhead 25 = .ok (.iconst 0, 1) := dk_3 (dk_at dksX0_keepsAhead_1 3 rfl rfl)
theorem dX0_keepsAhead_26 : decode cX0_keepsAhead 26 = .ok (.iconst 5, 1) := dk_8 (dk_at dksX0_keepsAhead_1 4 rfl rfl)
theorem dX0_keepsAhead_27 : decode cX0_keepsAhead 27 = .ok (.invokestatic 10, 3) := dk_184 0 10 (dk_at dksX0_keepsAhead_1 5 rfl rfl)
theorem dX0_keepsAhead_30 : decode cX0_keepsAhead 30 = .ok (.aload_n 0, 1) := dk_42 (dk_at dksX0_keepsAhead_1 8 rfl rfl)
theorem dX0_keepsAhead_31 : decode cX0_keepsAhead 31 = .ok (.dup, 1) := dk_89 (dk_at dksX0_keepsAhead_1 9 rfl rfl)
theorem dX0_keepsAhead_32 : decode cX0_keepsAhead 32 = .ok (.getfield 395, 3) := dk_180 1 139 (dk_at dksX0_keepsAhead_1 10 rfl rfl)
theorem dX0_keepsAhead_35 : decode cX0_keepsAhead 35 = .ok (.iconst 1, 1) := dk_4 (dk_at dksX0_keepsAhead_1 13 rfl rfl)
theorem dX0_keepsAhead_36 : decode cX0_keepsAhead 36 = .ok (.isub, 1) := dk_100 (dk_at dksX0_keepsAhead_1 14 rfl rfl)
theorem dX0_keepsAhead_37 : decode cX0_keepsAhead 37 = .ok (.putfield 395, 3) := dk_181 1 139 (dk_at dksX0_keepsAhead_1 15 rfl rfl)
theorem dX0_keepsAhead_40 : decode cX0_keepsAhead 40 = .ok (.aload_n 0, 1) := dk_42 (dk_at dksX0_keepsAhead_1 18 rfl rfl)
theorem dX0_keepsAhead_41 : decode cX0_keepsAhead 41 = .ok (.getfield 173, 3) := dk_180 0 173 (dk_at dksX0_keepsAhead_1 19 rfl rfl)
theorem dX0_keepsAhead_44 : decode cX0_keepsAhead 44 = .ok (.aload_n 0, 1) := dk_42 (dk_at dksX0_keepsAhead_1 22 rfl rfl)
theorem dX0_keepsAhead_45 : decode cX0_keepsAhead 45 = .ok (.getfield 395, 3) := dk_180 1 139 (dk_at dksX0_keepsAhead_2 0 rfl rfl)
theorem dX0_keepsAhead_48 : decode cX0_keepsAhead 48 = .ok (.aload_n 1, 1) := dk_43 (dk_at dksX0_keepsAhead_2 3 rfl rfl)
theorem dX0_keepsAhead_49 : decode cX0_keepsAhead 49 = .ok (.aastore, 1) := dk_83 (dk_at dksX0_keepsAhead_2 4 rfl rfl)
theorem dX0_keepsAhead_50 : decode cX0_keepsAhead 50 = .ok (.aload_n 0, 1) := dk_42 (dk_at dksX0_keepsAhead_2 5 rfl rfl)
theorem dX0_keepsAhead_51 : decode cX0_keepsAhead 51 = .ok (.getfield 173, 3) := dk_180 0 173 (dk_at dksX0_keepsAhead_2 6 rfl rfl)
theorem dX0_keepsAhead_54 : decode cX0_keepsAhead 54 = .ok (.aload_n 0, 1) := dk_42 (dk_at dksX0_keepsAhead_2 9 rfl rfl)
theorem dX0_keepsAhead_55 : decode cX0_keepsAhead 55 = .ok (.getfield 395, 3) := dk_180 1 139 (dk_at dksX0_keepsAhead_2 10 rfl rfl)
theorem dX0_keepsAhead_58 : decode cX0_keepsAhead 58 = .ok (.aaload, 1) := dk_50 (dk_at dksX0_keepsAhead_2 13 rfl rfl)
theorem dX0_keepsAhead_59 : decode cX0_keepsAhead 59 = .ok (.ifnonnull 20, 3) := dk_199 0 20 (dk_at dksX0_keepsAhead_2 14 rfl rfl)
theorem dX0_keepsAhead_62 : decode cX0_keepsAhead 62 = .ok (.aload_n 0, 1) := dk_42 (dk_at dksX0_keepsAhead_2 17 rfl rfl)
theorem dX0_keepsAhead_63 : decode cX0_keepsAhead 63 = .ok (.getfield 173, 3) := dk_180 0 173 (dk_at dksX0_keepsAhead_2 18 rfl rfl)
theorem dX0_keepsAhead_66 : decode cX0_keepsAhead 66 = .ok (.aload_n 0, 1) := dk_42 (dk_at dksX0_keepsAhead_2 21 rfl rfl)
theorem dX0_keepsAhead_67 : decode cX0_keepsAhead 67 = .ok (.getfield 395, 3) := dk_180 1 139 (dk_at dksX0_keepsAhead_3 0 rfl rfl)
theorem dX0_keepsAhead_70 : decode cX0_keepsAhead 70 = .ok (.new 155, 3) := dk_187 0 155 (dk_at dksX0_keepsAhead_3 3 rfl rfl)
theorem dX0_keepsAhead_73 : decode cX0_keepsAhead 73 = .ok (.dup, 1) := dk_89 (dk_at dksX0_keepsAhead_3 6 rfl rfl)
theorem dX0_keepsAhead_74 : decode cX0_keepsAhead 74 = .ok (.aload_n 0, 1) := dk_42 (dk_at dksX0_keepsAhead_3 7 rfl rfl)
theorem dX0_keepsAhead_75 : decode cX0_keepsAhead 75 = .ok (.invokespecial 157, 3) := dk_183 0 157 (dk_at dksX0_keepsAhead_3 8 rfl rfl)
theorem dX0_keepsAhead_78 : decode cX0_keepsAhead 78 = .ok (.aastore, 1) := dk_83 (dk_at dksX0_keepsAhead_3 11 rfl rfl)
theorem dX0_keepsAhead_79 : decode cX0_keepsAhead 79 = .ok (.aload_n 0, 1) := dk_42 (dk_at dksX0_keepsAhead_3 12 rfl rfl)
theorem dX0_keepsAhead_80 : decode cX0_keepsAhead 80 = .ok (.getfield 173, 3) := dk_180 0 173 (dk_at dksX0_keepsAhead_3 13 rfl rfl)
theorem dX0_keepsAhead_83 : decode cX0_keepsAhead 83 = .ok (.aload_n 0, 1) := dk_42 (dk_at dksX0_keepsAhead_3 16 rfl rfl)
theorem dX0_keepsAhead_84 : decode cX0_keepsAhead 84 = .ok (.getfield 395, 3) := dk_180 1 139 (dk_at dksX0_keepsAhead_3 17 rfl rfl)
theorem dX0_keepsAhead_87 : decode cX0_keepsAhead 87 = .ok (.aaload, 1) := dk_50 (dk_at dksX0_keepsAhead_3 20 rfl rfl)
theorem dX0_keepsAhead_88 : decode cX0_keepsAhead 88 = .ok (.aload_n 0, 1) := dk_42 (dk_at dksX0_keepsAhead_3 21 rfl rfl)
theorem dX0_keepsAhead_89 : decode cX0_keepsAhead 89 = .ok (.getfield 160, 3) := dk_180 0 160 (dk_at dksX0_keepsAhead_4 0 rfl rfl)
theorem dX0_keepsAhead_92 : decode cX0_keepsAhead 92 = .ok (.invokevirtual 434, 3) := dk_182 1 178 (dk_at dksX0_keepsAhead_4 3 rfl rfl)
theorem dX0_keepsAhead_95 : decode cX0_keepsAhead 95 = .ok (.aload_n 0, 1) := dk_42 (dk_at dksX0_keepsAhead_4 6 rfl rfl)
theorem dX0_keepsAhead_96 : decode cX0_keepsAhead 96 = .ok (.dup, 1) := dk_89 (dk_at dksX0_keepsAhead_4 7 rfl rfl)
theorem dX0_keepsAhead_97 : decode cX0_keepsAhead 97 = .ok (.getfield 395, 3) := dk_180 1 139 (dk_at dksX0_keepsAhead_4 8 rfl rfl)
theorem dX0_keepsAhead_100 : decode cX0_keepsAhead 100 = .ok (.iconst 1, 1) := dk_4 (dk_at dksX0_keepsAhead_4 11 rfl rfl)
theorem dX0_keepsAhead_101 : decode cX0_keepsAhead 101 = .ok (.iadd, 1) := dk_96 (dk_at dksX0_keepsAhead_4 12 rfl rfl)
theorem dX0_keepsAhead_102 : decode cX0_keepsAhead 102 = .ok (.putfield 395, 3) := dk_181 1 139 (dk_at dksX0_keepsAhead_4 13 rfl rfl)
theorem dX0_keepsAhead_105 : decode cX0_keepsAhead 105 = .ok (.return_, 1) := dk_177 (dk_at dksX0_keepsAhead_4 16 rfl rfl)
abbrev cX0_tells : ByteArray := prog_1_method_29_code
def yX0_tells : MethodName := ⟨RX0, "tells", "(III)I"⟩
def dkwX0_tells_4 : List UInt8 := [42, 180, 0, 123, 182, 1, 94, 3, 29, 184, 1, 99, 172]
abbrev dktX0_tells_4 : List UInt8 := dkwX0_tells_4 ++ []
def dkwX0_tells_3 : List UInt8 := [42, 180, 0, 119, 180, 1, 80, 160, 0, 7, 28, 167, 0, 20, 42, 180, 0, 119, 180, 1, 89, 21, 4, 50]
abbrev dktX0_tells_3 : List UInt8 := dkwX0_tells_3 ++ dktX0_tells_4
def dkwX0_tells_2 : List UInt8 := [180, 1, 92, 21, 4, 50, 42, 180, 0, 123, 182, 1, 94, 154, 0, 9, 132, 4, 1, 167, 255, 194, 21, 4]
abbrev dktX0_tells_2 : List UInt8 := dkwX0_tells_2 ++ dktX0_tells_3
def dkwX0_tells_1 : List UInt8 := [46, 27, 160, 0, 36, 42, 180, 0, 119, 180, 1, 92, 21, 4, 50, 198, 0, 29, 42, 180, 0, 119]
abbrev dktX0_tells_1 : List UInt8 := dkwX0_tells_1 ++ dktX0_tells_2
def dkwX0_tells_0 : List UInt8 := [3, 54, 4, 21, 4, 42, 180, 0, 119, 180, 1, 80, 162, 0, 56, 42, 180, 0, 119, 180, 1, 86, 21, 4]
abbrev dktX0_tells_0 : List UInt8 := dkwX0_tells_0 ++ dktX0_tells_1
theorem dksX0_tells_0 : cX0_tells.data.toList.drop 0 = dktX0_tells_0 := by decide +kernel
theorem dksX0_tells_1 : cX0_tells.data.toList.drop 24 = dktX0_tells_1 := dk_seg dksX0_tells_0 24 rfl rfl
theorem dksX0_tells_2 : cX0_tells.data.toList.drop 46 = dktX0_tells_2 := dk_seg dksX0_tells_1 22 rfl rfl
theorem dksX0_tells_3 : cX0_tells.data.toList.drop 70 = dktX0_tells_3 := dk_seg dksX0_tells_2 24 rfl rfl
theorem dksX0_tells_4 : cX0_tells.data.toList.drop 94 = dktX0_tells_4 := dk_seg dksX0_tells_3 24 rfl rfl
theorem dX0_tells_0 : decode cX0_tells 0 = .ok (.iconst 0, 1) := dk_3 (dk_at dksX0_tells_0 0 rfl rfl)
theorem dX0_tells_1 : decode cX0_tells 1 = .ok (.istore 4, 2) := dk_54 4 (dk_at dksX0_tells_0 1 rfl rfl)
theorem dX0_tells_3 : decode cX0_tells 3 = .ok (.iload 4, 2) := dk_21 4 (dk_at dksX0_tells_0 3 rfl rfl)
theorem dX0_tells_5 : decode cX0_tells 5 = .ok (.aload_n 0, 1) := dk_42 (dk_at dksX0_tells_0 5 rfl rfl)
theorem dX0_tells_6 : decode cX0_tells 6 = .ok (.getfield 119, 3) := dk_180 0 119 (dk_at dksX0_tells_0 6 rfl rfl)
theorem dX0_tells_9 : decode cX0_tells 9 = .ok (.getfield 336, 3) := dk_180 1 80 (dk_at dksX0_tells_0 9 rfl rfl)
theorem dX0_tells_12 : decode cX0_tells 12 = .ok (.if_icmp .ge 56, 3) := dk_162 0 56 (dk_at dksX0_tells_0 12 rfl rfl)
theorem dX0_tells_15 : decode cX0_tells 15 = .ok (.aload_n 0, 1) := dk_42 (dk_at dksX0_tells_0 15 rfl rfl)
theorem dX0_tells_16 : decode cX0_tells 16 = .ok (.getfield 119, 3) := dk_180 0 119 (dk_at dksX0_tells_0 16 rfl rfl)
theorem dX0_tells_19 : decode cX0_tells 19 = .ok (.getfield 342, 3) := dk_180 1 86 (dk_at dksX0_tells_0 19 rfl rfl)
theorem dX0_tells_22 : decode cX0_tells 22 = .ok (.iload 4, 2) := dk_21 4 (dk_at dksX0_tells_0 22 rfl rfl)
theorem dX0_tells_24 : decode cX0_tells 24 = .ok (.iaload, 1) := dk_46 (dk_at dksX0_tells_1 0 rfl rfl)
theorem dX0_tells_25 : decode cX0_tells 25 = .ok (.iload_n 1, 1) := dk_27 (dk_at dksX0_tells_1 1 rfl rfl)
theorem dX0_tells_26 : decode cX0_tells 26 = .ok (.if_icmp .ne 36, 3) := dk_160 0 36 (dk_at dksX0_tells_1 2 rfl rfl)
theorem dX0_tells_29 : decode cX0_tells 29 = .ok (.aload_n 0, 1) := dk_42 (dk_at dksX0_tells_1 5 rfl rfl)
theorem dX0_tells_30 : decode cX0_tells 30 = .ok (.getfield 119, 3) := dk_180 0 119 (dk_at dksX0_tells_1 6 rfl rfl)
theorem dX0_tells_33 : decode cX0_tells 33 = .ok (.getfield 348, 3) := dk_180 1 92 (dk_at dksX0_tells_1 9 rfl rfl)
theorem dX0_tells_36 : decode cX0_tells 36 = .ok (.iload 4, 2) := dk_21 4 (dk_at dksX0_tells_1 12 rfl rfl)
theorem dX0_tells_38 : decode cX0_tells 38 = .ok (.aaload, 1) := dk_50 (dk_at dksX0_tells_1 14 rfl rfl)
theorem dX0_tells_39 : decode cX0_tells 39 = .ok (.ifnull 29, 3) := dk_198 0 29 (dk_at dksX0_tells_1 15 rfl rfl)
theorem dX0_tells_42 : decode cX0_tells 42 = .ok (.aload_n 0, 1) := dk_42 (dk_at dksX0_tells_1 18 rfl rfl)
theorem dX0_tells_43 : decode cX0_tells 43 = .ok (.getfield 119, 3) := dk_180 0 119 (dk_at dksX0_tells_1 19 rfl rfl)
theorem dX0_tells_46 : decode cX0_tells 46 = .ok (.getfield 348, 3) := dk_180 1 92 (dk_at dksX0_tells_2 0 rfl rfl)
theorem dX0_tells_49 : decode cX0_tells 49 = .ok (.iload 4, 2) := dk_21 4 (dk_at dksX0_tells_2 3 rfl rfl)
theorem dX0_tells_51 : decode cX0_tells 51 = .ok (.aaload, 1) := dk_50 (dk_at dksX0_tells_2 5 rfl rfl)
theorem dX0_tells_52 : decode cX0_tells 52 = .ok (.aload_n 0, 1) := dk_42 (dk_at dksX0_tells_2 6 rfl rfl)
theorem dX0_tells_53 : decode cX0_tells 53 = .ok (.getfield 123, 3) := dk_180 0 123 (dk_at dksX0_tells_2 7 rfl rfl)
theorem dX0_tells_56 : decode cX0_tells 56 = .ok (.invokevirtual 350, 3) := dk_182 1 94 (dk_at dksX0_tells_2 10 rfl rfl)
theorem dX0_tells_59 : decode cX0_tells 59 = .ok (.ifCond .ne 9, 3) := dk_154 0 9 (dk_at dksX0_tells_2 13 rfl rfl)
theorem dX0_tells_62 : decode cX0_tells 62 = .ok (.iinc 4 1, 3) := dk_132 4 1 (dk_at dksX0_tells_2 16 rfl rfl)
theorem dX0_tells_65 : decode cX0_tells 65 = .ok (.goto (-62), 3) := dk_167 255 194 (dk_at dksX0_tells_2 19 rfl rfl)
theorem dX0_tells_68 : decode cX0_tells 68 = .ok (.iload 4, 2) := dk_21 4 (dk_at dksX0_tells_2 22 rfl rfl)
theorem dX0_tells_70 : decode cX0_tells 70 = .ok (.aload_n 0, 1) := dk_42 (dk_at dksX0_tells_3 0 rfl rfl)
theorem dX0_tells_71 : decode cX0_tells 71 = .ok (.getfield 119, 3) := dk_180 0 119 (dk_at dksX0_tells_3 1 rfl rfl)
theorem dX0_tells_74 : decode cX0_tells 74 = .ok (.getfield 336, 3) := dk_180 1 80 (dk_at dksX0_tells_3 4 rfl rfl)
theorem dX0_tells_77 : decode cX0_tells 77 = .ok (.if_icmp .ne 7, 3) := dk_160 0 7 (dk_at dksX0_tells_3 7 rfl rfl)
theorem dX0_tells_80 : decode cX0_tells 80 = .ok (.iload_n 2, 1) := dk_28 (dk_at dksX0_tells_3 10 rfl rfl)
theorem dX0_tells_81 : decode cX0_tells 81 = .ok (.goto 20, 3) := dk_167 0 20 (dk_at dksX0_tells_3 11 rfl rfl)
theorem dX0_tells_84 : decode cX0_tells 84 = .ok (.aload_n 0, 1) := dk_42 (dk_at dksX0_tells_3 14 rfl rfl)
theorem dX0_tells_85 : decode cX0_tells 85 = .ok (.getfield 119, 3) := dk_180 0 119 (dk_at dksX0_tells_3 15 rfl rfl)
theorem dX0_tells_88 : decode cX0_tells 88 = .ok (.getfield 345, 3) := dk_180 1 89 (dk_at dksX0_tells_3 18 rfl rfl)
theorem dX0_tells_91 : decode cX0_tells 91 = .ok (.iload 4, 2) := dk_21 4 (dk_at dksX0_tells_3 21 rfl rfl)
theorem dX0_tells_93 : decode cX0_tells 93 = .ok (.aaload, 1) := dk_50 (dk_at dksX0_tells_3 23 rfl rfl)
theorem dX0_tells_94 : decode cX0_tells 94 = .ok (.aload_n 0, 1) := dk_42 (dk_at dksX0_tells_4 0 rfl rfl)
theorem dX0_tells_95 : decode cX0_tells 95 = .ok (.getfield 123, 3) := dk_180 0 123 (dk_at dksX0_tells_4 1 rfl rfl)
theorem dX0_tells_98 : decode cX0_tells 98 = .ok (.invokevirtual 350, 3) := dk_182 1 94 (dk_at dksX0_tells_4 4 rfl rfl)
theorem dX0_tells_101 : decode cX0_tells 101 = .ok (.iconst 0, 1) := dk_3 (dk_at dksX0_tells_4 7 rfl rfl)
theorem dX0_tells_102 : decode cX0_tells 102 = .ok (.iload_n 3, 1) := dk_29 (dk_at dksX0_tells_4 8 rfl rfl)
theorem dX0_tells_103 : decode cX0_tells 103 = .ok (.invokestatic 355, 3) := dk_184 1 99 (dk_at dksX0_tells_4 9 rfl rfl)
theorem dX0_tells_106 : decode cX0_tells 106 = .ok (.ireturn, 1) := dk_172 (dk_at dksX0_tells_4 12 rfl rfl)
abbrev cX0_held : ByteArray := prog_1_method_2_code
def yX0_held : MethodName := ⟨RX0, "held", "(III)I"⟩
def dkwX0_held_0 : List UInt8 := [27, 28, 26, 184, 0, 1, 184, 0, 7, 172]
abbrev dktX0_held_0 : List UInt8 := dkwX0_held_0 ++ []
theorem dksX0_held_0 : cX0_held.data.toList.drop 0 = dktX0_held_0 := by decide +kernel
theorem dX0_held_0 : decode cX0_held 0 = .ok (.iload_n 1, 1) := dk_27 (dk_at dksX0_held_0 0 rfl rfl)
theorem dX0_held_1 : decode cX0_held 1 = .ok (.iload_n 2, 1) := dk_28 (dk_at dksX0_held_0 1 rfl rfl)
theorem dX0_held_2 : decode cX0_held 2 = .ok (.iload_n 0, 1) := dk_26 (dk_at dksX0_held_0 2 rfl rfl)
theorem dX0_held_3 : decode cX0_held 3 = .ok (.invokestatic 1, 3) := dk_184 0 1 (dk_at dksX0_held_0 3 rfl rfl)
theorem dX0_held_6 : decode cX0_held 6 = .ok (.invokestatic 7, 3) := dk_184 0 7 (dk_at dksX0_held_0 6 rfl rfl)
theorem dX0_held_9 : decode cX0_held 9 = .ok (.ireturn, 1) := dk_172 (dk_at dksX0_held_0 9 rfl rfl)
abbrev cX0_has : ByteArray := prog_1_method_3_code
def yX0_has : MethodName := ⟨RX0, "has", "(II)Z"⟩
def dkwX0_has_0 : List UInt8 := [26, 27, 122, 4, 126, 4, 160, 0, 7, 4, 167, 0, 4, 3, 172]
abbrev dktX0_has_0 : List UInt8 := dkwX0_has_0 ++ []
theorem dksX0_has_0 : cX0_has.data.toList.drop 0 = dktX0_has_0 := by decide +kernel
theorem dX0_has_0 : decode cX0_has 0 = .ok (.iload_n 0, 1) := dk_26 (dk_at dksX0_has_0 0 rfl rfl)
theorem dX0_has_1 : decode cX0_has 1 = .ok (.iload_n 1, 1) := dk_27 (dk_at dksX0_has_0 1 rfl rfl)
theorem dX0_has_2 : decode cX0_has 2 = .ok (.ishr, 1) := dk_122 (dk_at dksX0_has_0 2 rfl rfl)
theorem dX0_has_3 : decode cX0_has 3 = .ok (.iconst 1, 1) := dk_4 (dk_at dksX0_has_0 3 rfl rfl)
theorem dX0_has_4 : decode cX0_has 4 = .ok (.iand, 1) := dk_126 (dk_at dksX0_has_0 4 rfl rfl)
theorem dX0_has_5 : decode cX0_has 5 = .ok (.iconst 1, 1) := dk_4 (dk_at dksX0_has_0 5 rfl rfl)
theorem dX0_has_6 : decode cX0_has 6 = .ok (.if_icmp .ne 7, 3) := dk_160 0 7 (dk_at dksX0_has_0 6 rfl rfl)
theorem dX0_has_9 : decode cX0_has 9 = .ok (.iconst 1, 1) := dk_4 (dk_at dksX0_has_0 9 rfl rfl)
theorem dX0_has_10 : decode cX0_has 10 = .ok (.goto 4, 3) := dk_167 0 4 (dk_at dksX0_has_0 10 rfl rfl)
theorem dX0_has_13 : decode cX0_has 13 = .ok (.iconst 0, 1) := dk_3 (dk_at dksX0_has_0 13 rfl rfl)
theorem dX0_has_14 : decode cX0_has 14 = .ok (.ireturn, 1) := dk_172 (dk_at dksX0_has_0 14 rfl rfl)
abbrev cX0_countOf : ByteArray := prog_1_method_44_code
def yX0_countOf : MethodName := ⟨RX0, "countOf", "(I)I"⟩
def dkwX0_countOf_1 : List UInt8 := [42, 180, 0, 129, 28, 50, 182, 1, 167, 27, 160, 0, 5, 5, 172, 132, 2, 1, 167, 255, 216, 4, 172]
abbrev dktX0_countOf_1 : List UInt8 := dkwX0_countOf_1 ++ []
def dkwX0_countOf_0 : List UInt8 := [3, 61, 28, 42, 180, 0, 129, 190, 162, 0, 37, 42, 180, 0, 129, 28, 50, 182, 1, 164, 5, 160, 0, 18]
abbrev dktX0_countOf_0 : List UInt8 := dkwX0_countOf_0 ++ dktX0_countOf_1
theorem dksX0_countOf_0 : cX0_countOf.data.toList.drop 0 = dktX0_countOf_0 := by decide +kernel
theorem dksX0_countOf_1 : cX0_countOf.data.toList.drop 24 = dktX0_countOf_1 := dk_seg dksX0_countOf_0 24 rfl rfl
theorem dX0_countOf_0 : decode cX0_countOf 0 = .ok (.iconst 0, 1) := dk_3 (dk_at dksX0_countOf_0 0 rfl rfl)
theorem dX0_countOf_1 : decode cX0_countOf 1 = .ok (.istore_n 2, 1) := dk_61 (dk_at dksX0_countOf_0 1 rfl rfl)
theorem dX0_countOf_2 : decode cX0_countOf 2 = .ok (.iload_n 2, 1) := dk_28 (dk_at dksX0_countOf_0 2 rfl rfl)
theorem dX0_countOf_3 : decode cX0_countOf 3 = .ok (.aload_n 0, 1) := dk_42 (dk_at dksX0_countOf_0 3 rfl rfl)
theorem dX0_countOf_4 : decode cX0_countOf 4 = .ok (.getfield 129, 3) := dk_180 0 129 (dk_at dksX0_countOf_0 4 rfl rfl)
theorem dX0_countOf_7 : decode cX0_countOf 7 = .ok (.arraylength, 1) := dk_190 (dk_at dksX0_countOf_0 7 rfl rfl)
theorem dX0_countOf_8 : decode cX0_countOf 8 = .ok (.if_icmp .ge 37, 3) := dk_162 0 37 (dk_at dksX0_countOf_0 8 rfl rfl)
theorem dX0_countOf_11 : decode cX0_countOf 11 = .ok (.aload_n 0, 1) := dk_42 (dk_at dksX0_countOf_0 11 rfl rfl)
theorem dX0_countOf_12 : decode cX0_countOf 12 = .ok (.getfield 129, 3) := dk_180 0 129 (dk_at dksX0_countOf_0 12 rfl rfl)
theorem dX0_countOf_15 : decode cX0_countOf 15 = .ok (.iload_n 2, 1) := dk_28 (dk_at dksX0_countOf_0 15 rfl rfl)
theorem dX0_countOf_16 : decode cX0_countOf 16 = .ok (.aaload, 1) := dk_50 (dk_at dksX0_countOf_0 16 rfl rfl)
theorem dX0_countOf_17 : decode cX0_countOf 17 = .ok (.invokevirtual 420, 3) := dk_182 1 164 (dk_at dksX0_countOf_0 17 rfl rfl)
theorem dX0_countOf_20 : decode cX0_countOf 20 = .ok (.iconst 2, 1) := dk_5 (dk_at dksX0_countOf_0 20 rfl rfl)
theorem dX0_countOf_21 : decode cX0_countOf 21 = .ok (.if_icmp .ne 18, 3) := dk_160 0 18 (dk_at dksX0_countOf_0 21 rfl rfl)
theorem dX0_countOf_24 : decode cX0_countOf 24 = .ok (.aload_n 0, 1) := dk_42 (dk_at dksX0_countOf_1 0 rfl rfl)
theorem dX0_countOf_25 : decode cX0_countOf 25 = .ok (.getfield 129, 3) := dk_180 0 129 (dk_at dksX0_countOf_1 1 rfl rfl)
theorem dX0_countOf_28 : decode cX0_countOf 28 = .ok (.iload_n 2, 1) := dk_28 (dk_at dksX0_countOf_1 4 rfl rfl)
theorem dX0_countOf_29 : decode cX0_countOf 29 = .ok (.aaload, 1) := dk_50 (dk_at dksX0_countOf_1 5 rfl rfl)
theorem dX0_countOf_30 : decode cX0_countOf 30 = .ok (.invokevirtual 423, 3) := dk_182 1 167 (dk_at dksX0_countOf_1 6 rfl rfl)
theorem dX0_countOf_33 : decode cX0_countOf 33 = .ok (.iload_n 1, 1) := dk_27 (dk_at dksX0_countOf_1 9 rfl rfl)
theorem dX0_countOf_34 : decode cX0_countOf 34 = .ok (.if_icmp .ne 5, 3) := dk_160 0 5 (dk_at dksX0_countOf_1 10 rfl rfl)
theorem dX0_countOf_37 : decode cX0_countOf 37 = .ok (.iconst 2, 1) := dk_5 (dk_at dksX0_countOf_1 13 rfl rfl)
theorem dX0_countOf_38 : decode cX0_countOf 38 = .ok (.ireturn, 1) := dk_172 (dk_at dksX0_countOf_1 14 rfl rfl)
theorem dX0_countOf_39 : decode cX0_countOf 39 = .ok (.iinc 2 1, 3) := dk_132 2 1 (dk_at dksX0_countOf_1 15 rfl rfl)
theorem dX0_countOf_42 : decode cX0_countOf 42 = .ok (.goto (-40), 3) := dk_167 255 216 (dk_at dksX0_countOf_1 18 rfl rfl)
theorem dX0_countOf_45 : decode cX0_countOf 45 = .ok (.iconst 1, 1) := dk_4 (dk_at dksX0_countOf_1 21 rfl rfl)
theorem dX0_countOf_46 : decode cX0_countOf 46 = .ok (.ireturn, 1) := dk_172 (dk_at dksX0_countOf_1 22 rfl rfl)
abbrev cX0_writes : ByteArray := prog_1_method_45_code
def yX0_writes : MethodName := ⟨RX0, "writes", "(III)V"⟩
def dkwX0_writes_3 : List UInt8 := [180, 0, 160, 89, 180, 1, 172, 4, 96, 181, 1, 172, 177]
abbrev dktX0_writes_3 : List UInt8 := dkwX0_writes_3 ++ []
def dkwX0_writes_2 : List UInt8 := [27, 79, 42, 180, 0, 170, 21, 4, 5, 96, 28, 79, 42, 180, 0, 170, 21, 4, 6, 96, 29, 79, 42]
abbrev dktX0_writes_2 : List UInt8 := dkwX0_writes_2 ++ dktX0_writes_3
def dkwX0_writes_1 : List UInt8 := [54, 4, 42, 180, 0, 170, 21, 4, 42, 180, 0, 160, 180, 1, 175, 79, 42, 180, 0, 170, 21, 4, 4, 96]
abbrev dktX0_writes_1 : List UInt8 := dkwX0_writes_1 ++ dktX0_writes_2
def dkwX0_writes_0 : List UInt8 := [42, 180, 0, 160, 180, 1, 172, 17, 0, 150, 160, 0, 4, 177, 7, 42, 180, 0, 160, 180, 1, 172, 104]
abbrev dktX0_writes_0 : List UInt8 := dkwX0_writes_0 ++ dktX0_writes_1
theorem dksX0_writes_0 : cX0_writes.data.toList.drop 0 = dktX0_writes_0 := by decide +kernel
theorem dksX0_writes_1 : cX0_writes.data.toList.drop 23 = dktX0_writes_1 := dk_seg dksX0_writes_0 23 rfl rfl
theorem dksX0_writes_2 : cX0_writes.data.toList.drop 47 = dktX0_writes_2 := dk_seg dksX0_writes_1 24 rfl rfl
theorem dksX0_writes_3 : cX0_writes.data.toList.drop 70 = dktX0_writes_3 := dk_seg dksX0_writes_2 23 rfl rfl
theorem dX0_writes_0 : decode cX0_writes 0 = .ok (.aload_n 0, 1) := dk_42 (dk_at dksX0_writes_0 0 rfl rfl)
theorem dX0_writes_1 : decode cX0_writes 1 = .ok (.getfield 160, 3) := dk_180 0 160 (dk_at dksX0_writes_0 1 rfl rfl)
theorem dX0_writes_4 : decode cX0_writes 4 = .ok (.getfield 428, 3) := dk_180 1 172 (dk_at dksX0_writes_0 4 rfl rfl)
theorem dX0_writes_7 : decode cX0_writes 7 = .ok (.sipush 150, 3) := dk_17 0 150 (dk_at dksX0_writes_0 7 rfl rfl)
theorem dX0_writes_10 : decode cX0_writes 10 = .ok (.if_icmp .ne 4, 3) := dk_160 0 4 (dk_at dksX0_writes_0 10 rfl rfl)
theorem dX0_writes_13 : decode cX0_writes 13 = .ok (.return_, 1) := dk_177 (dk_at dksX0_writes_0 13 rfl rfl)
theorem dX0_writes_14 : decode cX0_writes 14 = .ok (.iconst 4, 1) := dk_7 (dk_at dksX0_writes_0 14 rfl rfl)
theorem dX0_writes_15 : decode cX0_writes 15 = .ok (.aload_n 0, 1) := dk_42 (dk_at dksX0_writes_0 15 rfl rfl)
theorem dX0_writes_16 : decode cX0_writes 16 = .ok (.getfield 160, 3) := dk_180 0 160 (dk_at dksX0_writes_0 16 rfl rfl)
theorem dX0_writes_19 : decode cX0_writes 19 = .ok (.getfield 428, 3) := dk_180 1 172 (dk_at dksX0_writes_0 19 rfl rfl)
theorem dX0_writes_22 : decode cX0_writes 22 = .ok (.imul, 1) := dk_104 (dk_at dksX0_writes_0 22 rfl rfl)
theorem dX0_writes_23 : decode cX0_writes 23 = .ok (.istore 4, 2) := dk_54 4 (dk_at dksX0_writes_1 0 rfl rfl)
theorem dX0_writes_25 : decode cX0_writes 25 = .ok (.aload_n 0, 1) := dk_42 (dk_at dksX0_writes_1 2 rfl rfl)
theorem dX0_writes_26 : decode cX0_writes 26 = .ok (.getfield 170, 3) := dk_180 0 170 (dk_at dksX0_writes_1 3 rfl rfl)
theorem dX0_writes_29 : decode cX0_writes 29 = .ok (.iload 4, 2) := dk_21 4 (dk_at dksX0_writes_1 6 rfl rfl)
theorem dX0_writes_31 : decode cX0_writes 31 = .ok (.aload_n 0, 1) := dk_42 (dk_at dksX0_writes_1 8 rfl rfl)
theorem dX0_writes_32 : decode cX0_writes 32 = .ok (.getfield 160, 3) := dk_180 0 160 (dk_at dksX0_writes_1 9 rfl rfl)
theorem dX0_writes_35 : decode cX0_writes 35 = .ok (.getfield 431, 3) := dk_180 1 175 (dk_at dksX0_writes_1 12 rfl rfl)
theorem dX0_writes_38 : decode cX0_writes 38 = .ok (.iastore, 1) := dk_79 (dk_at dksX0_writes_1 15 rfl rfl)
theorem dX0_writes_39 : decode cX0_writes 39 = .ok (.aload_n 0, 1) := dk_42 (dk_at dksX0_writes_1 16 rfl rfl)
theorem dX0_writes_40 : decode cX0_writes 40 = .ok (.getfield 170, 3) := dk_180 0 170 (dk_at dksX0_writes_1 17 rfl rfl)
theorem dX0_writes_43 : decode cX0_writes 43 = .ok (.iload 4, 2) := dk_21 4 (dk_at dksX0_writes_1 20 rfl rfl)
theorem dX0_writes_45 : decode cX0_writes 45 = .ok (.iconst 1, 1) := dk_4 (dk_at dksX0_writes_1 22 rfl rfl)
theorem dX0_writes_46 : decode cX0_writes 46 = .ok (.iadd, 1) := dk_96 (dk_at dksX0_writes_1 23 rfl rfl)
theorem dX0_writes_47 : decode cX0_writes 47 = .ok (.iload_n 1, 1) := dk_27 (dk_at dksX0_writes_2 0 rfl rfl)
theorem dX0_writes_48 : decode cX0_writes 48 = .ok (.iastore, 1) := dk_79 (dk_at dksX0_writes_2 1 rfl rfl)
theorem dX0_writes_49 : decode cX0_writes 49 = .ok (.aload_n 0, 1) := dk_42 (dk_at dksX0_writes_2 2 rfl rfl)
theorem dX0_writes_50 : decode cX0_writes 50 = .ok (.getfield 170, 3) := dk_180 0 170 (dk_at dksX0_writes_2 3 rfl rfl)
theorem dX0_writes_53 : decode cX0_writes 53 = .ok (.iload 4, 2) := dk_21 4 (dk_at dksX0_writes_2 6 rfl rfl)
theorem dX0_writes_55 : decode cX0_writes 55 = .ok (.iconst 2, 1) := dk_5 (dk_at dksX0_writes_2 8 rfl rfl)
theorem dX0_writes_56 : decode cX0_writes 56 = .ok (.iadd, 1) := dk_96 (dk_at dksX0_writes_2 9 rfl rfl)
theorem dX0_writes_57 : decode cX0_writes 57 = .ok (.iload_n 2, 1) := dk_28 (dk_at dksX0_writes_2 10 rfl rfl)
theorem dX0_writes_58 : decode cX0_writes 58 = .ok (.iastore, 1) := dk_79 (dk_at dksX0_writes_2 11 rfl rfl)
theorem dX0_writes_59 : decode cX0_writes 59 = .ok (.aload_n 0, 1) := dk_42 (dk_at dksX0_writes_2 12 rfl rfl)
theorem dX0_writes_60 : decode cX0_writes 60 = .ok (.getfield 170, 3) := dk_180 0 170 (dk_at dksX0_writes_2 13 rfl rfl)
theorem dX0_writes_63 : decode cX0_writes 63 = .ok (.iload 4, 2) := dk_21 4 (dk_at dksX0_writes_2 16 rfl rfl)
theorem dX0_writes_65 : decode cX0_writes 65 = .ok (.iconst 3, 1) := dk_6 (dk_at dksX0_writes_2 18 rfl rfl)
theorem dX0_writes_66 : decode cX0_writes 66 = .ok (.iadd, 1) := dk_96 (dk_at dksX0_writes_2 19 rfl rfl)
theorem dX0_writes_67 : decode cX0_writes 67 = .ok (.iload_n 3, 1) := dk_29 (dk_at dksX0_writes_2 20 rfl rfl)
theorem dX0_writes_68 : decode cX0_writes 68 = .ok (.iastore, 1) := dk_79 (dk_at dksX0_writes_2 21 rfl rfl)
theorem dX0_writes_69 : decode cX0_writes 69 = .ok (.aload_n 0, 1) := dk_42 (dk_at dksX0_writes_2 22 rfl rfl)
theorem dX0_writes_70 : decode cX0_writes 70 = .ok (.getfield 160, 3) := dk_180 0 160 (dk_at dksX0_writes_3 0 rfl rfl)
theorem dX0_writes_73 : decode cX0_writes 73 = .ok (.dup, 1) := dk_89 (dk_at dksX0_writes_3 3 rfl rfl)
theorem dX0_writes_74 : decode cX0_writes 74 = .ok (.getfield 428, 3) := dk_180 1 172 (dk_at dksX0_writes_3 4 rfl rfl)
theorem dX0_writes_77 : decode cX0_writes 77 = .ok (.iconst 1, 1) := dk_4 (dk_at dksX0_writes_3 7 rfl rfl)
theorem dX0_writes_78 : decode cX0_writes 78 = .ok (.iadd, 1) := dk_96 (dk_at dksX0_writes_3 8 rfl rfl)
theorem dX0_writes_79 : decode cX0_writes 79 = .ok (.putfield 428, 3) := dk_181 1 172 (dk_at dksX0_writes_3 9 rfl rfl)
theorem dX0_writes_82 : decode cX0_writes 82 = .ok (.return_, 1) := dk_177 (dk_at dksX0_writes_3 12 rfl rfl)
abbrev cX0_handsFrom : ByteArray := prog_1_method_43_code
def yX0_handsFrom : MethodName := ⟨RX0, "handsFrom", "(I)I"⟩
def dkwX0_handsFrom_3 : List UInt8 := [167, 255, 193, 28, 172]
abbrev dktX0_handsFrom_3 : List UInt8 := dkwX0_handsFrom_3 ++ []
def dkwX0_handsFrom_2 : List UInt8 := [29, 162, 0, 6, 167, 0, 15, 25, 5, 182, 1, 167, 61, 25, 5, 182, 1, 170, 62, 132, 4, 1]
abbrev dktX0_handsFrom_2 : List UInt8 := dkwX0_handsFrom_2 ++ dktX0_handsFrom_3
def dkwX0_handsFrom_1 : List UInt8 := [58, 5, 25, 5, 182, 1, 164, 154, 0, 36, 25, 5, 182, 1, 170, 27, 163, 0, 27, 25, 5, 182, 1, 170]
abbrev dktX0_handsFrom_1 : List UInt8 := dkwX0_handsFrom_1 ++ dktX0_handsFrom_2
def dkwX0_handsFrom_0 : List UInt8 := [8, 61, 2, 62, 3, 54, 4, 21, 4, 42, 180, 0, 129, 190, 162, 0, 59, 42, 180, 0, 129, 21, 4, 50]
abbrev dktX0_handsFrom_0 : List UInt8 := dkwX0_handsFrom_0 ++ dktX0_handsFrom_1
theorem dksX0_handsFrom_0 : cX0_handsFrom.data.toList.drop 0 = dktX0_handsFrom_0 := by decide +kernel
theorem dksX0_handsFrom_1 : cX0_handsFrom.data.toList.drop 24 = dktX0_handsFrom_1 := dk_seg dksX0_handsFrom_0 24 rfl rfl
theorem dksX0_handsFrom_2 : cX0_handsFrom.data.toList.drop 48 = dktX0_handsFrom_2 := dk_seg dksX0_handsFrom_1 24 rfl rfl
theorem dksX0_handsFrom_3 : cX0_handsFrom.data.toList.drop 70 = dktX0_handsFrom_3 := dk_seg dksX0_handsFrom_2 22 rfl rfl
theorem dX0_handsFrom_0 : decode cX0_handsFrom 0 = .ok (.iconst 5, 1) := dk_8 (dk_at dksX0_handsFrom_0 0 rfl rfl)
theorem dX0_handsFrom_1 : decode cX0_handsFrom 1 = .ok (.istore_n 2, 1) := dk_61 (dk_at dksX0_handsFrom_0 1 rfl rfl)
theorem dX0_handsFrom_2 : decode cX0_handsFrom 2 = .ok (.iconst (-1), 1) := dk_2 (dk_at dksX0_handsFrom_0 2 rfl rfl)
theorem dX0_handsFrom_3 : decode cX0_handsFrom 3 = .ok (.istore_n 3, 1) := dk_62 (dk_at dksX0_handsFrom_0 3 rfl rfl)
theorem dX0_handsFrom_4 : decode cX0_handsFrom 4 = .ok (.iconst 0, 1) := dk_3 (dk_at dksX0_handsFrom_0 4 rfl rfl)
theorem dX0_handsFrom_5 : decode cX0_handsFrom 5 = .ok (.istore 4, 2) := dk_54 4 (dk_at dksX0_handsFrom_0 5 rfl rfl)
theorem dX0_handsFrom_7 : decode cX0_handsFrom 7 = .ok (.iload 4, 2) := dk_21 4 (dk_at dksX0_handsFrom_0 7 rfl rfl)
theorem dX0_handsFrom_9 : decode cX0_handsFrom 9 = .ok (.aload_n 0, 1) := dk_42 (dk_at dksX0_handsFrom_0 9 rfl rfl)
theorem dX0_handsFrom_10 : decode cX0_handsFrom 10 = .ok (.getfield 129, 3) := dk_180 0 129 (dk_at dksX0_handsFrom_0 10 rfl rfl)
theorem dX0_handsFrom_13 : decode cX0_handsFrom 13 = .ok (.arraylength, 1) := dk_190 (dk_at dksX0_handsFrom_0 13 rfl rfl)
theorem dX0_handsFrom_14 : decode cX0_handsFrom 14 = .ok (.if_icmp .ge 59, 3) := dk_162 0 59 (dk_at dksX0_handsFrom_0 14 rfl rfl)
theorem dX0_handsFrom_17 : decode cX0_handsFrom 17 = .ok (.aload_n 0, 1) := dk_42 (dk_at dksX0_handsFrom_0 17 rfl rfl)
theorem dX0_handsFrom_18 : decode cX0_handsFrom 18 = .ok (.getfield 129, 3) := dk_180 0 129 (dk_at dksX0_handsFrom_0 18 rfl rfl)
theorem dX0_handsFrom_21 : decode cX0_handsFrom 21 = .ok (.iload 4, 2) := dk_21 4 (dk_at dksX0_handsFrom_0 21 rfl rfl)
theorem dX0_handsFrom_23 : decode cX0_handsFrom 23 = .ok (.aaload, 1) := dk_50 (dk_at dksX0_handsFrom_0 23 rfl rfl)
theorem dX0_handsFrom_24 : decode cX0_handsFrom 24 = .ok (.astore 5, 2) := dk_58 5 (dk_at dksX0_handsFrom_1 0 rfl rfl)
theorem dX0_handsFrom_26 : decode cX0_handsFrom 26 = .ok (.aload 5, 2) := dk_25 5 (dk_at dksX0_handsFrom_1 2 rfl rfl)
theorem dX0_handsFrom_28 : decode cX0_handsFrom 28 = .ok (.invokevirtual 420, 3) := dk_182 1 164 (dk_at dksX0_handsFrom_1 4 rfl rfl)
theorem dX0_handsFrom_31 : decode cX0_handsFrom 31 = .ok (.ifCond .ne 36, 3) := dk_154 0 36 (dk_at dksX0_handsFrom_1 7 rfl rfl)
theorem dX0_handsFrom_34 : decode cX0_handsFrom 34 = .ok (.aload 5, 2) := dk_25 5 (dk_at dksX0_handsFrom_1 10 rfl rfl)
theorem dX0_handsFrom_36 : decode cX0_handsFrom 36 = .ok (.invokevirtual 426, 3) := dk_182 1 170 (dk_at dksX0_handsFrom_1 12 rfl rfl)
theorem dX0_handsFrom_39 : decode cX0_handsFrom 39 = .ok (.iload_n 1, 1) := dk_27 (dk_at dksX0_handsFrom_1 15 rfl rfl)
theorem dX0_handsFrom_40 : decode cX0_handsFrom 40 = .ok (.if_icmp .gt 27, 3) := dk_163 0 27 (dk_at dksX0_handsFrom_1 16 rfl rfl)
theorem dX0_handsFrom_43 : decode cX0_handsFrom 43 = .ok (.aload 5, 2) := dk_25 5 (dk_at dksX0_handsFrom_1 19 rfl rfl)
theorem dX0_handsFrom_45 : decode cX0_handsFrom 45 = .ok (.invokevirtual 426, 3) := dk_182 1 170 (dk_at dksX0_handsFrom_1 21 rfl rfl)
theorem dX0_handsFrom_48 : decode cX0_handsFrom 48 = .ok (.iload_n 3, 1) := dk_29 (dk_at dksX0_handsFrom_2 0 rfl rfl)
theorem dX0_handsFrom_49 : decode cX0_handsFrom 49 = .ok (.if_icmp .ge 6, 3) := dk_162 0 6 (dk_at dksX0_handsFrom_2 1 rfl rfl)
theorem dX0_handsFrom_52 : decode cX0_handsFrom 52 = .ok (.goto 15, 3) := dk_167 0 15 (dk_at dksX0_handsFrom_2 4 rfl rfl)
theorem dX0_handsFrom_55 : decode cX0_handsFrom 55 = .ok (.aload 5, 2) := dk_25 5 (dk_at dksX0_handsFrom_2 7 rfl rfl)
theorem dX0_handsFrom_57 : decode cX0_handsFrom 57 = .ok (.invokevirtual 423, 3) := dk_182 1 167 (dk_at dksX0_handsFrom_2 9 rfl rfl)
theorem dX0_handsFrom_60 : decode cX0_handsFrom 60 = .ok (.istore_n 2, 1) := dk_61 (dk_at dksX0_handsFrom_2 12 rfl rfl)
theorem dX0_handsFrom_61 : decode cX0_handsFrom 61 = .ok (.aload 5, 2) := dk_25 5 (dk_at dksX0_handsFrom_2 13 rfl rfl)
theorem dX0_handsFrom_63 : decode cX0_handsFrom 63 = .ok (.invokevirtual 426, 3) := dk_182 1 170 (dk_at dksX0_handsFrom_2 15 rfl rfl)
theorem dX0_handsFrom_66 : decode cX0_handsFrom 66 = .ok (.istore_n 3, 1) := dk_62 (dk_at dksX0_handsFrom_2 18 rfl rfl)
theorem dX0_handsFrom_67 : decode cX0_handsFrom 67 = .ok (.iinc 4 1, 3) := dk_132 4 1 (dk_at dksX0_handsFrom_2 19 rfl rfl)
theorem dX0_handsFrom_70 : decode cX0_handsFrom 70 = .ok (.goto (-63), 3) := dk_167 255 193 (dk_at dksX0_handsFrom_3 0 rfl rfl)
theorem dX0_handsFrom_73 : decode cX0_handsFrom 73 = .ok (.iload_n 2, 1) := dk_28 (dk_at dksX0_handsFrom_3 3 rfl rfl)
theorem dX0_handsFrom_74 : decode cX0_handsFrom 74 = .ok (.ireturn, 1) := dk_172 (dk_at dksX0_handsFrom_3 4 rfl rfl)
abbrev cX0_latest : ByteArray := prog_1_method_42_code
def yX0_latest : MethodName := ⟨RX0, "latest", "(II)I"⟩
def dkwX0_latest_2 : List UInt8 := [132, 4, 1, 167, 255, 214, 29, 172]
abbrev dktX0_latest_2 : List UInt8 := dkwX0_latest_2 ++ []
def dkwX0_latest_1 : List UInt8 := [182, 1, 164, 27, 160, 0, 16, 42, 180, 0, 129, 21, 4, 50, 182, 1, 167, 167, 0, 4, 29, 62]
abbrev dktX0_latest_1 : List UInt8 := dkwX0_latest_1 ++ dktX0_latest_2
def dkwX0_latest_0 : List UInt8 := [28, 62, 3, 54, 4, 21, 4, 42, 180, 0, 129, 190, 162, 0, 38, 42, 180, 0, 129, 21, 4, 50]
abbrev dktX0_latest_0 : List UInt8 := dkwX0_latest_0 ++ dktX0_latest_1
theorem dksX0_latest_0 : cX0_latest.data.toList.drop 0 = dktX0_latest_0 := by decide +kernel
theorem dksX0_latest_1 : cX0_latest.data.toList.drop 22 = dktX0_latest_1 := dk_seg dksX0_latest_0 22 rfl rfl
theorem dksX0_latest_2 : cX0_latest.data.toList.drop 44 = dktX0_latest_2 := dk_seg dksX0_latest_1 22 rfl rfl
theorem dX0_latest_0 : decode cX0_latest 0 = .ok (.iload_n 2, 1) := dk_28 (dk_at dksX0_latest_0 0 rfl rfl)
theorem dX0_latest_1 : decode cX0_latest 1 = .ok (.istore_n 3, 1) := dk_62 (dk_at dksX0_latest_0 1 rfl rfl)
theorem dX0_latest_2 : decode cX0_latest 2 = .ok (.iconst 0, 1) := dk_3 (dk_at dksX0_latest_0 2 rfl rfl)
theorem dX0_latest_3 : decode cX0_latest 3 = .ok (.istore 4, 2) := dk_54 4 (dk_at dksX0_latest_0 3 rfl rfl)
theorem dX0_latest_5 : decode cX0_latest 5 = .ok (.iload 4, 2) := dk_21 4 (dk_at dksX0_latest_0 5 rfl rfl)
theorem dX0_latest_7 : decode cX0_latest 7 = .ok (.aload_n 0, 1) := dk_42 (dk_at dksX0_latest_0 7 rfl rfl)
theorem dX0_latest_8 : decode cX0_latest 8 = .ok (.getfield 129, 3) := dk_180 0 129 (dk_at dksX0_latest_0 8 rfl rfl)
theorem dX0_latest_11 : decode cX0_latest 11 = .ok (.arraylength, 1) := dk_190 (dk_at dksX0_latest_0 11 rfl rfl)
theorem dX0_latest_12 : decode cX0_latest 12 = .ok (.if_icmp .ge 38, 3) := dk_162 0 38 (dk_at dksX0_latest_0 12 rfl rfl)
theorem dX0_latest_15 : decode cX0_latest 15 = .ok (.aload_n 0, 1) := dk_42 (dk_at dksX0_latest_0 15 rfl rfl)
theorem dX0_latest_16 : decode cX0_latest 16 = .ok (.getfield 129, 3) := dk_180 0 129 (dk_at dksX0_latest_0 16 rfl rfl)
theorem dX0_latest_19 : decode cX0_latest 19 = .ok (.iload 4, 2) := dk_21 4 (dk_at dksX0_latest_0 19 rfl rfl)
theorem dX0_latest_21 : decode cX0_latest 21 = .ok (.aaload, 1) := dk_50 (dk_at dksX0_latest_0 21 rfl rfl)
theorem dX0_latest_22 : decode cX0_latest 22 = .ok (.invokevirtual 420, 3) := dk_182 1 164 (dk_at dksX0_latest_1 0 rfl rfl)
theorem dX0_latest_25 : decode cX0_latest 25 = .ok (.iload_n 1, 1) := dk_27 (dk_at dksX0_latest_1 3 rfl rfl)
theorem dX0_latest_26 : decode cX0_latest 26 = .ok (.if_icmp .ne 16, 3) := dk_160 0 16 (dk_at dksX0_latest_1 4 rfl rfl)
theorem dX0_latest_29 : decode cX0_latest 29 = .ok (.aload_n 0, 1) := dk_42 (dk_at dksX0_latest_1 7 rfl rfl)
theorem dX0_latest_30 : decode cX0_latest 30 = .ok (.getfield 129, 3) := dk_180 0 129 (dk_at dksX0_latest_1 8 rfl rfl)
theorem dX0_latest_33 : decode cX0_latest 33 = .ok (.iload 4, 2) := dk_21 4 (dk_at dksX0_latest_1 11 rfl rfl)
theorem dX0_latest_35 : decode cX0_latest 35 = .ok (.aaload, 1) := dk_50 (dk_at dksX0_latest_1 13 rfl rfl)
theorem dX0_latest_36 : decode cX0_latest 36 = .ok (.invokevirtual 423, 3) := dk_182 1 167 (dk_at dksX0_latest_1 14 rfl rfl)
theorem dX0_latest_39 : decode cX0_latest 39 = .ok (.goto 4, 3) := dk_167 0 4 (dk_at dksX0_latest_1 17 rfl rfl)
theorem dX0_latest_42 : decode cX0_latest 42 = .ok (.iload_n 3, 1) := dk_29 (dk_at dksX0_latest_1 20 rfl rfl)
theorem dX0_latest_43 : decode cX0_latest 43 = .ok (.istore_n 3, 1) := dk_62 (dk_at dksX0_latest_1 21 rfl rfl)
theorem dX0_latest_44 : decode cX0_latest 44 = .ok (.iinc 4 1, 3) := dk_132 4 1 (dk_at dksX0_latest_2 0 rfl rfl)
theorem dX0_latest_47 : decode cX0_latest 47 = .ok (.goto (-42), 3) := dk_167 255 214 (dk_at dksX0_latest_2 3 rfl rfl)
theorem dX0_latest_50 : decode cX0_latest 50 = .ok (.iload_n 3, 1) := dk_29 (dk_at dksX0_latest_2 6 rfl rfl)
theorem dX0_latest_51 : decode cX0_latest 51 = .ok (.ireturn, 1) := dk_172 (dk_at dksX0_latest_2 7 rfl rfl)
abbrev cX0_pay : ByteArray := prog_1_method_56_code
def yX0_pay : MethodName := ⟨RX0, "pay", "(II)Z"⟩
def dkwX0_pay_2 : List UInt8 := [79, 42, 180, 0, 160, 89, 180, 1, 219, 28, 100, 181, 1, 219, 42, 6, 27, 28, 182, 1, 222, 4, 172]
abbrev dktX0_pay_2 : List UInt8 := dkwX0_pay_2 ++ []
def dkwX0_pay_1 : List UInt8 := [42, 180, 0, 160, 180, 1, 185, 27, 16, 99, 42, 180, 0, 160, 180, 1, 185, 27, 46, 28, 96, 184, 0, 1]
abbrev dktX0_pay_1 : List UInt8 := dkwX0_pay_1 ++ dktX0_pay_2
def dkwX0_pay_0 : List UInt8 := [42, 27, 182, 1, 198, 153, 0, 13, 28, 4, 16, 99, 184, 0, 207, 154, 0, 5, 3, 172, 42, 182, 1, 213]
abbrev dktX0_pay_0 : List UInt8 := dkwX0_pay_0 ++ dktX0_pay_1
theorem dksX0_pay_0 : cX0_pay.data.toList.drop 0 = dktX0_pay_0 := by decide +kernel
theorem dksX0_pay_1 : cX0_pay.data.toList.drop 24 = dktX0_pay_1 := dk_seg dksX0_pay_0 24 rfl rfl
theorem dksX0_pay_2 : cX0_pay.data.toList.drop 48 = dktX0_pay_2 := dk_seg dksX0_pay_1 24 rfl rfl
theorem dX0_pay_0 : decode cX0_pay 0 = .ok (.aload_n 0, 1) := dk_42 (dk_at dksX0_pay_0 0 rfl rfl)
theorem dX0_pay_1 : decode cX0_pay 1 = .ok (.iload_n 1, 1) := dk_27 (dk_at dksX0_pay_0 1 rfl rfl)
theorem dX0_pay_2 : decode cX0_pay 2 = .ok (.invokevirtual 454, 3) := dk_182 1 198 (dk_at dksX0_pay_0 2 rfl rfl)
theorem dX0_pay_5 : decode cX0_pay 5 = .ok (.ifCond .eq 13, 3) := dk_153 0 13 (dk_at dksX0_pay_0 5 rfl rfl)
theorem dX0_pay_8 : decode cX0_pay 8 = .ok (.iload_n 2, 1) := dk_28 (dk_at dksX0_pay_0 8 rfl rfl)
theorem dX0_pay_9 : decode cX0_pay 9 = .ok (.iconst 1, 1) := dk_4 (dk_at dksX0_pay_0 9 rfl rfl)
theorem dX0_pay_10 : decode cX0_pay 10 = .ok (.bipush 99, 2) := dk_16 99 (dk_at dksX0_pay_0 10 rfl rfl)
theorem dX0_pay_12 : decode cX0_pay 12 = .ok (.invokestatic 207, 3) := dk_184 0 207 (dk_at dksX0_pay_0 12 rfl rfl)
theorem dX0_pay_15 : decode cX0_pay 15 = .ok (.ifCond .ne 5, 3) := dk_154 0 5 (dk_at dksX0_pay_0 15 rfl rfl)
theorem dX0_pay_18 : decode cX0_pay 18 = .ok (.iconst 0, 1) := dk_3 (dk_at dksX0_pay_0 18 rfl rfl)
theorem dX0_pay_19 : decode cX0_pay 19 = .ok (.ireturn, 1) := dk_172 (dk_at dksX0_pay_0 19 rfl rfl)
theorem dX0_pay_20 : decode cX0_pay 20 = .ok (.aload_n 0, 1) := dk_42 (dk_at dksX0_pay_0 20 rfl rfl)
theorem dX0_pay_21 : decode cX0_pay 21 = .ok (.invokevirtual 469, 3) := dk_182 1 213 (dk_at dksX0_pay_0 21 rfl rfl)
theorem dX0_pay_24 : decode cX0_pay 24 = .ok (.aload_n 0, 1) := dk_42 (dk_at dksX0_pay_1 0 rfl rfl)
theorem dX0_pay_25 : decode cX0_pay 25 = .ok (.getfield 160, 3) := dk_180 0 160 (dk_at dksX0_pay_1 1 rfl rfl)
theorem dX0_pay_28 : decode cX0_pay 28 = .ok (.getfield 441, 3) := dk_180 1 185 (dk_at dksX0_pay_1 4 rfl rfl)
theorem dX0_pay_31 : decode cX0_pay 31 = .ok (.iload_n 1, 1) := dk_27 (dk_at dksX0_pay_1 7 rfl rfl)
theorem dX0_pay_32 : decode cX0_pay 32 = .ok (.bipush 99, 2) := dk_16 99 (dk_at dksX0_pay_1 8 rfl rfl)
theorem dX0_pay_34 : decode cX0_pay 34 = .ok (.aload_n 0, 1) := dk_42 (dk_at dksX0_pay_1 10 rfl rfl)
theorem dX0_pay_35 : decode cX0_pay 35 = .ok (.getfield 160, 3) := dk_180 0 160 (dk_at dksX0_pay_1 11 rfl rfl)
theorem dX0_pay_38 : decode cX0_pay 38 = .ok (.getfield 441, 3) := dk_180 1 185 (dk_at dksX0_pay_1 14 rfl rfl)
theorem dX0_pay_41 : decode cX0_pay 41 = .ok (.iload_n 1, 1) := dk_27 (dk_at dksX0_pay_1 17 rfl rfl)
theorem dX0_pay_42 : decode cX0_pay 42 = .ok (.iaload, 1) := dk_46 (dk_at dksX0_pay_1 18 rfl rfl)
theorem dX0_pay_43 : decode cX0_pay 43 = .ok (.iload_n 2, 1) := dk_28 (dk_at dksX0_pay_1 19 rfl rfl)
theorem dX0_pay_44 : decode cX0_pay 44 = .ok (.iadd, 1) := dk_96 (dk_at dksX0_pay_1 20 rfl rfl)
theorem dX0_pay_45 : decode cX0_pay 45 = .ok (.invokestatic 1, 3) := dk_184 0 1 (dk_at dksX0_pay_1 21 rfl rfl)
theorem dX0_pay_48 : decode cX0_pay 48 = .ok (.iastore, 1) := dk_79 (dk_at dksX0_pay_2 0 rfl rfl)
theorem dX0_pay_49 : decode cX0_pay 49 = .ok (.aload_n 0, 1) := dk_42 (dk_at dksX0_pay_2 1 rfl rfl)
theorem dX0_pay_50 : decode cX0_pay 50 = .ok (.getfield 160, 3) := dk_180 0 160 (dk_at dksX0_pay_2 2 rfl rfl)
theorem dX0_pay_53 : decode cX0_pay 53 = .ok (.dup, 1) := dk_89 (dk_at dksX0_pay_2 5 rfl rfl)
theorem dX0_pay_54 : decode cX0_pay 54 = .ok (.getfield 475, 3) := dk_180 1 219 (dk_at dksX0_pay_2 6 rfl rfl)
theorem dX0_pay_57 : decode cX0_pay 57 = .ok (.iload_n 2, 1) := dk_28 (dk_at dksX0_pay_2 9 rfl rfl)
theorem dX0_pay_58 : decode cX0_pay 58 = .ok (.isub, 1) := dk_100 (dk_at dksX0_pay_2 10 rfl rfl)
theorem dX0_pay_59 : decode cX0_pay 59 = .ok (.putfield 475, 3) := dk_181 1 219 (dk_at dksX0_pay_2 11 rfl rfl)
theorem dX0_pay_62 : decode cX0_pay 62 = .ok (.aload_n 0, 1) := dk_42 (dk_at dksX0_pay_2 14 rfl rfl)
theorem dX0_pay_63 : decode cX0_pay 63 = .ok (.iconst 3, 1) := dk_6 (dk_at dksX0_pay_2 15 rfl rfl)
theorem dX0_pay_64 : decode cX0_pay 64 = .ok (.iload_n 1, 1) := dk_27 (dk_at dksX0_pay_2 16 rfl rfl)
theorem dX0_pay_65 : decode cX0_pay 65 = .ok (.iload_n 2, 1) := dk_28 (dk_at dksX0_pay_2 17 rfl rfl)
theorem dX0_pay_66 : decode cX0_pay 66 = .ok (.invokevirtual 478, 3) := dk_182 1 222 (dk_at dksX0_pay_2 18 rfl rfl)
theorem dX0_pay_69 : decode cX0_pay 69 = .ok (.iconst 1, 1) := dk_4 (dk_at dksX0_pay_2 21 rfl rfl)
theorem dX0_pay_70 : decode cX0_pay 70 = .ok (.ireturn, 1) := dk_172 (dk_at dksX0_pay_2 22 rfl rfl)
abbrev cX0_glove : ByteArray := prog_1_method_57_code
def yX0_glove : MethodName := ⟨RX0, "glove", "(IZ)Z"⟩
def dkwX0_glove_2 : List UInt8 := [153, 0, 7, 4, 167, 0, 4, 3, 182, 1, 222, 4, 172]
abbrev dktX0_glove_2 : List UInt8 := dkwX0_glove_2 ++ []
def dkwX0_glove_1 : List UInt8 := [172, 42, 182, 1, 213, 42, 180, 0, 160, 89, 180, 1, 190, 4, 27, 120, 130, 181, 1, 190, 42, 7, 27, 28]
abbrev dktX0_glove_1 : List UInt8 := dkwX0_glove_1 ++ dktX0_glove_2
def dkwX0_glove_0 : List UInt8 := [42, 27, 182, 1, 198, 153, 0, 18, 42, 180, 0, 160, 180, 1, 190, 27, 184, 1, 225, 28, 160, 0, 5, 3]
abbrev dktX0_glove_0 : List UInt8 := dkwX0_glove_0 ++ dktX0_glove_1
theorem dksX0_glove_0 : cX0_glove.data.toList.drop 0 = dktX0_glove_0 := by decide +kernel
theorem dksX0_glove_1 : cX0_glove.data.toList.drop 24 = dktX0_glove_1 := dk_seg dksX0_glove_0 24 rfl rfl
theorem dksX0_glove_2 : cX0_glove.data.toList.drop 48 = dktX0_glove_2 := dk_seg dksX0_glove_1 24 rfl rfl
theorem dX0_glove_0 : decode cX0_glove 0 = .ok (.aload_n 0, 1) := dk_42 (dk_at dksX0_glove_0 0 rfl rfl)
theorem dX0_glove_1 : decode cX0_glove 1 = .ok (.iload_n 1, 1) := dk_27 (dk_at dksX0_glove_0 1 rfl rfl)
theorem dX0_glove_2 : decode cX0_glove 2 = .ok (.invokevirtual 454, 3) := dk_182 1 198 (dk_at dksX0_glove_0 2 rfl rfl)
theorem dX0_glove_5 : decode cX0_glove 5 = .ok (.ifCond .eq 18, 3) := dk_153 0 18 (dk_at dksX0_glove_0 5 rfl rfl)
theorem dX0_glove_8 : decode cX0_glove 8 = .ok (.aload_n 0, 1) := dk_42 (dk_at dksX0_glove_0 8 rfl rfl)
theorem dX0_glove_9 : decode cX0_glove 9 = .ok (.getfield 160, 3) := dk_180 0 160 (dk_at dksX0_glove_0 9 rfl rfl)
theorem dX0_glove_12 : decode cX0_glove 12 = .ok (.getfield 446, 3) := dk_180 1 190 (dk_at dksX0_glove_0 12 rfl rfl)
theorem dX0_glove_15 : decode cX0_glove 15 = .ok (.iload_n 1, 1) := dk_27 (dk_at dksX0_glove_0 15 rfl rfl)
theorem dX0_glove_16 : decode cX0_glove 16 = .ok (.invokestatic 481, 3) := dk_184 1 225 (dk_at dksX0_glove_0 16 rfl rfl)
theorem dX0_glove_19 : decode cX0_glove 19 = .ok (.iload_n 2, 1) := dk_28 (dk_at dksX0_glove_0 19 rfl rfl)
theorem dX0_glove_20 : decode cX0_glove 20 = .ok (.if_icmp .ne 5, 3) := dk_160 0 5 (dk_at dksX0_glove_0 20 rfl rfl)
theorem dX0_glove_23 : decode cX0_glove 23 = .ok (.iconst 0, 1) := dk_3 (dk_at dksX0_glove_0 23 rfl rfl)
theorem dX0_glove_24 : decode cX0_glove 24 = .ok (.ireturn, 1) := dk_172 (dk_at dksX0_glove_1 0 rfl rfl)
theorem dX0_glove_25 : decode cX0_glove 25 = .ok (.aload_n 0, 1) := dk_42 (dk_at dksX0_glove_1 1 rfl rfl)
theorem dX0_glove_26 : decode cX0_glove 26 = .ok (.invokevirtual 469, 3) := dk_182 1 213 (dk_at dksX0_glove_1 2 rfl rfl)
theorem dX0_glove_29 : decode cX0_glove 29 = .ok (.aload_n 0, 1) := dk_42 (dk_at dksX0_glove_1 5 rfl rfl)
theorem dX0_glove_30 : decode cX0_glove 30 = .ok (.getfield 160, 3) := dk_180 0 160 (dk_at dksX0_glove_1 6 rfl rfl)
theorem dX0_glove_33 : decode cX0_glove 33 = .ok (.dup, 1) := dk_89 (dk_at dksX0_glove_1 9 rfl rfl)
theorem dX0_glove_34 : decode cX0_glove 34 = .ok (.getfield 446, 3) := dk_180 1 190 (dk_at dksX0_glove_1 10 rfl rfl)
theorem dX0_glove_37 : decode cX0_glove 37 = .ok (.iconst 1, 1) := dk_4 (dk_at dksX0_glove_1 13 rfl rfl)
theorem dX0_glove_38 : decode cX0_glove 38 = .ok (.iload_n 1, 1) := dk_27 (dk_at dksX0_glove_1 14 rfl rfl)
theorem dX0_glove_39 : decode cX0_glove 39 = .ok (.ishl, 1) := dk_120 (dk_at dksX0_glove_1 15 rfl rfl)
theorem dX0_glove_40 : decode cX0_glove 40 = .ok (.ixor, 1) := dk_130 (dk_at dksX0_glove_1 16 rfl rfl)
theorem dX0_glove_41 : decode cX0_glove 41 = .ok (.putfield 446, 3) := dk_181 1 190 (dk_at dksX0_glove_1 17 rfl rfl)
theorem dX0_glove_44 : decode cX0_glove 44 = .ok (.aload_n 0, 1) := dk_42 (dk_at dksX0_glove_1 20 rfl rfl)
theorem dX0_glove_45 : decode cX0_glove 45 = .ok (.iconst 4, 1) := dk_7 (dk_at dksX0_glove_1 21 rfl rfl)
theorem dX0_glove_46 : decode cX0_glove 46 = .ok (.iload_n 1, 1) := dk_27 (dk_at dksX0_glove_1 22 rfl rfl)
theorem dX0_glove_47 : decode cX0_glove 47 = .ok (.iload_n 2, 1) := dk_28 (dk_at dksX0_glove_1 23 rfl rfl)
theorem dX0_glove_48 : decode cX0_glove 48 = .ok (.ifCond .eq 7, 3) := dk_153 0 7 (dk_at dksX0_glove_2 0 rfl rfl)
theorem dX0_glove_51 : decode cX0_glove 51 = .ok (.iconst 1, 1) := dk_4 (dk_at dksX0_glove_2 3 rfl rfl)
theorem dX0_glove_52 : decode cX0_glove 52 = .ok (.goto 4, 3) := dk_167 0 4 (dk_at dksX0_glove_2 4 rfl rfl)
theorem dX0_glove_55 : decode cX0_glove 55 = .ok (.iconst 0, 1) := dk_3 (dk_at dksX0_glove_2 7 rfl rfl)
theorem dX0_glove_56 : decode cX0_glove 56 = .ok (.invokevirtual 478, 3) := dk_182 1 222 (dk_at dksX0_glove_2 8 rfl rfl)
theorem dX0_glove_59 : decode cX0_glove 59 = .ok (.iconst 1, 1) := dk_4 (dk_at dksX0_glove_2 11 rfl rfl)
theorem dX0_glove_60 : decode cX0_glove 60 = .ok (.ireturn, 1) := dk_172 (dk_at dksX0_glove_2 12 rfl rfl)
abbrev cX0_let : ByteArray := prog_1_method_58_code
def yX0_let : MethodName := ⟨RX0, "let", "(IZ)Z"⟩
def dkwX0_let_2 : List UInt8 := [153, 0, 7, 4, 167, 0, 4, 3, 182, 1, 222, 4, 172]
abbrev dktX0_let_2 : List UInt8 := dkwX0_let_2 ++ []
def dkwX0_let_1 : List UInt8 := [172, 42, 182, 1, 213, 42, 180, 0, 160, 89, 180, 1, 187, 4, 27, 120, 130, 181, 1, 187, 42, 8, 27, 28]
abbrev dktX0_let_1 : List UInt8 := dkwX0_let_1 ++ dktX0_let_2
def dkwX0_let_0 : List UInt8 := [42, 27, 182, 1, 198, 153, 0, 18, 42, 180, 0, 160, 180, 1, 187, 27, 184, 1, 225, 28, 160, 0, 5, 3]
abbrev dktX0_let_0 : List UInt8 := dkwX0_let_0 ++ dktX0_let_1
theorem dksX0_let_0 : cX0_let.data.toList.drop 0 = dktX0_let_0 := by decide +kernel
theorem dksX0_let_1 : cX0_let.data.toList.drop 24 = dktX0_let_1 := dk_seg dksX0_let_0 24 rfl rfl
theorem dksX0_let_2 : cX0_let.data.toList.drop 48 = dktX0_let_2 := dk_seg dksX0_let_1 24 rfl rfl
theorem dX0_let_0 : decode cX0_let 0 = .ok (.aload_n 0, 1) := dk_42 (dk_at dksX0_let_0 0 rfl rfl)
theorem dX0_let_1 : decode cX0_let 1 = .ok (.iload_n 1, 1) := dk_27 (dk_at dksX0_let_0 1 rfl rfl)
theorem dX0_let_2 : decode cX0_let 2 = .ok (.invokevirtual 454, 3) := dk_182 1 198 (dk_at dksX0_let_0 2 rfl rfl)
theorem dX0_let_5 : decode cX0_let 5 = .ok (.ifCond .eq 18, 3) := dk_153 0 18 (dk_at dksX0_let_0 5 rfl rfl)
theorem dX0_let_8 : decode cX0_let 8 = .ok (.aload_n 0, 1) := dk_42 (dk_at dksX0_let_0 8 rfl rfl)
theorem dX0_let_9 : decode cX0_let 9 = .ok (.getfield 160, 3) := dk_180 0 160 (dk_at dksX0_let_0 9 rfl rfl)
theorem dX0_let_12 : decode cX0_let 12 = .ok (.getfield 443, 3) := dk_180 1 187 (dk_at dksX0_let_0 12 rfl rfl)
theorem dX0_let_15 : decode cX0_let 15 = .ok (.iload_n 1, 1) := dk_27 (dk_at dksX0_let_0 15 rfl rfl)
theorem dX0_let_16 : decode cX0_let 16 = .ok (.invokestatic 481, 3) := dk_184 1 225 (dk_at dksX0_let_0 16 rfl rfl)
theorem dX0_let_19 : decode cX0_let 19 = .ok (.iload_n 2, 1) := dk_28 (dk_at dksX0_let_0 19 rfl rfl)
theorem dX0_let_20 : decode cX0_let 20 = .ok (.if_icmp .ne 5, 3) := dk_160 0 5 (dk_at dksX0_let_0 20 rfl rfl)
theorem dX0_let_23 : decode cX0_let 23 = .ok (.iconst 0, 1) := dk_3 (dk_at dksX0_let_0 23 rfl rfl)
theorem dX0_let_24 : decode cX0_let 24 = .ok (.ireturn, 1) := dk_172 (dk_at dksX0_let_1 0 rfl rfl)
theorem dX0_let_25 : decode cX0_let 25 = .ok (.aload_n 0, 1) := dk_42 (dk_at dksX0_let_1 1 rfl rfl)
theorem dX0_let_26 : decode cX0_let 26 = .ok (.invokevirtual 469, 3) := dk_182 1 213 (dk_at dksX0_let_1 2 rfl rfl)
theorem dX0_let_29 : decode cX0_let 29 = .ok (.aload_n 0, 1) := dk_42 (dk_at dksX0_let_1 5 rfl rfl)
theorem dX0_let_30 : decode cX0_let 30 = .ok (.getfield 160, 3) := dk_180 0 160 (dk_at dksX0_let_1 6 rfl rfl)
theorem dX0_let_33 : decode cX0_let 33 = .ok (.dup, 1) := dk_89 (dk_at dksX0_let_1 9 rfl rfl)
theorem dX0_let_34 : decode cX0_let 34 = .ok (.getfield 443, 3) := dk_180 1 187 (dk_at dksX0_let_1 10 rfl rfl)
theorem dX0_let_37 : decode cX0_let 37 = .ok (.iconst 1, 1) := dk_4 (dk_at dksX0_let_1 13 rfl rfl)
theorem dX0_let_38 : decode cX0_let 38 = .ok (.iload_n 1, 1) := dk_27 (dk_at dksX0_let_1 14 rfl rfl)
theorem dX0_let_39 : decode cX0_let 39 = .ok (.ishl, 1) := dk_120 (dk_at dksX0_let_1 15 rfl rfl)
theorem dX0_let_40 : decode cX0_let 40 = .ok (.ixor, 1) := dk_130 (dk_at dksX0_let_1 16 rfl rfl)
theorem dX0_let_41 : decode cX0_let 41 = .ok (.putfield 443, 3) := dk_181 1 187 (dk_at dksX0_let_1 17 rfl rfl)
theorem dX0_let_44 : decode cX0_let 44 = .ok (.aload_n 0, 1) := dk_42 (dk_at dksX0_let_1 20 rfl rfl)
theorem dX0_let_45 : decode cX0_let 45 = .ok (.iconst 5, 1) := dk_8 (dk_at dksX0_let_1 21 rfl rfl)
theorem dX0_let_46 : decode cX0_let 46 = .ok (.iload_n 1, 1) := dk_27 (dk_at dksX0_let_1 22 rfl rfl)
theorem dX0_let_47 : decode cX0_let 47 = .ok (.iload_n 2, 1) := dk_28 (dk_at dksX0_let_1 23 rfl rfl)
theorem dX0_let_48 : decode cX0_let 48 = .ok (.ifCond .eq 7, 3) := dk_153 0 7 (dk_at dksX0_let_2 0 rfl rfl)
theorem dX0_let_51 : decode cX0_let 51 = .ok (.iconst 1, 1) := dk_4 (dk_at dksX0_let_2 3 rfl rfl)
theorem dX0_let_52 : decode cX0_let 52 = .ok (.goto 4, 3) := dk_167 0 4 (dk_at dksX0_let_2 4 rfl rfl)
theorem dX0_let_55 : decode cX0_let 55 = .ok (.iconst 0, 1) := dk_3 (dk_at dksX0_let_2 7 rfl rfl)
theorem dX0_let_56 : decode cX0_let 56 = .ok (.invokevirtual 478, 3) := dk_182 1 222 (dk_at dksX0_let_2 8 rfl rfl)
theorem dX0_let_59 : decode cX0_let 59 = .ok (.iconst 1, 1) := dk_4 (dk_at dksX0_let_2 11 rfl rfl)
theorem dX0_let_60 : decode cX0_let 60 = .ok (.ireturn, 1) := dk_172 (dk_at dksX0_let_2 12 rfl rfl)
abbrev cX0_evenings : ByteArray := prog_1_method_59_code
def yX0_evenings : MethodName := ⟨RX0, "evenings", "(I)I"⟩
def dkwX0_evenings_2 : List UInt8 := [182, 1, 229, 96, 61, 132, 3, 1, 167, 255, 234, 28, 172]
abbrev dktX0_evenings_2 : List UInt8 := dkwX0_evenings_2 ++ []
def dkwX0_evenings_1 : List UInt8 := [164, 0, 5, 2, 172, 3, 61, 3, 62, 29, 27, 162, 0, 23, 42, 182, 1, 213, 28, 42, 180, 0, 160]
abbrev dktX0_evenings_1 : List UInt8 := dkwX0_evenings_1 ++ dktX0_evenings_2
def dkwX0_evenings_0 : List UInt8 := [27, 4, 16, 20, 184, 0, 207, 153, 0, 18, 42, 180, 0, 160, 180, 1, 175, 27, 96, 17, 39, 15]
abbrev dktX0_evenings_0 : List UInt8 := dkwX0_evenings_0 ++ dktX0_evenings_1
theorem dksX0_evenings_0 : cX0_evenings.data.toList.drop 0 = dktX0_evenings_0 := by decide +kernel
theorem dksX0_evenings_1 : cX0_evenings.data.toList.drop 22 = dktX0_evenings_1 := dk_seg dksX0_evenings_0 22 rfl rfl
theorem dksX0_evenings_2 : cX0_evenings.data.toList.drop 45 = dktX0_evenings_2 := dk_seg dksX0_evenings_1 23 rfl rfl
theorem dX0_evenings_0 : decode cX0_evenings 0 = .ok (.iload_n 1, 1) := dk_27 (dk_at dksX0_evenings_0 0 rfl rfl)
theorem dX0_evenings_1 : decode cX0_evenings 1 = .ok (.iconst 1, 1) := dk_4 (dk_at dksX0_evenings_0 1 rfl rfl)
theorem dX0_evenings_2 : decode cX0_evenings 2 = .ok (.bipush 20, 2) := dk_16 20 (dk_at dksX0_evenings_0 2 rfl rfl)
theorem dX0_evenings_4 : decode cX0_evenings 4 = .ok (.invokestatic 207, 3) := dk_184 0 207 (dk_at dksX0_evenings_0 4 rfl rfl)
theorem dX0_evenings_7 : decode cX0_evenings 7 = .ok (.ifCond .eq 18, 3) := dk_153 0 18 (dk_at dksX0_evenings_0 7 rfl rfl)
theorem dX0_evenings_10 : decode cX0_evenings 10 = .ok (.aload_n 0, 1) := dk_42 (dk_at dksX0_evenings_0 10 rfl rfl)
theorem dX0_evenings_11 : decode cX0_evenings 11 = .ok (.getfield 160, 3) := dk_180 0 160 (dk_at dksX0_evenings_0 11 rfl rfl)
theorem dX0_evenings_14 : decode cX0_evenings 14 = .ok (.getfield 431, 3) := dk_180 1 175 (dk_at dksX0_evenings_0 14 rfl rfl)
theorem dX0_evenings_17 : decode cX0_evenings 17 = .ok (.iload_n 1, 1) := dk_27 (dk_at dksX0_evenings_0 17 rfl rfl)
theorem dX0_evenings_18 : decode cX0_evenings 18 = .ok (.iadd, 1) := dk_96 (dk_at dksX0_evenings_0 18 rfl rfl)
theorem dX0_evenings_19 : decode cX0_evenings 19 = .ok (.sipush 9999, 3) := dk_17 39 15 (dk_at dksX0_evenings_0 19 rfl rfl)
theorem dX0_evenings_22 : decode cX0_evenings 22 = .ok (.if_icmp .le 5, 3) := dk_164 0 5 (dk_at dksX0_evenings_1 0 rfl rfl)
theorem dX0_evenings_25 : decode cX0_evenings 25 = .ok (.iconst (-1), 1) := dk_2 (dk_at dksX0_evenings_1 3 rfl rfl)
theorem dX0_evenings_26 : decode cX0_evenings 26 = .ok (.ireturn, 1) := dk_172 (dk_at dksX0_evenings_1 4 rfl rfl)
theorem dX0_evenings_27 : decode cX0_evenings 27 = .ok (.iconst 0, 1) := dk_3 (dk_at dksX0_evenings_1 5 rfl rfl)
theorem dX0_evenings_28 : decode cX0_evenings 28 = .ok (.istore_n 2, 1) := dk_61 (dk_at dksX0_evenings_1 6 rfl rfl)
theorem dX0_evenings_29 : decode cX0_evenings 29 = .ok (.iconst 0, 1) := dk_3 (dk_at dksX0_evenings_1 7 rfl rfl)
theorem dX0_evenings_30 : decode cX0_evenings 30 = .ok (.istore_n 3, 1) := dk_62 (dk_at dksX0_evenings_1 8 rfl rfl)
theorem dX0_evenings_31 : decode cX0_evenings 31 = .ok (.iload_n 3, 1) := dk_29 (dk_at dksX0_evenings_1 9 rfl rfl)
theorem dX0_evenings_32 : decode cX0_evenings 32 = .ok (.iload_n 1, 1) := dk_27 (dk_at dksX0_evenings_1 10 rfl rfl)
theorem dX0_evenings_33 : decode cX0_evenings 33 = .ok (.if_icmp .ge 23, 3) := dk_162 0 23 (dk_at dksX0_evenings_1 11 rfl rfl)
theorem dX0_evenings_36 : decode cX0_evenings 36 = .ok (.aload_n 0, 1) := dk_42 (dk_at dksX0_evenings_1 14 rfl rfl)
theorem dX0_evenings_37 : decode cX0_evenings 37 = .ok (.invokevirtual 469, 3) := dk_182 1 213 (dk_at dksX0_evenings_1 15 rfl rfl)
theorem dX0_evenings_40 : decode cX0_evenings 40 = .ok (.iload_n 2, 1) := dk_28 (dk_at dksX0_evenings_1 18 rfl rfl)
theorem dX0_evenings_41 : decode cX0_evenings 41 = .ok (.aload_n 0, 1) := dk_42 (dk_at dksX0_evenings_1 19 rfl rfl)
theorem dX0_evenings_42 : decode cX0_evenings 42 = .ok (.getfield 160, 3) := dk_180 0 160 (dk_at dksX0_evenings_1 20 rfl rfl)
theorem dX0_evenings_45 : decode cX0_evenings 45 = .ok (.invokevirtual 485, 3) := dk_182 1 229 (dk_at dksX0_evenings_2 0 rfl rfl)
theorem dX0_evenings_48 : decode cX0_evenings 48 = .ok (.iadd, 1) := dk_96 (dk_at dksX0_evenings_2 3 rfl rfl)
theorem dX0_evenings_49 : decode cX0_evenings 49 = .ok (.istore_n 2, 1) := dk_61 (dk_at dksX0_evenings_2 4 rfl rfl)
theorem dX0_evenings_50 : decode cX0_evenings 50 = .ok (.iinc 3 1, 3) := dk_132 3 1 (dk_at dksX0_evenings_2 5 rfl rfl)
theorem dX0_evenings_53 : decode cX0_evenings 53 = .ok (.goto (-22), 3) := dk_167 255 234 (dk_at dksX0_evenings_2 8 rfl rfl)
theorem dX0_evenings_56 : decode cX0_evenings 56 = .ok (.iload_n 2, 1) := dk_28 (dk_at dksX0_evenings_2 11 rfl rfl)
theorem dX0_evenings_57 : decode cX0_evenings 57 = .ok (.ireturn, 1) := dk_172 (dk_at dksX0_evenings_2 12 rfl rfl)
abbrev cX0_of : ByteArray := prog_1_method_60_code
def yX0_of : MethodName := ⟨RX0, "of", "(II)I"⟩
def dkwX0_of_6 : List UInt8 := [46, 172, 42, 180, 0, 139, 27, 46, 172, 42, 27, 182, 1, 235, 172, 2, 172]
abbrev dktX0_of_6 : List UInt8 := dkwX0_of_6 ++ []
def dkwX0_of_5 : List UInt8 := [180, 1, 190, 27, 184, 1, 225, 153, 0, 7, 4, 167, 0, 4, 3, 172, 42, 180, 0, 160, 180, 1, 185, 27]
abbrev dktX0_of_5 : List UInt8 := dkwX0_of_5 ++ dktX0_of_6
def dkwX0_of_4 : List UInt8 := [180, 0, 160, 180, 1, 187, 27, 184, 1, 225, 153, 0, 7, 4, 167, 0, 4, 3, 172, 42, 180, 0, 160]
abbrev dktX0_of_4 : List UInt8 := dkwX0_of_4 ++ dktX0_of_5
def dkwX0_of_3 : List UInt8 := [42, 180, 0, 141, 27, 46, 172, 42, 180, 0, 143, 27, 46, 172, 42, 180, 0, 145, 27, 46, 172, 42]
abbrev dktX0_of_3 : List UInt8 := dkwX0_of_3 ++ dktX0_of_4
def dkwX0_of_2 : List UInt8 := [170, 0, 0, 0, 0, 0, 131, 0, 0, 0, 0, 0, 0, 0, 7, 0, 0, 0, 47, 0, 0, 0, 54, 0, 0, 0, 61, 0, 0, 0, 68, 0, 0, 0, 88, 0, 0, 0, 108, 0, 0, 0, 118, 0, 0, 0, 125]
abbrev dktX0_of_2 : List UInt8 := dkwX0_of_2 ++ dktX0_of_3
def dkwX0_of_1 : List UInt8 := [153, 0, 17, 42, 180, 0, 160, 27, 28, 16, 10, 100, 3, 182, 1, 232, 172, 28]
abbrev dktX0_of_1 : List UInt8 := dkwX0_of_1 ++ dktX0_of_2
def dkwX0_of_0 : List UInt8 := [42, 27, 182, 1, 198, 154, 0, 5, 2, 172, 28, 16, 10, 16, 9, 42, 180, 1, 120, 96, 184, 0, 207]
abbrev dktX0_of_0 : List UInt8 := dkwX0_of_0 ++ dktX0_of_1
theorem dksX0_of_0 : cX0_of.data.toList.drop 0 = dktX0_of_0 := by decide +kernel
theorem dksX0_of_1 : cX0_of.data.toList.drop 23 = dktX0_of_1 := dk_seg dksX0_of_0 23 rfl rfl
theorem dksX0_of_2 : cX0_of.data.toList.drop 41 = dktX0_of_2 := dk_seg dksX0_of_1 18 rfl rfl
theorem dksX0_of_3 : cX0_of.data.toList.drop 88 = dktX0_of_3 := dk_seg dksX0_of_2 47 rfl rfl
theorem dksX0_of_4 : cX0_of.data.toList.drop 110 = dktX0_of_4 := dk_seg dksX0_of_3 22 rfl rfl
theorem dksX0_of_5 : cX0_of.data.toList.drop 133 = dktX0_of_5 := dk_seg dksX0_of_4 23 rfl rfl
theorem dksX0_of_6 : cX0_of.data.toList.drop 157 = dktX0_of_6 := dk_seg dksX0_of_5 24 rfl rfl
theorem dX0_of_0 : decode cX0_of 0 = .ok (.aload_n 0, 1) := dk_42 (dk_at dksX0_of_0 0 rfl rfl)
theorem dX0_of_1 : decode cX0_of 1 = .ok (.iload_n 1, 1) := dk_27 (dk_at dksX0_of_0 1 rfl rfl)
theorem dX0_of_2 : decode cX0_of 2 = .ok (.invokevirtual 454, 3) := dk_182 1 198 (dk_at dksX0_of_0 2 rfl rfl)
theorem dX0_of_5 : decode cX0_of 5 = .ok (.ifCond .ne 5, 3) := dk_154 0 5 (dk_at dksX0_of_0 5 rfl rfl)
theorem dX0_of_8 : decode cX0_of 8 = .ok (.iconst (-1), 1) := dk_2 (dk_at dksX0_of_0 8 rfl rfl)
theorem dX0_of_9 : decode cX0_of 9 = .ok (.ireturn, 1) := dk_172 (dk_at dksX0_of_0 9 rfl rfl)
theorem dX0_of_10 : decode cX0_of 10 = .ok (.iload_n 2, 1) := dk_28 (dk_at dksX0_of_0 10 rfl rfl)
theorem dX0_of_11 : decode cX0_of 11 = .ok (.bipush 10, 2) := dk_16 10 (dk_at dksX0_of_0 11 rfl rfl)
theorem dX0_of_13 : decode cX0_of 13 = .ok (.bipush 9, 2) := dk_16 9 (dk_at dksX0_of_0 13 rfl rfl)
theorem dX0_of_15 : decode cX0_of 15 = .ok (.aload_n 0, 1) := dk_42 (dk_at dksX0_of_0 15 rfl rfl)
theorem dX0_of_16 : decode cX0_of 16 = .ok (.getfield 376, 3) := dk_180 1 120 (dk_at dksX0_of_0 16 rfl rfl)
theorem dX0_of_19 : decode cX0_of 19 = .ok (.iadd, 1) := dk_96 (dk_at dksX0_of_0 19 rfl rfl)
theorem dX0_of_20 : decode cX0_of 20 = .ok (.invokestatic 207, 3) := dk_184 0 207 (dk_at dksX0_of_0 20 rfl rfl)
theorem dX0_of_23 : decode cX0_of 23 = .ok (.ifCond .eq 17, 3) := dk_153 0 17 (dk_at dksX0_of_1 0 rfl rfl)
theorem dX0_of_26 : decode cX0_of 26 = .ok (.aload_n 0, 1) := dk_42 (dk_at dksX0_of_1 3 rfl rfl)
theorem dX0_of_27 : decode cX0_of 27 = .ok (.getfield 160, 3) := dk_180 0 160 (dk_at dksX0_of_1 4 rfl rfl)
theorem dX0_of_30 : decode cX0_of 30 = .ok (.iload_n 1, 1) := dk_27 (dk_at dksX0_of_1 7 rfl rfl)
theorem dX0_of_31 : decode cX0_of 31 = .ok (.iload_n 2, 1) := dk_28 (dk_at dksX0_of_1 8 rfl rfl)
theorem dX0_of_32 : decode cX0_of 32 = .ok (.bipush 10, 2) := dk_16 10 (dk_at dksX0_of_1 9 rfl rfl)
theorem dX0_of_34 : decode cX0_of 34 = .ok (.isub, 1) := dk_100 (dk_at dksX0_of_1 11 rfl rfl)
theorem dX0_of_35 : decode cX0_of 35 = .ok (.iconst 0, 1) := dk_3 (dk_at dksX0_of_1 12 rfl rfl)
theorem dX0_of_36 : decode cX0_of 36 = .ok (.invokevirtual 488, 3) := dk_182 1 232 (dk_at dksX0_of_1 13 rfl rfl)
theorem dX0_of_39 : decode cX0_of 39 = .ok (.ireturn, 1) := dk_172 (dk_at dksX0_of_1 16 rfl rfl)
theorem dX0_of_40 : decode cX0_of 40 = .ok (.iload_n 2, 1) := dk_28 (dk_at dksX0_of_1 17 rfl rfl)
theorem dX0_of_41 : decode cX0_of 41 = .ok (.tableswitch 131 0 7 #[47, 54, 61, 68, 88, 108, 118, 125], 47) := by decide +kernel
theorem dX0_of_88 : decode cX0_of 88 = .ok (.aload_n 0, 1) := dk_42 (dk_at dksX0_of_3 0 rfl rfl)
theorem dX0_of_89 : decode cX0_of 89 = .ok (.getfield 141, 3) := dk_180 0 141 (dk_at dksX0_of_3 1 rfl rfl)
theorem dX0_of_92 : decode cX0_of 92 = .ok (.iload_n 1, 1) := dk_27 (dk_at dksX0_of_3 4 rfl rfl)
theorem dX0_of_93 : decode cX0_of 93 = .ok (.iaload, 1) := dk_46 (dk_at dksX0_of_3 5 rfl rfl)
theorem dX0_of_94 : decode cX0_of 94 = .ok (.ireturn, 1) := dk_172 (dk_at dksX0_of_3 6 rfl rfl)
theorem dX0_of_95 : decode cX0_of 95 = .ok (.aload_n 0, 1) := dk_42 (dk_at dksX0_of_3 7 rfl rfl)
theorem dX0_of_96 : decode cX0_of 96 = .ok (.getfield 143, 3) := dk_180 0 143 (dk_at dksX0_of_3 8 rfl rfl)
theorem dX0_of_99 : decode cX0_of 99 = .ok (.iload_n 1, 1) := dk_27 (dk_at dksX0_of_3 11 rfl rfl)
theorem dX0_of_100 : decode cX0_of 100 = .ok (.iaload, 1) := dk_46 (dk_at dksX0_of_3 12 rfl rfl)
theorem dX0_of_101 : decode cX0_of 101 = .ok (.ireturn, 1) := dk_172 (dk_at dksX0_of_3 13 rfl rfl)
theorem dX0_of_102 : decode cX0_of 102 = .ok (.aload_n 0, 1) := dk_42 (dk_at dksX0_of_3 14 rfl rfl)
theorem dX0_of_103 : decode cX0_of 103 = .ok (.getfield 145, 3) := dk_180 0 145 (dk_at dksX0_of_3 15 rfl rfl)
theorem dX0_of_106 : decode cX0_of 106 = .ok (.iload_n 1, 1) := dk_27 (dk_at dksX0_of_3 18 rfl rfl)
theorem dX0_of_107 : decode cX0_of 107 = .ok (.iaload, 1) := dk_46 (dk_at dksX0_of_3 19 rfl rfl)
theorem dX0_of_108 : decode cX0_of 108 = .ok (.ireturn, 1) := dk_172 (dk_at dksX0_of_3 20 rfl rfl)
theorem dX0_of_109 : decode cX0_of 109 = .ok (.aload_n 0, 1) := dk_42 (dk_at dksX0_of_3 21 rfl rfl)
theorem dX0_of_110 : decode cX0_of 110 = .ok (.getfield 160, 3) := dk_180 0 160 (dk_at dksX0_of_4 0 rfl rfl)
theorem dX0_of_113 : decode cX0_of 113 = .ok (.getfield 443, 3) := dk_180 1 187 (dk_at dksX0_of_4 3 rfl rfl)
theorem dX0_of_116 : decode cX0_of 116 = .ok (.iload_n 1, 1) := dk_27 (dk_at dksX0_of_4 6 rfl rfl)
theorem dX0_of_117 : decode cX0_of 117 = .ok (.invokestatic 481, 3) := dk_184 1 225 (dk_at dksX0_of_4 7 rfl rfl)
theorem dX0_of_120 : decode cX0_of 120 = .ok (.ifCond .eq 7, 3) := dk_153 0 7 (dk_at dksX0_of_4 10 rfl rfl)
theorem dX0_of_123 : decode cX0_of 123 = .ok (.iconst 1, 1) := dk_4 (dk_at dksX0_of_4 13 rfl rfl)
theorem dX0_of_124 : decode cX0_of 124 = .ok (.goto 4, 3) := dk_167 0 4 (dk_at dksX0_of_4 14 rfl rfl)
theorem dX0_of_127 : decode cX0_of 127 = .ok (.iconst 0, 1) := dk_3 (dk_at dksX0_of_4 17 rfl rfl)
theorem dX0_of_128 : decode cX0_of 128 = .ok (.ireturn, 1) := dk_172 (dk_at dksX0_of_4 18 rfl rfl)
theorem dX0_of_129 : decode cX0_of 129 = .ok (.aload_n 0, 1) := dk_42 (dk_at dksX0_of_4 19 rfl rfl)
theorem dX0_of_130 : decode cX0_of 130 = .ok (.getfield 160, 3) := dk_180 0 160 (dk_at dksX0_of_4 20 rfl rfl)
theorem dX0_of_133 : decode cX0_of 133 = .ok (.getfield 446, 3) := dk_180 1 190 (dk_at dksX0_of_5 0 rfl rfl)
theorem dX0_of_136 : decode cX0_of 136 = .ok (.iload_n 1, 1) := dk_27 (dk_at dksX0_of_5 3 rfl rfl)
theorem dX0_of_137 : decode cX0_of 137 = .ok (.invokestatic 481, 3) := dk_184 1 225 (dk_at dksX0_of_5 4 rfl rfl)
theorem dX0_of_140 : decode cX0_of 140 = .ok (.ifCond .eq 7, 3) := dk_153 0 7 (dk_at dksX0_of_5 7 rfl rfl)
theorem dX0_of_143 : decode cX0_of 143 = .ok (.iconst 1, 1) := dk_4 (dk_at dksX0_of_5 10 rfl rfl)
theorem dX0_of_144 : decode cX0_of 144 = .ok (.goto 4, 3) := dk_167 0 4 (dk_at dksX0_of_5 11 rfl rfl)
theorem dX0_of_147 : decode cX0_of 147 = .ok (.iconst 0, 1) := dk_3 (dk_at dksX0_of_5 14 rfl rfl)
theorem dX0_of_148 : decode cX0_of 148 = .ok (.ireturn, 1) := dk_172 (dk_at dksX0_of_5 15 rfl rfl)
theorem dX0_of_149 : decode cX0_of 149 = .ok (.aload_n 0, 1) := dk_42 (dk_at dksX0_of_5 16 rfl rfl)
theorem dX0_of_150 : decode cX0_of 150 = .ok (.getfield 160, 3) := dk_180 0 160 (dk_at dksX0_of_5 17 rfl rfl)
theorem dX0_of_153 : decode cX0_of 153 = .ok (.getfield 441, 3) := dk_180 1 185 (dk_at dksX0_of_5 20 rfl rfl)
theorem dX0_of_156 : decode cX0_of 156 = .ok (.iload_n 1, 1) := dk_27 (dk_at dksX0_of_5 23 rfl rfl)
theorem dX0_of_157 : decode cX0_of 157 = .ok (.iaload, 1) := dk_46 (dk_at dksX0_of_6 0 rfl rfl)
theorem dX0_of_158 : decode cX0_of 158 = .ok (.ireturn, 1) := dk_172 (dk_at dksX0_of_6 1 rfl rfl)
theorem dX0_of_159 : decode cX0_of 159 = .ok (.aload_n 0, 1) := dk_42 (dk_at dksX0_of_6 2 rfl rfl)
theorem dX0_of_160 : decode cX0_of 160 = .ok (.getfield 139, 3) := dk_180 0 139 (dk_at dksX0_of_6 3 rfl rfl)
theorem dX0_of_163 : decode cX0_of 163 = .ok (.iload_n 1, 1) := dk_27 (dk_at dksX0_of_6 6 rfl rfl)
theorem dX0_of_164 : decode cX0_of 164 = .ok (.iaload, 1) := dk_46 (dk_at dksX0_of_6 7 rfl rfl)
theorem dX0_of_165 : decode cX0_of 165 = .ok (.ireturn, 1) := dk_172 (dk_at dksX0_of_6 8 rfl rfl)
theorem dX0_of_166 : decode cX0_of 166 = .ok (.aload_n 0, 1) := dk_42 (dk_at dksX0_of_6 9 rfl rfl)
theorem dX0_of_167 : decode cX0_of 167 = .ok (.iload_n 1, 1) := dk_27 (dk_at dksX0_of_6 10 rfl rfl)
theorem dX0_of_168 : decode cX0_of 168 = .ok (.invokevirtual 491, 3) := dk_182 1 235 (dk_at dksX0_of_6 11 rfl rfl)
theorem dX0_of_171 : decode cX0_of 171 = .ok (.ireturn, 1) := dk_172 (dk_at dksX0_of_6 14 rfl rfl)
theorem dX0_of_172 : decode cX0_of 172 = .ok (.iconst (-1), 1) := dk_2 (dk_at dksX0_of_6 15 rfl rfl)
theorem dX0_of_173 : decode cX0_of 173 = .ok (.ireturn, 1) := dk_172 (dk_at dksX0_of_6 16 rfl rfl)
abbrev cX0_deedOf : ByteArray := prog_1_method_61_code
def yX0_deedOf : MethodName := ⟨RX0, "deedOf", "(II)I"⟩
def dkwX0_deedOf_4 : List UInt8 := [182, 1, 238, 172, 42, 180, 0, 160, 27, 182, 1, 241, 172, 2, 172]
abbrev dktX0_deedOf_4 : List UInt8 := dkwX0_deedOf_4 ++ []
def dkwX0_deedOf_3 : List UInt8 := [180, 0, 160, 180, 1, 193, 27, 46, 172, 42, 180, 0, 160, 180, 1, 195, 27, 46, 172, 42, 180, 0, 160, 27]
abbrev dktX0_deedOf_3 : List UInt8 := dkwX0_deedOf_3 ++ dktX0_deedOf_4
def dkwX0_deedOf_2 : List UInt8 := [42, 180, 0, 147, 27, 46, 172, 42, 180, 0, 149, 27, 46, 172, 42, 180, 0, 152, 27, 46, 172, 42]
abbrev dktX0_deedOf_2 : List UInt8 := dkwX0_deedOf_2 ++ dktX0_deedOf_3
def dkwX0_deedOf_1 : List UInt8 := [170, 0, 0, 0, 100, 0, 0, 0, 0, 0, 0, 0, 6, 0, 0, 0, 41, 0, 0, 0, 48, 0, 0, 0, 55, 0, 0, 0, 62, 0, 0, 0, 72, 0, 0, 0, 82, 0, 0, 0, 91]
abbrev dktX0_deedOf_1 : List UInt8 := dkwX0_deedOf_1 ++ dktX0_deedOf_2
def dkwX0_deedOf_0 : List UInt8 := [42, 27, 182, 1, 201, 154, 0, 5, 2, 172, 28]
abbrev dktX0_deedOf_0 : List UInt8 := dkwX0_deedOf_0 ++ dktX0_deedOf_1
theorem dksX0_deedOf_0 : cX0_deedOf.data.toList.drop 0 = dktX0_deedOf_0 := by decide +kernel
theorem dksX0_deedOf_1 : cX0_deedOf.data.toList.drop 11 = dktX0_deedOf_1 := dk_seg dksX0_deedOf_0 11 rfl rfl
theorem dksX0_deedOf_2 : cX0_deedOf.data.toList.drop 52 = dktX0_deedOf_2 := dk_seg dksX0_deedOf_1 41 rfl rfl
theorem dksX0_deedOf_3 : cX0_deedOf.data.toList.drop 74 = dktX0_deedOf_3 := dk_seg dksX0_deedOf_2 22 rfl rfl
theorem dksX0_deedOf_4 : cX0_deedOf.data.toList.drop 98 = dktX0_deedOf_4 := dk_seg dksX0_deedOf_3 24 rfl rfl
theorem dX0_deedOf_0 : decode cX0_deedOf 0 = .ok (.aload_n 0, 1) := dk_42 (dk_at dksX0_deedOf_0 0 rfl rfl)
theorem dX0_deedOf_1 : decode cX0_deedOf 1 = .ok (.iload_n 1, 1) := dk_27 (dk_at dksX0_deedOf_0 1 rfl rfl)
theorem dX0_deedOf_2 : decode cX0_deedOf 2 = .ok (.invokevirtual 457, 3) := dk_182 1 201 (dk_at dksX0_deedOf_0 2 rfl rfl)
theorem dX0_deedOf_5 : decode cX0_deedOf 5 = .ok (.ifCond .ne 5, 3) := dk_154 0 5 (dk_at dksX0_deedOf_0 5 rfl rfl)
theorem dX0_deedOf_8 : decode cX0_deedOf 8 = .ok (.iconst (-1), 1) := dk_2 (dk_at dksX0_deedOf_0 8 rfl rfl)
theorem dX0_deedOf_9 : decode cX0_deedOf 9 = .ok (.ireturn, 1) := dk_172 (dk_at dksX0_deedOf_0 9 rfl rfl)
theorem dX0_deedOf_10 : decode cX0_deedOf 10 = .ok (.iload_n 2, 1) := dk_28 (dk_at dksX0_deedOf_0 10 rfl rfl)
theorem dX0_deedOf_11 : decode cX0_deedOf 11 = .ok (.tableswitch 100 0 6 #[41, 48, 55, 62, 72, 82, 91], 41) := by decide +kernel
theorem dX0_deedOf_52 : decode cX0_deedOf 52 = .ok (.aload_n 0, 1) := dk_42 (dk_at dksX0_deedOf_2 0 rfl rfl)
theorem dX0_deedOf_53 : decode cX0_deedOf 53 = .ok (.getfield 147, 3) := dk_180 0 147 (dk_at dksX0_deedOf_2 1 rfl rfl)
theorem dX0_deedOf_56 : decode cX0_deedOf 56 = .ok (.iload_n 1, 1) := dk_27 (dk_at dksX0_deedOf_2 4 rfl rfl)
theorem dX0_deedOf_57 : decode cX0_deedOf 57 = .ok (.iaload, 1) := dk_46 (dk_at dksX0_deedOf_2 5 rfl rfl)
theorem dX0_deedOf_58 : decode cX0_deedOf 58 = .ok (.ireturn, 1) := dk_172 (dk_at dksX0_deedOf_2 6 rfl rfl)
theorem dX0_deedOf_59 : decode cX0_deedOf 59 = .ok (.aload_n 0, 1) := dk_42 (dk_at dksX0_deedOf_2 7 rfl rfl)
theorem dX0_deedOf_60 : decode cX0_deedOf 60 = .ok (.getfield 149, 3) := dk_180 0 149 (dk_at dksX0_deedOf_2 8 rfl rfl)
theorem dX0_deedOf_63 : decode cX0_deedOf 63 = .ok (.iload_n 1, 1) := dk_27 (dk_at dksX0_deedOf_2 11 rfl rfl)
theorem dX0_deedOf_64 : decode cX0_deedOf 64 = .ok (.iaload, 1) := dk_46 (dk_at dksX0_deedOf_2 12 rfl rfl)
theorem dX0_deedOf_65 : decode cX0_deedOf 65 = .ok (.ireturn, 1) := dk_172 (dk_at dksX0_deedOf_2 13 rfl rfl)
theorem dX0_deedOf_66 : decode cX0_deedOf 66 = .ok (.aload_n 0, 1) := dk_42 (dk_at dksX0_deedOf_2 14 rfl rfl)
theorem dX0_deedOf_67 : decode cX0_deedOf 67 = .ok (.getfield 152, 3) := dk_180 0 152 (dk_at dksX0_deedOf_2 15 rfl rfl)
theorem dX0_deedOf_70 : decode cX0_deedOf 70 = .ok (.iload_n 1, 1) := dk_27 (dk_at dksX0_deedOf_2 18 rfl rfl)
theorem dX0_deedOf_71 : decode cX0_deedOf 71 = .ok (.iaload, 1) := dk_46 (dk_at dksX0_deedOf_2 19 rfl rfl)
theorem dX0_deedOf_72 : decode cX0_deedOf 72 = .ok (.ireturn, 1) := dk_172 (dk_at dksX0_deedOf_2 20 rfl rfl)
theorem dX0_deedOf_73 : decode cX0_deedOf 73 = .ok (.aload_n 0, 1) := dk_42 (dk_at dksX0_deedOf_2 21 rfl rfl)
theorem dX0_deedOf_74 : decode cX0_deedOf 74 = .ok (.getfield 160, 3) := dk_180 0 160 (dk_at dksX0_deedOf_3 0 rfl rfl)
theorem dX0_deedOf_77 : decode cX0_deedOf 77 = .ok (.getfield 449, 3) := dk_180 1 193 (dk_at dksX0_deedOf_3 3 rfl rfl)
theorem dX0_deedOf_80 : decode cX0_deedOf 80 = .ok (.iload_n 1, 1) := dk_27 (dk_at dksX0_deedOf_3 6 rfl rfl)
theorem dX0_deedOf_81 : decode cX0_deedOf 81 = .ok (.iaload, 1) := dk_46 (dk_at dksX0_deedOf_3 7 rfl rfl)
theorem dX0_deedOf_82 : decode cX0_deedOf 82 = .ok (.ireturn, 1) := dk_172 (dk_at dksX0_deedOf_3 8 rfl rfl)
theorem dX0_deedOf_83 : decode cX0_deedOf 83 = .ok (.aload_n 0, 1) := dk_42 (dk_at dksX0_deedOf_3 9 rfl rfl)
theorem dX0_deedOf_84 : decode cX0_deedOf 84 = .ok (.getfield 160, 3) := dk_180 0 160 (dk_at dksX0_deedOf_3 10 rfl rfl)
theorem dX0_deedOf_87 : decode cX0_deedOf 87 = .ok (.getfield 451, 3) := dk_180 1 195 (dk_at dksX0_deedOf_3 13 rfl rfl)
theorem dX0_deedOf_90 : decode cX0_deedOf 90 = .ok (.iload_n 1, 1) := dk_27 (dk_at dksX0_deedOf_3 16 rfl rfl)
theorem dX0_deedOf_91 : decode cX0_deedOf 91 = .ok (.iaload, 1) := dk_46 (dk_at dksX0_deedOf_3 17 rfl rfl)
theorem dX0_deedOf_92 : decode cX0_deedOf 92 = .ok (.ireturn, 1) := dk_172 (dk_at dksX0_deedOf_3 18 rfl rfl)
theorem dX0_deedOf_93 : decode cX0_deedOf 93 = .ok (.aload_n 0, 1) := dk_42 (dk_at dksX0_deedOf_3 19 rfl rfl)
theorem dX0_deedOf_94 : decode cX0_deedOf 94 = .ok (.getfield 160, 3) := dk_180 0 160 (dk_at dksX0_deedOf_3 20 rfl rfl)
theorem dX0_deedOf_97 : decode cX0_deedOf 97 = .ok (.iload_n 1, 1) := dk_27 (dk_at dksX0_deedOf_3 23 rfl rfl)
theorem dX0_deedOf_98 : decode cX0_deedOf 98 = .ok (.invokevirtual 494, 3) := dk_182 1 238 (dk_at dksX0_deedOf_4 0 rfl rfl)
theorem dX0_deedOf_101 : decode cX0_deedOf 101 = .ok (.ireturn, 1) := dk_172 (dk_at dksX0_deedOf_4 3 rfl rfl)
theorem dX0_deedOf_102 : decode cX0_deedOf 102 = .ok (.aload_n 0, 1) := dk_42 (dk_at dksX0_deedOf_4 4 rfl rfl)
theorem dX0_deedOf_103 : decode cX0_deedOf 103 = .ok (.getfield 160, 3) := dk_180 0 160 (dk_at dksX0_deedOf_4 5 rfl rfl)
theorem dX0_deedOf_106 : decode cX0_deedOf 106 = .ok (.iload_n 1, 1) := dk_27 (dk_at dksX0_deedOf_4 8 rfl rfl)
theorem dX0_deedOf_107 : decode cX0_deedOf 107 = .ok (.invokevirtual 497, 3) := dk_182 1 241 (dk_at dksX0_deedOf_4 9 rfl rfl)
theorem dX0_deedOf_110 : decode cX0_deedOf 110 = .ok (.ireturn, 1) := dk_172 (dk_at dksX0_deedOf_4 12 rfl rfl)
theorem dX0_deedOf_111 : decode cX0_deedOf 111 = .ok (.iconst (-1), 1) := dk_2 (dk_at dksX0_deedOf_4 13 rfl rfl)
theorem dX0_deedOf_112 : decode cX0_deedOf 112 = .ok (.ireturn, 1) := dk_172 (dk_at dksX0_deedOf_4 14 rfl rfl)
abbrev cX0_statute : ByteArray := prog_1_method_62_code
def yX0_statute : MethodName := ⟨RX0, "statute", "(I)I"⟩
def dkwX0_statute_2 : List UInt8 := [167, 0, 4, 2, 172]
abbrev dktX0_statute_2 : List UInt8 := dkwX0_statute_2 ++ []
def dkwX0_statute_1 : List UInt8 := [4, 16, 9, 182, 1, 247, 167, 0, 20, 27, 5, 160, 0, 14, 42, 6, 17, 1, 44, 182, 1, 247]
abbrev dktX0_statute_1 : List UInt8 := dkwX0_statute_1 ++ dktX0_statute_2
def dkwX0_statute_0 : List UInt8 := [27, 154, 0, 17, 42, 42, 180, 0, 160, 180, 1, 175, 182, 1, 244, 167, 0, 35, 27, 4, 160, 0, 13, 42]
abbrev dktX0_statute_0 : List UInt8 := dkwX0_statute_0 ++ dktX0_statute_1
theorem dksX0_statute_0 : cX0_statute.data.toList.drop 0 = dktX0_statute_0 := by decide +kernel
theorem dksX0_statute_1 : cX0_statute.data.toList.drop 24 = dktX0_statute_1 := dk_seg dksX0_statute_0 24 rfl rfl
theorem dksX0_statute_2 : cX0_statute.data.toList.drop 46 = dktX0_statute_2 := dk_seg dksX0_statute_1 22 rfl rfl
theorem dX0_statute_0 : decode cX0_statute 0 = .ok (.iload_n 1, 1) := dk_27 (dk_at dksX0_statute_0 0 rfl rfl)
theorem dX0_statute_1 : decode cX0_statute 1 = .ok (.ifCond .ne 17, 3) := dk_154 0 17 (dk_at dksX0_statute_0 1 rfl rfl)
theorem dX0_statute_4 : decode cX0_statute 4 = .ok (.aload_n 0, 1) := dk_42 (dk_at dksX0_statute_0 4 rfl rfl)
theorem dX0_statute_5 : decode cX0_statute 5 = .ok (.aload_n 0, 1) := dk_42 (dk_at dksX0_statute_0 5 rfl rfl)
theorem dX0_statute_6 : decode cX0_statute 6 = .ok (.getfield 160, 3) := dk_180 0 160 (dk_at dksX0_statute_0 6 rfl rfl)
theorem dX0_statute_9 : decode cX0_statute 9 = .ok (.getfield 431, 3) := dk_180 1 175 (dk_at dksX0_statute_0 9 rfl rfl)
theorem dX0_statute_12 : decode cX0_statute 12 = .ok (.invokevirtual 500, 3) := dk_182 1 244 (dk_at dksX0_statute_0 12 rfl rfl)
theorem dX0_statute_15 : decode cX0_statute 15 = .ok (.goto 35, 3) := dk_167 0 35 (dk_at dksX0_statute_0 15 rfl rfl)
theorem dX0_statute_18 : decode cX0_statute 18 = .ok (.iload_n 1, 1) := dk_27 (dk_at dksX0_statute_0 18 rfl rfl)
theorem dX0_statute_19 : decode cX0_statute 19 = .ok (.iconst 1, 1) := dk_4 (dk_at dksX0_statute_0 19 rfl rfl)
theorem dX0_statute_20 : decode cX0_statute 20 = .ok (.if_icmp .ne 13, 3) := dk_160 0 13 (dk_at dksX0_statute_0 20 rfl rfl)
theorem dX0_statute_23 : decode cX0_statute 23 = .ok (.aload_n 0, 1) := dk_42 (dk_at dksX0_statute_0 23 rfl rfl)
theorem dX0_statute_24 : decode cX0_statute 24 = .ok (.iconst 1, 1) := dk_4 (dk_at dksX0_statute_1 0 rfl rfl)
theorem dX0_statute_25 : decode cX0_statute 25 = .ok (.bipush 9, 2) := dk_16 9 (dk_at dksX0_statute_1 1 rfl rfl)
theorem dX0_statute_27 : decode cX0_statute 27 = .ok (.invokevirtual 503, 3) := dk_182 1 247 (dk_at dksX0_statute_1 3 rfl rfl)
theorem dX0_statute_30 : decode cX0_statute 30 = .ok (.goto 20, 3) := dk_167 0 20 (dk_at dksX0_statute_1 6 rfl rfl)
theorem dX0_statute_33 : decode cX0_statute 33 = .ok (.iload_n 1, 1) := dk_27 (dk_at dksX0_statute_1 9 rfl rfl)
theorem dX0_statute_34 : decode cX0_statute 34 = .ok (.iconst 2, 1) := dk_5 (dk_at dksX0_statute_1 10 rfl rfl)
theorem dX0_statute_35 : decode cX0_statute 35 = .ok (.if_icmp .ne 14, 3) := dk_160 0 14 (dk_at dksX0_statute_1 11 rfl rfl)
theorem dX0_statute_38 : decode cX0_statute 38 = .ok (.aload_n 0, 1) := dk_42 (dk_at dksX0_statute_1 14 rfl rfl)
theorem dX0_statute_39 : decode cX0_statute 39 = .ok (.iconst 3, 1) := dk_6 (dk_at dksX0_statute_1 15 rfl rfl)
theorem dX0_statute_40 : decode cX0_statute 40 = .ok (.sipush 300, 3) := dk_17 1 44 (dk_at dksX0_statute_1 16 rfl rfl)
theorem dX0_statute_43 : decode cX0_statute 43 = .ok (.invokevirtual 503, 3) := dk_182 1 247 (dk_at dksX0_statute_1 19 rfl rfl)
theorem dX0_statute_46 : decode cX0_statute 46 = .ok (.goto 4, 3) := dk_167 0 4 (dk_at dksX0_statute_2 0 rfl rfl)
theorem dX0_statute_49 : decode cX0_statute 49 = .ok (.iconst (-1), 1) := dk_2 (dk_at dksX0_statute_2 3 rfl rfl)
theorem dX0_statute_50 : decode cX0_statute 50 = .ok (.ireturn, 1) := dk_172 (dk_at dksX0_statute_2 4 rfl rfl)
abbrev cX0_book : ByteArray := prog_1_method_63_code
def yX0_book : MethodName := ⟨RX0, "book", "(II)I"⟩
def dkwX0_book_1 : List UInt8 := [153, 0, 16, 42, 180, 0, 170, 7, 27, 104, 28, 96, 46, 167, 0, 4, 2, 172]
abbrev dktX0_book_1 : List UInt8 := dkwX0_book_1 ++ []
def dkwX0_book_0 : List UInt8 := [27, 3, 42, 180, 0, 160, 180, 1, 172, 4, 100, 184, 0, 207, 153, 0, 25, 28, 3, 6, 184, 0, 207]
abbrev dktX0_book_0 : List UInt8 := dkwX0_book_0 ++ dktX0_book_1
theorem dksX0_book_0 : cX0_book.data.toList.drop 0 = dktX0_book_0 := by decide +kernel
theorem dksX0_book_1 : cX0_book.data.toList.drop 23 = dktX0_book_1 := dk_seg dksX0_book_0 23 rfl rfl
theorem dX0_book_0 : decode cX0_book 0 = .ok (.iload_n 1, 1) := dk_27 (dk_at dksX0_book_0 0 rfl rfl)
theorem dX0_book_1 : decode cX0_book 1 = .ok (.iconst 0, 1) := dk_3 (dk_at dksX0_book_0 1 rfl rfl)
theorem dX0_book_2 : decode cX0_book 2 = .ok (.aload_n 0, 1) := dk_42 (dk_at dksX0_book_0 2 rfl rfl)
theorem dX0_book_3 : decode cX0_book 3 = .ok (.getfield 160, 3) := dk_180 0 160 (dk_at dksX0_book_0 3 rfl rfl)
theorem dX0_book_6 : decode cX0_book 6 = .ok (.getfield 428, 3) := dk_180 1 172 (dk_at dksX0_book_0 6 rfl rfl)
theorem dX0_book_9 : decode cX0_book 9 = .ok (.iconst 1, 1) := dk_4 (dk_at dksX0_book_0 9 rfl rfl)
theorem dX0_book_10 : decode cX0_book 10 = .ok (.isub, 1) := dk_100 (dk_at dksX0_book_0 10 rfl rfl)
theorem dX0_book_11 : decode cX0_book 11 = .ok (.invokestatic 207, 3) := dk_184 0 207 (dk_at dksX0_book_0 11 rfl rfl)
theorem dX0_book_14 : decode cX0_book 14 = .ok (.ifCond .eq 25, 3) := dk_153 0 25 (dk_at dksX0_book_0 14 rfl rfl)
theorem dX0_book_17 : decode cX0_book 17 = .ok (.iload_n 2, 1) := dk_28 (dk_at dksX0_book_0 17 rfl rfl)
theorem dX0_book_18 : decode cX0_book 18 = .ok (.iconst 0, 1) := dk_3 (dk_at dksX0_book_0 18 rfl rfl)
theorem dX0_book_19 : decode cX0_book 19 = .ok (.iconst 3, 1) := dk_6 (dk_at dksX0_book_0 19 rfl rfl)
theorem dX0_book_20 : decode cX0_book 20 = .ok (.invokestatic 207, 3) := dk_184 0 207 (dk_at dksX0_book_0 20 rfl rfl)
theorem dX0_book_23 : decode cX0_book 23 = .ok (.ifCond .eq 16, 3) := dk_153 0 16 (dk_at dksX0_book_1 0 rfl rfl)
theorem dX0_book_26 : decode cX0_book 26 = .ok (.aload_n 0, 1) := dk_42 (dk_at dksX0_book_1 3 rfl rfl)
theorem dX0_book_27 : decode cX0_book 27 = .ok (.getfield 170, 3) := dk_180 0 170 (dk_at dksX0_book_1 4 rfl rfl)
theorem dX0_book_30 : decode cX0_book 30 = .ok (.iconst 4, 1) := dk_7 (dk_at dksX0_book_1 7 rfl rfl)
theorem dX0_book_31 : decode cX0_book 31 = .ok (.iload_n 1, 1) := dk_27 (dk_at dksX0_book_1 8 rfl rfl)
theorem dX0_book_32 : decode cX0_book 32 = .ok (.imul, 1) := dk_104 (dk_at dksX0_book_1 9 rfl rfl)
theorem dX0_book_33 : decode cX0_book 33 = .ok (.iload_n 2, 1) := dk_28 (dk_at dksX0_book_1 10 rfl rfl)
theorem dX0_book_34 : decode cX0_book 34 = .ok (.iadd, 1) := dk_96 (dk_at dksX0_book_1 11 rfl rfl)
theorem dX0_book_35 : decode cX0_book 35 = .ok (.iaload, 1) := dk_46 (dk_at dksX0_book_1 12 rfl rfl)
theorem dX0_book_36 : decode cX0_book 36 = .ok (.goto 4, 3) := dk_167 0 4 (dk_at dksX0_book_1 13 rfl rfl)
theorem dX0_book_39 : decode cX0_book 39 = .ok (.iconst (-1), 1) := dk_2 (dk_at dksX0_book_1 16 rfl rfl)
theorem dX0_book_40 : decode cX0_book 40 = .ok (.ireturn, 1) := dk_172 (dk_at dksX0_book_1 17 rfl rfl)
abbrev cX0_goes : ByteArray := prog_1_method_64_code
def yX0_goes : MethodName := ⟨RX0, "goes", "(I)I"⟩
def dkwX0_goes_3 : List UInt8 := [180, 1, 195, 27, 16, 10, 100, 46, 42, 180, 0, 160, 180, 1, 195, 27, 16, 10, 100, 46, 100, 172]
abbrev dktX0_goes_3 : List UInt8 := dkwX0_goes_3 ++ []
def dkwX0_goes_2 : List UInt8 := [27, 154, 0, 10, 44, 180, 1, 210, 167, 0, 37, 27, 4, 160, 0, 10, 44, 180, 1, 219, 167, 0, 25, 44]
abbrev dktX0_goes_2 : List UInt8 := dkwX0_goes_2 ++ dktX0_goes_3
def dkwX0_goes_1 : List UInt8 := [154, 0, 7, 19, 1, 250, 172, 42, 180, 0, 164, 42, 180, 0, 160, 182, 1, 251, 77, 44, 182, 1, 229, 87]
abbrev dktX0_goes_1 : List UInt8 := dkwX0_goes_1 ++ dktX0_goes_2
def dkwX0_goes_0 : List UInt8 := [27, 3, 4, 184, 0, 207, 154, 0, 23, 27, 16, 10, 16, 9, 42, 180, 1, 120, 96, 184, 0, 207]
abbrev dktX0_goes_0 : List UInt8 := dkwX0_goes_0 ++ dktX0_goes_1
theorem dksX0_goes_0 : cX0_goes.data.toList.drop 0 = dktX0_goes_0 := by decide +kernel
theorem dksX0_goes_1 : cX0_goes.data.toList.drop 22 = dktX0_goes_1 := dk_seg dksX0_goes_0 22 rfl rfl
theorem dksX0_goes_2 : cX0_goes.data.toList.drop 46 = dktX0_goes_2 := dk_seg dksX0_goes_1 24 rfl rfl
theorem dksX0_goes_3 : cX0_goes.data.toList.drop 70 = dktX0_goes_3 := dk_seg dksX0_goes_2 24 rfl rfl
theorem dX0_goes_0 : decode cX0_goes 0 = .ok (.iload_n 1, 1) := dk_27 (dk_at dksX0_goes_0 0 rfl rfl)
theorem dX0_goes_1 : decode cX0_goes 1 = .ok (.iconst 0, 1) := dk_3 (dk_at dksX0_goes_0 1 rfl rfl)
theorem dX0_goes_2 : decode cX0_goes 2 = .ok (.iconst 1, 1) := dk_4 (dk_at dksX0_goes_0 2 rfl rfl)
theorem dX0_goes_3 : decode cX0_goes 3 = .ok (.invokestatic 207, 3) := dk_184 0 207 (dk_at dksX0_goes_0 3 rfl rfl)
theorem dX0_goes_6 : decode cX0_goes 6 = .ok (.ifCond .ne 23, 3) := dk_154 0 23 (dk_at dksX0_goes_0 6 rfl rfl)
theorem dX0_goes_9 : decode cX0_goes 9 = .ok (.iload_n 1, 1) := dk_27 (dk_at dksX0_goes_0 9 rfl rfl)
theorem dX0_goes_10 : decode cX0_goes 10 = .ok (.bipush 10, 2) := dk_16 10 (dk_at dksX0_goes_0 10 rfl rfl)
theorem dX0_goes_12 : decode cX0_goes 12 = .ok (.bipush 9, 2) := dk_16 9 (dk_at dksX0_goes_0 12 rfl rfl)
theorem dX0_goes_14 : decode cX0_goes 14 = .ok (.aload_n 0, 1) := dk_42 (dk_at dksX0_goes_0 14 rfl rfl)
theorem dX0_goes_15 : decode cX0_goes 15 = .ok (.getfield 376, 3) := dk_180 1 120 (dk_at dksX0_goes_0 15 rfl rfl)
theorem dX0_goes_18 : decode cX0_goes 18 = .ok (.iadd, 1) := dk_96 (dk_at dksX0_goes_0 18 rfl rfl)
theorem dX0_goes_19 : decode cX0_goes 19 = .ok (.invokestatic 207, 3) := dk_184 0 207 (dk_at dksX0_goes_0 19 rfl rfl)
theorem dX0_goes_22 : decode cX0_goes 22 = .ok (.ifCond .ne 7, 3) := dk_154 0 7 (dk_at dksX0_goes_1 0 rfl rfl)
theorem dX0_goes_25 : decode cX0_goes 25 = .ok (.ldc_w 506, 3) := dk_19 1 250 (dk_at dksX0_goes_1 3 rfl rfl)
theorem dX0_goes_28 : decode cX0_goes 28 = .ok (.ireturn, 1) := dk_172 (dk_at dksX0_goes_1 6 rfl rfl)
theorem dX0_goes_29 : decode cX0_goes 29 = .ok (.aload_n 0, 1) := dk_42 (dk_at dksX0_goes_1 7 rfl rfl)
theorem dX0_goes_30 : decode cX0_goes 30 = .ok (.getfield 164, 3) := dk_180 0 164 (dk_at dksX0_goes_1 8 rfl rfl)
theorem dX0_goes_33 : decode cX0_goes 33 = .ok (.aload_n 0, 1) := dk_42 (dk_at dksX0_goes_1 11 rfl rfl)
theorem dX0_goes_34 : decode cX0_goes 34 = .ok (.getfield 160, 3) := dk_180 0 160 (dk_at dksX0_goes_1 12 rfl rfl)
theorem dX0_goes_37 : decode cX0_goes 37 = .ok (.invokevirtual 507, 3) := dk_182 1 251 (dk_at dksX0_goes_1 15 rfl rfl)
theorem dX0_goes_40 : decode cX0_goes 40 = .ok (.astore_n 2, 1) := dk_77 (dk_at dksX0_goes_1 18 rfl rfl)
theorem dX0_goes_41 : decode cX0_goes 41 = .ok (.aload_n 2, 1) := dk_44 (dk_at dksX0_goes_1 19 rfl rfl)
theorem dX0_goes_42 : decode cX0_goes 42 = .ok (.invokevirtual 485, 3) := dk_182 1 229 (dk_at dksX0_goes_1 20 rfl rfl)
theorem dX0_goes_45 : decode cX0_goes 45 = .ok (.pop, 1) := dk_87 (dk_at dksX0_goes_1 23 rfl rfl)
theorem dX0_goes_46 : decode cX0_goes 46 = .ok (.iload_n 1, 1) := dk_27 (dk_at dksX0_goes_2 0 rfl rfl)
theorem dX0_goes_47 : decode cX0_goes 47 = .ok (.ifCond .ne 10, 3) := dk_154 0 10 (dk_at dksX0_goes_2 1 rfl rfl)
theorem dX0_goes_50 : decode cX0_goes 50 = .ok (.aload_n 2, 1) := dk_44 (dk_at dksX0_goes_2 4 rfl rfl)
theorem dX0_goes_51 : decode cX0_goes 51 = .ok (.getfield 466, 3) := dk_180 1 210 (dk_at dksX0_goes_2 5 rfl rfl)
theorem dX0_goes_54 : decode cX0_goes 54 = .ok (.goto 37, 3) := dk_167 0 37 (dk_at dksX0_goes_2 8 rfl rfl)
theorem dX0_goes_57 : decode cX0_goes 57 = .ok (.iload_n 1, 1) := dk_27 (dk_at dksX0_goes_2 11 rfl rfl)
theorem dX0_goes_58 : decode cX0_goes 58 = .ok (.iconst 1, 1) := dk_4 (dk_at dksX0_goes_2 12 rfl rfl)
theorem dX0_goes_59 : decode cX0_goes 59 = .ok (.if_icmp .ne 10, 3) := dk_160 0 10 (dk_at dksX0_goes_2 13 rfl rfl)
theorem dX0_goes_62 : decode cX0_goes 62 = .ok (.aload_n 2, 1) := dk_44 (dk_at dksX0_goes_2 16 rfl rfl)
theorem dX0_goes_63 : decode cX0_goes 63 = .ok (.getfield 475, 3) := dk_180 1 219 (dk_at dksX0_goes_2 17 rfl rfl)
theorem dX0_goes_66 : decode cX0_goes 66 = .ok (.goto 25, 3) := dk_167 0 25 (dk_at dksX0_goes_2 20 rfl rfl)
theorem dX0_goes_69 : decode cX0_goes 69 = .ok (.aload_n 2, 1) := dk_44 (dk_at dksX0_goes_2 23 rfl rfl)
theorem dX0_goes_70 : decode cX0_goes 70 = .ok (.getfield 451, 3) := dk_180 1 195 (dk_at dksX0_goes_3 0 rfl rfl)
theorem dX0_goes_73 : decode cX0_goes 73 = .ok (.iload_n 1, 1) := dk_27 (dk_at dksX0_goes_3 3 rfl rfl)
theorem dX0_goes_74 : decode cX0_goes 74 = .ok (.bipush 10, 2) := dk_16 10 (dk_at dksX0_goes_3 4 rfl rfl)
theorem dX0_goes_76 : decode cX0_goes 76 = .ok (.isub, 1) := dk_100 (dk_at dksX0_goes_3 6 rfl rfl)
theorem dX0_goes_77 : decode cX0_goes 77 = .ok (.iaload, 1) := dk_46 (dk_at dksX0_goes_3 7 rfl rfl)
theorem dX0_goes_78 : decode cX0_goes 78 = .ok (.aload_n 0, 1) := dk_42 (dk_at dksX0_goes_3 8 rfl rfl)
theorem dX0_goes_79 : decode cX0_goes 79 = .ok (.getfield 160, 3) := dk_180 0 160 (dk_at dksX0_goes_3 9 rfl rfl)
theorem dX0_goes_82 : decode cX0_goes 82 = .ok (.getfield 451, 3) := dk_180 1 195 (dk_at dksX0_goes_3 12 rfl rfl)
theorem dX0_goes_85 : decode cX0_goes 85 = .ok (.iload_n 1, 1) := dk_27 (dk_at dksX0_goes_3 15 rfl rfl)
theorem dX0_goes_86 : decode cX0_goes 86 = .ok (.bipush 10, 2) := dk_16 10 (dk_at dksX0_goes_3 16 rfl rfl)
theorem dX0_goes_88 : decode cX0_goes 88 = .ok (.isub, 1) := dk_100 (dk_at dksX0_goes_3 18 rfl rfl)
theorem dX0_goes_89 : decode cX0_goes 89 = .ok (.iaload, 1) := dk_46 (dk_at dksX0_goes_3 19 rfl rfl)
theorem dX0_goes_90 : decode cX0_goes 90 = .ok (.isub, 1) := dk_100 (dk_at dksX0_goes_3 20 rfl rfl)
theorem dX0_goes_91 : decode cX0_goes 91 = .ok (.ireturn, 1) := dk_172 (dk_at dksX0_goes_3 21 rfl rfl)
abbrev cX0_settles : ByteArray := prog_1_method_65_code
def yX0_settles : MethodName := ⟨RX0, "settles", "(II)I"⟩
def dkwX0_settles_2 : List UInt8 := [28, 4, 160, 0, 10, 45, 180, 2, 5, 167, 0, 7, 45, 180, 2, 8, 172]
abbrev dktX0_settles_2 : List UInt8 := dkwX0_settles_2 ++ []
def dkwX0_settles_1 : List UInt8 := [180, 0, 160, 182, 1, 251, 78, 45, 27, 182, 1, 255, 87, 28, 154, 0, 10, 45, 180, 2, 2, 167, 0, 19]
abbrev dktX0_settles_1 : List UInt8 := dkwX0_settles_1 ++ dktX0_settles_2
def dkwX0_settles_0 : List UInt8 := [42, 27, 182, 1, 201, 153, 0, 12, 28, 3, 5, 184, 0, 207, 154, 0, 5, 2, 172, 42, 180, 0, 164, 42]
abbrev dktX0_settles_0 : List UInt8 := dkwX0_settles_0 ++ dktX0_settles_1
theorem dksX0_settles_0 : cX0_settles.data.toList.drop 0 = dktX0_settles_0 := by decide +kernel
theorem dksX0_settles_1 : cX0_settles.data.toList.drop 24 = dktX0_settles_1 := dk_seg dksX0_settles_0 24 rfl rfl
theorem dksX0_settles_2 : cX0_settles.data.toList.drop 48 = dktX0_settles_2 := dk_seg dksX0_settles_1 24 rfl rfl
theorem dX0_settles_0 : decode cX0_settles 0 = .ok (.aload_n 0, 1) := dk_42 (dk_at dksX0_settles_0 0 rfl rfl)
theorem dX0_settles_1 : decode cX0_settles 1 = .ok (.iload_n 1, 1) := dk_27 (dk_at dksX0_settles_0 1 rfl rfl)
theorem dX0_settles_2 : decode cX0_settles 2 = .ok (.invokevirtual 457, 3) := dk_182 1 201 (dk_at dksX0_settles_0 2 rfl rfl)
theorem dX0_settles_5 : decode cX0_settles 5 = .ok (.ifCond .eq 12, 3) := dk_153 0 12 (dk_at dksX0_settles_0 5 rfl rfl)
theorem dX0_settles_8 : decode cX0_settles 8 = .ok (.iload_n 2, 1) := dk_28 (dk_at dksX0_settles_0 8 rfl rfl)
theorem dX0_settles_9 : decode cX0_settles 9 = .ok (.iconst 0, 1) := dk_3 (dk_at dksX0_settles_0 9 rfl rfl)
theorem dX0_settles_10 : decode cX0_settles 10 = .ok (.iconst 2, 1) := dk_5 (dk_at dksX0_settles_0 10 rfl rfl)
theorem dX0_settles_11 : decode cX0_settles 11 = .ok (.invokestatic 207, 3) := dk_184 0 207 (dk_at dksX0_settles_0 11 rfl rfl)
theorem dX0_settles_14 : decode cX0_settles 14 = .ok (.ifCond .ne 5, 3) := dk_154 0 5 (dk_at dksX0_settles_0 14 rfl rfl)
theorem dX0_settles_17 : decode cX0_settles 17 = .ok (.iconst (-1), 1) := dk_2 (dk_at dksX0_settles_0 17 rfl rfl)
theorem dX0_settles_18 : decode cX0_settles 18 = .ok (.ireturn, 1) := dk_172 (dk_at dksX0_settles_0 18 rfl rfl)
theorem dX0_settles_19 : decode cX0_settles 19 = .ok (.aload_n 0, 1) := dk_42 (dk_at dksX0_settles_0 19 rfl rfl)
theorem dX0_settles_20 : decode cX0_settles 20 = .ok (.getfield 164, 3) := dk_180 0 164 (dk_at dksX0_settles_0 20 rfl rfl)
theorem dX0_settles_23 : decode cX0_settles 23 = .ok (.aload_n 0, 1) := dk_42 (dk_at dksX0_settles_0 23 rfl rfl)
theorem dX0_settles_24 : decode cX0_settles 24 = .ok (.getfield 160, 3) := dk_180 0 160 (dk_at dksX0_settles_1 0 rfl rfl)
theorem dX0_settles_27 : decode cX0_settles 27 = .ok (.invokevirtual 507, 3) := dk_182 1 251 (dk_at dksX0_settles_1 3 rfl rfl)
theorem dX0_settles_30 : decode cX0_settles 30 = .ok (.astore_n 3, 1) := dk_78 (dk_at dksX0_settles_1 6 rfl rfl)
theorem dX0_settles_31 : decode cX0_settles 31 = .ok (.aload_n 3, 1) := dk_45 (dk_at dksX0_settles_1 7 rfl rfl)
theorem dX0_settles_32 : decode cX0_settles 32 = .ok (.iload_n 1, 1) := dk_27 (dk_at dksX0_settles_1 8 rfl rfl)
theorem dX0_settles_33 : decode cX0_settles 33 = .ok (.invokevirtual 511, 3) := dk_182 1 255 (dk_at dksX0_settles_1 9 rfl rfl)
theorem dX0_settles_36 : decode cX0_settles 36 = .ok (.pop, 1) := dk_87 (dk_at dksX0_settles_1 12 rfl rfl)
theorem dX0_settles_37 : decode cX0_settles 37 = .ok (.iload_n 2, 1) := dk_28 (dk_at dksX0_settles_1 13 rfl rfl)
theorem dX0_settles_38 : decode cX0_settles 38 = .ok (.ifCond .ne 10, 3) := dk_154 0 10 (dk_at dksX0_settles_1 14 rfl rfl)
theorem dX0_settles_41 : decode cX0_settles 41 = .ok (.aload_n 3, 1) := dk_45 (dk_at dksX0_settles_1 17 rfl rfl)
theorem dX0_settles_42 : decode cX0_settles 42 = .ok (.getfield 514, 3) := dk_180 2 2 (dk_at dksX0_settles_1 18 rfl rfl)
theorem dX0_settles_45 : decode cX0_settles 45 = .ok (.goto 19, 3) := dk_167 0 19 (dk_at dksX0_settles_1 21 rfl rfl)
theorem dX0_settles_48 : decode cX0_settles 48 = .ok (.iload_n 2, 1) := dk_28 (dk_at dksX0_settles_2 0 rfl rfl)
theorem dX0_settles_49 : decode cX0_settles 49 = .ok (.iconst 1, 1) := dk_4 (dk_at dksX0_settles_2 1 rfl rfl)
theorem dX0_settles_50 : decode cX0_settles 50 = .ok (.if_icmp .ne 10, 3) := dk_160 0 10 (dk_at dksX0_settles_2 2 rfl rfl)
theorem dX0_settles_53 : decode cX0_settles 53 = .ok (.aload_n 3, 1) := dk_45 (dk_at dksX0_settles_2 5 rfl rfl)
theorem dX0_settles_54 : decode cX0_settles 54 = .ok (.getfield 517, 3) := dk_180 2 5 (dk_at dksX0_settles_2 6 rfl rfl)
theorem dX0_settles_57 : decode cX0_settles 57 = .ok (.goto 7, 3) := dk_167 0 7 (dk_at dksX0_settles_2 9 rfl rfl)
theorem dX0_settles_60 : decode cX0_settles 60 = .ok (.aload_n 3, 1) := dk_45 (dk_at dksX0_settles_2 12 rfl rfl)
theorem dX0_settles_61 : decode cX0_settles 61 = .ok (.getfield 520, 3) := dk_180 2 8 (dk_at dksX0_settles_2 13 rfl rfl)
theorem dX0_settles_64 : decode cX0_settles 64 = .ok (.ireturn, 1) := dk_172 (dk_at dksX0_settles_2 16 rfl rfl)
abbrev cX0_makes : ByteArray := prog_1_method_67_code
def yX0_makes : MethodName := ⟨RX0, "makes", "(III)I"⟩
def dkwX0_makes_5 : List UInt8 := [184, 2, 11, 172]
abbrev dktX0_makes_5 : List UInt8 := dkwX0_makes_5 ++ []
def dkwX0_makes_4 : List UInt8 := [132, 5, 1, 167, 255, 193, 21, 4, 2, 159, 0, 8, 29, 4, 160, 0, 8, 21, 4, 167, 0, 8, 21, 4]
abbrev dktX0_makes_4 : List UInt8 := dkwX0_makes_4 ++ dktX0_makes_5
def dkwX0_makes_3 : List UInt8 := [21, 4, 184, 2, 11, 162, 0, 18, 42, 27, 28, 21, 5, 182, 2, 16, 153, 0, 7, 21, 5, 54, 4]
abbrev dktX0_makes_3 : List UInt8 := dkwX0_makes_3 ++ dktX0_makes_4
def dkwX0_makes_2 : List UInt8 := [42, 180, 0, 160, 180, 1, 187, 2, 130, 126, 154, 0, 37, 21, 4, 2, 159, 0, 16, 21, 5, 184, 2, 11]
abbrev dktX0_makes_2 : List UInt8 := dkwX0_makes_2 ++ dktX0_makes_3
def dkwX0_makes_1 : List UInt8 := [154, 0, 5, 2, 172, 2, 54, 4, 3, 54, 5, 21, 5, 4, 42, 180, 1, 113, 120, 162, 0, 58, 21, 5]
abbrev dktX0_makes_1 : List UInt8 := dkwX0_makes_1 ++ dktX0_makes_2
def dkwX0_makes_0 : List UInt8 := [42, 27, 182, 1, 201, 153, 0, 21, 28, 4, 8, 184, 0, 207, 153, 0, 12, 29, 3, 4, 184, 0, 207]
abbrev dktX0_makes_0 : List UInt8 := dkwX0_makes_0 ++ dktX0_makes_1
theorem dksX0_makes_0 : cX0_makes.data.toList.drop 0 = dktX0_makes_0 := by decide +kernel
theorem dksX0_makes_1 : cX0_makes.data.toList.drop 23 = dktX0_makes_1 := dk_seg dksX0_makes_0 23 rfl rfl
theorem dksX0_makes_2 : cX0_makes.data.toList.drop 47 = dktX0_makes_2 := dk_seg dksX0_makes_1 24 rfl rfl
theorem dksX0_makes_3 : cX0_makes.data.toList.drop 71 = dktX0_makes_3 := dk_seg dksX0_makes_2 24 rfl rfl
theorem dksX0_makes_4 : cX0_makes.data.toList.drop 94 = dktX0_makes_4 := dk_seg dksX0_makes_3 23 rfl rfl
theorem dksX0_makes_5 : cX0_makes.data.toList.drop 118 = dktX0_makes_5 := dk_seg dksX0_makes_4 24 rfl rfl
theorem dX0_makes_0 : decode cX0_makes 0 = .ok (.aload_n 0, 1) := dk_42 (dk_at dksX0_makes_0 0 rfl rfl)
theorem dX0_makes_1 : decode cX0_makes 1 = .ok (.iload_n 1, 1) := dk_27 (dk_at dksX0_makes_0 1 rfl rfl)
theorem dX0_makes_2 : decode cX0_makes 2 = .ok (.invokevirtual 457, 3) := dk_182 1 201 (dk_at dksX0_makes_0 2 rfl rfl)
theorem dX0_makes_5 : decode cX0_makes 5 = .ok (.ifCond .eq 21, 3) := dk_153 0 21 (dk_at dksX0_makes_0 5 rfl rfl)
theorem dX0_makes_8 : decode cX0_makes 8 = .ok (.iload_n 2, 1) := dk_28 (dk_at dksX0_makes_0 8 rfl rfl)
theorem dX0_makes_9 : decode cX0_makes 9 = .ok (.iconst 1, 1) := dk_4 (dk_at dksX0_makes_0 9 rfl rfl)
theorem dX0_makes_10 : decode cX0_makes 10 = .ok (.iconst 5, 1) := dk_8 (dk_at dksX0_makes_0 10 rfl rfl)
theorem dX0_makes_11 : decode cX0_makes 11 = .ok (.invokestatic 207, 3) := dk_184 0 207 (dk_at dksX0_makes_0 11 rfl rfl)
theorem dX0_makes_14 : decode cX0_makes 14 = .ok (.ifCond .eq 12, 3) := dk_153 0 12 (dk_at dksX0_makes_0 14 rfl rfl)
theorem dX0_makes_17 : decode cX0_makes 17 = .ok (.iload_n 3, 1) := dk_29 (dk_at dksX0_makes_0 17 rfl rfl)
theorem dX0_makes_18 : decode cX0_makes 18 = .ok (.iconst 0, 1) := dk_3 (dk_at dksX0_makes_0 18 rfl rfl)
theorem dX0_makes_19 : decode cX0_makes 19 = .ok (.iconst 1, 1) := dk_4 (dk_at dksX0_makes_0 19 rfl rfl)
theorem dX0_makes_20 : decode cX0_makes 20 = .ok (.invokestatic 207, 3) := dk_184 0 207 (dk_at dksX0_makes_0 20 rfl rfl)
theorem dX0_makes_23 : decode cX0_makes 23 = .ok (.ifCond .ne 5, 3) := dk_154 0 5 (dk_at dksX0_makes_1 0 rfl rfl)
theorem dX0_makes_26 : decode cX0_makes 26 = .ok (.iconst (-1), 1) := dk_2 (dk_at dksX0_makes_1 3 rfl rfl)
theorem dX0_makes_27 : decode cX0_makes 27 = .ok (.ireturn, 1) := dk_172 (dk_at dksX0_makes_1 4 rfl rfl)
theorem dX0_makes_28 : decode cX0_makes 28 = .ok (.iconst (-1), 1) := dk_2 (dk_at dksX0_makes_1 5 rfl rfl)
theorem dX0_makes_29 : decode cX0_makes 29 = .ok (.istore 4, 2) := dk_54 4 (dk_at dksX0_makes_1 6 rfl rfl)
theorem dX0_makes_31 : decode cX0_makes 31 = .ok (.iconst 0, 1) := dk_3 (dk_at dksX0_makes_1 8 rfl rfl)
theorem dX0_makes_32 : decode cX0_makes 32 = .ok (.istore 5, 2) := dk_54 5 (dk_at dksX0_makes_1 9 rfl rfl)
theorem dX0_makes_34 : decode cX0_makes 34 = .ok (.iload 5, 2) := dk_21 5 (dk_at dksX0_makes_1 11 rfl rfl)
theorem dX0_makes_36 : decode cX0_makes 36 = .ok (.iconst 1, 1) := dk_4 (dk_at dksX0_makes_1 13 rfl rfl)
theorem dX0_makes_37 : decode cX0_makes 37 = .ok (.aload_n 0, 1) := dk_42 (dk_at dksX0_makes_1 14 rfl rfl)
theorem dX0_makes_38 : decode cX0_makes 38 = .ok (.getfield 369, 3) := dk_180 1 113 (dk_at dksX0_makes_1 15 rfl rfl)
theorem dX0_makes_41 : decode cX0_makes 41 = .ok (.ishl, 1) := dk_120 (dk_at dksX0_makes_1 18 rfl rfl)
theorem dX0_makes_42 : decode cX0_makes 42 = .ok (.if_icmp .ge 58, 3) := dk_162 0 58 (dk_at dksX0_makes_1 19 rfl rfl)
theorem dX0_makes_45 : decode cX0_makes 45 = .ok (.iload 5, 2) := dk_21 5 (dk_at dksX0_makes_1 22 rfl rfl)
theorem dX0_makes_47 : decode cX0_makes 47 = .ok (.aload_n 0, 1) := dk_42 (dk_at dksX0_makes_2 0 rfl rfl)
theorem dX0_makes_48 : decode cX0_makes 48 = .ok (.getfield 160, 3) := dk_180 0 160 (dk_at dksX0_makes_2 1 rfl rfl)
theorem dX0_makes_51 : decode cX0_makes 51 = .ok (.getfield 443, 3) := dk_180 1 187 (dk_at dksX0_makes_2 4 rfl rfl)
theorem dX0_makes_54 : decode cX0_makes 54 = .ok (.iconst (-1), 1) := dk_2 (dk_at dksX0_makes_2 7 rfl rfl)
theorem dX0_makes_55 : decode cX0_makes 55 = .ok (.ixor, 1) := dk_130 (dk_at dksX0_makes_2 8 rfl rfl)
theorem dX0_makes_56 : decode cX0_makes 56 = .ok (.iand, 1) := dk_126 (dk_at dksX0_makes_2 9 rfl rfl)
theorem dX0_makes_57 : decode cX0_makes 57 = .ok (.ifCond .ne 37, 3) := dk_154 0 37 (dk_at dksX0_makes_2 10 rfl rfl)
theorem dX0_makes_60 : decode cX0_makes 60 = .ok (.iload 4, 2) := dk_21 4 (dk_at dksX0_makes_2 13 rfl rfl)
theorem dX0_makes_62 : decode cX0_makes 62 = .ok (.iconst (-1), 1) := dk_2 (dk_at dksX0_makes_2 15 rfl rfl)
theorem dX0_makes_63 : decode cX0_makes 63 = .ok (.if_icmp .eq 16, 3) := dk_159 0 16 (dk_at dksX0_makes_2 16 rfl rfl)
theorem dX0_makes_66 : decode cX0_makes 66 = .ok (.iload 5, 2) := dk_21 5 (dk_at dksX0_makes_2 19 rfl rfl)
theorem dX0_makes_68 : decode cX0_makes 68 = .ok (.invokestatic 523, 3) := dk_184 2 11 (dk_at dksX0_makes_2 21 rfl rfl)
theorem dX0_makes_71 : decode cX0_makes 71 = .ok (.iload 4, 2) := dk_21 4 (dk_at dksX0_makes_3 0 rfl rfl)
theorem dX0_makes_73 : decode cX0_makes 73 = .ok (.invokestatic 523, 3) := dk_184 2 11 (dk_at dksX0_makes_3 2 rfl rfl)
theorem dX0_makes_76 : decode cX0_makes 76 = .ok (.if_icmp .ge 18, 3) := dk_162 0 18 (dk_at dksX0_makes_3 5 rfl rfl)
theorem dX0_makes_79 : decode cX0_makes 79 = .ok (.aload_n 0, 1) := dk_42 (dk_at dksX0_makes_3 8 rfl rfl)
theorem dX0_makes_80 : decode cX0_makes 80 = .ok (.iload_n 1, 1) := dk_27 (dk_at dksX0_makes_3 9 rfl rfl)
theorem dX0_makes_81 : decode cX0_makes 81 = .ok (.iload_n 2, 1) := dk_28 (dk_at dksX0_makes_3 10 rfl rfl)
theorem dX0_makes_82 : decode cX0_makes 82 = .ok (.iload 5, 2) := dk_21 5 (dk_at dksX0_makes_3 11 rfl rfl)
theorem dX0_makes_84 : decode cX0_makes 84 = .ok (.invokevirtual 528, 3) := dk_182 2 16 (dk_at dksX0_makes_3 13 rfl rfl)
theorem dX0_makes_87 : decode cX0_makes 87 = .ok (.ifCond .eq 7, 3) := dk_153 0 7 (dk_at dksX0_makes_3 16 rfl rfl)
theorem dX0_makes_90 : decode cX0_makes 90 = .ok (.iload 5, 2) := dk_21 5 (dk_at dksX0_makes_3 19 rfl rfl)
theorem dX0_makes_92 : decode cX0_makes 92 = .ok (.istore 4, 2) := dk_54 4 (dk_at dksX0_makes_3 21 rfl rfl)
theorem dX0_makes_94 : decode cX0_makes 94 = .ok (.iinc 5 1, 3) := dk_132 5 1 (dk_at dksX0_makes_4 0 rfl rfl)
theorem dX0_makes_97 : decode cX0_makes 97 = .ok (.goto (-63), 3) := dk_167 255 193 (dk_at dksX0_makes_4 3 rfl rfl)
theorem dX0_makes_100 : decode cX0_makes 100 = .ok (.iload 4, 2) := dk_21 4 (dk_at dksX0_makes_4 6 rfl rfl)
theorem dX0_makes_102 : decode cX0_makes 102 = .ok (.iconst (-1), 1) := dk_2 (dk_at dksX0_makes_4 8 rfl rfl)
theorem dX0_makes_103 : decode cX0_makes 103 = .ok (.if_icmp .eq 8, 3) := dk_159 0 8 (dk_at dksX0_makes_4 9 rfl rfl)
theorem dX0_makes_106 : decode cX0_makes 106 = .ok (.iload_n 3, 1) := dk_29 (dk_at dksX0_makes_4 12 rfl rfl)
theorem dX0_makes_107 : decode cX0_makes 107 = .ok (.iconst 1, 1) := dk_4 (dk_at dksX0_makes_4 13 rfl rfl)
theorem dX0_makes_108 : decode cX0_makes 108 = .ok (.if_icmp .ne 8, 3) := dk_160 0 8 (dk_at dksX0_makes_4 14 rfl rfl)
theorem dX0_makes_111 : decode cX0_makes 111 = .ok (.iload 4, 2) := dk_21 4 (dk_at dksX0_makes_4 17 rfl rfl)
theorem dX0_makes_113 : decode cX0_makes 113 = .ok (.goto 8, 3) := dk_167 0 8 (dk_at dksX0_makes_4 19 rfl rfl)
theorem dX0_makes_116 : decode cX0_makes 116 = .ok (.iload 4, 2) := dk_21 4 (dk_at dksX0_makes_4 22 rfl rfl)
theorem dX0_makes_118 : decode cX0_makes 118 = .ok (.invokestatic 523, 3) := dk_184 2 11 (dk_at dksX0_makes_5 0 rfl rfl)
theorem dX0_makes_121 : decode cX0_makes 121 = .ok (.ireturn, 1) := dk_172 (dk_at dksX0_makes_5 3 rfl rfl)
abbrev cX0_isDoneBy : ByteArray := prog_1_method_66_code
def yX0_isDoneBy : MethodName := ⟨RX0, "isDoneBy", "(III)Z"⟩
def dkwX0_isDoneBy_2 : List UInt8 := [132, 5, 1, 167, 255, 236, 25, 4, 27, 182, 1, 255, 154, 0, 7, 4, 167, 0, 4, 3, 172]
abbrev dktX0_isDoneBy_2 : List UInt8 := dkwX0_isDoneBy_2 ++ []
def dkwX0_isDoneBy_1 : List UInt8 := [181, 1, 187, 4, 54, 5, 21, 5, 28, 162, 0, 20, 25, 4, 27, 182, 1, 255, 154, 0, 5, 3, 172]
abbrev dktX0_isDoneBy_1 : List UInt8 := dkwX0_isDoneBy_1 ++ dktX0_isDoneBy_2
def dkwX0_isDoneBy_0 : List UInt8 := [42, 180, 0, 164, 42, 180, 0, 160, 182, 1, 251, 58, 4, 25, 4, 89, 180, 1, 187, 29, 2, 130, 126]
abbrev dktX0_isDoneBy_0 : List UInt8 := dkwX0_isDoneBy_0 ++ dktX0_isDoneBy_1
theorem dksX0_isDoneBy_0 : cX0_isDoneBy.data.toList.drop 0 = dktX0_isDoneBy_0 := by decide +kernel
theorem dksX0_isDoneBy_1 : cX0_isDoneBy.data.toList.drop 23 = dktX0_isDoneBy_1 := dk_seg dksX0_isDoneBy_0 23 rfl rfl
theorem dksX0_isDoneBy_2 : cX0_isDoneBy.data.toList.drop 46 = dktX0_isDoneBy_2 := dk_seg dksX0_isDoneBy_1 23 rfl rfl
theorem dX0_isDoneBy_0 : decode cX0_isDoneBy 0 = .ok (.aload_n 0, 1) := dk_42 (dk_at dksX0_isDoneBy_0 0 rfl rfl)
theorem dX0_isDoneBy_1 : decode cX0_isDoneBy 1 = .ok (.getfield 164, 3) := dk_180 0 164 (dk_at dksX0_isDoneBy_0 1 rfl rfl)
theorem dX0_isDoneBy_4 : decode cX0_isDoneBy 4 = .ok (.aload_n 0, 1) := dk_42 (dk_at dksX0_isDoneBy_0 4 rfl rfl)
theorem dX0_isDoneBy_5 : decode cX0_isDoneBy 5 = .ok (.getfield 160, 3) := dk_180 0 160 (dk_at dksX0_isDoneBy_0 5 rfl rfl)
theorem dX0_isDoneBy_8 : decode cX0_isDoneBy 8 = .ok (.invokevirtual 507, 3) := dk_182 1 251 (dk_at dksX0_isDoneBy_0 8 rfl rfl)
theorem dX0_isDoneBy_11 : decode cX0_isDoneBy 11 = .ok (.astore 4, 2) := dk_58 4 (dk_at dksX0_isDoneBy_0 11 rfl rfl)
theorem dX0_isDoneBy_13 : decode cX0_isDoneBy 13 = .ok (.aload 4, 2) := dk_25 4 (dk_at dksX0_isDoneBy_0 13 rfl rfl)
theorem dX0_isDoneBy_15 : decode cX0_isDoneBy 15 = .ok (.dup, 1) := dk_89 (dk_at dksX0_isDoneBy_0 15 rfl rfl)
theorem dX0_isDoneBy_16 : decode cX0_isDoneBy 16 = .ok (.getfield 443, 3) := dk_180 1 187 (dk_at dksX0_isDoneBy_0 16 rfl rfl)
theorem dX0_isDoneBy_19 : decode cX0_isDoneBy 19 = .ok (.iload_n 3, 1) := dk_29 (dk_at dksX0_isDoneBy_0 19 rfl rfl)
theorem dX0_isDoneBy_20 : decode cX0_isDoneBy 20 = .ok (.iconst (-1), 1) := dk_2 (dk_at dksX0_isDoneBy_0 20 rfl rfl)
theorem dX0_isDoneBy_21 : decode cX0_isDoneBy 21 = .ok (.ixor, 1) := dk_130 (dk_at dksX0_isDoneBy_0 21 rfl rfl)
theorem dX0_isDoneBy_22 : decode cX0_isDoneBy 22 = .ok (.iand, 1) := dk_126 (dk_at dksX0_isDoneBy_0 22 rfl rfl)
theorem dX0_isDoneBy_23 : decode cX0_isDoneBy 23 = .ok (.putfield 443, 3) := dk_181 1 187 (dk_at dksX0_isDoneBy_1 0 rfl rfl)
theorem dX0_isDoneBy_26 : decode cX0_isDoneBy 26 = .ok (.iconst 1, 1) := dk_4 (dk_at dksX0_isDoneBy_1 3 rfl rfl)
theorem dX0_isDoneBy_27 : decode cX0_isDoneBy 27 = .ok (.istore 5, 2) := dk_54 5 (dk_at dksX0_isDoneBy_1 4 rfl rfl)
theorem dX0_isDoneBy_29 : decode cX0_isDoneBy 29 = .ok (.iload 5, 2) := dk_21 5 (dk_at dksX0_isDoneBy_1 6 rfl rfl)
theorem dX0_isDoneBy_31 : decode cX0_isDoneBy 31 = .ok (.iload_n 2, 1) := dk_28 (dk_at dksX0_isDoneBy_1 8 rfl rfl)
theorem dX0_isDoneBy_32 : decode cX0_isDoneBy 32 = .ok (.if_icmp .ge 20, 3) := dk_162 0 20 (dk_at dksX0_isDoneBy_1 9 rfl rfl)
theorem dX0_isDoneBy_35 : decode cX0_isDoneBy 35 = .ok (.aload 4, 2) := dk_25 4 (dk_at dksX0_isDoneBy_1 12 rfl rfl)
theorem dX0_isDoneBy_37 : decode cX0_isDoneBy 37 = .ok (.iload_n 1, 1) := dk_27 (dk_at dksX0_isDoneBy_1 14 rfl rfl)
theorem dX0_isDoneBy_38 : decode cX0_isDoneBy 38 = .ok (.invokevirtual 511, 3) := dk_182 1 255 (dk_at dksX0_isDoneBy_1 15 rfl rfl)
theorem dX0_isDoneBy_41 : decode cX0_isDoneBy 41 = .ok (.ifCond .ne 5, 3) := dk_154 0 5 (dk_at dksX0_isDoneBy_1 18 rfl rfl)
theorem dX0_isDoneBy_44 : decode cX0_isDoneBy 44 = .ok (.iconst 0, 1) := dk_3 (dk_at dksX0_isDoneBy_1 21 rfl rfl)
theorem dX0_isDoneBy_45 : decode cX0_isDoneBy 45 = .ok (.ireturn, 1) := dk_172 (dk_at dksX0_isDoneBy_1 22 rfl rfl)
theorem dX0_isDoneBy_46 : decode cX0_isDoneBy 46 = .ok (.iinc 5 1, 3) := dk_132 5 1 (dk_at dksX0_isDoneBy_2 0 rfl rfl)
theorem dX0_isDoneBy_49 : decode cX0_isDoneBy 49 = .ok (.goto (-20), 3) := dk_167 255 236 (dk_at dksX0_isDoneBy_2 3 rfl rfl)
theorem dX0_isDoneBy_52 : decode cX0_isDoneBy 52 = .ok (.aload 4, 2) := dk_25 4 (dk_at dksX0_isDoneBy_2 6 rfl rfl)
theorem dX0_isDoneBy_54 : decode cX0_isDoneBy 54 = .ok (.iload_n 1, 1) := dk_27 (dk_at dksX0_isDoneBy_2 8 rfl rfl)
theorem dX0_isDoneBy_55 : decode cX0_isDoneBy 55 = .ok (.invokevirtual 511, 3) := dk_182 1 255 (dk_at dksX0_isDoneBy_2 9 rfl rfl)
theorem dX0_isDoneBy_58 : decode cX0_isDoneBy 58 = .ok (.ifCond .ne 7, 3) := dk_154 0 7 (dk_at dksX0_isDoneBy_2 12 rfl rfl)
theorem dX0_isDoneBy_61 : decode cX0_isDoneBy 61 = .ok (.iconst 1, 1) := dk_4 (dk_at dksX0_isDoneBy_2 15 rfl rfl)
theorem dX0_isDoneBy_62 : decode cX0_isDoneBy 62 = .ok (.goto 4, 3) := dk_167 0 4 (dk_at dksX0_isDoneBy_2 16 rfl rfl)
theorem dX0_isDoneBy_65 : decode cX0_isDoneBy 65 = .ok (.iconst 0, 1) := dk_3 (dk_at dksX0_isDoneBy_2 19 rfl rfl)
theorem dX0_isDoneBy_66 : decode cX0_isDoneBy 66 = .ok (.ireturn, 1) := dk_172 (dk_at dksX0_isDoneBy_2 20 rfl rfl)
abbrev cX0_brakes : ByteArray := prog_1_method_69_code
def yX0_brakes : MethodName := ⟨RX0, "brakes", "(II)I"⟩
def dkwX0_brakes_5 : List UInt8 := [184, 2, 11, 172]
abbrev dktX0_brakes_5 : List UInt8 := dkwX0_brakes_5 ++ []
def dkwX0_brakes_4 : List UInt8 := [132, 5, 1, 167, 255, 205, 21, 4, 2, 159, 0, 8, 28, 4, 160, 0, 8, 21, 4, 167, 0, 8, 21, 4]
abbrev dktX0_brakes_4 : List UInt8 := dkwX0_brakes_4 ++ dktX0_brakes_5
def dkwX0_brakes_3 : List UInt8 := [21, 4, 184, 2, 11, 162, 0, 17, 42, 27, 21, 5, 182, 2, 19, 153, 0, 7, 21, 5, 54, 4]
abbrev dktX0_brakes_3 : List UInt8 := dkwX0_brakes_3 ++ dktX0_brakes_4
def dkwX0_brakes_2 : List UInt8 := [163, 0, 51, 21, 5, 29, 2, 130, 126, 154, 0, 36, 21, 4, 2, 159, 0, 16, 21, 5, 184, 2, 11]
abbrev dktX0_brakes_2 : List UInt8 := dkwX0_brakes_2 ++ dktX0_brakes_3
def dkwX0_brakes_1 : List UInt8 := [180, 1, 187, 42, 180, 0, 160, 180, 1, 190, 2, 130, 126, 62, 2, 54, 4, 3, 54, 5, 21, 5, 29]
abbrev dktX0_brakes_1 : List UInt8 := dkwX0_brakes_1 ++ dktX0_brakes_2
def dkwX0_brakes_0 : List UInt8 := [42, 27, 182, 1, 201, 153, 0, 12, 28, 3, 4, 184, 0, 207, 154, 0, 5, 2, 172, 42, 180, 0, 160]
abbrev dktX0_brakes_0 : List UInt8 := dkwX0_brakes_0 ++ dktX0_brakes_1
theorem dksX0_brakes_0 : cX0_brakes.data.toList.drop 0 = dktX0_brakes_0 := by decide +kernel
theorem dksX0_brakes_1 : cX0_brakes.data.toList.drop 23 = dktX0_brakes_1 := dk_seg dksX0_brakes_0 23 rfl rfl
theorem dksX0_brakes_2 : cX0_brakes.data.toList.drop 46 = dktX0_brakes_2 := dk_seg dksX0_brakes_1 23 rfl rfl
theorem dksX0_brakes_3 : cX0_brakes.data.toList.drop 69 = dktX0_brakes_3 := dk_seg dksX0_brakes_2 23 rfl rfl
theorem dksX0_brakes_4 : cX0_brakes.data.toList.drop 91 = dktX0_brakes_4 := dk_seg dksX0_brakes_3 22 rfl rfl
theorem dksX0_brakes_5 : cX0_brakes.data.toList.drop 115 = dktX0_brakes_5 := dk_seg dksX0_brakes_4 24 rfl rfl
theorem dX0_brakes_0 : decode cX0_brakes 0 = .ok (.aload_n 0, 1) := dk_42 (dk_at dksX0_brakes_0 0 rfl rfl)
theorem dX0_brakes_1 : decode cX0_brakes 1 = .ok (.iload_n 1, 1) := dk_27 (dk_at dksX0_brakes_0 1 rfl rfl)
theorem dX0_brakes_2 : decode cX0_brakes 2 = .ok (.invokevirtual 457, 3) := dk_182 1 201 (dk_at dksX0_brakes_0 2 rfl rfl)
theorem dX0_brakes_5 : decode cX0_brakes 5 = .ok (.ifCond .eq 12, 3) := dk_153 0 12 (dk_at dksX0_brakes_0 5 rfl rfl)
theorem dX0_brakes_8 : decode cX0_brakes 8 = .ok (.iload_n 2, 1) := dk_28 (dk_at dksX0_brakes_0 8 rfl rfl)
theorem dX0_brakes_9 : decode cX0_brakes 9 = .ok (.iconst 0, 1) := dk_3 (dk_at dksX0_brakes_0 9 rfl rfl)
theorem dX0_brakes_10 : decode cX0_brakes 10 = .ok (.iconst 1, 1) := dk_4 (dk_at dksX0_brakes_0 10 rfl rfl)
theorem dX0_brakes_11 : decode cX0_brakes 11 = .ok (.invokestatic 207, 3) := dk_184 0 207 (dk_at dksX0_brakes_0 11 rfl rfl)
theorem dX0_brakes_14 : decode cX0_brakes 14 = .ok (.ifCond .ne 5, 3) := dk_154 0 5 (dk_at dksX0_brakes_0 14 rfl rfl)
theorem dX0_brakes_17 : decode cX0_brakes 17 = .ok (.iconst (-1), 1) := dk_2 (dk_at dksX0_brakes_0 17 rfl rfl)
theorem dX0_brakes_18 : decode cX0_brakes 18 = .ok (.ireturn, 1) := dk_172 (dk_at dksX0_brakes_0 18 rfl rfl)
theorem dX0_brakes_19 : decode cX0_brakes 19 = .ok (.aload_n 0, 1) := dk_42 (dk_at dksX0_brakes_0 19 rfl rfl)
theorem dX0_brakes_20 : decode cX0_brakes 20 = .ok (.getfield 160, 3) := dk_180 0 160 (dk_at dksX0_brakes_0 20 rfl rfl)
theorem dX0_brakes_23 : decode cX0_brakes 23 = .ok (.getfield 443, 3) := dk_180 1 187 (dk_at dksX0_brakes_1 0 rfl rfl)
theorem dX0_brakes_26 : decode cX0_brakes 26 = .ok (.aload_n 0, 1) := dk_42 (dk_at dksX0_brakes_1 3 rfl rfl)
theorem dX0_brakes_27 : decode cX0_brakes 27 = .ok (.getfield 160, 3) := dk_180 0 160 (dk_at dksX0_brakes_1 4 rfl rfl)
theorem dX0_brakes_30 : decode cX0_brakes 30 = .ok (.getfield 446, 3) := dk_180 1 190 (dk_at dksX0_brakes_1 7 rfl rfl)
theorem dX0_brakes_33 : decode cX0_brakes 33 = .ok (.iconst (-1), 1) := dk_2 (dk_at dksX0_brakes_1 10 rfl rfl)
theorem dX0_brakes_34 : decode cX0_brakes 34 = .ok (.ixor, 1) := dk_130 (dk_at dksX0_brakes_1 11 rfl rfl)
theorem dX0_brakes_35 : decode cX0_brakes 35 = .ok (.iand, 1) := dk_126 (dk_at dksX0_brakes_1 12 rfl rfl)
theorem dX0_brakes_36 : decode cX0_brakes 36 = .ok (.istore_n 3, 1) := dk_62 (dk_at dksX0_brakes_1 13 rfl rfl)
theorem dX0_brakes_37 : decode cX0_brakes 37 = .ok (.iconst (-1), 1) := dk_2 (dk_at dksX0_brakes_1 14 rfl rfl)
theorem dX0_brakes_38 : decode cX0_brakes 38 = .ok (.istore 4, 2) := dk_54 4 (dk_at dksX0_brakes_1 15 rfl rfl)
theorem dX0_brakes_40 : decode cX0_brakes 40 = .ok (.iconst 0, 1) := dk_3 (dk_at dksX0_brakes_1 17 rfl rfl)
theorem dX0_brakes_41 : decode cX0_brakes 41 = .ok (.istore 5, 2) := dk_54 5 (dk_at dksX0_brakes_1 18 rfl rfl)
theorem dX0_brakes_43 : decode cX0_brakes 43 = .ok (.iload 5, 2) := dk_21 5 (dk_at dksX0_brakes_1 20 rfl rfl)
theorem dX0_brakes_45 : decode cX0_brakes 45 = .ok (.iload_n 3, 1) := dk_29 (dk_at dksX0_brakes_1 22 rfl rfl)
theorem dX0_brakes_46 : decode cX0_brakes 46 = .ok (.if_icmp .gt 51, 3) := dk_163 0 51 (dk_at dksX0_brakes_2 0 rfl rfl)
theorem dX0_brakes_49 : decode cX0_brakes 49 = .ok (.iload 5, 2) := dk_21 5 (dk_at dksX0_brakes_2 3 rfl rfl)
theorem dX0_brakes_51 : decode cX0_brakes 51 = .ok (.iload_n 3, 1) := dk_29 (dk_at dksX0_brakes_2 5 rfl rfl)
theorem dX0_brakes_52 : decode cX0_brakes 52 = .ok (.iconst (-1), 1) := dk_2 (dk_at dksX0_brakes_2 6 rfl rfl)
theorem dX0_brakes_53 : decode cX0_brakes 53 = .ok (.ixor, 1) := dk_130 (dk_at dksX0_brakes_2 7 rfl rfl)
theorem dX0_brakes_54 : decode cX0_brakes 54 = .ok (.iand, 1) := dk_126 (dk_at dksX0_brakes_2 8 rfl rfl)
theorem dX0_brakes_55 : decode cX0_brakes 55 = .ok (.ifCond .ne 36, 3) := dk_154 0 36 (dk_at dksX0_brakes_2 9 rfl rfl)
theorem dX0_brakes_58 : decode cX0_brakes 58 = .ok (.iload 4, 2) := dk_21 4 (dk_at dksX0_brakes_2 12 rfl rfl)
theorem dX0_brakes_60 : decode cX0_brakes 60 = .ok (.iconst (-1), 1) := dk_2 (dk_at dksX0_brakes_2 14 rfl rfl)
theorem dX0_brakes_61 : decode cX0_brakes 61 = .ok (.if_icmp .eq 16, 3) := dk_159 0 16 (dk_at dksX0_brakes_2 15 rfl rfl)
theorem dX0_brakes_64 : decode cX0_brakes 64 = .ok (.iload 5, 2) := dk_21 5 (dk_at dksX0_brakes_2 18 rfl rfl)
theorem dX0_brakes_66 : decode cX0_brakes 66 = .ok (.invokestatic 523, 3) := dk_184 2 11 (dk_at dksX0_brakes_2 20 rfl rfl)
theorem dX0_brakes_69 : decode cX0_brakes 69 = .ok (.iload 4, 2) := dk_21 4 (dk_at dksX0_brakes_3 0 rfl rfl)
theorem dX0_brakes_71 : decode cX0_brakes 71 = .ok (.invokestatic 523, 3) := dk_184 2 11 (dk_at dksX0_brakes_3 2 rfl rfl)
theorem dX0_brakes_74 : decode cX0_brakes 74 = .ok (.if_icmp .ge 17, 3) := dk_162 0 17 (dk_at dksX0_brakes_3 5 rfl rfl)
theorem dX0_brakes_77 : decode cX0_brakes 77 = .ok (.aload_n 0, 1) := dk_42 (dk_at dksX0_brakes_3 8 rfl rfl)
theorem dX0_brakes_78 : decode cX0_brakes 78 = .ok (.iload_n 1, 1) := dk_27 (dk_at dksX0_brakes_3 9 rfl rfl)
theorem dX0_brakes_79 : decode cX0_brakes 79 = .ok (.iload 5, 2) := dk_21 5 (dk_at dksX0_brakes_3 10 rfl rfl)
theorem dX0_brakes_81 : decode cX0_brakes 81 = .ok (.invokevirtual 531, 3) := dk_182 2 19 (dk_at dksX0_brakes_3 12 rfl rfl)
theorem dX0_brakes_84 : decode cX0_brakes 84 = .ok (.ifCond .eq 7, 3) := dk_153 0 7 (dk_at dksX0_brakes_3 15 rfl rfl)
theorem dX0_brakes_87 : decode cX0_brakes 87 = .ok (.iload 5, 2) := dk_21 5 (dk_at dksX0_brakes_3 18 rfl rfl)
theorem dX0_brakes_89 : decode cX0_brakes 89 = .ok (.istore 4, 2) := dk_54 4 (dk_at dksX0_brakes_3 20 rfl rfl)
theorem dX0_brakes_91 : decode cX0_brakes 91 = .ok (.iinc 5 1, 3) := dk_132 5 1 (dk_at dksX0_brakes_4 0 rfl rfl)
theorem dX0_brakes_94 : decode cX0_brakes 94 = .ok (.goto (-51), 3) := dk_167 255 205 (dk_at dksX0_brakes_4 3 rfl rfl)
theorem dX0_brakes_97 : decode cX0_brakes 97 = .ok (.iload 4, 2) := dk_21 4 (dk_at dksX0_brakes_4 6 rfl rfl)
theorem dX0_brakes_99 : decode cX0_brakes 99 = .ok (.iconst (-1), 1) := dk_2 (dk_at dksX0_brakes_4 8 rfl rfl)
theorem dX0_brakes_100 : decode cX0_brakes 100 = .ok (.if_icmp .eq 8, 3) := dk_159 0 8 (dk_at dksX0_brakes_4 9 rfl rfl)
theorem dX0_brakes_103 : decode cX0_brakes 103 = .ok (.iload_n 2, 1) := dk_28 (dk_at dksX0_brakes_4 12 rfl rfl)
theorem dX0_brakes_104 : decode cX0_brakes 104 = .ok (.iconst 1, 1) := dk_4 (dk_at dksX0_brakes_4 13 rfl rfl)
theorem dX0_brakes_105 : decode cX0_brakes 105 = .ok (.if_icmp .ne 8, 3) := dk_160 0 8 (dk_at dksX0_brakes_4 14 rfl rfl)
theorem dX0_brakes_108 : decode cX0_brakes 108 = .ok (.iload 4, 2) := dk_21 4 (dk_at dksX0_brakes_4 17 rfl rfl)
theorem dX0_brakes_110 : decode cX0_brakes 110 = .ok (.goto 8, 3) := dk_167 0 8 (dk_at dksX0_brakes_4 19 rfl rfl)
theorem dX0_brakes_113 : decode cX0_brakes 113 = .ok (.iload 4, 2) := dk_21 4 (dk_at dksX0_brakes_4 22 rfl rfl)
theorem dX0_brakes_115 : decode cX0_brakes 115 = .ok (.invokestatic 523, 3) := dk_184 2 11 (dk_at dksX0_brakes_5 0 rfl rfl)
theorem dX0_brakes_118 : decode cX0_brakes 118 = .ok (.ireturn, 1) := dk_172 (dk_at dksX0_brakes_5 3 rfl rfl)
abbrev cX0_isOnceWith : ByteArray := prog_1_method_68_code
def yX0_isOnceWith : MethodName := ⟨RX0, "isOnceWith", "(II)Z"⟩
def dkwX0_isOnceWith_1 : List UInt8 := [182, 1, 255, 154, 0, 7, 4, 167, 0, 4, 3, 172]
abbrev dktX0_isOnceWith_1 : List UInt8 := dkwX0_isOnceWith_1 ++ []
def dkwX0_isOnceWith_0 : List UInt8 := [42, 180, 0, 164, 42, 180, 0, 160, 182, 1, 251, 78, 45, 89, 180, 1, 190, 28, 128, 181, 1, 190, 45, 27]
abbrev dktX0_isOnceWith_0 : List UInt8 := dkwX0_isOnceWith_0 ++ dktX0_isOnceWith_1
theorem dksX0_isOnceWith_0 : cX0_isOnceWith.data.toList.drop 0 = dktX0_isOnceWith_0 := by decide +kernel
theorem dksX0_isOnceWith_1 : cX0_isOnceWith.data.toList.drop 24 = dktX0_isOnceWith_1 := dk_seg dksX0_isOnceWith_0 24 rfl rfl
theorem dX0_isOnceWith_0 : decode cX0_isOnceWith 0 = .ok (.aload_n 0, 1) := dk_42 (dk_at dksX0_isOnceWith_0 0 rfl rfl)
theorem dX0_isOnceWith_1 : decode cX0_isOnceWith 1 = .ok (.getfield 164, 3) := dk_180 0 164 (dk_at dksX0_isOnceWith_0 1 rfl rfl)
theorem dX0_isOnceWith_4 : decode cX0_isOnceWith 4 = .ok (.aload_n 0, 1) := dk_42 (dk_at dksX0_isOnceWith_0 4 rfl rfl)
theorem dX0_isOnceWith_5 : decode cX0_isOnceWith 5 = .ok (.getfield 160, 3) := dk_180 0 160 (dk_at dksX0_isOnceWith_0 5 rfl rfl)
theorem dX0_isOnceWith_8 : decode cX0_isOnceWith 8 = .ok (.invokevirtual 507, 3) := dk_182 1 251 (dk_at dksX0_isOnceWith_0 8 rfl rfl)
theorem dX0_isOnceWith_11 : decode cX0_isOnceWith 11 = .ok (.astore_n 3, 1) := dk_78 (dk_at dksX0_isOnceWith_0 11 rfl rfl)
theorem dX0_isOnceWith_12 : decode cX0_isOnceWith 12 = .ok (.aload_n 3, 1) := dk_45 (dk_at dksX0_isOnceWith_0 12 rfl rfl)
theorem dX0_isOnceWith_13 : decode cX0_isOnceWith 13 = .ok (.dup, 1) := dk_89 (dk_at dksX0_isOnceWith_0 13 rfl rfl)
theorem dX0_isOnceWith_14 : decode cX0_isOnceWith 14 = .ok (.getfield 446, 3) := dk_180 1 190 (dk_at dksX0_isOnceWith_0 14 rfl rfl)
theorem dX0_isOnceWith_17 : decode cX0_isOnceWith 17 = .ok (.iload_n 2, 1) := dk_28 (dk_at dksX0_isOnceWith_0 17 rfl rfl)
theorem dX0_isOnceWith_18 : decode cX0_isOnceWith 18 = .ok (.ior, 1) := dk_128 (dk_at dksX0_isOnceWith_0 18 rfl rfl)
theorem dX0_isOnceWith_19 : decode cX0_isOnceWith 19 = .ok (.putfield 446, 3) := dk_181 1 190 (dk_at dksX0_isOnceWith_0 19 rfl rfl)
theorem dX0_isOnceWith_22 : decode cX0_isOnceWith 22 = .ok (.aload_n 3, 1) := dk_45 (dk_at dksX0_isOnceWith_0 22 rfl rfl)
theorem dX0_isOnceWith_23 : decode cX0_isOnceWith 23 = .ok (.iload_n 1, 1) := dk_27 (dk_at dksX0_isOnceWith_0 23 rfl rfl)
theorem dX0_isOnceWith_24 : decode cX0_isOnceWith 24 = .ok (.invokevirtual 511, 3) := dk_182 1 255 (dk_at dksX0_isOnceWith_1 0 rfl rfl)
theorem dX0_isOnceWith_27 : decode cX0_isOnceWith 27 = .ok (.ifCond .ne 7, 3) := dk_154 0 7 (dk_at dksX0_isOnceWith_1 3 rfl rfl)
theorem dX0_isOnceWith_30 : decode cX0_isOnceWith 30 = .ok (.iconst 1, 1) := dk_4 (dk_at dksX0_isOnceWith_1 6 rfl rfl)
theorem dX0_isOnceWith_31 : decode cX0_isOnceWith 31 = .ok (.goto 4, 3) := dk_167 0 4 (dk_at dksX0_isOnceWith_1 7 rfl rfl)
theorem dX0_isOnceWith_34 : decode cX0_isOnceWith 34 = .ok (.iconst 0, 1) := dk_3 (dk_at dksX0_isOnceWith_1 10 rfl rfl)
theorem dX0_isOnceWith_35 : decode cX0_isOnceWith 35 = .ok (.ireturn, 1) := dk_172 (dk_at dksX0_isOnceWith_1 11 rfl rfl)
abbrev cX0_eager : ByteArray := prog_1_method_70_code
def yX0_eager : MethodName := ⟨RX0, "eager", "(II)I"⟩
def dkwX0_eager_5 : List UInt8 := [182, 1, 232, 172]
abbrev dktX0_eager_5 : List UInt8 := dkwX0_eager_5 ++ []
def dkwX0_eager_4 : List UInt8 := [167, 255, 187, 29, 2, 159, 0, 7, 28, 154, 0, 7, 29, 167, 0, 13, 42, 180, 0, 160, 29, 27, 3]
abbrev dktX0_eager_4 : List UInt8 := dkwX0_eager_4 ++ dktX0_eager_5
def dkwX0_eager_3 : List UInt8 := [182, 1, 232, 42, 180, 0, 160, 29, 27, 3, 182, 1, 232, 164, 0, 6, 21, 4, 62, 132, 4, 1]
abbrev dktX0_eager_3 : List UInt8 := dkwX0_eager_3 ++ dktX0_eager_4
def dkwX0_eager_2 : List UInt8 := [130, 126, 21, 4, 184, 1, 225, 153, 0, 35, 29, 2, 159, 0, 27, 42, 180, 0, 160, 21, 4, 27, 3]
abbrev dktX0_eager_2 : List UInt8 := dkwX0_eager_2 ++ dktX0_eager_3
def dkwX0_eager_1 : List UInt8 := [21, 4, 42, 180, 1, 113, 162, 0, 66, 42, 180, 0, 160, 180, 1, 187, 42, 180, 0, 160, 180, 1, 190, 2]
abbrev dktX0_eager_1 : List UInt8 := dkwX0_eager_1 ++ dktX0_eager_2
def dkwX0_eager_0 : List UInt8 := [42, 27, 182, 1, 201, 153, 0, 12, 28, 3, 4, 184, 0, 207, 154, 0, 5, 2, 172, 2, 62, 3, 54, 4]
abbrev dktX0_eager_0 : List UInt8 := dkwX0_eager_0 ++ dktX0_eager_1
theorem dksX0_eager_0 : cX0_eager.data.toList.drop 0 = dktX0_eager_0 := by decide +kernel
theorem dksX0_eager_1 : cX0_eager.data.toList.drop 24 = dktX0_eager_1 := dk_seg dksX0_eager_0 24 rfl rfl
theorem dksX0_eager_2 : cX0_eager.data.toList.drop 48 = dktX0_eager_2 := dk_seg dksX0_eager_1 24 rfl rfl
theorem dksX0_eager_3 : cX0_eager.data.toList.drop 71 = dktX0_eager_3 := dk_seg dksX0_eager_2 23 rfl rfl
theorem dksX0_eager_4 : cX0_eager.data.toList.drop 93 = dktX0_eager_4 := dk_seg dksX0_eager_3 22 rfl rfl
theorem dksX0_eager_5 : cX0_eager.data.toList.drop 116 = dktX0_eager_5 := dk_seg dksX0_eager_4 23 rfl rfl
theorem dX0_eager_0 : decode cX0_eager 0 = .ok (.aload_n 0, 1) := dk_42 (dk_at dksX0_eager_0 0 rfl rfl)
theorem dX0_eager_1 : decode cX0_eager 1 = .ok (.iload_n 1, 1) := dk_27 (dk_at dksX0_eager_0 1 rfl rfl)
theorem dX0_eager_2 : decode cX0_eager 2 = .ok (.invokevirtual 457, 3) := dk_182 1 201 (dk_at dksX0_eager_0 2 rfl rfl)
theorem dX0_eager_5 : decode cX0_eager 5 = .ok (.ifCond .eq 12, 3) := dk_153 0 12 (dk_at dksX0_eager_0 5 rfl rfl)
theorem dX0_eager_8 : decode cX0_eager 8 = .ok (.iload_n 2, 1) := dk_28 (dk_at dksX0_eager_0 8 rfl rfl)
theorem dX0_eager_9 : decode cX0_eager 9 = .ok (.iconst 0, 1) := dk_3 (dk_at dksX0_eager_0 9 rfl rfl)
theorem dX0_eager_10 : decode cX0_eager 10 = .ok (.iconst 1, 1) := dk_4 (dk_at dksX0_eager_0 10 rfl rfl)
theorem dX0_eager_11 : decode cX0_eager 11 = .ok (.invokestatic 207, 3) := dk_184 0 207 (dk_at dksX0_eager_0 11 rfl rfl)
theorem dX0_eager_14 : decode cX0_eager 14 = .ok (.ifCond .ne 5, 3) := dk_154 0 5 (dk_at dksX0_eager_0 14 rfl rfl)
theorem dX0_eager_17 : decode cX0_eager 17 = .ok (.iconst (-1), 1) := dk_2 (dk_at dksX0_eager_0 17 rfl rfl)
theorem dX0_eager_18 : decode cX0_eager 18 = .ok (.ireturn, 1) := dk_172 (dk_at dksX0_eager_0 18 rfl rfl)
theorem dX0_eager_19 : decode cX0_eager 19 = .ok (.iconst (-1), 1) := dk_2 (dk_at dksX0_eager_0 19 rfl rfl)
theorem dX0_eager_20 : decode cX0_eager 20 = .ok (.istore_n 3, 1) := dk_62 (dk_at dksX0_eager_0 20 rfl rfl)
theorem dX0_eager_21 : decode cX0_eager 21 = .ok (.iconst 0, 1) := dk_3 (dk_at dksX0_eager_0 21 rfl rfl)
theorem dX0_eager_22 : decode cX0_eager 22 = .ok (.istore 4, 2) := dk_54 4 (dk_at dksX0_eager_0 22 rfl rfl)
theorem dX0_eager_24 : decode cX0_eager 24 = .ok (.iload 4, 2) := dk_21 4 (dk_at dksX0_eager_1 0 rfl rfl)
theorem dX0_eager_26 : decode cX0_eager 26 = .ok (.aload_n 0, 1) := dk_42 (dk_at dksX0_eager_1 2 rfl rfl)
theorem dX0_eager_27 : decode cX0_eager 27 = .ok (.getfield 369, 3) := dk_180 1 113 (dk_at dksX0_eager_1 3 rfl rfl)
theorem dX0_eager_30 : decode cX0_eager 30 = .ok (.if_icmp .ge 66, 3) := dk_162 0 66 (dk_at dksX0_eager_1 6 rfl rfl)
theorem dX0_eager_33 : decode cX0_eager 33 = .ok (.aload_n 0, 1) := dk_42 (dk_at dksX0_eager_1 9 rfl rfl)
theorem dX0_eager_34 : decode cX0_eager 34 = .ok (.getfield 160, 3) := dk_180 0 160 (dk_at dksX0_eager_1 10 rfl rfl)
theorem dX0_eager_37 : decode cX0_eager 37 = .ok (.getfield 443, 3) := dk_180 1 187 (dk_at dksX0_eager_1 13 rfl rfl)
theorem dX0_eager_40 : decode cX0_eager 40 = .ok (.aload_n 0, 1) := dk_42 (dk_at dksX0_eager_1 16 rfl rfl)
theorem dX0_eager_41 : decode cX0_eager 41 = .ok (.getfield 160, 3) := dk_180 0 160 (dk_at dksX0_eager_1 17 rfl rfl)
theorem dX0_eager_44 : decode cX0_eager 44 = .ok (.getfield 446, 3) := dk_180 1 190 (dk_at dksX0_eager_1 20 rfl rfl)
theorem dX0_eager_47 : decode cX0_eager 47 = .ok (.iconst (-1), 1) := dk_2 (dk_at dksX0_eager_1 23 rfl rfl)
theorem dX0_eager_48 : decode cX0_eager 48 = .ok (.ixor, 1) := dk_130 (dk_at dksX0_eager_2 0 rfl rfl)
theorem dX0_eager_49 : decode cX0_eager 49 = .ok (.iand, 1) := dk_126 (dk_at dksX0_eager_2 1 rfl rfl)
theorem dX0_eager_50 : decode cX0_eager 50 = .ok (.iload 4, 2) := dk_21 4 (dk_at dksX0_eager_2 2 rfl rfl)
theorem dX0_eager_52 : decode cX0_eager 52 = .ok (.invokestatic 481, 3) := dk_184 1 225 (dk_at dksX0_eager_2 4 rfl rfl)
theorem dX0_eager_55 : decode cX0_eager 55 = .ok (.ifCond .eq 35, 3) := dk_153 0 35 (dk_at dksX0_eager_2 7 rfl rfl)
theorem dX0_eager_58 : decode cX0_eager 58 = .ok (.iload_n 3, 1) := dk_29 (dk_at dksX0_eager_2 10 rfl rfl)
theorem dX0_eager_59 : decode cX0_eager 59 = .ok (.iconst (-1), 1) := dk_2 (dk_at dksX0_eager_2 11 rfl rfl)
theorem dX0_eager_60 : decode cX0_eager 60 = .ok (.if_icmp .eq 27, 3) := dk_159 0 27 (dk_at dksX0_eager_2 12 rfl rfl)
theorem dX0_eager_63 : decode cX0_eager 63 = .ok (.aload_n 0, 1) := dk_42 (dk_at dksX0_eager_2 15 rfl rfl)
theorem dX0_eager_64 : decode cX0_eager 64 = .ok (.getfield 160, 3) := dk_180 0 160 (dk_at dksX0_eager_2 16 rfl rfl)
theorem dX0_eager_67 : decode cX0_eager 67 = .ok (.iload 4, 2) := dk_21 4 (dk_at dksX0_eager_2 19 rfl rfl)
theorem dX0_eager_69 : decode cX0_eager 69 = .ok (.iload_n 1, 1) := dk_27 (dk_at dksX0_eager_2 21 rfl rfl)
theorem dX0_eager_70 : decode cX0_eager 70 = .ok (.iconst 0, 1) := dk_3 (dk_at dksX0_eager_2 22 rfl rfl)
theorem dX0_eager_71 : decode cX0_eager 71 = .ok (.invokevirtual 488, 3) := dk_182 1 232 (dk_at dksX0_eager_3 0 rfl rfl)
theorem dX0_eager_74 : decode cX0_eager 74 = .ok (.aload_n 0, 1) := dk_42 (dk_at dksX0_eager_3 3 rfl rfl)
theorem dX0_eager_75 : decode cX0_eager 75 = .ok (.getfield 160, 3) := dk_180 0 160 (dk_at dksX0_eager_3 4 rfl rfl)
theorem dX0_eager_78 : decode cX0_eager 78 = .ok (.iload_n 3, 1) := dk_29 (dk_at dksX0_eager_3 7 rfl rfl)
theorem dX0_eager_79 : decode cX0_eager 79 = .ok (.iload_n 1, 1) := dk_27 (dk_at dksX0_eager_3 8 rfl rfl)
theorem dX0_eager_80 : decode cX0_eager 80 = .ok (.iconst 0, 1) := dk_3 (dk_at dksX0_eager_3 9 rfl rfl)
theorem dX0_eager_81 : decode cX0_eager 81 = .ok (.invokevirtual 488, 3) := dk_182 1 232 (dk_at dksX0_eager_3 10 rfl rfl)
theorem dX0_eager_84 : decode cX0_eager 84 = .ok (.if_icmp .le 6, 3) := dk_164 0 6 (dk_at dksX0_eager_3 13 rfl rfl)
theorem dX0_eager_87 : decode cX0_eager 87 = .ok (.iload 4, 2) := dk_21 4 (dk_at dksX0_eager_3 16 rfl rfl)
theorem dX0_eager_89 : decode cX0_eager 89 = .ok (.istore_n 3, 1) := dk_62 (dk_at dksX0_eager_3 18 rfl rfl)
theorem dX0_eager_90 : decode cX0_eager 90 = .ok (.iinc 4 1, 3) := dk_132 4 1 (dk_at dksX0_eager_3 19 rfl rfl)
theorem dX0_eager_93 : decode cX0_eager 93 = .ok (.goto (-69), 3) := dk_167 255 187 (dk_at dksX0_eager_4 0 rfl rfl)
theorem dX0_eager_96 : decode cX0_eager 96 = .ok (.iload_n 3, 1) := dk_29 (dk_at dksX0_eager_4 3 rfl rfl)
theorem dX0_eager_97 : decode cX0_eager 97 = .ok (.iconst (-1), 1) := dk_2 (dk_at dksX0_eager_4 4 rfl rfl)
theorem dX0_eager_98 : decode cX0_eager 98 = .ok (.if_icmp .eq 7, 3) := dk_159 0 7 (dk_at dksX0_eager_4 5 rfl rfl)
theorem dX0_eager_101 : decode cX0_eager 101 = .ok (.iload_n 2, 1) := dk_28 (dk_at dksX0_eager_4 8 rfl rfl)
theorem dX0_eager_102 : decode cX0_eager 102 = .ok (.ifCond .ne 7, 3) := dk_154 0 7 (dk_at dksX0_eager_4 9 rfl rfl)
theorem dX0_eager_105 : decode cX0_eager 105 = .ok (.iload_n 3, 1) := dk_29 (dk_at dksX0_eager_4 12 rfl rfl)
theorem dX0_eager_106 : decode cX0_eager 106 = .ok (.goto 13, 3) := dk_167 0 13 (dk_at dksX0_eager_4 13 rfl rfl)
theorem dX0_eager_109 : decode cX0_eager 109 = .ok (.aload_n 0, 1) := dk_42 (dk_at dksX0_eager_4 16 rfl rfl)
theorem dX0_eager_110 : decode cX0_eager 110 = .ok (.getfield 160, 3) := dk_180 0 160 (dk_at dksX0_eager_4 17 rfl rfl)
theorem dX0_eager_113 : decode cX0_eager 113 = .ok (.iload_n 3, 1) := dk_29 (dk_at dksX0_eager_4 20 rfl rfl)
theorem dX0_eager_114 : decode cX0_eager 114 = .ok (.iload_n 1, 1) := dk_27 (dk_at dksX0_eager_4 21 rfl rfl)
theorem dX0_eager_115 : decode cX0_eager 115 = .ok (.iconst 0, 1) := dk_3 (dk_at dksX0_eager_4 22 rfl rfl)
theorem dX0_eager_116 : decode cX0_eager 116 = .ok (.invokevirtual 488, 3) := dk_182 1 232 (dk_at dksX0_eager_5 0 rfl rfl)
theorem dX0_eager_119 : decode cX0_eager 119 = .ok (.ireturn, 1) := dk_172 (dk_at dksX0_eager_5 3 rfl rfl)
abbrev cX0_tires : ByteArray := prog_1_method_71_code
def yX0_tires : MethodName := ⟨RX0, "tires", "(I)I"⟩
def dkwX0_tires_2 : List UInt8 := [87, 132, 3, 1, 167, 255, 228, 2, 172]
abbrev dktX0_tires_2 : List UInt8 := dkwX0_tires_2 ++ []
def dkwX0_tires_1 : List UInt8 := [29, 16, 99, 163, 0, 28, 44, 180, 1, 193, 27, 46, 16, 99, 160, 0, 5, 29, 172, 44, 27, 182, 1, 255]
abbrev dktX0_tires_1 : List UInt8 := dkwX0_tires_1 ++ dktX0_tires_2
def dkwX0_tires_0 : List UInt8 := [42, 27, 182, 1, 201, 154, 0, 5, 2, 172, 42, 180, 0, 164, 42, 180, 0, 160, 182, 1, 251, 77, 3, 62]
abbrev dktX0_tires_0 : List UInt8 := dkwX0_tires_0 ++ dktX0_tires_1
theorem dksX0_tires_0 : cX0_tires.data.toList.drop 0 = dktX0_tires_0 := by decide +kernel
theorem dksX0_tires_1 : cX0_tires.data.toList.drop 24 = dktX0_tires_1 := dk_seg dksX0_tires_0 24 rfl rfl
theorem dksX0_tires_2 : cX0_tires.data.toList.drop 48 = dktX0_tires_2 := dk_seg dksX0_tires_1 24 rfl rfl
theorem dX0_tires_0 : decode cX0_tires 0 = .ok (.aload_n 0, 1) := dk_42 (dk_at dksX0_tires_0 0 rfl rfl)
theorem dX0_tires_1 : decode cX0_tires 1 = .ok (.iload_n 1, 1) := dk_27 (dk_at dksX0_tires_0 1 rfl rfl)
theorem dX0_tires_2 : decode cX0_tires 2 = .ok (.invokevirtual 457, 3) := dk_182 1 201 (dk_at dksX0_tires_0 2 rfl rfl)
theorem dX0_tires_5 : decode cX0_tires 5 = .ok (.ifCond .ne 5, 3) := dk_154 0 5 (dk_at dksX0_tires_0 5 rfl rfl)
theorem dX0_tires_8 : decode cX0_tires 8 = .ok (.iconst (-1), 1) := dk_2 (dk_at dksX0_tires_0 8 rfl rfl)
theorem dX0_tires_9 : decode cX0_tires 9 = .ok (.ireturn, 1) := dk_172 (dk_at dksX0_tires_0 9 rfl rfl)
theorem dX0_tires_10 : decode cX0_tires 10 = .ok (.aload_n 0, 1) := dk_42 (dk_at dksX0_tires_0 10 rfl rfl)
theorem dX0_tires_11 : decode cX0_tires 11 = .ok (.getfield 164, 3) := dk_180 0 164 (dk_at dksX0_tires_0 11 rfl rfl)
theorem dX0_tires_14 : decode cX0_tires 14 = .ok (.aload_n 0, 1) := dk_42 (dk_at dksX0_tires_0 14 rfl rfl)
theorem dX0_tires_15 : decode cX0_tires 15 = .ok (.getfield 160, 3) := dk_180 0 160 (dk_at dksX0_tires_0 15 rfl rfl)
theorem dX0_tires_18 : decode cX0_tires 18 = .ok (.invokevirtual 507, 3) := dk_182 1 251 (dk_at dksX0_tires_0 18 rfl rfl)
theorem dX0_tires_21 : decode cX0_tires 21 = .ok (.astore_n 2, 1) := dk_77 (dk_at dksX0_tires_0 21 rfl rfl)
theorem dX0_tires_22 : decode cX0_tires 22 = .ok (.iconst 0, 1) := dk_3 (dk_at dksX0_tires_0 22 rfl rfl)
theorem dX0_tires_23 : decode cX0_tires 23 = .ok (.istore_n 3, 1) := dk_62 (dk_at dksX0_tires_0 23 rfl rfl)
theorem dX0_tires_24 : decode cX0_tires 24 = .ok (.iload_n 3, 1) := dk_29 (dk_at dksX0_tires_1 0 rfl rfl)
theorem dX0_tires_25 : decode cX0_tires 25 = .ok (.bipush 99, 2) := dk_16 99 (dk_at dksX0_tires_1 1 rfl rfl)
theorem dX0_tires_27 : decode cX0_tires 27 = .ok (.if_icmp .gt 28, 3) := dk_163 0 28 (dk_at dksX0_tires_1 3 rfl rfl)
theorem dX0_tires_30 : decode cX0_tires 30 = .ok (.aload_n 2, 1) := dk_44 (dk_at dksX0_tires_1 6 rfl rfl)
theorem dX0_tires_31 : decode cX0_tires 31 = .ok (.getfield 449, 3) := dk_180 1 193 (dk_at dksX0_tires_1 7 rfl rfl)
theorem dX0_tires_34 : decode cX0_tires 34 = .ok (.iload_n 1, 1) := dk_27 (dk_at dksX0_tires_1 10 rfl rfl)
theorem dX0_tires_35 : decode cX0_tires 35 = .ok (.iaload, 1) := dk_46 (dk_at dksX0_tires_1 11 rfl rfl)
theorem dX0_tires_36 : decode cX0_tires 36 = .ok (.bipush 99, 2) := dk_16 99 (dk_at dksX0_tires_1 12 rfl rfl)
theorem dX0_tires_38 : decode cX0_tires 38 = .ok (.if_icmp .ne 5, 3) := dk_160 0 5 (dk_at dksX0_tires_1 14 rfl rfl)
theorem dX0_tires_41 : decode cX0_tires 41 = .ok (.iload_n 3, 1) := dk_29 (dk_at dksX0_tires_1 17 rfl rfl)
theorem dX0_tires_42 : decode cX0_tires 42 = .ok (.ireturn, 1) := dk_172 (dk_at dksX0_tires_1 18 rfl rfl)
theorem dX0_tires_43 : decode cX0_tires 43 = .ok (.aload_n 2, 1) := dk_44 (dk_at dksX0_tires_1 19 rfl rfl)
theorem dX0_tires_44 : decode cX0_tires 44 = .ok (.iload_n 1, 1) := dk_27 (dk_at dksX0_tires_1 20 rfl rfl)
theorem dX0_tires_45 : decode cX0_tires 45 = .ok (.invokevirtual 511, 3) := dk_182 1 255 (dk_at dksX0_tires_1 21 rfl rfl)
theorem dX0_tires_48 : decode cX0_tires 48 = .ok (.pop, 1) := dk_87 (dk_at dksX0_tires_2 0 rfl rfl)
theorem dX0_tires_49 : decode cX0_tires 49 = .ok (.iinc 3 1, 3) := dk_132 3 1 (dk_at dksX0_tires_2 1 rfl rfl)
theorem dX0_tires_52 : decode cX0_tires 52 = .ok (.goto (-28), 3) := dk_167 255 228 (dk_at dksX0_tires_2 4 rfl rfl)
theorem dX0_tires_55 : decode cX0_tires 55 = .ok (.iconst (-1), 1) := dk_2 (dk_at dksX0_tires_2 7 rfl rfl)
theorem dX0_tires_56 : decode cX0_tires 56 = .ok (.ireturn, 1) := dk_172 (dk_at dksX0_tires_2 8 rfl rfl)
abbrev cX0_fills : ByteArray := prog_1_method_73_code
def yX0_fills : MethodName := ⟨RX0, "fills", "(II)I"⟩
def dkwX0_fills_4 : List UInt8 := [29, 172]
abbrev dktX0_fills_4 : List UInt8 := dkwX0_fills_4 ++ []
def dkwX0_fills_3 : List UInt8 := [21, 4, 62, 132, 4, 1, 167, 255, 206, 28, 154, 0, 14, 42, 180, 0, 147, 29, 184, 2, 22, 167, 0, 4]
abbrev dktX0_fills_3 : List UInt8 := dkwX0_fills_3 ++ dktX0_fills_4
def dkwX0_fills_2 : List UInt8 := [163, 0, 26, 42, 180, 0, 147, 21, 4, 184, 2, 22, 42, 180, 0, 147, 29, 184, 2, 22, 164, 0, 6]
abbrev dktX0_fills_2 : List UInt8 := dkwX0_fills_2 ++ dktX0_fills_3
def dkwX0_fills_1 : List UInt8 := [4, 54, 4, 21, 4, 4, 42, 180, 1, 120, 120, 162, 0, 45, 42, 180, 0, 149, 21, 4, 184, 2, 22, 27]
abbrev dktX0_fills_1 : List UInt8 := dkwX0_fills_1 ++ dktX0_fills_2
def dkwX0_fills_0 : List UInt8 := [27, 4, 17, 3, 231, 184, 0, 207, 153, 0, 12, 28, 3, 4, 184, 0, 207, 154, 0, 5, 2, 172, 3, 62]
abbrev dktX0_fills_0 : List UInt8 := dkwX0_fills_0 ++ dktX0_fills_1
theorem dksX0_fills_0 : cX0_fills.data.toList.drop 0 = dktX0_fills_0 := by decide +kernel
theorem dksX0_fills_1 : cX0_fills.data.toList.drop 24 = dktX0_fills_1 := dk_seg dksX0_fills_0 24 rfl rfl
theorem dksX0_fills_2 : cX0_fills.data.toList.drop 48 = dktX0_fills_2 := dk_seg dksX0_fills_1 24 rfl rfl
theorem dksX0_fills_3 : cX0_fills.data.toList.drop 71 = dktX0_fills_3 := dk_seg dksX0_fills_2 23 rfl rfl
theorem dksX0_fills_4 : cX0_fills.data.toList.drop 95 = dktX0_fills_4 := dk_seg dksX0_fills_3 24 rfl rfl
theorem dX0_fills_0 : decode cX0_fills 0 = .ok (.iload_n 1, 1) := dk_27 (dk_at dksX0_fills_0 0 rfl rfl)
theorem dX0_fills_1 : decode cX0_fills 1 = .ok (.iconst 1, 1) := dk_4 (dk_at dksX0_fills_0 1 rfl rfl)
theorem dX0_fills_2 : decode cX0_fills 2 = .ok (.sipush 999, 3) := dk_17 3 231 (dk_at dksX0_fills_0 2 rfl rfl)
theorem dX0_fills_5 : decode cX0_fills 5 = .ok (.invokestatic 207, 3) := dk_184 0 207 (dk_at dksX0_fills_0 5 rfl rfl)
theorem dX0_fills_8 : decode cX0_fills 8 = .ok (.ifCond .eq 12, 3) := dk_153 0 12 (dk_at dksX0_fills_0 8 rfl rfl)
theorem dX0_fills_11 : decode cX0_fills 11 = .ok (.iload_n 2, 1) := dk_28 (dk_at dksX0_fills_0 11 rfl rfl)
theorem dX0_fills_12 : decode cX0_fills 12 = .ok (.iconst 0, 1) := dk_3 (dk_at dksX0_fills_0 12 rfl rfl)
theorem dX0_fills_13 : decode cX0_fills 13 = .ok (.iconst 1, 1) := dk_4 (dk_at dksX0_fills_0 13 rfl rfl)
theorem dX0_fills_14 : decode cX0_fills 14 = .ok (.invokestatic 207, 3) := dk_184 0 207 (dk_at dksX0_fills_0 14 rfl rfl)
theorem dX0_fills_17 : decode cX0_fills 17 = .ok (.ifCond .ne 5, 3) := dk_154 0 5 (dk_at dksX0_fills_0 17 rfl rfl)
theorem dX0_fills_20 : decode cX0_fills 20 = .ok (.iconst (-1), 1) := dk_2 (dk_at dksX0_fills_0 20 rfl rfl)
theorem dX0_fills_21 : decode cX0_fills 21 = .ok (.ireturn, 1) := dk_172 (dk_at dksX0_fills_0 21 rfl rfl)
theorem dX0_fills_22 : decode cX0_fills 22 = .ok (.iconst 0, 1) := dk_3 (dk_at dksX0_fills_0 22 rfl rfl)
theorem dX0_fills_23 : decode cX0_fills 23 = .ok (.istore_n 3, 1) := dk_62 (dk_at dksX0_fills_0 23 rfl rfl)
theorem dX0_fills_24 : decode cX0_fills 24 = .ok (.iconst 1, 1) := dk_4 (dk_at dksX0_fills_1 0 rfl rfl)
theorem dX0_fills_25 : decode cX0_fills 25 = .ok (.istore 4, 2) := dk_54 4 (dk_at dksX0_fills_1 1 rfl rfl)
theorem dX0_fills_27 : decode cX0_fills 27 = .ok (.iload 4, 2) := dk_21 4 (dk_at dksX0_fills_1 3 rfl rfl)
theorem dX0_fills_29 : decode cX0_fills 29 = .ok (.iconst 1, 1) := dk_4 (dk_at dksX0_fills_1 5 rfl rfl)
theorem dX0_fills_30 : decode cX0_fills 30 = .ok (.aload_n 0, 1) := dk_42 (dk_at dksX0_fills_1 6 rfl rfl)
theorem dX0_fills_31 : decode cX0_fills 31 = .ok (.getfield 376, 3) := dk_180 1 120 (dk_at dksX0_fills_1 7 rfl rfl)
theorem dX0_fills_34 : decode cX0_fills 34 = .ok (.ishl, 1) := dk_120 (dk_at dksX0_fills_1 10 rfl rfl)
theorem dX0_fills_35 : decode cX0_fills 35 = .ok (.if_icmp .ge 45, 3) := dk_162 0 45 (dk_at dksX0_fills_1 11 rfl rfl)
theorem dX0_fills_38 : decode cX0_fills 38 = .ok (.aload_n 0, 1) := dk_42 (dk_at dksX0_fills_1 14 rfl rfl)
theorem dX0_fills_39 : decode cX0_fills 39 = .ok (.getfield 149, 3) := dk_180 0 149 (dk_at dksX0_fills_1 15 rfl rfl)
theorem dX0_fills_42 : decode cX0_fills 42 = .ok (.iload 4, 2) := dk_21 4 (dk_at dksX0_fills_1 18 rfl rfl)
theorem dX0_fills_44 : decode cX0_fills 44 = .ok (.invokestatic 534, 3) := dk_184 2 22 (dk_at dksX0_fills_1 20 rfl rfl)
theorem dX0_fills_47 : decode cX0_fills 47 = .ok (.iload_n 1, 1) := dk_27 (dk_at dksX0_fills_1 23 rfl rfl)
theorem dX0_fills_48 : decode cX0_fills 48 = .ok (.if_icmp .gt 26, 3) := dk_163 0 26 (dk_at dksX0_fills_2 0 rfl rfl)
theorem dX0_fills_51 : decode cX0_fills 51 = .ok (.aload_n 0, 1) := dk_42 (dk_at dksX0_fills_2 3 rfl rfl)
theorem dX0_fills_52 : decode cX0_fills 52 = .ok (.getfield 147, 3) := dk_180 0 147 (dk_at dksX0_fills_2 4 rfl rfl)
theorem dX0_fills_55 : decode cX0_fills 55 = .ok (.iload 4, 2) := dk_21 4 (dk_at dksX0_fills_2 7 rfl rfl)
theorem dX0_fills_57 : decode cX0_fills 57 = .ok (.invokestatic 534, 3) := dk_184 2 22 (dk_at dksX0_fills_2 9 rfl rfl)
theorem dX0_fills_60 : decode cX0_fills 60 = .ok (.aload_n 0, 1) := dk_42 (dk_at dksX0_fills_2 12 rfl rfl)
theorem dX0_fills_61 : decode cX0_fills 61 = .ok (.getfield 147, 3) := dk_180 0 147 (dk_at dksX0_fills_2 13 rfl rfl)
theorem dX0_fills_64 : decode cX0_fills 64 = .ok (.iload_n 3, 1) := dk_29 (dk_at dksX0_fills_2 16 rfl rfl)
theorem dX0_fills_65 : decode cX0_fills 65 = .ok (.invokestatic 534, 3) := dk_184 2 22 (dk_at dksX0_fills_2 17 rfl rfl)
theorem dX0_fills_68 : decode cX0_fills 68 = .ok (.if_icmp .le 6, 3) := dk_164 0 6 (dk_at dksX0_fills_2 20 rfl rfl)
theorem dX0_fills_71 : decode cX0_fills 71 = .ok (.iload 4, 2) := dk_21 4 (dk_at dksX0_fills_3 0 rfl rfl)
theorem dX0_fills_73 : decode cX0_fills 73 = .ok (.istore_n 3, 1) := dk_62 (dk_at dksX0_fills_3 2 rfl rfl)
theorem dX0_fills_74 : decode cX0_fills 74 = .ok (.iinc 4 1, 3) := dk_132 4 1 (dk_at dksX0_fills_3 3 rfl rfl)
theorem dX0_fills_77 : decode cX0_fills 77 = .ok (.goto (-50), 3) := dk_167 255 206 (dk_at dksX0_fills_3 6 rfl rfl)
theorem dX0_fills_80 : decode cX0_fills 80 = .ok (.iload_n 2, 1) := dk_28 (dk_at dksX0_fills_3 9 rfl rfl)
theorem dX0_fills_81 : decode cX0_fills 81 = .ok (.ifCond .ne 14, 3) := dk_154 0 14 (dk_at dksX0_fills_3 10 rfl rfl)
theorem dX0_fills_84 : decode cX0_fills 84 = .ok (.aload_n 0, 1) := dk_42 (dk_at dksX0_fills_3 13 rfl rfl)
theorem dX0_fills_85 : decode cX0_fills 85 = .ok (.getfield 147, 3) := dk_180 0 147 (dk_at dksX0_fills_3 14 rfl rfl)
theorem dX0_fills_88 : decode cX0_fills 88 = .ok (.iload_n 3, 1) := dk_29 (dk_at dksX0_fills_3 17 rfl rfl)
theorem dX0_fills_89 : decode cX0_fills 89 = .ok (.invokestatic 534, 3) := dk_184 2 22 (dk_at dksX0_fills_3 18 rfl rfl)
theorem dX0_fills_92 : decode cX0_fills 92 = .ok (.goto 4, 3) := dk_167 0 4 (dk_at dksX0_fills_3 21 rfl rfl)
theorem dX0_fills_95 : decode cX0_fills 95 = .ok (.iload_n 3, 1) := dk_29 (dk_at dksX0_fills_4 0 rfl rfl)
theorem dX0_fills_96 : decode cX0_fills 96 = .ok (.ireturn, 1) := dk_172 (dk_at dksX0_fills_4 1 rfl rfl)
abbrev cX0_sumOf : ByteArray := prog_1_method_72_code
def yX0_sumOf : MethodName := ⟨RX0, "sumOf", "([II)I"⟩
def dkwX0_sumOf_1 : List UInt8 := [167, 0, 4, 3, 96, 61, 132, 3, 1, 167, 255, 229, 28, 172]
abbrev dktX0_sumOf_1 : List UInt8 := dkwX0_sumOf_1 ++ []
def dkwX0_sumOf_0 : List UInt8 := [3, 61, 3, 62, 29, 42, 190, 162, 0, 27, 28, 27, 29, 184, 1, 225, 153, 0, 9, 42, 29, 46]
abbrev dktX0_sumOf_0 : List UInt8 := dkwX0_sumOf_0 ++ dktX0_sumOf_1
theorem dksX0_sumOf_0 : cX0_sumOf.data.toList.drop 0 = dktX0_sumOf_0 := by decide +kernel
theorem dksX0_sumOf_1 : cX0_sumOf.data.toList.drop 22 = dktX0_sumOf_1 := dk_seg dksX0_sumOf_0 22 rfl rfl
theorem dX0_sumOf_0 : decode cX0_sumOf 0 = .ok (.iconst 0, 1) := dk_3 (dk_at dksX0_sumOf_0 0 rfl rfl)
theorem dX0_sumOf_1 : decode cX0_sumOf 1 = .ok (.istore_n 2, 1) := dk_61 (dk_at dksX0_sumOf_0 1 rfl rfl)
theorem dX0_sumOf_2 : decode cX0_sumOf 2 = .ok (.iconst 0, 1) := dk_3 (dk_at dksX0_sumOf_0 2 rfl rfl)
theorem dX0_sumOf_3 : decode cX0_sumOf 3 = .ok (.istore_n 3, 1) := dk_62 (dk_at dksX0_sumOf_0 3 rfl rfl)
theorem dX0_sumOf_4 : decode cX0_sumOf 4 = .ok (.iload_n 3, 1) := dk_29 (dk_at dksX0_sumOf_0 4 rfl rfl)
theorem dX0_sumOf_5 : decode cX0_sumOf 5 = .ok (.aload_n 0, 1) := dk_42 (dk_at dksX0_sumOf_0 5 rfl rfl)
theorem dX0_sumOf_6 : decode cX0_sumOf 6 = .ok (.arraylength, 1) := dk_190 (dk_at dksX0_sumOf_0 6 rfl rfl)
theorem dX0_sumOf_7 : decode cX0_sumOf 7 = .ok (.if_icmp .ge 27, 3) := dk_162 0 27 (dk_at dksX0_sumOf_0 7 rfl rfl)
theorem dX0_sumOf_10 : decode cX0_sumOf 10 = .ok (.iload_n 2, 1) := dk_28 (dk_at dksX0_sumOf_0 10 rfl rfl)
theorem dX0_sumOf_11 : decode cX0_sumOf 11 = .ok (.iload_n 1, 1) := dk_27 (dk_at dksX0_sumOf_0 11 rfl rfl)
theorem dX0_sumOf_12 : decode cX0_sumOf 12 = .ok (.iload_n 3, 1) := dk_29 (dk_at dksX0_sumOf_0 12 rfl rfl)
theorem dX0_sumOf_13 : decode cX0_sumOf 13 = .ok (.invokestatic 481, 3) := dk_184 1 225 (dk_at dksX0_sumOf_0 13 rfl rfl)
theorem dX0_sumOf_16 : decode cX0_sumOf 16 = .ok (.ifCond .eq 9, 3) := dk_153 0 9 (dk_at dksX0_sumOf_0 16 rfl rfl)
theorem dX0_sumOf_19 : decode cX0_sumOf 19 = .ok (.aload_n 0, 1) := dk_42 (dk_at dksX0_sumOf_0 19 rfl rfl)
theorem dX0_sumOf_20 : decode cX0_sumOf 20 = .ok (.iload_n 3, 1) := dk_29 (dk_at dksX0_sumOf_0 20 rfl rfl)
theorem dX0_sumOf_21 : decode cX0_sumOf 21 = .ok (.iaload, 1) := dk_46 (dk_at dksX0_sumOf_0 21 rfl rfl)
theorem dX0_sumOf_22 : decode cX0_sumOf 22 = .ok (.goto 4, 3) := dk_167 0 4 (dk_at dksX0_sumOf_1 0 rfl rfl)
theorem dX0_sumOf_25 : decode cX0_sumOf 25 = .ok (.iconst 0, 1) := dk_3 (dk_at dksX0_sumOf_1 3 rfl rfl)
theorem dX0_sumOf_26 : decode cX0_sumOf 26 = .ok (.iadd, 1) := dk_96 (dk_at dksX0_sumOf_1 4 rfl rfl)
theorem dX0_sumOf_27 : decode cX0_sumOf 27 = .ok (.istore_n 2, 1) := dk_61 (dk_at dksX0_sumOf_1 5 rfl rfl)
theorem dX0_sumOf_28 : decode cX0_sumOf 28 = .ok (.iinc 3 1, 3) := dk_132 3 1 (dk_at dksX0_sumOf_1 6 rfl rfl)
theorem dX0_sumOf_31 : decode cX0_sumOf 31 = .ok (.goto (-27), 3) := dk_167 255 229 (dk_at dksX0_sumOf_1 9 rfl rfl)
theorem dX0_sumOf_34 : decode cX0_sumOf 34 = .ok (.iload_n 2, 1) := dk_28 (dk_at dksX0_sumOf_1 12 rfl rfl)
theorem dX0_sumOf_35 : decode cX0_sumOf 35 = .ok (.ireturn, 1) := dk_172 (dk_at dksX0_sumOf_1 13 rfl rfl)
abbrev cX0_lines : ByteArray := prog_1_method_75_code
def yX0_lines : MethodName := ⟨RX0, "lines", "(II)I"⟩
def dkwX0_lines_7 : List UInt8 := [54, 4, 132, 5, 1, 167, 255, 125, 28, 154, 0, 8, 21, 4, 167, 0, 4, 29, 172]
abbrev dktX0_lines_7 : List UInt8 := dkwX0_lines_7 ++ []
def dkwX0_lines_6 : List UInt8 := [3, 96, 54, 6, 132, 7, 1, 167, 255, 201, 21, 4, 42, 180, 0, 147, 21, 5, 46, 21, 6, 104, 96]
abbrev dktX0_lines_6 : List UInt8 := dkwX0_lines_6 ++ dktX0_lines_7
def dkwX0_lines_5 : List UInt8 := [153, 0, 24, 42, 21, 7, 21, 5, 182, 2, 26, 153, 0, 13, 42, 180, 0, 149, 21, 7, 46, 167, 0, 4]
abbrev dktX0_lines_5 : List UInt8 := dkwX0_lines_5 ++ dktX0_lines_6
def dkwX0_lines_4 : List UInt8 := [42, 180, 1, 120, 162, 0, 52, 21, 6, 21, 7, 21, 5, 159, 0, 33, 27, 21, 7, 184, 1, 225]
abbrev dktX0_lines_4 : List UInt8 := dkwX0_lines_4 ++ dktX0_lines_5
def dkwX0_lines_3 : List UInt8 := [153, 0, 8, 21, 5, 167, 0, 4, 29, 62, 42, 180, 0, 149, 21, 5, 46, 54, 6, 3, 54, 7, 21, 7]
abbrev dktX0_lines_3 : List UInt8 := dkwX0_lines_3 ++ dktX0_lines_4
def dkwX0_lines_2 : List UInt8 := [21, 5, 184, 1, 225, 154, 0, 6, 167, 0, 110, 29, 2, 159, 0, 13, 42, 21, 5, 29, 182, 2, 26]
abbrev dktX0_lines_2 : List UInt8 := dkwX0_lines_2 ++ dktX0_lines_3
def dkwX0_lines_1 : List UInt8 := [154, 0, 5, 2, 172, 2, 62, 3, 54, 4, 3, 54, 5, 21, 5, 42, 180, 1, 120, 162, 0, 128, 27]
abbrev dktX0_lines_1 : List UInt8 := dkwX0_lines_1 ++ dktX0_lines_2
def dkwX0_lines_0 : List UInt8 := [27, 3, 4, 42, 180, 1, 120, 120, 4, 100, 184, 0, 207, 153, 0, 12, 28, 3, 4, 184, 0, 207]
abbrev dktX0_lines_0 : List UInt8 := dkwX0_lines_0 ++ dktX0_lines_1
theorem dksX0_lines_0 : cX0_lines.data.toList.drop 0 = dktX0_lines_0 := by decide +kernel
theorem dksX0_lines_1 : cX0_lines.data.toList.drop 22 = dktX0_lines_1 := dk_seg dksX0_lines_0 22 rfl rfl
theorem dksX0_lines_2 : cX0_lines.data.toList.drop 45 = dktX0_lines_2 := dk_seg dksX0_lines_1 23 rfl rfl
theorem dksX0_lines_3 : cX0_lines.data.toList.drop 68 = dktX0_lines_3 := dk_seg dksX0_lines_2 23 rfl rfl
theorem dksX0_lines_4 : cX0_lines.data.toList.drop 92 = dktX0_lines_4 := dk_seg dksX0_lines_3 24 rfl rfl
theorem dksX0_lines_5 : cX0_lines.data.toList.drop 114 = dktX0_lines_5 := dk_seg dksX0_lines_4 22 rfl rfl
theorem dksX0_lines_6 : cX0_lines.data.toList.drop 138 = dktX0_lines_6 := dk_seg dksX0_lines_5 24 rfl rfl
theorem dksX0_lines_7 : cX0_lines.data.toList.drop 161 = dktX0_lines_7 := dk_seg dksX0_lines_6 23 rfl rfl
theorem dX0_lines_0 : decode cX0_lines 0 = .ok (.iload_n 1, 1) := dk_27 (dk_at dksX0_lines_0 0 rfl rfl)
theorem dX0_lines_1 : decode cX0_lines 1 = .ok (.iconst 0, 1) := dk_3 (dk_at dksX0_lines_0 1 rfl rfl)
theorem dX0_lines_2 : decode cX0_lines 2 = .ok (.iconst 1, 1) := dk_4 (dk_at dksX0_lines_0 2 rfl rfl)
theorem dX0_lines_3 : decode cX0_lines 3 = .ok (.aload_n 0, 1) := dk_42 (dk_at dksX0_lines_0 3 rfl rfl)
theorem dX0_lines_4 : decode cX0_lines 4 = .ok (.getfield 376, 3) := dk_180 1 120 (dk_at dksX0_lines_0 4 rfl rfl)
theorem dX0_lines_7 : decode cX0_lines 7 = .ok (.ishl, 1) := dk_120 (dk_at dksX0_lines_0 7 rfl rfl)
theorem dX0_lines_8 : decode cX0_lines 8 = .ok (.iconst 1, 1) := dk_4 (dk_at dksX0_lines_0 8 rfl rfl)
theorem dX0_lines_9 : decode cX0_lines 9 = .ok (.isub, 1) := dk_100 (dk_at dksX0_lines_0 9 rfl rfl)
theorem dX0_lines_10 : decode cX0_lines 10 = .ok (.invokestatic 207, 3) := dk_184 0 207 (dk_at dksX0_lines_0 10 rfl rfl)
theorem dX0_lines_13 : decode cX0_lines 13 = .ok (.ifCond .eq 12, 3) := dk_153 0 12 (dk_at dksX0_lines_0 13 rfl rfl)
theorem dX0_lines_16 : decode cX0_lines 16 = .ok (.iload_n 2, 1) := dk_28 (dk_at dksX0_lines_0 16 rfl rfl)
theorem dX0_lines_17 : decode cX0_lines 17 = .ok (.iconst 0, 1) := dk_3 (dk_at dksX0_lines_0 17 rfl rfl)
theorem dX0_lines_18 : decode cX0_lines 18 = .ok (.iconst 1, 1) := dk_4 (dk_at dksX0_lines_0 18 rfl rfl)
theorem dX0_lines_19 : decode cX0_lines 19 = .ok (.invokestatic 207, 3) := dk_184 0 207 (dk_at dksX0_lines_0 19 rfl rfl)
theorem dX0_lines_22 : decode cX0_lines 22 = .ok (.ifCond .ne 5, 3) := dk_154 0 5 (dk_at dksX0_lines_1 0 rfl rfl)
theorem dX0_lines_25 : decode cX0_lines 25 = .ok (.iconst (-1), 1) := dk_2 (dk_at dksX0_lines_1 3 rfl rfl)
theorem dX0_lines_26 : decode cX0_lines 26 = .ok (.ireturn, 1) := dk_172 (dk_at dksX0_lines_1 4 rfl rfl)
theorem dX0_lines_27 : decode cX0_lines 27 = .ok (.iconst (-1), 1) := dk_2 (dk_at dksX0_lines_1 5 rfl rfl)
theorem dX0_lines_28 : decode cX0_lines 28 = .ok (.istore_n 3, 1) := dk_62 (dk_at dksX0_lines_1 6 rfl rfl)
theorem dX0_lines_29 : decode cX0_lines 29 = .ok (.iconst 0, 1) := dk_3 (dk_at dksX0_lines_1 7 rfl rfl)
theorem dX0_lines_30 : decode cX0_lines 30 = .ok (.istore 4, 2) := dk_54 4 (dk_at dksX0_lines_1 8 rfl rfl)
theorem dX0_lines_32 : decode cX0_lines 32 = .ok (.iconst 0, 1) := dk_3 (dk_at dksX0_lines_1 10 rfl rfl)
theorem dX0_lines_33 : decode cX0_lines 33 = .ok (.istore 5, 2) := dk_54 5 (dk_at dksX0_lines_1 11 rfl rfl)
theorem dX0_lines_35 : decode cX0_lines 35 = .ok (.iload 5, 2) := dk_21 5 (dk_at dksX0_lines_1 13 rfl rfl)
theorem dX0_lines_37 : decode cX0_lines 37 = .ok (.aload_n 0, 1) := dk_42 (dk_at dksX0_lines_1 15 rfl rfl)
theorem dX0_lines_38 : decode cX0_lines 38 = .ok (.getfield 376, 3) := dk_180 1 120 (dk_at dksX0_lines_1 16 rfl rfl)
theorem dX0_lines_41 : decode cX0_lines 41 = .ok (.if_icmp .ge 128, 3) := dk_162 0 128 (dk_at dksX0_lines_1 19 rfl rfl)
theorem dX0_lines_44 : decode cX0_lines 44 = .ok (.iload_n 1, 1) := dk_27 (dk_at dksX0_lines_1 22 rfl rfl)
theorem dX0_lines_45 : decode cX0_lines 45 = .ok (.iload 5, 2) := dk_21 5 (dk_at dksX0_lines_2 0 rfl rfl)
theorem dX0_lines_47 : decode cX0_lines 47 = .ok (.invokestatic 481, 3) := dk_184 1 225 (dk_at dksX0_lines_2 2 rfl rfl)
theorem dX0_lines_50 : decode cX0_lines 50 = .ok (.ifCond .ne 6, 3) := dk_154 0 6 (dk_at dksX0_lines_2 5 rfl rfl)
theorem dX0_lines_53 : decode cX0_lines 53 = .ok (.goto 110, 3) := dk_167 0 110 (dk_at dksX0_lines_2 8 rfl rfl)
theorem dX0_lines_56 : decode cX0_lines 56 = .ok (.iload_n 3, 1) := dk_29 (dk_at dksX0_lines_2 11 rfl rfl)
theorem dX0_lines_57 : decode cX0_lines 57 = .ok (.iconst (-1), 1) := dk_2 (dk_at dksX0_lines_2 12 rfl rfl)
theorem dX0_lines_58 : decode cX0_lines 58 = .ok (.if_icmp .eq 13, 3) := dk_159 0 13 (dk_at dksX0_lines_2 13 rfl rfl)
theorem dX0_lines_61 : decode cX0_lines 61 = .ok (.aload_n 0, 1) := dk_42 (dk_at dksX0_lines_2 16 rfl rfl)
theorem dX0_lines_62 : decode cX0_lines 62 = .ok (.iload 5, 2) := dk_21 5 (dk_at dksX0_lines_2 17 rfl rfl)
theorem dX0_lines_64 : decode cX0_lines 64 = .ok (.iload_n 3, 1) := dk_29 (dk_at dksX0_lines_2 19 rfl rfl)
theorem dX0_lines_65 : decode cX0_lines 65 = .ok (.invokevirtual 538, 3) := dk_182 2 26 (dk_at dksX0_lines_2 20 rfl rfl)
theorem dX0_lines_68 : decode cX0_lines 68 = .ok (.ifCond .eq 8, 3) := dk_153 0 8 (dk_at dksX0_lines_3 0 rfl rfl)
theorem dX0_lines_71 : decode cX0_lines 71 = .ok (.iload 5, 2) := dk_21 5 (dk_at dksX0_lines_3 3 rfl rfl)
theorem dX0_lines_73 : decode cX0_lines 73 = .ok (.goto 4, 3) := dk_167 0 4 (dk_at dksX0_lines_3 5 rfl rfl)
theorem dX0_lines_76 : decode cX0_lines 76 = .ok (.iload_n 3, 1) := dk_29 (dk_at dksX0_lines_3 8 rfl rfl)
theorem dX0_lines_77 : decode cX0_lines 77 = .ok (.istore_n 3, 1) := dk_62 (dk_at dksX0_lines_3 9 rfl rfl)
theorem dX0_lines_78 : decode cX0_lines 78 = .ok (.aload_n 0, 1) := dk_42 (dk_at dksX0_lines_3 10 rfl rfl)
theorem dX0_lines_79 : decode cX0_lines 79 = .ok (.getfield 149, 3) := dk_180 0 149 (dk_at dksX0_lines_3 11 rfl rfl)
theorem dX0_lines_82 : decode cX0_lines 82 = .ok (.iload 5, 2) := dk_21 5 (dk_at dksX0_lines_3 14 rfl rfl)
theorem dX0_lines_84 : decode cX0_lines 84 = .ok (.iaload, 1) := dk_46 (dk_at dksX0_lines_3 16 rfl rfl)
theorem dX0_lines_85 : decode cX0_lines 85 = .ok (.istore 6, 2) := dk_54 6 (dk_at dksX0_lines_3 17 rfl rfl)
theorem dX0_lines_87 : decode cX0_lines 87 = .ok (.iconst 0, 1) := dk_3 (dk_at dksX0_lines_3 19 rfl rfl)
theorem dX0_lines_88 : decode cX0_lines 88 = .ok (.istore 7, 2) := dk_54 7 (dk_at dksX0_lines_3 20 rfl rfl)
theorem dX0_lines_90 : decode cX0_lines 90 = .ok (.iload 7, 2) := dk_21 7 (dk_at dksX0_lines_3 22 rfl rfl)
theorem dX0_lines_92 : decode cX0_lines 92 = .ok (.aload_n 0, 1) := dk_42 (dk_at dksX0_lines_4 0 rfl rfl)
theorem dX0_lines_93 : decode cX0_lines 93 = .ok (.getfield 376, 3) := dk_180 1 120 (dk_at dksX0_lines_4 1 rfl rfl)
theorem dX0_lines_96 : decode cX0_lines 96 = .ok (.if_icmp .ge 52, 3) := dk_162 0 52 (dk_at dksX0_lines_4 4 rfl rfl)
theorem dX0_lines_99 : decode cX0_lines 99 = .ok (.iload 6, 2) := dk_21 6 (dk_at dksX0_lines_4 7 rfl rfl)
theorem dX0_lines_101 : decode cX0_lines 101 = .ok (.iload 7, 2) := dk_21 7 (dk_at dksX0_lines_4 9 rfl rfl)
theorem dX0_lines_103 : decode cX0_lines 103 = .ok (.iload 5, 2) := dk_21 5 (dk_at dksX0_lines_4 11 rfl rfl)
theorem dX0_lines_105 : decode cX0_lines 105 = .ok (.if_icmp .eq 33, 3) := dk_159 0 33 (dk_at dksX0_lines_4 13 rfl rfl)
theorem dX0_lines_108 : decode cX0_lines 108 = .ok (.iload_n 1, 1) := dk_27 (dk_at dksX0_lines_4 16 rfl rfl)
theorem dX0_lines_109 : decode cX0_lines 109 = .ok (.iload 7, 2) := dk_21 7 (dk_at dksX0_lines_4 17 rfl rfl)
theorem dX0_lines_111 : decode cX0_lines 111 = .ok (.invokestatic 481, 3) := dk_184 1 225 (dk_at dksX0_lines_4 19 rfl rfl)
theorem dX0_lines_114 : decode cX0_lines 114 = .ok (.ifCond .eq 24, 3) := dk_153 0 24 (dk_at dksX0_lines_5 0 rfl rfl)
theorem dX0_lines_117 : decode cX0_lines 117 = .ok (.aload_n 0, 1) := dk_42 (dk_at dksX0_lines_5 3 rfl rfl)
theorem dX0_lines_118 : decode cX0_lines 118 = .ok (.iload 7, 2) := dk_21 7 (dk_at dksX0_lines_5 4 rfl rfl)
theorem dX0_lines_120 : decode cX0_lines 120 = .ok (.iload 5, 2) := dk_21 5 (dk_at dksX0_lines_5 6 rfl rfl)
theorem dX0_lines_122 : decode cX0_lines 122 = .ok (.invokevirtual 538, 3) := dk_182 2 26 (dk_at dksX0_lines_5 8 rfl rfl)
theorem dX0_lines_125 : decode cX0_lines 125 = .ok (.ifCond .eq 13, 3) := dk_153 0 13 (dk_at dksX0_lines_5 11 rfl rfl)
theorem dX0_lines_128 : decode cX0_lines 128 = .ok (.aload_n 0, 1) := dk_42 (dk_at dksX0_lines_5 14 rfl rfl)
theorem dX0_lines_129 : decode cX0_lines 129 = .ok (.getfield 149, 3) := dk_180 0 149 (dk_at dksX0_lines_5 15 rfl rfl)
theorem dX0_lines_132 : decode cX0_lines 132 = .ok (.iload 7, 2) := dk_21 7 (dk_at dksX0_lines_5 18 rfl rfl)
theorem dX0_lines_134 : decode cX0_lines 134 = .ok (.iaload, 1) := dk_46 (dk_at dksX0_lines_5 20 rfl rfl)
theorem dX0_lines_135 : decode cX0_lines 135 = .ok (.goto 4, 3) := dk_167 0 4 (dk_at dksX0_lines_5 21 rfl rfl)
theorem dX0_lines_138 : decode cX0_lines 138 = .ok (.iconst 0, 1) := dk_3 (dk_at dksX0_lines_6 0 rfl rfl)
theorem dX0_lines_139 : decode cX0_lines 139 = .ok (.iadd, 1) := dk_96 (dk_at dksX0_lines_6 1 rfl rfl)
theorem dX0_lines_140 : decode cX0_lines 140 = .ok (.istore 6, 2) := dk_54 6 (dk_at dksX0_lines_6 2 rfl rfl)
theorem dX0_lines_142 : decode cX0_lines 142 = .ok (.iinc 7 1, 3) := dk_132 7 1 (dk_at dksX0_lines_6 4 rfl rfl)
theorem dX0_lines_145 : decode cX0_lines 145 = .ok (.goto (-55), 3) := dk_167 255 201 (dk_at dksX0_lines_6 7 rfl rfl)
theorem dX0_lines_148 : decode cX0_lines 148 = .ok (.iload 4, 2) := dk_21 4 (dk_at dksX0_lines_6 10 rfl rfl)
theorem dX0_lines_150 : decode cX0_lines 150 = .ok (.aload_n 0, 1) := dk_42 (dk_at dksX0_lines_6 12 rfl rfl)
theorem dX0_lines_151 : decode cX0_lines 151 = .ok (.getfield 147, 3) := dk_180 0 147 (dk_at dksX0_lines_6 13 rfl rfl)
theorem dX0_lines_154 : decode cX0_lines 154 = .ok (.iload 5, 2) := dk_21 5 (dk_at dksX0_lines_6 16 rfl rfl)
theorem dX0_lines_156 : decode cX0_lines 156 = .ok (.iaload, 1) := dk_46 (dk_at dksX0_lines_6 18 rfl rfl)
theorem dX0_lines_157 : decode cX0_lines 157 = .ok (.iload 6, 2) := dk_21 6 (dk_at dksX0_lines_6 19 rfl rfl)
theorem dX0_lines_159 : decode cX0_lines 159 = .ok (.imul, 1) := dk_104 (dk_at dksX0_lines_6 21 rfl rfl)
theorem dX0_lines_160 : decode cX0_lines 160 = .ok (.iadd, 1) := dk_96 (dk_at dksX0_lines_6 22 rfl rfl)
theorem dX0_lines_161 : decode cX0_lines 161 = .ok (.istore 4, 2) := dk_54 4 (dk_at dksX0_lines_7 0 rfl rfl)
theorem dX0_lines_163 : decode cX0_lines 163 = .ok (.iinc 5 1, 3) := dk_132 5 1 (dk_at dksX0_lines_7 2 rfl rfl)
theorem dX0_lines_166 : decode cX0_lines 166 = .ok (.goto (-131), 3) := dk_167 255 125 (dk_at dksX0_lines_7 5 rfl rfl)
theorem dX0_lines_169 : decode cX0_lines 169 = .ok (.iload_n 2, 1) := dk_28 (dk_at dksX0_lines_7 8 rfl rfl)
theorem dX0_lines_170 : decode cX0_lines 170 = .ok (.ifCond .ne 8, 3) := dk_154 0 8 (dk_at dksX0_lines_7 9 rfl rfl)
theorem dX0_lines_173 : decode cX0_lines 173 = .ok (.iload 4, 2) := dk_21 4 (dk_at dksX0_lines_7 12 rfl rfl)
theorem dX0_lines_175 : decode cX0_lines 175 = .ok (.goto 4, 3) := dk_167 0 4 (dk_at dksX0_lines_7 14 rfl rfl)
theorem dX0_lines_178 : decode cX0_lines 178 = .ok (.iload_n 3, 1) := dk_29 (dk_at dksX0_lines_7 17 rfl rfl)
theorem dX0_lines_179 : decode cX0_lines 179 = .ok (.ireturn, 1) := dk_172 (dk_at dksX0_lines_7 18 rfl rfl)
abbrev cX0_isAhead : ByteArray := prog_1_method_74_code
def yX0_isAhead : MethodName := ⟨RX0, "isAhead", "(II)Z"⟩
def dkwX0_isAhead_2 : List UInt8 := [42, 180, 0, 149, 27, 46, 104, 160, 0, 12, 27, 28, 162, 0, 7, 4, 167, 0, 4, 3, 172]
abbrev dktX0_isAhead_2 : List UInt8 := dkwX0_isAhead_2 ++ []
def dkwX0_isAhead_1 : List UInt8 := [46, 104, 163, 0, 37, 42, 180, 0, 147, 27, 46, 42, 180, 0, 149, 28, 46, 104, 42, 180, 0, 147, 28, 46]
abbrev dktX0_isAhead_1 : List UInt8 := dkwX0_isAhead_1 ++ dktX0_isAhead_2
def dkwX0_isAhead_0 : List UInt8 := [42, 180, 0, 147, 27, 46, 42, 180, 0, 149, 28, 46, 104, 42, 180, 0, 147, 28, 46, 42, 180, 0, 149, 27]
abbrev dktX0_isAhead_0 : List UInt8 := dkwX0_isAhead_0 ++ dktX0_isAhead_1
theorem dksX0_isAhead_0 : cX0_isAhead.data.toList.drop 0 = dktX0_isAhead_0 := by decide +kernel
theorem dksX0_isAhead_1 : cX0_isAhead.data.toList.drop 24 = dktX0_isAhead_1 := dk_seg dksX0_isAhead_0 24 rfl rfl
theorem dksX0_isAhead_2 : cX0_isAhead.data.toList.drop 48 = dktX0_isAhead_2 := dk_seg dksX0_isAhead_1 24 rfl rfl
theorem dX0_isAhead_0 : decode cX0_isAhead 0 = .ok (.aload_n 0, 1) := dk_42 (dk_at dksX0_isAhead_0 0 rfl rfl)
theorem dX0_isAhead_1 : decode cX0_isAhead 1 = .ok (.getfield 147, 3) := dk_180 0 147 (dk_at dksX0_isAhead_0 1 rfl rfl)
theorem dX0_isAhead_4 : decode cX0_isAhead 4 = .ok (.iload_n 1, 1) := dk_27 (dk_at dksX0_isAhead_0 4 rfl rfl)
theorem dX0_isAhead_5 : decode cX0_isAhead 5 = .ok (.iaload, 1) := dk_46 (dk_at dksX0_isAhead_0 5 rfl rfl)
theorem dX0_isAhead_6 : decode cX0_isAhead 6 = .ok (.aload_n 0, 1) := dk_42 (dk_at dksX0_isAhead_0 6 rfl rfl)
theorem dX0_isAhead_7 : decode cX0_isAhead 7 = .ok (.getfield 149, 3) := dk_180 0 149 (dk_at dksX0_isAhead_0 7 rfl rfl)
theorem dX0_isAhead_10 : decode cX0_isAhead 10 = .ok (.iload_n 2, 1) := dk_28 (dk_at dksX0_isAhead_0 10 rfl rfl)
theorem dX0_isAhead_11 : decode cX0_isAhead 11 = .ok (.iaload, 1) := dk_46 (dk_at dksX0_isAhead_0 11 rfl rfl)
theorem dX0_isAhead_12 : decode cX0_isAhead 12 = .ok (.imul, 1) := dk_104 (dk_at dksX0_isAhead_0 12 rfl rfl)
theorem dX0_isAhead_13 : decode cX0_isAhead 13 = .ok (.aload_n 0, 1) := dk_42 (dk_at dksX0_isAhead_0 13 rfl rfl)
theorem dX0_isAhead_14 : decode cX0_isAhead 14 = .ok (.getfield 147, 3) := dk_180 0 147 (dk_at dksX0_isAhead_0 14 rfl rfl)
theorem dX0_isAhead_17 : decode cX0_isAhead 17 = .ok (.iload_n 2, 1) := dk_28 (dk_at dksX0_isAhead_0 17 rfl rfl)
theorem dX0_isAhead_18 : decode cX0_isAhead 18 = .ok (.iaload, 1) := dk_46 (dk_at dksX0_isAhead_0 18 rfl rfl)
theorem dX0_isAhead_19 : decode cX0_isAhead 19 = .ok (.aload_n 0, 1) := dk_42 (dk_at dksX0_isAhead_0 19 rfl rfl)
theorem dX0_isAhead_20 : decode cX0_isAhead 20 = .ok (.getfield 149, 3) := dk_180 0 149 (dk_at dksX0_isAhead_0 20 rfl rfl)
theorem dX0_isAhead_23 : decode cX0_isAhead 23 = .ok (.iload_n 1, 1) := dk_27 (dk_at dksX0_isAhead_0 23 rfl rfl)
theorem dX0_isAhead_24 : decode cX0_isAhead 24 = .ok (.iaload, 1) := dk_46 (dk_at dksX0_isAhead_1 0 rfl rfl)
theorem dX0_isAhead_25 : decode cX0_isAhead 25 = .ok (.imul, 1) := dk_104 (dk_at dksX0_isAhead_1 1 rfl rfl)
theorem dX0_isAhead_26 : decode cX0_isAhead 26 = .ok (.if_icmp .gt 37, 3) := dk_163 0 37 (dk_at dksX0_isAhead_1 2 rfl rfl)
theorem dX0_isAhead_29 : decode cX0_isAhead 29 = .ok (.aload_n 0, 1) := dk_42 (dk_at dksX0_isAhead_1 5 rfl rfl)
theorem dX0_isAhead_30 : decode cX0_isAhead 30 = .ok (.getfield 147, 3) := dk_180 0 147 (dk_at dksX0_isAhead_1 6 rfl rfl)
theorem dX0_isAhead_33 : decode cX0_isAhead 33 = .ok (.iload_n 1, 1) := dk_27 (dk_at dksX0_isAhead_1 9 rfl rfl)
theorem dX0_isAhead_34 : decode cX0_isAhead 34 = .ok (.iaload, 1) := dk_46 (dk_at dksX0_isAhead_1 10 rfl rfl)
theorem dX0_isAhead_35 : decode cX0_isAhead 35 = .ok (.aload_n 0, 1) := dk_42 (dk_at dksX0_isAhead_1 11 rfl rfl)
theorem dX0_isAhead_36 : decode cX0_isAhead 36 = .ok (.getfield 149, 3) := dk_180 0 149 (dk_at dksX0_isAhead_1 12 rfl rfl)
theorem dX0_isAhead_39 : decode cX0_isAhead 39 = .ok (.iload_n 2, 1) := dk_28 (dk_at dksX0_isAhead_1 15 rfl rfl)
theorem dX0_isAhead_40 : decode cX0_isAhead 40 = .ok (.iaload, 1) := dk_46 (dk_at dksX0_isAhead_1 16 rfl rfl)
theorem dX0_isAhead_41 : decode cX0_isAhead 41 = .ok (.imul, 1) := dk_104 (dk_at dksX0_isAhead_1 17 rfl rfl)
theorem dX0_isAhead_42 : decode cX0_isAhead 42 = .ok (.aload_n 0, 1) := dk_42 (dk_at dksX0_isAhead_1 18 rfl rfl)
theorem dX0_isAhead_43 : decode cX0_isAhead 43 = .ok (.getfield 147, 3) := dk_180 0 147 (dk_at dksX0_isAhead_1 19 rfl rfl)
theorem dX0_isAhead_46 : decode cX0_isAhead 46 = .ok (.iload_n 2, 1) := dk_28 (dk_at dksX0_isAhead_1 22 rfl rfl)
theorem dX0_isAhead_47 : decode cX0_isAhead 47 = .ok (.iaload, 1) := dk_46 (dk_at dksX0_isAhead_1 23 rfl rfl)
theorem dX0_isAhead_48 : decode cX0_isAhead 48 = .ok (.aload_n 0, 1) := dk_42 (dk_at dksX0_isAhead_2 0 rfl rfl)
theorem dX0_isAhead_49 : decode cX0_isAhead 49 = .ok (.getfield 149, 3) := dk_180 0 149 (dk_at dksX0_isAhead_2 1 rfl rfl)
theorem dX0_isAhead_52 : decode cX0_isAhead 52 = .ok (.iload_n 1, 1) := dk_27 (dk_at dksX0_isAhead_2 4 rfl rfl)
theorem dX0_isAhead_53 : decode cX0_isAhead 53 = .ok (.iaload, 1) := dk_46 (dk_at dksX0_isAhead_2 5 rfl rfl)
theorem dX0_isAhead_54 : decode cX0_isAhead 54 = .ok (.imul, 1) := dk_104 (dk_at dksX0_isAhead_2 6 rfl rfl)
theorem dX0_isAhead_55 : decode cX0_isAhead 55 = .ok (.if_icmp .ne 12, 3) := dk_160 0 12 (dk_at dksX0_isAhead_2 7 rfl rfl)
theorem dX0_isAhead_58 : decode cX0_isAhead 58 = .ok (.iload_n 1, 1) := dk_27 (dk_at dksX0_isAhead_2 10 rfl rfl)
theorem dX0_isAhead_59 : decode cX0_isAhead 59 = .ok (.iload_n 2, 1) := dk_28 (dk_at dksX0_isAhead_2 11 rfl rfl)
theorem dX0_isAhead_60 : decode cX0_isAhead 60 = .ok (.if_icmp .ge 7, 3) := dk_162 0 7 (dk_at dksX0_isAhead_2 12 rfl rfl)
theorem dX0_isAhead_63 : decode cX0_isAhead 63 = .ok (.iconst 1, 1) := dk_4 (dk_at dksX0_isAhead_2 15 rfl rfl)
theorem dX0_isAhead_64 : decode cX0_isAhead 64 = .ok (.goto 4, 3) := dk_167 0 4 (dk_at dksX0_isAhead_2 16 rfl rfl)
theorem dX0_isAhead_67 : decode cX0_isAhead 67 = .ok (.iconst 0, 1) := dk_3 (dk_at dksX0_isAhead_2 19 rfl rfl)
theorem dX0_isAhead_68 : decode cX0_isAhead 68 = .ok (.ireturn, 1) := dk_172 (dk_at dksX0_isAhead_2 20 rfl rfl)
abbrev cX0_claque : ByteArray := prog_1_method_76_code
def yX0_claque : MethodName := ⟨RX0, "claque", "(II)I"⟩
def dkwX0_claque_5 : List UInt8 := [183, 2, 29, 83, 42, 180, 0, 179, 190, 172]
abbrev dktX0_claque_5 : List UInt8 := dkwX0_claque_5 ++ []
def dkwX0_claque_4 : List UInt8 := [42, 45, 181, 0, 179, 42, 180, 0, 179, 42, 180, 0, 179, 190, 4, 100, 187, 0, 177, 89, 27, 28]
abbrev dktX0_claque_4 : List UInt8 := dkwX0_claque_4 ++ dktX0_claque_5
def dkwX0_claque_3 : List UInt8 := [180, 0, 179, 190, 162, 0, 20, 45, 21, 4, 42, 180, 0, 179, 21, 4, 50, 83, 132, 4, 1, 167, 255, 232]
abbrev dktX0_claque_3 : List UInt8 := dkwX0_claque_3 ++ dktX0_claque_4
def dkwX0_claque_2 : List UInt8 := [160, 0, 5, 2, 172, 42, 180, 0, 179, 190, 4, 96, 189, 0, 177, 78, 3, 54, 4, 21, 4, 42]
abbrev dktX0_claque_2 : List UInt8 := dkwX0_claque_2 ++ dktX0_claque_3
def dkwX0_claque_1 : List UInt8 := [100, 184, 0, 207, 153, 0, 23, 28, 3, 16, 12, 184, 0, 207, 153, 0, 13, 42, 180, 0, 179, 190, 16, 8]
abbrev dktX0_claque_1 : List UInt8 := dkwX0_claque_1 ++ dktX0_claque_2
def dkwX0_claque_0 : List UInt8 := [27, 2, 160, 0, 13, 42, 3, 189, 0, 177, 181, 0, 179, 3, 172, 27, 3, 4, 42, 180, 1, 113, 120, 4]
abbrev dktX0_claque_0 : List UInt8 := dkwX0_claque_0 ++ dktX0_claque_1
theorem dksX0_claque_0 : cX0_claque.data.toList.drop 0 = dktX0_claque_0 := by decide +kernel
theorem dksX0_claque_1 : cX0_claque.data.toList.drop 24 = dktX0_claque_1 := dk_seg dksX0_claque_0 24 rfl rfl
theorem dksX0_claque_2 : cX0_claque.data.toList.drop 48 = dktX0_claque_2 := dk_seg dksX0_claque_1 24 rfl rfl
theorem dksX0_claque_3 : cX0_claque.data.toList.drop 70 = dktX0_claque_3 := dk_seg dksX0_claque_2 22 rfl rfl
theorem dksX0_claque_4 : cX0_claque.data.toList.drop 94 = dktX0_claque_4 := dk_seg dksX0_claque_3 24 rfl rfl
theorem dksX0_claque_5 : cX0_claque.data.toList.drop 116 = dktX0_claque_5 := dk_seg dksX0_claque_4 22 rfl rfl
theorem dX0_claque_0 : decode cX0_claque 0 = .ok (.iload_n 1, 1) := dk_27 (dk_at dksX0_claque_0 0 rfl rfl)
theorem dX0_claque_1 : decode cX0_claque 1 = .ok (.iconst (-1), 1) := dk_2 (dk_at dksX0_claque_0 1 rfl rfl)
theorem dX0_claque_2 : decode cX0_claque 2 = .ok (.if_icmp .ne 13, 3) := dk_160 0 13 (dk_at dksX0_claque_0 2 rfl rfl)
theorem dX0_claque_5 : decode cX0_claque 5 = .ok (.aload_n 0, 1) := dk_42 (dk_at dksX0_claque_0 5 rfl rfl)
theorem dX0_claque_6 : decode cX0_claque 6 = .ok (.iconst 0, 1) := dk_3 (dk_at dksX0_claque_0 6 rfl rfl)
theorem dX0_claque_7 : decode cX0_claque 7 = .ok (.anewarray 177, 3) := dk_189 0 177 (dk_at dksX0_claque_0 7 rfl rfl)
theorem dX0_claque_10 : decode cX0_claque 10 = .ok (.putfield 179, 3) := dk_181 0 179 (dk_at dksX0_claque_0 10 rfl rfl)
theorem dX0_claque_13 : decode cX0_claque 13 = .ok (.iconst 0, 1) := dk_3 (dk_at dksX0_claque_0 13 rfl rfl)
theorem dX0_claque_14 : decode cX0_claque 14 = .ok (.ireturn, 1) := dk_172 (dk_at dksX0_claque_0 14 rfl rfl)
theorem dX0_claque_15 : decode cX0_claque 15 = .ok (.iload_n 1, 1) := dk_27 (dk_at dksX0_claque_0 15 rfl rfl)
theorem dX0_claque_16 : decode cX0_claque 16 = .ok (.iconst 0, 1) := dk_3 (dk_at dksX0_claque_0 16 rfl rfl)
theorem dX0_claque_17 : decode cX0_claque 17 = .ok (.iconst 1, 1) := dk_4 (dk_at dksX0_claque_0 17 rfl rfl)
theorem dX0_claque_18 : decode cX0_claque 18 = .ok (.aload_n 0, 1) := dk_42 (dk_at dksX0_claque_0 18 rfl rfl)
theorem dX0_claque_19 : decode cX0_claque 19 = .ok (.getfield 369, 3) := dk_180 1 113 (dk_at dksX0_claque_0 19 rfl rfl)
theorem dX0_claque_22 : decode cX0_claque 22 = .ok (.ishl, 1) := dk_120 (dk_at dksX0_claque_0 22 rfl rfl)
theorem dX0_claque_23 : decode cX0_claque 23 = .ok (.iconst 1, 1) := dk_4 (dk_at dksX0_claque_0 23 rfl rfl)
theorem dX0_claque_24 : decode cX0_claque 24 = .ok (.isub, 1) := dk_100 (dk_at dksX0_claque_1 0 rfl rfl)
theorem dX0_claque_25 : decode cX0_claque 25 = .ok (.invokestatic 207, 3) := dk_184 0 207 (dk_at dksX0_claque_1 1 rfl rfl)
theorem dX0_claque_28 : decode cX0_claque 28 = .ok (.ifCond .eq 23, 3) := dk_153 0 23 (dk_at dksX0_claque_1 4 rfl rfl)
theorem dX0_claque_31 : decode cX0_claque 31 = .ok (.iload_n 2, 1) := dk_28 (dk_at dksX0_claque_1 7 rfl rfl)
theorem dX0_claque_32 : decode cX0_claque 32 = .ok (.iconst 0, 1) := dk_3 (dk_at dksX0_claque_1 8 rfl rfl)
theorem dX0_claque_33 : decode cX0_claque 33 = .ok (.bipush 12, 2) := dk_16 12 (dk_at dksX0_claque_1 9 rfl rfl)
theorem dX0_claque_35 : decode cX0_claque 35 = .ok (.invokestatic 207, 3) := dk_184 0 207 (dk_at dksX0_claque_1 11 rfl rfl)
theorem dX0_claque_38 : decode cX0_claque 38 = .ok (.ifCond .eq 13, 3) := dk_153 0 13 (dk_at dksX0_claque_1 14 rfl rfl)
theorem dX0_claque_41 : decode cX0_claque 41 = .ok (.aload_n 0, 1) := dk_42 (dk_at dksX0_claque_1 17 rfl rfl)
theorem dX0_claque_42 : decode cX0_claque 42 = .ok (.getfield 179, 3) := dk_180 0 179 (dk_at dksX0_claque_1 18 rfl rfl)
theorem dX0_claque_45 : decode cX0_claque 45 = .ok (.arraylength, 1) := dk_190 (dk_at dksX0_claque_1 21 rfl rfl)
theorem dX0_claque_46 : decode cX0_claque 46 = .ok (.bipush 8, 2) := dk_16 8 (dk_at dksX0_claque_1 22 rfl rfl)
theorem dX0_claque_48 : decode cX0_claque 48 = .ok (.if_icmp .ne 5, 3) := dk_160 0 5 (dk_at dksX0_claque_2 0 rfl rfl)
theorem dX0_claque_51 : decode cX0_claque 51 = .ok (.iconst (-1), 1) := dk_2 (dk_at dksX0_claque_2 3 rfl rfl)
theorem dX0_claque_52 : decode cX0_claque 52 = .ok (.ireturn, 1) := dk_172 (dk_at dksX0_claque_2 4 rfl rfl)
theorem dX0_claque_53 : decode cX0_claque 53 = .ok (.aload_n 0, 1) := dk_42 (dk_at dksX0_claque_2 5 rfl rfl)
theorem dX0_claque_54 : decode cX0_claque 54 = .ok (.getfield 179, 3) := dk_180 0 179 (dk_at dksX0_claque_2 6 rfl rfl)
theorem dX0_claque_57 : decode cX0_claque 57 = .ok (.arraylength, 1) := dk_190 (dk_at dksX0_claque_2 9 rfl rfl)
theorem dX0_claque_58 : decode cX0_claque 58 = .ok (.iconst 1, 1) := dk_4 (dk_at dksX0_claque_2 10 rfl rfl)
theorem dX0_claque_59 : decode cX0_claque 59 = .ok (.iadd, 1) := dk_96 (dk_at dksX0_claque_2 11 rfl rfl)
theorem dX0_claque_60 : decode cX0_claque 60 = .ok (.anewarray 177, 3) := dk_189 0 177 (dk_at dksX0_claque_2 12 rfl rfl)
theorem dX0_claque_63 : decode cX0_claque 63 = .ok (.astore_n 3, 1) := dk_78 (dk_at dksX0_claque_2 15 rfl rfl)
theorem dX0_claque_64 : decode cX0_claque 64 = .ok (.iconst 0, 1) := dk_3 (dk_at dksX0_claque_2 16 rfl rfl)
theorem dX0_claque_65 : decode cX0_claque 65 = .ok (.istore 4, 2) := dk_54 4 (dk_at dksX0_claque_2 17 rfl rfl)
theorem dX0_claque_67 : decode cX0_claque 67 = .ok (.iload 4, 2) := dk_21 4 (dk_at dksX0_claque_2 19 rfl rfl)
theorem dX0_claque_69 : decode cX0_claque 69 = .ok (.aload_n 0, 1) := dk_42 (dk_at dksX0_claque_2 21 rfl rfl)
theorem dX0_claque_70 : decode cX0_claque 70 = .ok (.getfield 179, 3) := dk_180 0 179 (dk_at dksX0_claque_3 0 rfl rfl)
theorem dX0_claque_73 : decode cX0_claque 73 = .ok (.arraylength, 1) := dk_190 (dk_at dksX0_claque_3 3 rfl rfl)
theorem dX0_claque_74 : decode cX0_claque 74 = .ok (.if_icmp .ge 20, 3) := dk_162 0 20 (dk_at dksX0_claque_3 4 rfl rfl)
theorem dX0_claque_77 : decode cX0_claque 77 = .ok (.aload_n 3, 1) := dk_45 (dk_at dksX0_claque_3 7 rfl rfl)
theorem dX0_claque_78 : decode cX0_claque 78 = .ok (.iload 4, 2) := dk_21 4 (dk_at dksX0_claque_3 8 rfl rfl)
theorem dX0_claque_80 : decode cX0_claque 80 = .ok (.aload_n 0, 1) := dk_42 (dk_at dksX0_claque_3 10 rfl rfl)
theorem dX0_claque_81 : decode cX0_claque 81 = .ok (.getfield 179, 3) := dk_180 0 179 (dk_at dksX0_claque_3 11 rfl rfl)
theorem dX0_claque_84 : decode cX0_claque 84 = .ok (.iload 4, 2) := dk_21 4 (dk_at dksX0_claque_3 14 rfl rfl)
theorem dX0_claque_86 : decode cX0_claque 86 = .ok (.aaload, 1) := dk_50 (dk_at dksX0_claque_3 16 rfl rfl)
theorem dX0_claque_87 : decode cX0_claque 87 = .ok (.aastore, 1) := dk_83 (dk_at dksX0_claque_3 17 rfl rfl)
theorem dX0_claque_88 : decode cX0_claque 88 = .ok (.iinc 4 1, 3) := dk_132 4 1 (dk_at dksX0_claque_3 18 rfl rfl)
theorem dX0_claque_91 : decode cX0_claque 91 = .ok (.goto (-24), 3) := dk_167 255 232 (dk_at dksX0_claque_3 21 rfl rfl)
theorem dX0_claque_94 : decode cX0_claque 94 = .ok (.aload_n 0, 1) := dk_42 (dk_at dksX0_claque_4 0 rfl rfl)
theorem dX0_claque_95 : decode cX0_claque 95 = .ok (.aload_n 3, 1) := dk_45 (dk_at dksX0_claque_4 1 rfl rfl)
theorem dX0_claque_96 : decode cX0_claque 96 = .ok (.putfield 179, 3) := dk_181 0 179 (dk_at dksX0_claque_4 2 rfl rfl)
theorem dX0_claque_99 : decode cX0_claque 99 = .ok (.aload_n 0, 1) := dk_42 (dk_at dksX0_claque_4 5 rfl rfl)
theorem dX0_claque_100 : decode cX0_claque 100 = .ok (.getfield 179, 3) := dk_180 0 179 (dk_at dksX0_claque_4 6 rfl rfl)
theorem dX0_claque_103 : decode cX0_claque 103 = .ok (.aload_n 0, 1) := dk_42 (dk_at dksX0_claque_4 9 rfl rfl)
theorem dX0_claque_104 : decode cX0_claque 104 = .ok (.getfield 179, 3) := dk_180 0 179 (dk_at dksX0_claque_4 10 rfl rfl)
theorem dX0_claque_107 : decode cX0_claque 107 = .ok (.arraylength, 1) := dk_190 (dk_at dksX0_claque_4 13 rfl rfl)
theorem dX0_claque_108 : decode cX0_claque 108 = .ok (.iconst 1, 1) := dk_4 (dk_at dksX0_claque_4 14 rfl rfl)
theorem dX0_claque_109 : decode cX0_claque 109 = .ok (.isub, 1) := dk_100 (dk_at dksX0_claque_4 15 rfl rfl)
theorem dX0_claque_110 : decode cX0_claque 110 = .ok (.new 177, 3) := dk_187 0 177 (dk_at dksX0_claque_4 16 rfl rfl)
theorem dX0_claque_113 : decode cX0_claque 113 = .ok (.dup, 1) := dk_89 (dk_at dksX0_claque_4 19 rfl rfl)
theorem dX0_claque_114 : decode cX0_claque 114 = .ok (.iload_n 1, 1) := dk_27 (dk_at dksX0_claque_4 20 rfl rfl)
theorem dX0_claque_115 : decode cX0_claque 115 = .ok (.iload_n 2, 1) := dk_28 (dk_at dksX0_claque_4 21 rfl rfl)
theorem dX0_claque_116 : decode cX0_claque 116 = .ok (.invokespecial 541, 3) := dk_183 2 29 (dk_at dksX0_claque_5 0 rfl rfl)
theorem dX0_claque_119 : decode cX0_claque 119 = .ok (.aastore, 1) := dk_83 (dk_at dksX0_claque_5 3 rfl rfl)
theorem dX0_claque_120 : decode cX0_claque 120 = .ok (.aload_n 0, 1) := dk_42 (dk_at dksX0_claque_5 4 rfl rfl)
theorem dX0_claque_121 : decode cX0_claque 121 = .ok (.getfield 179, 3) := dk_180 0 179 (dk_at dksX0_claque_5 5 rfl rfl)
theorem dX0_claque_124 : decode cX0_claque 124 = .ok (.arraylength, 1) := dk_190 (dk_at dksX0_claque_5 8 rfl rfl)
theorem dX0_claque_125 : decode cX0_claque 125 = .ok (.ireturn, 1) := dk_172 (dk_at dksX0_claque_5 9 rfl rfl)
abbrev cX0_fits : ByteArray := prog_1_method_78_code
def yX0_fits : MethodName := ⟨RX0, "fits", "(I)I"⟩
def dkwX0_fits_7 : List UInt8 := [21, 5, 186, 2, 44, 0, 0, 184, 2, 47, 172]
abbrev dktX0_fits_7 : List UInt8 := dkwX0_fits_7 ++ []
def dkwX0_fits_6 : List UInt8 := [167, 0, 5, 21, 4, 172, 28, 54, 5, 28, 5, 162, 0, 7, 2, 167, 0, 18, 42, 180, 1, 113, 42]
abbrev dktX0_fits_6 : List UInt8 := dkwX0_fits_6 ++ dktX0_fits_7
def dkwX0_fits_5 : List UInt8 := [167, 255, 168, 27, 6, 162, 0, 23, 27, 154, 0, 7, 28, 167, 0, 14, 27, 4, 160, 0, 7, 29]
abbrev dktX0_fits_5 : List UInt8 := dkwX0_fits_5 ++ dktX0_fits_6
def dkwX0_fits_4 : List UInt8 := [21, 6, 184, 1, 225, 153, 0, 7, 4, 167, 0, 4, 3, 96, 79, 132, 6, 1, 167, 255, 219, 132, 5, 1]
abbrev dktX0_fits_4 : List UInt8 := dkwX0_fits_4 ++ dktX0_fits_5
def dkwX0_fits_3 : List UInt8 := [54, 4, 3, 54, 6, 21, 6, 42, 180, 1, 113, 162, 0, 34, 42, 180, 0, 183, 21, 6, 92, 46, 21, 5]
abbrev dktX0_fits_3 : List UInt8 := dkwX0_fits_3 ++ dktX0_fits_4
def dkwX0_fits_2 : List UInt8 := [154, 0, 6, 167, 0, 65, 132, 2, 1, 29, 2, 160, 0, 8, 21, 5, 167, 0, 4, 29, 62, 21, 5]
abbrev dktX0_fits_2 : List UInt8 := dkwX0_fits_2 ++ dktX0_fits_3
def dkwX0_fits_1 : List UInt8 := [54, 4, 3, 54, 5, 21, 5, 4, 42, 180, 1, 113, 120, 162, 0, 83, 42, 21, 5, 182, 2, 41]
abbrev dktX0_fits_1 : List UInt8 := dkwX0_fits_1 ++ dktX0_fits_2
def dkwX0_fits_0 : List UInt8 := [27, 3, 6, 184, 0, 207, 154, 0, 5, 2, 172, 42, 180, 0, 183, 3, 184, 2, 35, 3, 61, 2, 62, 2]
abbrev dktX0_fits_0 : List UInt8 := dkwX0_fits_0 ++ dktX0_fits_1
theorem dksX0_fits_0 : cX0_fits.data.toList.drop 0 = dktX0_fits_0 := by decide +kernel
theorem dksX0_fits_1 : cX0_fits.data.toList.drop 24 = dktX0_fits_1 := dk_seg dksX0_fits_0 24 rfl rfl
theorem dksX0_fits_2 : cX0_fits.data.toList.drop 46 = dktX0_fits_2 := dk_seg dksX0_fits_1 22 rfl rfl
theorem dksX0_fits_3 : cX0_fits.data.toList.drop 69 = dktX0_fits_3 := dk_seg dksX0_fits_2 23 rfl rfl
theorem dksX0_fits_4 : cX0_fits.data.toList.drop 93 = dktX0_fits_4 := dk_seg dksX0_fits_3 24 rfl rfl
theorem dksX0_fits_5 : cX0_fits.data.toList.drop 117 = dktX0_fits_5 := dk_seg dksX0_fits_4 24 rfl rfl
theorem dksX0_fits_6 : cX0_fits.data.toList.drop 139 = dktX0_fits_6 := dk_seg dksX0_fits_5 22 rfl rfl
theorem dksX0_fits_7 : cX0_fits.data.toList.drop 162 = dktX0_fits_7 := dk_seg dksX0_fits_6 23 rfl rfl
theorem dX0_fits_0 : decode cX0_fits 0 = .ok (.iload_n 1, 1) := dk_27 (dk_at dksX0_fits_0 0 rfl rfl)
theorem dX0_fits_1 : decode cX0_fits 1 = .ok (.iconst 0, 1) := dk_3 (dk_at dksX0_fits_0 1 rfl rfl)
theorem dX0_fits_2 : decode cX0_fits 2 = .ok (.iconst 3, 1) := dk_6 (dk_at dksX0_fits_0 2 rfl rfl)
theorem dX0_fits_3 : decode cX0_fits 3 = .ok (.invokestatic 207, 3) := dk_184 0 207 (dk_at dksX0_fits_0 3 rfl rfl)
theorem dX0_fits_6 : decode cX0_fits 6 = .ok (.ifCond .ne 5, 3) := dk_154 0 5 (dk_at dksX0_fits_0 6 rfl rfl)
theorem dX0_fits_9 : decode cX0_fits 9 = .ok (.iconst (-1), 1) := dk_2 (dk_at dksX0_fits_0 9 rfl rfl)
theorem dX0_fits_10 : decode cX0_fits 10 = .ok (.ireturn, 1) := dk_172 (dk_at dksX0_fits_0 10 rfl rfl)
theorem dX0_fits_11 : decode cX0_fits 11 = .ok (.aload_n 0, 1) := dk_42 (dk_at dksX0_fits_0 11 rfl rfl)
theorem dX0_fits_12 : decode cX0_fits 12 = .ok (.getfield 183, 3) := dk_180 0 183 (dk_at dksX0_fits_0 12 rfl rfl)
theorem dX0_fits_15 : decode cX0_fits 15 = .ok (.iconst 0, 1) := dk_3 (dk_at dksX0_fits_0 15 rfl rfl)
theorem dX0_fits_16 : decode cX0_fits 16 = .ok (.invokestatic 547, 3) := dk_184 2 35 (dk_at dksX0_fits_0 16 rfl rfl)
theorem dX0_fits_19 : decode cX0_fits 19 = .ok (.iconst 0, 1) := dk_3 (dk_at dksX0_fits_0 19 rfl rfl)
theorem dX0_fits_20 : decode cX0_fits 20 = .ok (.istore_n 2, 1) := dk_61 (dk_at dksX0_fits_0 20 rfl rfl)
theorem dX0_fits_21 : decode cX0_fits 21 = .ok (.iconst (-1), 1) := dk_2 (dk_at dksX0_fits_0 21 rfl rfl)
theorem dX0_fits_22 : decode cX0_fits 22 = .ok (.istore_n 3, 1) := dk_62 (dk_at dksX0_fits_0 22 rfl rfl)
theorem dX0_fits_23 : decode cX0_fits 23 = .ok (.iconst (-1), 1) := dk_2 (dk_at dksX0_fits_0 23 rfl rfl)
theorem dX0_fits_24 : decode cX0_fits 24 = .ok (.istore 4, 2) := dk_54 4 (dk_at dksX0_fits_1 0 rfl rfl)
theorem dX0_fits_26 : decode cX0_fits 26 = .ok (.iconst 0, 1) := dk_3 (dk_at dksX0_fits_1 2 rfl rfl)
theorem dX0_fits_27 : decode cX0_fits 27 = .ok (.istore 5, 2) := dk_54 5 (dk_at dksX0_fits_1 3 rfl rfl)
theorem dX0_fits_29 : decode cX0_fits 29 = .ok (.iload 5, 2) := dk_21 5 (dk_at dksX0_fits_1 5 rfl rfl)
theorem dX0_fits_31 : decode cX0_fits 31 = .ok (.iconst 1, 1) := dk_4 (dk_at dksX0_fits_1 7 rfl rfl)
theorem dX0_fits_32 : decode cX0_fits 32 = .ok (.aload_n 0, 1) := dk_42 (dk_at dksX0_fits_1 8 rfl rfl)
theorem dX0_fits_33 : decode cX0_fits 33 = .ok (.getfield 369, 3) := dk_180 1 113 (dk_at dksX0_fits_1 9 rfl rfl)
theorem dX0_fits_36 : decode cX0_fits 36 = .ok (.ishl, 1) := dk_120 (dk_at dksX0_fits_1 12 rfl rfl)
theorem dX0_fits_37 : decode cX0_fits 37 = .ok (.if_icmp .ge 83, 3) := dk_162 0 83 (dk_at dksX0_fits_1 13 rfl rfl)
theorem dX0_fits_40 : decode cX0_fits 40 = .ok (.aload_n 0, 1) := dk_42 (dk_at dksX0_fits_1 16 rfl rfl)
theorem dX0_fits_41 : decode cX0_fits 41 = .ok (.iload 5, 2) := dk_21 5 (dk_at dksX0_fits_1 17 rfl rfl)
theorem dX0_fits_43 : decode cX0_fits 43 = .ok (.invokevirtual 553, 3) := dk_182 2 41 (dk_at dksX0_fits_1 19 rfl rfl)
theorem dX0_fits_46 : decode cX0_fits 46 = .ok (.ifCond .ne 6, 3) := dk_154 0 6 (dk_at dksX0_fits_2 0 rfl rfl)
theorem dX0_fits_49 : decode cX0_fits 49 = .ok (.goto 65, 3) := dk_167 0 65 (dk_at dksX0_fits_2 3 rfl rfl)
theorem dX0_fits_52 : decode cX0_fits 52 = .ok (.iinc 2 1, 3) := dk_132 2 1 (dk_at dksX0_fits_2 6 rfl rfl)
theorem dX0_fits_55 : decode cX0_fits 55 = .ok (.iload_n 3, 1) := dk_29 (dk_at dksX0_fits_2 9 rfl rfl)
theorem dX0_fits_56 : decode cX0_fits 56 = .ok (.iconst (-1), 1) := dk_2 (dk_at dksX0_fits_2 10 rfl rfl)
theorem dX0_fits_57 : decode cX0_fits 57 = .ok (.if_icmp .ne 8, 3) := dk_160 0 8 (dk_at dksX0_fits_2 11 rfl rfl)
theorem dX0_fits_60 : decode cX0_fits 60 = .ok (.iload 5, 2) := dk_21 5 (dk_at dksX0_fits_2 14 rfl rfl)
theorem dX0_fits_62 : decode cX0_fits 62 = .ok (.goto 4, 3) := dk_167 0 4 (dk_at dksX0_fits_2 16 rfl rfl)
theorem dX0_fits_65 : decode cX0_fits 65 = .ok (.iload_n 3, 1) := dk_29 (dk_at dksX0_fits_2 19 rfl rfl)
theorem dX0_fits_66 : decode cX0_fits 66 = .ok (.istore_n 3, 1) := dk_62 (dk_at dksX0_fits_2 20 rfl rfl)
theorem dX0_fits_67 : decode cX0_fits 67 = .ok (.iload 5, 2) := dk_21 5 (dk_at dksX0_fits_2 21 rfl rfl)
theorem dX0_fits_69 : decode cX0_fits 69 = .ok (.istore 4, 2) := dk_54 4 (dk_at dksX0_fits_3 0 rfl rfl)
theorem dX0_fits_71 : decode cX0_fits 71 = .ok (.iconst 0, 1) := dk_3 (dk_at dksX0_fits_3 2 rfl rfl)
theorem dX0_fits_72 : decode cX0_fits 72 = .ok (.istore 6, 2) := dk_54 6 (dk_at dksX0_fits_3 3 rfl rfl)
theorem dX0_fits_74 : decode cX0_fits 74 = .ok (.iload 6, 2) := dk_21 6 (dk_at dksX0_fits_3 5 rfl rfl)
theorem dX0_fits_76 : decode cX0_fits 76 = .ok (.aload_n 0, 1) := dk_42 (dk_at dksX0_fits_3 7 rfl rfl)
theorem dX0_fits_77 : decode cX0_fits 77 = .ok (.getfield 369, 3) := dk_180 1 113 (dk_at dksX0_fits_3 8 rfl rfl)
theorem dX0_fits_80 : decode cX0_fits 80 = .ok (.if_icmp .ge 34, 3) := dk_162 0 34 (dk_at dksX0_fits_3 11 rfl rfl)
theorem dX0_fits_83 : decode cX0_fits 83 = .ok (.aload_n 0, 1) := dk_42 (dk_at dksX0_fits_3 14 rfl rfl)
theorem dX0_fits_84 : decode cX0_fits 84 = .ok (.getfield 183, 3) := dk_180 0 183 (dk_at dksX0_fits_3 15 rfl rfl)
theorem dX0_fits_87 : decode cX0_fits 87 = .ok (.iload 6, 2) := dk_21 6 (dk_at dksX0_fits_3 18 rfl rfl)
theorem dX0_fits_89 : decode cX0_fits 89 = .ok (.dup2, 1) := dk_92 (dk_at dksX0_fits_3 20 rfl rfl)
theorem dX0_fits_90 : decode cX0_fits 90 = .ok (.iaload, 1) := dk_46 (dk_at dksX0_fits_3 21 rfl rfl)
theorem dX0_fits_91 : decode cX0_fits 91 = .ok (.iload 5, 2) := dk_21 5 (dk_at dksX0_fits_3 22 rfl rfl)
theorem dX0_fits_93 : decode cX0_fits 93 = .ok (.iload 6, 2) := dk_21 6 (dk_at dksX0_fits_4 0 rfl rfl)
theorem dX0_fits_95 : decode cX0_fits 95 = .ok (.invokestatic 481, 3) := dk_184 1 225 (dk_at dksX0_fits_4 2 rfl rfl)
theorem dX0_fits_98 : decode cX0_fits 98 = .ok (.ifCond .eq 7, 3) := dk_153 0 7 (dk_at dksX0_fits_4 5 rfl rfl)
theorem dX0_fits_101 : decode cX0_fits 101 = .ok (.iconst 1, 1) := dk_4 (dk_at dksX0_fits_4 8 rfl rfl)
theorem dX0_fits_102 : decode cX0_fits 102 = .ok (.goto 4, 3) := dk_167 0 4 (dk_at dksX0_fits_4 9 rfl rfl)
theorem dX0_fits_105 : decode cX0_fits 105 = .ok (.iconst 0, 1) := dk_3 (dk_at dksX0_fits_4 12 rfl rfl)
theorem dX0_fits_106 : decode cX0_fits 106 = .ok (.iadd, 1) := dk_96 (dk_at dksX0_fits_4 13 rfl rfl)
theorem dX0_fits_107 : decode cX0_fits 107 = .ok (.iastore, 1) := dk_79 (dk_at dksX0_fits_4 14 rfl rfl)
theorem dX0_fits_108 : decode cX0_fits 108 = .ok (.iinc 6 1, 3) := dk_132 6 1 (dk_at dksX0_fits_4 15 rfl rfl)
theorem dX0_fits_111 : decode cX0_fits 111 = .ok (.goto (-37), 3) := dk_167 255 219 (dk_at dksX0_fits_4 18 rfl rfl)
theorem dX0_fits_114 : decode cX0_fits 114 = .ok (.iinc 5 1, 3) := dk_132 5 1 (dk_at dksX0_fits_4 21 rfl rfl)
theorem dX0_fits_117 : decode cX0_fits 117 = .ok (.goto (-88), 3) := dk_167 255 168 (dk_at dksX0_fits_5 0 rfl rfl)
theorem dX0_fits_120 : decode cX0_fits 120 = .ok (.iload_n 1, 1) := dk_27 (dk_at dksX0_fits_5 3 rfl rfl)
theorem dX0_fits_121 : decode cX0_fits 121 = .ok (.iconst 3, 1) := dk_6 (dk_at dksX0_fits_5 4 rfl rfl)
theorem dX0_fits_122 : decode cX0_fits 122 = .ok (.if_icmp .ge 23, 3) := dk_162 0 23 (dk_at dksX0_fits_5 5 rfl rfl)
theorem dX0_fits_125 : decode cX0_fits 125 = .ok (.iload_n 1, 1) := dk_27 (dk_at dksX0_fits_5 8 rfl rfl)
theorem dX0_fits_126 : decode cX0_fits 126 = .ok (.ifCond .ne 7, 3) := dk_154 0 7 (dk_at dksX0_fits_5 9 rfl rfl)
theorem dX0_fits_129 : decode cX0_fits 129 = .ok (.iload_n 2, 1) := dk_28 (dk_at dksX0_fits_5 12 rfl rfl)
theorem dX0_fits_130 : decode cX0_fits 130 = .ok (.goto 14, 3) := dk_167 0 14 (dk_at dksX0_fits_5 13 rfl rfl)
theorem dX0_fits_133 : decode cX0_fits 133 = .ok (.iload_n 1, 1) := dk_27 (dk_at dksX0_fits_5 16 rfl rfl)
theorem dX0_fits_134 : decode cX0_fits 134 = .ok (.iconst 1, 1) := dk_4 (dk_at dksX0_fits_5 17 rfl rfl)
theorem dX0_fits_135 : decode cX0_fits 135 = .ok (.if_icmp .ne 7, 3) := dk_160 0 7 (dk_at dksX0_fits_5 18 rfl rfl)
theorem dX0_fits_138 : decode cX0_fits 138 = .ok (.iload_n 3, 1) := dk_29 (dk_at dksX0_fits_5 21 rfl rfl)
theorem dX0_fits_139 : decode cX0_fits 139 = .ok (.goto 5, 3) := dk_167 0 5 (dk_at dksX0_fits_6 0 rfl rfl)
theorem dX0_fits_142 : decode cX0_fits 142 = .ok (.iload 4, 2) := dk_21 4 (dk_at dksX0_fits_6 3 rfl rfl)
theorem dX0_fits_144 : decode cX0_fits 144 = .ok (.ireturn, 1) := dk_172 (dk_at dksX0_fits_6 5 rfl rfl)
theorem dX0_fits_145 : decode cX0_fits 145 = .ok (.iload_n 2, 1) := dk_28 (dk_at dksX0_fits_6 6 rfl rfl)
theorem dX0_fits_146 : decode cX0_fits 146 = .ok (.istore 5, 2) := dk_54 5 (dk_at dksX0_fits_6 7 rfl rfl)
theorem dX0_fits_148 : decode cX0_fits 148 = .ok (.iload_n 2, 1) := dk_28 (dk_at dksX0_fits_6 9 rfl rfl)
theorem dX0_fits_149 : decode cX0_fits 149 = .ok (.iconst 2, 1) := dk_5 (dk_at dksX0_fits_6 10 rfl rfl)
theorem dX0_fits_150 : decode cX0_fits 150 = .ok (.if_icmp .ge 7, 3) := dk_162 0 7 (dk_at dksX0_fits_6 11 rfl rfl)
theorem dX0_fits_153 : decode cX0_fits 153 = .ok (.iconst (-1), 1) := dk_2 (dk_at dksX0_fits_6 14 rfl rfl)
theorem dX0_fits_154 : decode cX0_fits 154 = .ok (.goto 18, 3) := dk_167 0 18 (dk_at dksX0_fits_6 15 rfl rfl)
theorem dX0_fits_157 : decode cX0_fits 157 = .ok (.aload_n 0, 1) := dk_42 (dk_at dksX0_fits_6 18 rfl rfl)
theorem dX0_fits_158 : decode cX0_fits 158 = .ok (.getfield 369, 3) := dk_180 1 113 (dk_at dksX0_fits_6 19 rfl rfl)
theorem dX0_fits_161 : decode cX0_fits 161 = .ok (.aload_n 0, 1) := dk_42 (dk_at dksX0_fits_6 22 rfl rfl)
theorem dX0_fits_162 : decode cX0_fits 162 = .ok (.iload 5, 2) := dk_21 5 (dk_at dksX0_fits_7 0 rfl rfl)
theorem dX0_fits_164 : decode cX0_fits 164 = .ok (.invokedynamic 556, 5) := by decide +kernel
theorem dX0_fits_169 : decode cX0_fits 169 = .ok (.invokestatic 559, 3) := dk_184 2 47 (dk_at dksX0_fits_7 7 rfl rfl)
theorem dX0_fits_172 : decode cX0_fits 172 = .ok (.ireturn, 1) := dk_172 (dk_at dksX0_fits_7 10 rfl rfl)
abbrev cX0_fitsAll : ByteArray := prog_1_method_77_code
def yX0_fitsAll : MethodName := ⟨RX0, "fitsAll", "(I)Z"⟩
def dkwX0_fitsAll_2 : List UInt8 := [172]
abbrev dktX0_fitsAll_2 : List UInt8 := dkwX0_fitsAll_2 ++ []
def dkwX0_fitsAll_1 : List UInt8 := [184, 2, 11, 42, 180, 0, 179, 28, 50, 182, 2, 33, 159, 0, 5, 3, 172, 132, 2, 1, 167, 255, 216, 4]
abbrev dktX0_fitsAll_1 : List UInt8 := dkwX0_fitsAll_1 ++ dktX0_fitsAll_2
def dkwX0_fitsAll_0 : List UInt8 := [3, 61, 28, 42, 180, 0, 179, 190, 162, 0, 37, 27, 42, 180, 0, 179, 28, 50, 182, 2, 30, 126]
abbrev dktX0_fitsAll_0 : List UInt8 := dkwX0_fitsAll_0 ++ dktX0_fitsAll_1
theorem dksX0_fitsAll_0 : cX0_fitsAll.data.toList.drop 0 = dktX0_fitsAll_0 := by decide +kernel
theorem dksX0_fitsAll_1 : cX0_fitsAll.data.toList.drop 22 = dktX0_fitsAll_1 := dk_seg dksX0_fitsAll_0 22 rfl rfl
theorem dksX0_fitsAll_2 : cX0_fitsAll.data.toList.drop 46 = dktX0_fitsAll_2 := dk_seg dksX0_fitsAll_1 24 rfl rfl
theorem dX0_fitsAll_0 : decode cX0_fitsAll 0 = .ok (.iconst 0, 1) := dk_3 (dk_at dksX0_fitsAll_0 0 rfl rfl)
theorem dX0_fitsAll_1 : decode cX0_fitsAll 1 = .ok (.istore_n 2, 1) := dk_61 (dk_at dksX0_fitsAll_0 1 rfl rfl)
theorem dX0_fitsAll_2 : decode cX0_fitsAll 2 = .ok (.iload_n 2, 1) := dk_28 (dk_at dksX0_fitsAll_0 2 rfl rfl)
theorem dX0_fitsAll_3 : decode cX0_fitsAll 3 = .ok (.aload_n 0, 1) := dk_42 (dk_at dksX0_fitsAll_0 3 rfl rfl)
theorem dX0_fitsAll_4 : decode cX0_fitsAll 4 = .ok (.getfield 179, 3) := dk_180 0 179 (dk_at dksX0_fitsAll_0 4 rfl rfl)
theorem dX0_fitsAll_7 : decode cX0_fitsAll 7 = .ok (.arraylength, 1) := dk_190 (dk_at dksX0_fitsAll_0 7 rfl rfl)
theorem dX0_fitsAll_8 : decode cX0_fitsAll 8 = .ok (.if_icmp .ge 37, 3) := dk_162 0 37 (dk_at dksX0_fitsAll_0 8 rfl rfl)
theorem dX0_fitsAll_11 : decode cX0_fitsAll 11 = .ok (.iload_n 1, 1) := dk_27 (dk_at dksX0_fitsAll_0 11 rfl rfl)
theorem dX0_fitsAll_12 : decode cX0_fitsAll 12 = .ok (.aload_n 0, 1) := dk_42 (dk_at dksX0_fitsAll_0 12 rfl rfl)
theorem dX0_fitsAll_13 : decode cX0_fitsAll 13 = .ok (.getfield 179, 3) := dk_180 0 179 (dk_at dksX0_fitsAll_0 13 rfl rfl)
theorem dX0_fitsAll_16 : decode cX0_fitsAll 16 = .ok (.iload_n 2, 1) := dk_28 (dk_at dksX0_fitsAll_0 16 rfl rfl)
theorem dX0_fitsAll_17 : decode cX0_fitsAll 17 = .ok (.aaload, 1) := dk_50 (dk_at dksX0_fitsAll_0 17 rfl rfl)
theorem dX0_fitsAll_18 : decode cX0_fitsAll 18 = .ok (.invokevirtual 542, 3) := dk_182 2 30 (dk_at dksX0_fitsAll_0 18 rfl rfl)
theorem dX0_fitsAll_21 : decode cX0_fitsAll 21 = .ok (.iand, 1) := dk_126 (dk_at dksX0_fitsAll_0 21 rfl rfl)
theorem dX0_fitsAll_22 : decode cX0_fitsAll 22 = .ok (.invokestatic 523, 3) := dk_184 2 11 (dk_at dksX0_fitsAll_1 0 rfl rfl)
theorem dX0_fitsAll_25 : decode cX0_fitsAll 25 = .ok (.aload_n 0, 1) := dk_42 (dk_at dksX0_fitsAll_1 3 rfl rfl)
theorem dX0_fitsAll_26 : decode cX0_fitsAll 26 = .ok (.getfield 179, 3) := dk_180 0 179 (dk_at dksX0_fitsAll_1 4 rfl rfl)
theorem dX0_fitsAll_29 : decode cX0_fitsAll 29 = .ok (.iload_n 2, 1) := dk_28 (dk_at dksX0_fitsAll_1 7 rfl rfl)
theorem dX0_fitsAll_30 : decode cX0_fitsAll 30 = .ok (.aaload, 1) := dk_50 (dk_at dksX0_fitsAll_1 8 rfl rfl)
theorem dX0_fitsAll_31 : decode cX0_fitsAll 31 = .ok (.invokevirtual 545, 3) := dk_182 2 33 (dk_at dksX0_fitsAll_1 9 rfl rfl)
theorem dX0_fitsAll_34 : decode cX0_fitsAll 34 = .ok (.if_icmp .eq 5, 3) := dk_159 0 5 (dk_at dksX0_fitsAll_1 12 rfl rfl)
theorem dX0_fitsAll_37 : decode cX0_fitsAll 37 = .ok (.iconst 0, 1) := dk_3 (dk_at dksX0_fitsAll_1 15 rfl rfl)
theorem dX0_fitsAll_38 : decode cX0_fitsAll 38 = .ok (.ireturn, 1) := dk_172 (dk_at dksX0_fitsAll_1 16 rfl rfl)
theorem dX0_fitsAll_39 : decode cX0_fitsAll 39 = .ok (.iinc 2 1, 3) := dk_132 2 1 (dk_at dksX0_fitsAll_1 17 rfl rfl)
theorem dX0_fitsAll_42 : decode cX0_fitsAll 42 = .ok (.goto (-40), 3) := dk_167 255 216 (dk_at dksX0_fitsAll_1 20 rfl rfl)
theorem dX0_fitsAll_45 : decode cX0_fitsAll 45 = .ok (.iconst 1, 1) := dk_4 (dk_at dksX0_fitsAll_1 23 rfl rfl)
theorem dX0_fitsAll_46 : decode cX0_fitsAll 46 = .ok (.ireturn, 1) := dk_172 (dk_at dksX0_fitsAll_2 0 rfl rfl)
abbrev cX0_lambda_fits_0 : ByteArray := prog_1_method_103_code
def yX0_lambda_fits_0 : MethodName := ⟨RX0, "lambda$fits$0", "(II)I"⟩
def dkwX0_lambda_fits_0_0 : List UInt8 := [42, 180, 0, 183, 28, 46, 27, 42, 180, 0, 183, 28, 46, 100, 184, 0, 7, 172]
abbrev dktX0_lambda_fits_0_0 : List UInt8 := dkwX0_lambda_fits_0_0 ++ []
theorem dksX0_lambda_fits_0_0 : cX0_lambda_fits_0.data.toList.drop 0 = dktX0_lambda_fits_0_0 := by decide +kernel
theorem dX0_lambda_fits_0_0 : decode cX0_lambda_fits_0 0 = .ok (.aload_n 0, 1) := dk_42 (dk_at dksX0_lambda_fits_0_0 0 rfl rfl)
theorem dX0_lambda_fits_0_1 : decode cX0_lambda_fits_0 1 = .ok (.getfield 183, 3) := dk_180 0 183 (dk_at dksX0_lambda_fits_0_0 1 rfl rfl)
theorem dX0_lambda_fits_0_4 : decode cX0_lambda_fits_0 4 = .ok (.iload_n 2, 1) := dk_28 (dk_at dksX0_lambda_fits_0_0 4 rfl rfl)
theorem dX0_lambda_fits_0_5 : decode cX0_lambda_fits_0 5 = .ok (.iaload, 1) := dk_46 (dk_at dksX0_lambda_fits_0_0 5 rfl rfl)
theorem dX0_lambda_fits_0_6 : decode cX0_lambda_fits_0 6 = .ok (.iload_n 1, 1) := dk_27 (dk_at dksX0_lambda_fits_0_0 6 rfl rfl)
theorem dX0_lambda_fits_0_7 : decode cX0_lambda_fits_0 7 = .ok (.aload_n 0, 1) := dk_42 (dk_at dksX0_lambda_fits_0_0 7 rfl rfl)
theorem dX0_lambda_fits_0_8 : decode cX0_lambda_fits_0 8 = .ok (.getfield 183, 3) := dk_180 0 183 (dk_at dksX0_lambda_fits_0_0 8 rfl rfl)
theorem dX0_lambda_fits_0_11 : decode cX0_lambda_fits_0 11 = .ok (.iload_n 2, 1) := dk_28 (dk_at dksX0_lambda_fits_0_0 11 rfl rfl)
theorem dX0_lambda_fits_0_12 : decode cX0_lambda_fits_0 12 = .ok (.iaload, 1) := dk_46 (dk_at dksX0_lambda_fits_0_0 12 rfl rfl)
theorem dX0_lambda_fits_0_13 : decode cX0_lambda_fits_0 13 = .ok (.isub, 1) := dk_100 (dk_at dksX0_lambda_fits_0_0 13 rfl rfl)
theorem dX0_lambda_fits_0_14 : decode cX0_lambda_fits_0 14 = .ok (.invokestatic 7, 3) := dk_184 0 7 (dk_at dksX0_lambda_fits_0_0 14 rfl rfl)
theorem dX0_lambda_fits_0_17 : decode cX0_lambda_fits_0 17 = .ok (.ireturn, 1) := dk_172 (dk_at dksX0_lambda_fits_0_0 17 rfl rfl)
abbrev cX0_leastBy : ByteArray := prog_1_method_6_code
def yX0_leastBy : MethodName := ⟨RX0, "leastBy", "(ILEncores$Measure;)I"⟩
def dkwX0_leastBy_1 : List UInt8 := [43, 28, 185, 0, 24, 2, 0, 162, 0, 7, 29, 167, 0, 4, 28, 61, 132, 3, 1, 167, 255, 225, 28, 172]
abbrev dktX0_leastBy_1 : List UInt8 := dkwX0_leastBy_1 ++ []
def dkwX0_leastBy_0 : List UInt8 := [26, 158, 0, 7, 3, 167, 0, 4, 2, 61, 4, 62, 29, 26, 162, 0, 32, 43, 29, 185, 0, 24, 2, 0]
abbrev dktX0_leastBy_0 : List UInt8 := dkwX0_leastBy_0 ++ dktX0_leastBy_1
theorem dksX0_leastBy_0 : cX0_leastBy.data.toList.drop 0 = dktX0_leastBy_0 := by decide +kernel
theorem dksX0_leastBy_1 : cX0_leastBy.data.toList.drop 24 = dktX0_leastBy_1 := dk_seg dksX0_leastBy_0 24 rfl rfl
theorem dX0_leastBy_0 : decode cX0_leastBy 0 = .ok (.iload_n 0, 1) := dk_26 (dk_at dksX0_leastBy_0 0 rfl rfl)
theorem dX0_leastBy_1 : decode cX0_leastBy 1 = .ok (.ifCond .le 7, 3) := dk_158 0 7 (dk_at dksX0_leastBy_0 1 rfl rfl)
theorem dX0_leastBy_4 : decode cX0_leastBy 4 = .ok (.iconst 0, 1) := dk_3 (dk_at dksX0_leastBy_0 4 rfl rfl)
theorem dX0_leastBy_5 : decode cX0_leastBy 5 = .ok (.goto 4, 3) := dk_167 0 4 (dk_at dksX0_leastBy_0 5 rfl rfl)
theorem dX0_leastBy_8 : decode cX0_leastBy 8 = .ok (.iconst (-1), 1) := dk_2 (dk_at dksX0_leastBy_0 8 rfl rfl)
theorem dX0_leastBy_9 : decode cX0_leastBy 9 = .ok (.istore_n 2, 1) := dk_61 (dk_at dksX0_leastBy_0 9 rfl rfl)
theorem dX0_leastBy_10 : decode cX0_leastBy 10 = .ok (.iconst 1, 1) := dk_4 (dk_at dksX0_leastBy_0 10 rfl rfl)
theorem dX0_leastBy_11 : decode cX0_leastBy 11 = .ok (.istore_n 3, 1) := dk_62 (dk_at dksX0_leastBy_0 11 rfl rfl)
theorem dX0_leastBy_12 : decode cX0_leastBy 12 = .ok (.iload_n 3, 1) := dk_29 (dk_at dksX0_leastBy_0 12 rfl rfl)
theorem dX0_leastBy_13 : decode cX0_leastBy 13 = .ok (.iload_n 0, 1) := dk_26 (dk_at dksX0_leastBy_0 13 rfl rfl)
theorem dX0_leastBy_14 : decode cX0_leastBy 14 = .ok (.if_icmp .ge 32, 3) := dk_162 0 32 (dk_at dksX0_leastBy_0 14 rfl rfl)
theorem dX0_leastBy_17 : decode cX0_leastBy 17 = .ok (.aload_n 1, 1) := dk_43 (dk_at dksX0_leastBy_0 17 rfl rfl)
theorem dX0_leastBy_18 : decode cX0_leastBy 18 = .ok (.iload_n 3, 1) := dk_29 (dk_at dksX0_leastBy_0 18 rfl rfl)
theorem dX0_leastBy_19 : decode cX0_leastBy 19 = .ok (.invokeinterface 24 2, 5) := by decide +kernel
theorem dX0_leastBy_24 : decode cX0_leastBy 24 = .ok (.aload_n 1, 1) := dk_43 (dk_at dksX0_leastBy_1 0 rfl rfl)
theorem dX0_leastBy_25 : decode cX0_leastBy 25 = .ok (.iload_n 2, 1) := dk_28 (dk_at dksX0_leastBy_1 1 rfl rfl)
theorem dX0_leastBy_26 : decode cX0_leastBy 26 = .ok (.invokeinterface 24 2, 5) := by decide +kernel
theorem dX0_leastBy_31 : decode cX0_leastBy 31 = .ok (.if_icmp .ge 7, 3) := dk_162 0 7 (dk_at dksX0_leastBy_1 7 rfl rfl)
theorem dX0_leastBy_34 : decode cX0_leastBy 34 = .ok (.iload_n 3, 1) := dk_29 (dk_at dksX0_leastBy_1 10 rfl rfl)
theorem dX0_leastBy_35 : decode cX0_leastBy 35 = .ok (.goto 4, 3) := dk_167 0 4 (dk_at dksX0_leastBy_1 11 rfl rfl)
theorem dX0_leastBy_38 : decode cX0_leastBy 38 = .ok (.iload_n 2, 1) := dk_28 (dk_at dksX0_leastBy_1 14 rfl rfl)
theorem dX0_leastBy_39 : decode cX0_leastBy 39 = .ok (.istore_n 2, 1) := dk_61 (dk_at dksX0_leastBy_1 15 rfl rfl)
theorem dX0_leastBy_40 : decode cX0_leastBy 40 = .ok (.iinc 3 1, 3) := dk_132 3 1 (dk_at dksX0_leastBy_1 16 rfl rfl)
theorem dX0_leastBy_43 : decode cX0_leastBy 43 = .ok (.goto (-31), 3) := dk_167 255 225 (dk_at dksX0_leastBy_1 19 rfl rfl)
theorem dX0_leastBy_46 : decode cX0_leastBy 46 = .ok (.iload_n 2, 1) := dk_28 (dk_at dksX0_leastBy_1 22 rfl rfl)
theorem dX0_leastBy_47 : decode cX0_leastBy 47 = .ok (.ireturn, 1) := dk_172 (dk_at dksX0_leastBy_1 23 rfl rfl)
abbrev cX0_cuts : ByteArray := prog_1_method_81_code
def yX0_cuts : MethodName := ⟨RX0, "cuts", "(III)I"⟩
def dkwX0_cuts_7 : List UInt8 := [184, 2, 11, 167, 0, 5, 21, 6, 172]
abbrev dktX0_cuts_7 : List UInt8 := dkwX0_cuts_7 ++ []
def dkwX0_cuts_6 : List UInt8 := [184, 1, 225, 154, 0, 7, 21, 7, 54, 6, 132, 7, 1, 167, 255, 200, 29, 154, 0, 11, 21, 6]
abbrev dktX0_cuts_6 : List UInt8 := dkwX0_cuts_6 ++ dktX0_cuts_7
def dkwX0_cuts_5 : List UInt8 := [184, 2, 11, 21, 6, 184, 2, 11, 162, 0, 26, 42, 27, 16, 12, 21, 7, 21, 5, 128, 182, 2, 54, 28]
abbrev dktX0_cuts_5 : List UInt8 := dkwX0_cuts_5 ++ dktX0_cuts_6
def dkwX0_cuts_4 : List UInt8 := [54, 6, 3, 54, 7, 21, 7, 21, 4, 163, 0, 55, 21, 7, 21, 4, 2, 130, 126, 154, 0, 39, 21, 7]
abbrev dktX0_cuts_4 : List UInt8 := dkwX0_cuts_4 ++ dktX0_cuts_5
def dkwX0_cuts_3 : List UInt8 := [28, 120, 2, 130, 126, 54, 4, 42, 180, 0, 160, 180, 1, 190, 4, 28, 120, 2, 130, 126, 54, 5, 21, 4]
abbrev dktX0_cuts_3 : List UInt8 := dkwX0_cuts_3 ++ dktX0_cuts_4
def dkwX0_cuts_2 : List UInt8 := [42, 180, 1, 113, 120, 4, 100, 42, 180, 0, 160, 180, 1, 190, 2, 130, 126, 4, 27, 120, 2, 130, 126, 4]
abbrev dktX0_cuts_2 : List UInt8 := dkwX0_cuts_2 ++ dktX0_cuts_3
def dkwX0_cuts_1 : List UInt8 := [180, 0, 139, 27, 46, 28, 184, 1, 225, 154, 0, 12, 29, 3, 4, 184, 0, 207, 154, 0, 5, 2, 172, 4]
abbrev dktX0_cuts_1 : List UInt8 := dkwX0_cuts_1 ++ dktX0_cuts_2
def dkwX0_cuts_0 : List UInt8 := [42, 27, 182, 1, 198, 153, 0, 38, 42, 28, 182, 1, 198, 153, 0, 30, 27, 28, 159, 0, 25, 42]
abbrev dktX0_cuts_0 : List UInt8 := dkwX0_cuts_0 ++ dktX0_cuts_1
theorem dksX0_cuts_0 : cX0_cuts.data.toList.drop 0 = dktX0_cuts_0 := by decide +kernel
theorem dksX0_cuts_1 : cX0_cuts.data.toList.drop 22 = dktX0_cuts_1 := dk_seg dksX0_cuts_0 22 rfl rfl
theorem dksX0_cuts_2 : cX0_cuts.data.toList.drop 46 = dktX0_cuts_2 := dk_seg dksX0_cuts_1 24 rfl rfl
theorem dksX0_cuts_3 : cX0_cuts.data.toList.drop 70 = dktX0_cuts_3 := dk_seg dksX0_cuts_2 24 rfl rfl
theorem dksX0_cuts_4 : cX0_cuts.data.toList.drop 94 = dktX0_cuts_4 := dk_seg dksX0_cuts_3 24 rfl rfl
theorem dksX0_cuts_5 : cX0_cuts.data.toList.drop 118 = dktX0_cuts_5 := dk_seg dksX0_cuts_4 24 rfl rfl
theorem dksX0_cuts_6 : cX0_cuts.data.toList.drop 142 = dktX0_cuts_6 := dk_seg dksX0_cuts_5 24 rfl rfl
theorem dksX0_cuts_7 : cX0_cuts.data.toList.drop 164 = dktX0_cuts_7 := dk_seg dksX0_cuts_6 22 rfl rfl
theorem dX0_cuts_0 : decode cX0_cuts 0 = .ok (.aload_n 0, 1) := dk_42 (dk_at dksX0_cuts_0 0 rfl rfl)
theorem dX0_cuts_1 : decode cX0_cuts 1 = .ok (.iload_n 1, 1) := dk_27 (dk_at dksX0_cuts_0 1 rfl rfl)
theorem dX0_cuts_2 : decode cX0_cuts 2 = .ok (.invokevirtual 454, 3) := dk_182 1 198 (dk_at dksX0_cuts_0 2 rfl rfl)
theorem dX0_cuts_5 : decode cX0_cuts 5 = .ok (.ifCond .eq 38, 3) := dk_153 0 38 (dk_at dksX0_cuts_0 5 rfl rfl)
theorem dX0_cuts_8 : decode cX0_cuts 8 = .ok (.aload_n 0, 1) := dk_42 (dk_at dksX0_cuts_0 8 rfl rfl)
theorem dX0_cuts_9 : decode cX0_cuts 9 = .ok (.iload_n 2, 1) := dk_28 (dk_at dksX0_cuts_0 9 rfl rfl)
theorem dX0_cuts_10 : decode cX0_cuts 10 = .ok (.invokevirtual 454, 3) := dk_182 1 198 (dk_at dksX0_cuts_0 10 rfl rfl)
theorem dX0_cuts_13 : decode cX0_cuts 13 = .ok (.ifCond .eq 30, 3) := dk_153 0 30 (dk_at dksX0_cuts_0 13 rfl rfl)
theorem dX0_cuts_16 : decode cX0_cuts 16 = .ok (.iload_n 1, 1) := dk_27 (dk_at dksX0_cuts_0 16 rfl rfl)
theorem dX0_cuts_17 : decode cX0_cuts 17 = .ok (.iload_n 2, 1) := dk_28 (dk_at dksX0_cuts_0 17 rfl rfl)
theorem dX0_cuts_18 : decode cX0_cuts 18 = .ok (.if_icmp .eq 25, 3) := dk_159 0 25 (dk_at dksX0_cuts_0 18 rfl rfl)
theorem dX0_cuts_21 : decode cX0_cuts 21 = .ok (.aload_n 0, 1) := dk_42 (dk_at dksX0_cuts_0 21 rfl rfl)
theorem dX0_cuts_22 : decode cX0_cuts 22 = .ok (.getfield 139, 3) := dk_180 0 139 (dk_at dksX0_cuts_1 0 rfl rfl)
theorem dX0_cuts_25 : decode cX0_cuts 25 = .ok (.iload_n 1, 1) := dk_27 (dk_at dksX0_cuts_1 3 rfl rfl)
theorem dX0_cuts_26 : decode cX0_cuts 26 = .ok (.iaload, 1) := dk_46 (dk_at dksX0_cuts_1 4 rfl rfl)
theorem dX0_cuts_27 : decode cX0_cuts 27 = .ok (.iload_n 2, 1) := dk_28 (dk_at dksX0_cuts_1 5 rfl rfl)
theorem dX0_cuts_28 : decode cX0_cuts 28 = .ok (.invokestatic 481, 3) := dk_184 1 225 (dk_at dksX0_cuts_1 6 rfl rfl)
theorem dX0_cuts_31 : decode cX0_cuts 31 = .ok (.ifCond .ne 12, 3) := dk_154 0 12 (dk_at dksX0_cuts_1 9 rfl rfl)
theorem dX0_cuts_34 : decode cX0_cuts 34 = .ok (.iload_n 3, 1) := dk_29 (dk_at dksX0_cuts_1 12 rfl rfl)
theorem dX0_cuts_35 : decode cX0_cuts 35 = .ok (.iconst 0, 1) := dk_3 (dk_at dksX0_cuts_1 13 rfl rfl)
theorem dX0_cuts_36 : decode cX0_cuts 36 = .ok (.iconst 1, 1) := dk_4 (dk_at dksX0_cuts_1 14 rfl rfl)
theorem dX0_cuts_37 : decode cX0_cuts 37 = .ok (.invokestatic 207, 3) := dk_184 0 207 (dk_at dksX0_cuts_1 15 rfl rfl)
theorem dX0_cuts_40 : decode cX0_cuts 40 = .ok (.ifCond .ne 5, 3) := dk_154 0 5 (dk_at dksX0_cuts_1 18 rfl rfl)
theorem dX0_cuts_43 : decode cX0_cuts 43 = .ok (.iconst (-1), 1) := dk_2 (dk_at dksX0_cuts_1 21 rfl rfl)
theorem dX0_cuts_44 : decode cX0_cuts 44 = .ok (.ireturn, 1) := dk_172 (dk_at dksX0_cuts_1 22 rfl rfl)
theorem dX0_cuts_45 : decode cX0_cuts 45 = .ok (.iconst 1, 1) := dk_4 (dk_at dksX0_cuts_1 23 rfl rfl)
theorem dX0_cuts_46 : decode cX0_cuts 46 = .ok (.aload_n 0, 1) := dk_42 (dk_at dksX0_cuts_2 0 rfl rfl)
theorem dX0_cuts_47 : decode cX0_cuts 47 = .ok (.getfield 369, 3) := dk_180 1 113 (dk_at dksX0_cuts_2 1 rfl rfl)
theorem dX0_cuts_50 : decode cX0_cuts 50 = .ok (.ishl, 1) := dk_120 (dk_at dksX0_cuts_2 4 rfl rfl)
theorem dX0_cuts_51 : decode cX0_cuts 51 = .ok (.iconst 1, 1) := dk_4 (dk_at dksX0_cuts_2 5 rfl rfl)
theorem dX0_cuts_52 : decode cX0_cuts 52 = .ok (.isub, 1) := dk_100 (dk_at dksX0_cuts_2 6 rfl rfl)
theorem dX0_cuts_53 : decode cX0_cuts 53 = .ok (.aload_n 0, 1) := dk_42 (dk_at dksX0_cuts_2 7 rfl rfl)
theorem dX0_cuts_54 : decode cX0_cuts 54 = .ok (.getfield 160, 3) := dk_180 0 160 (dk_at dksX0_cuts_2 8 rfl rfl)
theorem dX0_cuts_57 : decode cX0_cuts 57 = .ok (.getfield 446, 3) := dk_180 1 190 (dk_at dksX0_cuts_2 11 rfl rfl)
theorem dX0_cuts_60 : decode cX0_cuts 60 = .ok (.iconst (-1), 1) := dk_2 (dk_at dksX0_cuts_2 14 rfl rfl)
theorem dX0_cuts_61 : decode cX0_cuts 61 = .ok (.ixor, 1) := dk_130 (dk_at dksX0_cuts_2 15 rfl rfl)
theorem dX0_cuts_62 : decode cX0_cuts 62 = .ok (.iand, 1) := dk_126 (dk_at dksX0_cuts_2 16 rfl rfl)
theorem dX0_cuts_63 : decode cX0_cuts 63 = .ok (.iconst 1, 1) := dk_4 (dk_at dksX0_cuts_2 17 rfl rfl)
theorem dX0_cuts_64 : decode cX0_cuts 64 = .ok (.iload_n 1, 1) := dk_27 (dk_at dksX0_cuts_2 18 rfl rfl)
theorem dX0_cuts_65 : decode cX0_cuts 65 = .ok (.ishl, 1) := dk_120 (dk_at dksX0_cuts_2 19 rfl rfl)
theorem dX0_cuts_66 : decode cX0_cuts 66 = .ok (.iconst (-1), 1) := dk_2 (dk_at dksX0_cuts_2 20 rfl rfl)
theorem dX0_cuts_67 : decode cX0_cuts 67 = .ok (.ixor, 1) := dk_130 (dk_at dksX0_cuts_2 21 rfl rfl)
theorem dX0_cuts_68 : decode cX0_cuts 68 = .ok (.iand, 1) := dk_126 (dk_at dksX0_cuts_2 22 rfl rfl)
theorem dX0_cuts_69 : decode cX0_cuts 69 = .ok (.iconst 1, 1) := dk_4 (dk_at dksX0_cuts_2 23 rfl rfl)
theorem dX0_cuts_70 : decode cX0_cuts 70 = .ok (.iload_n 2, 1) := dk_28 (dk_at dksX0_cuts_3 0 rfl rfl)
theorem dX0_cuts_71 : decode cX0_cuts 71 = .ok (.ishl, 1) := dk_120 (dk_at dksX0_cuts_3 1 rfl rfl)
theorem dX0_cuts_72 : decode cX0_cuts 72 = .ok (.iconst (-1), 1) := dk_2 (dk_at dksX0_cuts_3 2 rfl rfl)
theorem dX0_cuts_73 : decode cX0_cuts 73 = .ok (.ixor, 1) := dk_130 (dk_at dksX0_cuts_3 3 rfl rfl)
theorem dX0_cuts_74 : decode cX0_cuts 74 = .ok (.iand, 1) := dk_126 (dk_at dksX0_cuts_3 4 rfl rfl)
theorem dX0_cuts_75 : decode cX0_cuts 75 = .ok (.istore 4, 2) := dk_54 4 (dk_at dksX0_cuts_3 5 rfl rfl)
theorem dX0_cuts_77 : decode cX0_cuts 77 = .ok (.aload_n 0, 1) := dk_42 (dk_at dksX0_cuts_3 7 rfl rfl)
theorem dX0_cuts_78 : decode cX0_cuts 78 = .ok (.getfield 160, 3) := dk_180 0 160 (dk_at dksX0_cuts_3 8 rfl rfl)
theorem dX0_cuts_81 : decode cX0_cuts 81 = .ok (.getfield 446, 3) := dk_180 1 190 (dk_at dksX0_cuts_3 11 rfl rfl)
theorem dX0_cuts_84 : decode cX0_cuts 84 = .ok (.iconst 1, 1) := dk_4 (dk_at dksX0_cuts_3 14 rfl rfl)
theorem dX0_cuts_85 : decode cX0_cuts 85 = .ok (.iload_n 2, 1) := dk_28 (dk_at dksX0_cuts_3 15 rfl rfl)
theorem dX0_cuts_86 : decode cX0_cuts 86 = .ok (.ishl, 1) := dk_120 (dk_at dksX0_cuts_3 16 rfl rfl)
theorem dX0_cuts_87 : decode cX0_cuts 87 = .ok (.iconst (-1), 1) := dk_2 (dk_at dksX0_cuts_3 17 rfl rfl)
theorem dX0_cuts_88 : decode cX0_cuts 88 = .ok (.ixor, 1) := dk_130 (dk_at dksX0_cuts_3 18 rfl rfl)
theorem dX0_cuts_89 : decode cX0_cuts 89 = .ok (.iand, 1) := dk_126 (dk_at dksX0_cuts_3 19 rfl rfl)
theorem dX0_cuts_90 : decode cX0_cuts 90 = .ok (.istore 5, 2) := dk_54 5 (dk_at dksX0_cuts_3 20 rfl rfl)
theorem dX0_cuts_92 : decode cX0_cuts 92 = .ok (.iload 4, 2) := dk_21 4 (dk_at dksX0_cuts_3 22 rfl rfl)
theorem dX0_cuts_94 : decode cX0_cuts 94 = .ok (.istore 6, 2) := dk_54 6 (dk_at dksX0_cuts_4 0 rfl rfl)
theorem dX0_cuts_96 : decode cX0_cuts 96 = .ok (.iconst 0, 1) := dk_3 (dk_at dksX0_cuts_4 2 rfl rfl)
theorem dX0_cuts_97 : decode cX0_cuts 97 = .ok (.istore 7, 2) := dk_54 7 (dk_at dksX0_cuts_4 3 rfl rfl)
theorem dX0_cuts_99 : decode cX0_cuts 99 = .ok (.iload 7, 2) := dk_21 7 (dk_at dksX0_cuts_4 5 rfl rfl)
theorem dX0_cuts_101 : decode cX0_cuts 101 = .ok (.iload 4, 2) := dk_21 4 (dk_at dksX0_cuts_4 7 rfl rfl)
theorem dX0_cuts_103 : decode cX0_cuts 103 = .ok (.if_icmp .gt 55, 3) := dk_163 0 55 (dk_at dksX0_cuts_4 9 rfl rfl)
theorem dX0_cuts_106 : decode cX0_cuts 106 = .ok (.iload 7, 2) := dk_21 7 (dk_at dksX0_cuts_4 12 rfl rfl)
theorem dX0_cuts_108 : decode cX0_cuts 108 = .ok (.iload 4, 2) := dk_21 4 (dk_at dksX0_cuts_4 14 rfl rfl)
theorem dX0_cuts_110 : decode cX0_cuts 110 = .ok (.iconst (-1), 1) := dk_2 (dk_at dksX0_cuts_4 16 rfl rfl)
theorem dX0_cuts_111 : decode cX0_cuts 111 = .ok (.ixor, 1) := dk_130 (dk_at dksX0_cuts_4 17 rfl rfl)
theorem dX0_cuts_112 : decode cX0_cuts 112 = .ok (.iand, 1) := dk_126 (dk_at dksX0_cuts_4 18 rfl rfl)
theorem dX0_cuts_113 : decode cX0_cuts 113 = .ok (.ifCond .ne 39, 3) := dk_154 0 39 (dk_at dksX0_cuts_4 19 rfl rfl)
theorem dX0_cuts_116 : decode cX0_cuts 116 = .ok (.iload 7, 2) := dk_21 7 (dk_at dksX0_cuts_4 22 rfl rfl)
theorem dX0_cuts_118 : decode cX0_cuts 118 = .ok (.invokestatic 523, 3) := dk_184 2 11 (dk_at dksX0_cuts_5 0 rfl rfl)
theorem dX0_cuts_121 : decode cX0_cuts 121 = .ok (.iload 6, 2) := dk_21 6 (dk_at dksX0_cuts_5 3 rfl rfl)
theorem dX0_cuts_123 : decode cX0_cuts 123 = .ok (.invokestatic 523, 3) := dk_184 2 11 (dk_at dksX0_cuts_5 5 rfl rfl)
theorem dX0_cuts_126 : decode cX0_cuts 126 = .ok (.if_icmp .ge 26, 3) := dk_162 0 26 (dk_at dksX0_cuts_5 8 rfl rfl)
theorem dX0_cuts_129 : decode cX0_cuts 129 = .ok (.aload_n 0, 1) := dk_42 (dk_at dksX0_cuts_5 11 rfl rfl)
theorem dX0_cuts_130 : decode cX0_cuts 130 = .ok (.iload_n 1, 1) := dk_27 (dk_at dksX0_cuts_5 12 rfl rfl)
theorem dX0_cuts_131 : decode cX0_cuts 131 = .ok (.bipush 12, 2) := dk_16 12 (dk_at dksX0_cuts_5 13 rfl rfl)
theorem dX0_cuts_133 : decode cX0_cuts 133 = .ok (.iload 7, 2) := dk_21 7 (dk_at dksX0_cuts_5 15 rfl rfl)
theorem dX0_cuts_135 : decode cX0_cuts 135 = .ok (.iload 5, 2) := dk_21 5 (dk_at dksX0_cuts_5 17 rfl rfl)
theorem dX0_cuts_137 : decode cX0_cuts 137 = .ok (.ior, 1) := dk_128 (dk_at dksX0_cuts_5 19 rfl rfl)
theorem dX0_cuts_138 : decode cX0_cuts 138 = .ok (.invokevirtual 566, 3) := dk_182 2 54 (dk_at dksX0_cuts_5 20 rfl rfl)
theorem dX0_cuts_141 : decode cX0_cuts 141 = .ok (.iload_n 2, 1) := dk_28 (dk_at dksX0_cuts_5 23 rfl rfl)
theorem dX0_cuts_142 : decode cX0_cuts 142 = .ok (.invokestatic 481, 3) := dk_184 1 225 (dk_at dksX0_cuts_6 0 rfl rfl)
theorem dX0_cuts_145 : decode cX0_cuts 145 = .ok (.ifCond .ne 7, 3) := dk_154 0 7 (dk_at dksX0_cuts_6 3 rfl rfl)
theorem dX0_cuts_148 : decode cX0_cuts 148 = .ok (.iload 7, 2) := dk_21 7 (dk_at dksX0_cuts_6 6 rfl rfl)
theorem dX0_cuts_150 : decode cX0_cuts 150 = .ok (.istore 6, 2) := dk_54 6 (dk_at dksX0_cuts_6 8 rfl rfl)
theorem dX0_cuts_152 : decode cX0_cuts 152 = .ok (.iinc 7 1, 3) := dk_132 7 1 (dk_at dksX0_cuts_6 10 rfl rfl)
theorem dX0_cuts_155 : decode cX0_cuts 155 = .ok (.goto (-56), 3) := dk_167 255 200 (dk_at dksX0_cuts_6 13 rfl rfl)
theorem dX0_cuts_158 : decode cX0_cuts 158 = .ok (.iload_n 3, 1) := dk_29 (dk_at dksX0_cuts_6 16 rfl rfl)
theorem dX0_cuts_159 : decode cX0_cuts 159 = .ok (.ifCond .ne 11, 3) := dk_154 0 11 (dk_at dksX0_cuts_6 17 rfl rfl)
theorem dX0_cuts_162 : decode cX0_cuts 162 = .ok (.iload 6, 2) := dk_21 6 (dk_at dksX0_cuts_6 20 rfl rfl)
theorem dX0_cuts_164 : decode cX0_cuts 164 = .ok (.invokestatic 523, 3) := dk_184 2 11 (dk_at dksX0_cuts_7 0 rfl rfl)
theorem dX0_cuts_167 : decode cX0_cuts 167 = .ok (.goto 5, 3) := dk_167 0 5 (dk_at dksX0_cuts_7 3 rfl rfl)
theorem dX0_cuts_170 : decode cX0_cuts 170 = .ok (.iload 6, 2) := dk_21 6 (dk_at dksX0_cuts_7 6 rfl rfl)
theorem dX0_cuts_172 : decode cX0_cuts 172 = .ok (.ireturn, 1) := dk_172 (dk_at dksX0_cuts_7 8 rfl rfl)
abbrev cX0_within : ByteArray := prog_1_method_80_code
def yX0_within : MethodName := ⟨RX0, "within", "(III)I"⟩
def dkwX0_within_1 : List UInt8 := [130, 126, 128, 54, 4, 132, 5, 1, 167, 255, 232, 21, 4, 172]
abbrev dktX0_within_1 : List UInt8 := dkwX0_within_1 ++ []
def dkwX0_within_0 : List UInt8 := [4, 27, 120, 54, 4, 3, 54, 5, 21, 5, 28, 162, 0, 24, 21, 4, 42, 21, 4, 182, 2, 51, 29, 2]
abbrev dktX0_within_0 : List UInt8 := dkwX0_within_0 ++ dktX0_within_1
theorem dksX0_within_0 : cX0_within.data.toList.drop 0 = dktX0_within_0 := by decide +kernel
theorem dksX0_within_1 : cX0_within.data.toList.drop 24 = dktX0_within_1 := dk_seg dksX0_within_0 24 rfl rfl
theorem dX0_within_0 : decode cX0_within 0 = .ok (.iconst 1, 1) := dk_4 (dk_at dksX0_within_0 0 rfl rfl)
theorem dX0_within_1 : decode cX0_within 1 = .ok (.iload_n 1, 1) := dk_27 (dk_at dksX0_within_0 1 rfl rfl)
theorem dX0_within_2 : decode cX0_within 2 = .ok (.ishl, 1) := dk_120 (dk_at dksX0_within_0 2 rfl rfl)
theorem dX0_within_3 : decode cX0_within 3 = .ok (.istore 4, 2) := dk_54 4 (dk_at dksX0_within_0 3 rfl rfl)
theorem dX0_within_5 : decode cX0_within 5 = .ok (.iconst 0, 1) := dk_3 (dk_at dksX0_within_0 5 rfl rfl)
theorem dX0_within_6 : decode cX0_within 6 = .ok (.istore 5, 2) := dk_54 5 (dk_at dksX0_within_0 6 rfl rfl)
theorem dX0_within_8 : decode cX0_within 8 = .ok (.iload 5, 2) := dk_21 5 (dk_at dksX0_within_0 8 rfl rfl)
theorem dX0_within_10 : decode cX0_within 10 = .ok (.iload_n 2, 1) := dk_28 (dk_at dksX0_within_0 10 rfl rfl)
theorem dX0_within_11 : decode cX0_within 11 = .ok (.if_icmp .ge 24, 3) := dk_162 0 24 (dk_at dksX0_within_0 11 rfl rfl)
theorem dX0_within_14 : decode cX0_within 14 = .ok (.iload 4, 2) := dk_21 4 (dk_at dksX0_within_0 14 rfl rfl)
theorem dX0_within_16 : decode cX0_within 16 = .ok (.aload_n 0, 1) := dk_42 (dk_at dksX0_within_0 16 rfl rfl)
theorem dX0_within_17 : decode cX0_within 17 = .ok (.iload 4, 2) := dk_21 4 (dk_at dksX0_within_0 17 rfl rfl)
theorem dX0_within_19 : decode cX0_within 19 = .ok (.invokevirtual 563, 3) := dk_182 2 51 (dk_at dksX0_within_0 19 rfl rfl)
theorem dX0_within_22 : decode cX0_within 22 = .ok (.iload_n 3, 1) := dk_29 (dk_at dksX0_within_0 22 rfl rfl)
theorem dX0_within_23 : decode cX0_within 23 = .ok (.iconst (-1), 1) := dk_2 (dk_at dksX0_within_0 23 rfl rfl)
theorem dX0_within_24 : decode cX0_within 24 = .ok (.ixor, 1) := dk_130 (dk_at dksX0_within_1 0 rfl rfl)
theorem dX0_within_25 : decode cX0_within 25 = .ok (.iand, 1) := dk_126 (dk_at dksX0_within_1 1 rfl rfl)
theorem dX0_within_26 : decode cX0_within 26 = .ok (.ior, 1) := dk_128 (dk_at dksX0_within_1 2 rfl rfl)
theorem dX0_within_27 : decode cX0_within 27 = .ok (.istore 4, 2) := dk_54 4 (dk_at dksX0_within_1 3 rfl rfl)
theorem dX0_within_29 : decode cX0_within 29 = .ok (.iinc 5 1, 3) := dk_132 5 1 (dk_at dksX0_within_1 5 rfl rfl)
theorem dX0_within_32 : decode cX0_within 32 = .ok (.goto (-24), 3) := dk_167 255 232 (dk_at dksX0_within_1 8 rfl rfl)
theorem dX0_within_35 : decode cX0_within 35 = .ok (.iload 4, 2) := dk_21 4 (dk_at dksX0_within_1 11 rfl rfl)
theorem dX0_within_37 : decode cX0_within 37 = .ok (.ireturn, 1) := dk_172 (dk_at dksX0_within_1 13 rfl rfl)
abbrev cX0_besideAll : ByteArray := prog_1_method_79_code
def yX0_besideAll : MethodName := ⟨RX0, "besideAll", "(I)I"⟩
def dkwX0_besideAll_1 : List UInt8 := [180, 0, 139, 29, 46, 167, 0, 4, 3, 128, 61, 132, 3, 1, 167, 255, 224, 28, 172]
abbrev dktX0_besideAll_1 : List UInt8 := dkwX0_besideAll_1 ++ []
def dkwX0_besideAll_0 : List UInt8 := [3, 61, 3, 62, 29, 42, 180, 1, 113, 162, 0, 30, 28, 27, 29, 184, 1, 225, 153, 0, 12, 42]
abbrev dktX0_besideAll_0 : List UInt8 := dkwX0_besideAll_0 ++ dktX0_besideAll_1
theorem dksX0_besideAll_0 : cX0_besideAll.data.toList.drop 0 = dktX0_besideAll_0 := by decide +kernel
theorem dksX0_besideAll_1 : cX0_besideAll.data.toList.drop 22 = dktX0_besideAll_1 := dk_seg dksX0_besideAll_0 22 rfl rfl
theorem dX0_besideAll_0 : decode cX0_besideAll 0 = .ok (.iconst 0, 1) := dk_3 (dk_at dksX0_besideAll_0 0 rfl rfl)
theorem dX0_besideAll_1 : decode cX0_besideAll 1 = .ok (.istore_n 2, 1) := dk_61 (dk_at dksX0_besideAll_0 1 rfl rfl)
theorem dX0_besideAll_2 : decode cX0_besideAll 2 = .ok (.iconst 0, 1) := dk_3 (dk_at dksX0_besideAll_0 2 rfl rfl)
theorem dX0_besideAll_3 : decode cX0_besideAll 3 = .ok (.istore_n 3, 1) := dk_62 (dk_at dksX0_besideAll_0 3 rfl rfl)
theorem dX0_besideAll_4 : decode cX0_besideAll 4 = .ok (.iload_n 3, 1) := dk_29 (dk_at dksX0_besideAll_0 4 rfl rfl)
theorem dX0_besideAll_5 : decode cX0_besideAll 5 = .ok (.aload_n 0, 1) := dk_42 (dk_at dksX0_besideAll_0 5 rfl rfl)
theorem dX0_besideAll_6 : decode cX0_besideAll 6 = .ok (.getfield 369, 3) := dk_180 1 113 (dk_at dksX0_besideAll_0 6 rfl rfl)
theorem dX0_besideAll_9 : decode cX0_besideAll 9 = .ok (.if_icmp .ge 30, 3) := dk_162 0 30 (dk_at dksX0_besideAll_0 9 rfl rfl)
theorem dX0_besideAll_12 : decode cX0_besideAll 12 = .ok (.iload_n 2, 1) := dk_28 (dk_at dksX0_besideAll_0 12 rfl rfl)
theorem dX0_besideAll_13 : decode cX0_besideAll 13 = .ok (.iload_n 1, 1) := dk_27 (dk_at dksX0_besideAll_0 13 rfl rfl)
theorem dX0_besideAll_14 : decode cX0_besideAll 14 = .ok (.iload_n 3, 1) := dk_29 (dk_at dksX0_besideAll_0 14 rfl rfl)
theorem dX0_besideAll_15 : decode cX0_besideAll 15 = .ok (.invokestatic 481, 3) := dk_184 1 225 (dk_at dksX0_besideAll_0 15 rfl rfl)
theorem dX0_besideAll_18 : decode cX0_besideAll 18 = .ok (.ifCond .eq 12, 3) := dk_153 0 12 (dk_at dksX0_besideAll_0 18 rfl rfl)
theorem dX0_besideAll_21 : decode cX0_besideAll 21 = .ok (.aload_n 0, 1) := dk_42 (dk_at dksX0_besideAll_0 21 rfl rfl)
theorem dX0_besideAll_22 : decode cX0_besideAll 22 = .ok (.getfield 139, 3) := dk_180 0 139 (dk_at dksX0_besideAll_1 0 rfl rfl)
theorem dX0_besideAll_25 : decode cX0_besideAll 25 = .ok (.iload_n 3, 1) := dk_29 (dk_at dksX0_besideAll_1 3 rfl rfl)
theorem dX0_besideAll_26 : decode cX0_besideAll 26 = .ok (.iaload, 1) := dk_46 (dk_at dksX0_besideAll_1 4 rfl rfl)
theorem dX0_besideAll_27 : decode cX0_besideAll 27 = .ok (.goto 4, 3) := dk_167 0 4 (dk_at dksX0_besideAll_1 5 rfl rfl)
theorem dX0_besideAll_30 : decode cX0_besideAll 30 = .ok (.iconst 0, 1) := dk_3 (dk_at dksX0_besideAll_1 8 rfl rfl)
theorem dX0_besideAll_31 : decode cX0_besideAll 31 = .ok (.ior, 1) := dk_128 (dk_at dksX0_besideAll_1 9 rfl rfl)
theorem dX0_besideAll_32 : decode cX0_besideAll 32 = .ok (.istore_n 2, 1) := dk_61 (dk_at dksX0_besideAll_1 10 rfl rfl)
theorem dX0_besideAll_33 : decode cX0_besideAll 33 = .ok (.iinc 3 1, 3) := dk_132 3 1 (dk_at dksX0_besideAll_1 11 rfl rfl)
theorem dX0_besideAll_36 : decode cX0_besideAll 36 = .ok (.goto (-32), 3) := dk_167 255 224 (dk_at dksX0_besideAll_1 14 rfl rfl)
theorem dX0_besideAll_39 : decode cX0_besideAll 39 = .ok (.iload_n 2, 1) := dk_28 (dk_at dksX0_besideAll_1 17 rfl rfl)
theorem dX0_besideAll_40 : decode cX0_besideAll 40 = .ok (.ireturn, 1) := dk_172 (dk_at dksX0_besideAll_1 18 rfl rfl)
abbrev cX0_near : ByteArray := prog_1_method_82_code
def yX0_near : MethodName := ⟨RX0, "near", "(II)I"⟩
def dkwX0_near_1 : List UInt8 := [182, 2, 54, 167, 0, 4, 2, 172]
abbrev dktX0_near_1 : List UInt8 := dkwX0_near_1 ++ []
def dkwX0_near_0 : List UInt8 := [42, 27, 182, 1, 198, 153, 0, 23, 28, 3, 16, 12, 184, 0, 207, 153, 0, 13, 42, 27, 28, 3]
abbrev dktX0_near_0 : List UInt8 := dkwX0_near_0 ++ dktX0_near_1
theorem dksX0_near_0 : cX0_near.data.toList.drop 0 = dktX0_near_0 := by decide +kernel
theorem dksX0_near_1 : cX0_near.data.toList.drop 22 = dktX0_near_1 := dk_seg dksX0_near_0 22 rfl rfl
theorem dX0_near_0 : decode cX0_near 0 = .ok (.aload_n 0, 1) := dk_42 (dk_at dksX0_near_0 0 rfl rfl)
theorem dX0_near_1 : decode cX0_near 1 = .ok (.iload_n 1, 1) := dk_27 (dk_at dksX0_near_0 1 rfl rfl)
theorem dX0_near_2 : decode cX0_near 2 = .ok (.invokevirtual 454, 3) := dk_182 1 198 (dk_at dksX0_near_0 2 rfl rfl)
theorem dX0_near_5 : decode cX0_near 5 = .ok (.ifCond .eq 23, 3) := dk_153 0 23 (dk_at dksX0_near_0 5 rfl rfl)
theorem dX0_near_8 : decode cX0_near 8 = .ok (.iload_n 2, 1) := dk_28 (dk_at dksX0_near_0 8 rfl rfl)
theorem dX0_near_9 : decode cX0_near 9 = .ok (.iconst 0, 1) := dk_3 (dk_at dksX0_near_0 9 rfl rfl)
theorem dX0_near_10 : decode cX0_near 10 = .ok (.bipush 12, 2) := dk_16 12 (dk_at dksX0_near_0 10 rfl rfl)
theorem dX0_near_12 : decode cX0_near 12 = .ok (.invokestatic 207, 3) := dk_184 0 207 (dk_at dksX0_near_0 12 rfl rfl)
theorem dX0_near_15 : decode cX0_near 15 = .ok (.ifCond .eq 13, 3) := dk_153 0 13 (dk_at dksX0_near_0 15 rfl rfl)
theorem dX0_near_18 : decode cX0_near 18 = .ok (.aload_n 0, 1) := dk_42 (dk_at dksX0_near_0 18 rfl rfl)
theorem dX0_near_19 : decode cX0_near 19 = .ok (.iload_n 1, 1) := dk_27 (dk_at dksX0_near_0 19 rfl rfl)
theorem dX0_near_20 : decode cX0_near 20 = .ok (.iload_n 2, 1) := dk_28 (dk_at dksX0_near_0 20 rfl rfl)
theorem dX0_near_21 : decode cX0_near 21 = .ok (.iconst 0, 1) := dk_3 (dk_at dksX0_near_0 21 rfl rfl)
theorem dX0_near_22 : decode cX0_near 22 = .ok (.invokevirtual 566, 3) := dk_182 2 54 (dk_at dksX0_near_1 0 rfl rfl)
theorem dX0_near_25 : decode cX0_near 25 = .ok (.goto 4, 3) := dk_167 0 4 (dk_at dksX0_near_1 3 rfl rfl)
theorem dX0_near_28 : decode cX0_near 28 = .ok (.iconst (-1), 1) := dk_2 (dk_at dksX0_near_1 6 rfl rfl)
theorem dX0_near_29 : decode cX0_near 29 = .ok (.ireturn, 1) := dk_172 (dk_at dksX0_near_1 7 rfl rfl)
abbrev cX0_groups : ByteArray := prog_1_method_83_code
def yX0_groups : MethodName := ⟨RX0, "groups", "(I)I"⟩
def dkwX0_groups_3 : List UInt8 := [132, 3, 1, 167, 255, 207, 27, 154, 0, 7, 29, 167, 0, 5, 21, 4, 172]
abbrev dktX0_groups_3 : List UInt8 := dkwX0_groups_3 ++ []
def dkwX0_groups_2 : List UInt8 := [21, 4, 184, 2, 11, 164, 0, 8, 21, 5, 167, 0, 5, 21, 4, 54, 4, 28, 21, 5, 2, 130, 126, 61]
abbrev dktX0_groups_2 : List UInt8 := dkwX0_groups_2 ++ dktX0_groups_3
def dkwX0_groups_1 : List UInt8 := [54, 4, 28, 153, 0, 51, 42, 28, 184, 2, 57, 16, 12, 3, 182, 2, 54, 54, 5, 21, 5, 184, 2, 11]
abbrev dktX0_groups_1 : List UInt8 := dkwX0_groups_1 ++ dktX0_groups_2
def dkwX0_groups_0 : List UInt8 := [27, 3, 4, 184, 0, 207, 154, 0, 5, 2, 172, 4, 42, 180, 1, 113, 120, 4, 100, 61, 3, 62, 3]
abbrev dktX0_groups_0 : List UInt8 := dkwX0_groups_0 ++ dktX0_groups_1
theorem dksX0_groups_0 : cX0_groups.data.toList.drop 0 = dktX0_groups_0 := by decide +kernel
theorem dksX0_groups_1 : cX0_groups.data.toList.drop 23 = dktX0_groups_1 := dk_seg dksX0_groups_0 23 rfl rfl
theorem dksX0_groups_2 : cX0_groups.data.toList.drop 47 = dktX0_groups_2 := dk_seg dksX0_groups_1 24 rfl rfl
theorem dksX0_groups_3 : cX0_groups.data.toList.drop 71 = dktX0_groups_3 := dk_seg dksX0_groups_2 24 rfl rfl
theorem dX0_groups_0 : decode cX0_groups 0 = .ok (.iload_n 1, 1) := dk_27 (dk_at dksX0_groups_0 0 rfl rfl)
theorem dX0_groups_1 : decode cX0_groups 1 = .ok (.iconst 0, 1) := dk_3 (dk_at dksX0_groups_0 1 rfl rfl)
theorem dX0_groups_2 : decode cX0_groups 2 = .ok (.iconst 1, 1) := dk_4 (dk_at dksX0_groups_0 2 rfl rfl)
theorem dX0_groups_3 : decode cX0_groups 3 = .ok (.invokestatic 207, 3) := dk_184 0 207 (dk_at dksX0_groups_0 3 rfl rfl)
theorem dX0_groups_6 : decode cX0_groups 6 = .ok (.ifCond .ne 5, 3) := dk_154 0 5 (dk_at dksX0_groups_0 6 rfl rfl)
theorem dX0_groups_9 : decode cX0_groups 9 = .ok (.iconst (-1), 1) := dk_2 (dk_at dksX0_groups_0 9 rfl rfl)
theorem dX0_groups_10 : decode cX0_groups 10 = .ok (.ireturn, 1) := dk_172 (dk_at dksX0_groups_0 10 rfl rfl)
theorem dX0_groups_11 : decode cX0_groups 11 = .ok (.iconst 1, 1) := dk_4 (dk_at dksX0_groups_0 11 rfl rfl)
theorem dX0_groups_12 : decode cX0_groups 12 = .ok (.aload_n 0, 1) := dk_42 (dk_at dksX0_groups_0 12 rfl rfl)
theorem dX0_groups_13 : decode cX0_groups 13 = .ok (.getfield 369, 3) := dk_180 1 113 (dk_at dksX0_groups_0 13 rfl rfl)
theorem dX0_groups_16 : decode cX0_groups 16 = .ok (.ishl, 1) := dk_120 (dk_at dksX0_groups_0 16 rfl rfl)
theorem dX0_groups_17 : decode cX0_groups 17 = .ok (.iconst 1, 1) := dk_4 (dk_at dksX0_groups_0 17 rfl rfl)
theorem dX0_groups_18 : decode cX0_groups 18 = .ok (.isub, 1) := dk_100 (dk_at dksX0_groups_0 18 rfl rfl)
theorem dX0_groups_19 : decode cX0_groups 19 = .ok (.istore_n 2, 1) := dk_61 (dk_at dksX0_groups_0 19 rfl rfl)
theorem dX0_groups_20 : decode cX0_groups 20 = .ok (.iconst 0, 1) := dk_3 (dk_at dksX0_groups_0 20 rfl rfl)
theorem dX0_groups_21 : decode cX0_groups 21 = .ok (.istore_n 3, 1) := dk_62 (dk_at dksX0_groups_0 21 rfl rfl)
theorem dX0_groups_22 : decode cX0_groups 22 = .ok (.iconst 0, 1) := dk_3 (dk_at dksX0_groups_0 22 rfl rfl)
theorem dX0_groups_23 : decode cX0_groups 23 = .ok (.istore 4, 2) := dk_54 4 (dk_at dksX0_groups_1 0 rfl rfl)
theorem dX0_groups_25 : decode cX0_groups 25 = .ok (.iload_n 2, 1) := dk_28 (dk_at dksX0_groups_1 2 rfl rfl)
theorem dX0_groups_26 : decode cX0_groups 26 = .ok (.ifCond .eq 51, 3) := dk_153 0 51 (dk_at dksX0_groups_1 3 rfl rfl)
theorem dX0_groups_29 : decode cX0_groups 29 = .ok (.aload_n 0, 1) := dk_42 (dk_at dksX0_groups_1 6 rfl rfl)
theorem dX0_groups_30 : decode cX0_groups 30 = .ok (.iload_n 2, 1) := dk_28 (dk_at dksX0_groups_1 7 rfl rfl)
theorem dX0_groups_31 : decode cX0_groups 31 = .ok (.invokestatic 569, 3) := dk_184 2 57 (dk_at dksX0_groups_1 8 rfl rfl)
theorem dX0_groups_34 : decode cX0_groups 34 = .ok (.bipush 12, 2) := dk_16 12 (dk_at dksX0_groups_1 11 rfl rfl)
theorem dX0_groups_36 : decode cX0_groups 36 = .ok (.iconst 0, 1) := dk_3 (dk_at dksX0_groups_1 13 rfl rfl)
theorem dX0_groups_37 : decode cX0_groups 37 = .ok (.invokevirtual 566, 3) := dk_182 2 54 (dk_at dksX0_groups_1 14 rfl rfl)
theorem dX0_groups_40 : decode cX0_groups 40 = .ok (.istore 5, 2) := dk_54 5 (dk_at dksX0_groups_1 17 rfl rfl)
theorem dX0_groups_42 : decode cX0_groups 42 = .ok (.iload 5, 2) := dk_21 5 (dk_at dksX0_groups_1 19 rfl rfl)
theorem dX0_groups_44 : decode cX0_groups 44 = .ok (.invokestatic 523, 3) := dk_184 2 11 (dk_at dksX0_groups_1 21 rfl rfl)
theorem dX0_groups_47 : decode cX0_groups 47 = .ok (.iload 4, 2) := dk_21 4 (dk_at dksX0_groups_2 0 rfl rfl)
theorem dX0_groups_49 : decode cX0_groups 49 = .ok (.invokestatic 523, 3) := dk_184 2 11 (dk_at dksX0_groups_2 2 rfl rfl)
theorem dX0_groups_52 : decode cX0_groups 52 = .ok (.if_icmp .le 8, 3) := dk_164 0 8 (dk_at dksX0_groups_2 5 rfl rfl)
theorem dX0_groups_55 : decode cX0_groups 55 = .ok (.iload 5, 2) := dk_21 5 (dk_at dksX0_groups_2 8 rfl rfl)
theorem dX0_groups_57 : decode cX0_groups 57 = .ok (.goto 5, 3) := dk_167 0 5 (dk_at dksX0_groups_2 10 rfl rfl)
theorem dX0_groups_60 : decode cX0_groups 60 = .ok (.iload 4, 2) := dk_21 4 (dk_at dksX0_groups_2 13 rfl rfl)
theorem dX0_groups_62 : decode cX0_groups 62 = .ok (.istore 4, 2) := dk_54 4 (dk_at dksX0_groups_2 15 rfl rfl)
theorem dX0_groups_64 : decode cX0_groups 64 = .ok (.iload_n 2, 1) := dk_28 (dk_at dksX0_groups_2 17 rfl rfl)
theorem dX0_groups_65 : decode cX0_groups 65 = .ok (.iload 5, 2) := dk_21 5 (dk_at dksX0_groups_2 18 rfl rfl)
theorem dX0_groups_67 : decode cX0_groups 67 = .ok (.iconst (-1), 1) := dk_2 (dk_at dksX0_groups_2 20 rfl rfl)
theorem dX0_groups_68 : decode cX0_groups 68 = .ok (.ixor, 1) := dk_130 (dk_at dksX0_groups_2 21 rfl rfl)
theorem dX0_groups_69 : decode cX0_groups 69 = .ok (.iand, 1) := dk_126 (dk_at dksX0_groups_2 22 rfl rfl)
theorem dX0_groups_70 : decode cX0_groups 70 = .ok (.istore_n 2, 1) := dk_61 (dk_at dksX0_groups_2 23 rfl rfl)
theorem dX0_groups_71 : decode cX0_groups 71 = .ok (.iinc 3 1, 3) := dk_132 3 1 (dk_at dksX0_groups_3 0 rfl rfl)
theorem dX0_groups_74 : decode cX0_groups 74 = .ok (.goto (-49), 3) := dk_167 255 207 (dk_at dksX0_groups_3 3 rfl rfl)
theorem dX0_groups_77 : decode cX0_groups 77 = .ok (.iload_n 1, 1) := dk_27 (dk_at dksX0_groups_3 6 rfl rfl)
theorem dX0_groups_78 : decode cX0_groups 78 = .ok (.ifCond .ne 7, 3) := dk_154 0 7 (dk_at dksX0_groups_3 7 rfl rfl)
theorem dX0_groups_81 : decode cX0_groups 81 = .ok (.iload_n 3, 1) := dk_29 (dk_at dksX0_groups_3 10 rfl rfl)
theorem dX0_groups_82 : decode cX0_groups 82 = .ok (.goto 5, 3) := dk_167 0 5 (dk_at dksX0_groups_3 11 rfl rfl)
theorem dX0_groups_85 : decode cX0_groups 85 = .ok (.iload 4, 2) := dk_21 4 (dk_at dksX0_groups_3 14 rfl rfl)
theorem dX0_groups_87 : decode cX0_groups 87 = .ok (.ireturn, 1) := dk_172 (dk_at dksX0_groups_3 16 rfl rfl)
abbrev cX0_price : ByteArray := prog_1_method_84_code
def yX0_price : MethodName := ⟨RX0, "price", "(II)I"⟩
def dkwX0_price_3 : List UInt8 := [3, 182, 1, 232, 17, 1, 244, 164, 0, 6, 21, 4, 172, 132, 4, 1, 167, 255, 202, 2, 172]
abbrev dktX0_price_3 : List UInt8 := dkwX0_price_3 ++ []
def dkwX0_price_2 : List UInt8 := [163, 0, 43, 45, 180, 1, 185, 27, 42, 180, 0, 160, 180, 1, 185, 27, 46, 21, 4, 96, 79, 45, 27, 28]
abbrev dktX0_price_2 : List UInt8 := dkwX0_price_2 ++ dktX0_price_3
def dkwX0_price_1 : List UInt8 := [180, 0, 160, 182, 1, 251, 78, 3, 54, 4, 21, 4, 16, 99, 42, 180, 0, 160, 180, 1, 185, 27, 46, 100]
abbrev dktX0_price_1 : List UInt8 := dkwX0_price_1 ++ dktX0_price_2
def dkwX0_price_0 : List UInt8 := [42, 27, 182, 1, 198, 153, 0, 11, 42, 28, 182, 1, 201, 154, 0, 5, 2, 172, 42, 180, 0, 164, 42]
abbrev dktX0_price_0 : List UInt8 := dkwX0_price_0 ++ dktX0_price_1
theorem dksX0_price_0 : cX0_price.data.toList.drop 0 = dktX0_price_0 := by decide +kernel
theorem dksX0_price_1 : cX0_price.data.toList.drop 23 = dktX0_price_1 := dk_seg dksX0_price_0 23 rfl rfl
theorem dksX0_price_2 : cX0_price.data.toList.drop 47 = dktX0_price_2 := dk_seg dksX0_price_1 24 rfl rfl
theorem dksX0_price_3 : cX0_price.data.toList.drop 71 = dktX0_price_3 := dk_seg dksX0_price_2 24 rfl rfl
theorem dX0_price_0 : decode cX0_price 0 = .ok (.aload_n 0, 1) := dk_42 (dk_at dksX0_price_0 0 rfl rfl)
theorem dX0_price_1 : decode cX0_price 1 = .ok (.iload_n 1, 1) := dk_27 (dk_at dksX0_price_0 1 rfl rfl)
theorem dX0_price_2 : decode cX0_price 2 = .ok (.invokevirtual 454, 3) := dk_182 1 198 (dk_at dksX0_price_0 2 rfl rfl)
theorem dX0_price_5 : decode cX0_price 5 = .ok (.ifCond .eq 11, 3) := dk_153 0 11 (dk_at dksX0_price_0 5 rfl rfl)
theorem dX0_price_8 : decode cX0_price 8 = .ok (.aload_n 0, 1) := dk_42 (dk_at dksX0_price_0 8 rfl rfl)
theorem dX0_price_9 : decode cX0_price 9 = .ok (.iload_n 2, 1) := dk_28 (dk_at dksX0_price_0 9 rfl rfl)
theorem dX0_price_10 : decode cX0_price 10 = .ok (.invokevirtual 457, 3) := dk_182 1 201 (dk_at dksX0_price_0 10 rfl rfl)
theorem dX0_price_13 : decode cX0_price 13 = .ok (.ifCond .ne 5, 3) := dk_154 0 5 (dk_at dksX0_price_0 13 rfl rfl)
theorem dX0_price_16 : decode cX0_price 16 = .ok (.iconst (-1), 1) := dk_2 (dk_at dksX0_price_0 16 rfl rfl)
theorem dX0_price_17 : decode cX0_price 17 = .ok (.ireturn, 1) := dk_172 (dk_at dksX0_price_0 17 rfl rfl)
theorem dX0_price_18 : decode cX0_price 18 = .ok (.aload_n 0, 1) := dk_42 (dk_at dksX0_price_0 18 rfl rfl)
theorem dX0_price_19 : decode cX0_price 19 = .ok (.getfield 164, 3) := dk_180 0 164 (dk_at dksX0_price_0 19 rfl rfl)
theorem dX0_price_22 : decode cX0_price 22 = .ok (.aload_n 0, 1) := dk_42 (dk_at dksX0_price_0 22 rfl rfl)
theorem dX0_price_23 : decode cX0_price 23 = .ok (.getfield 160, 3) := dk_180 0 160 (dk_at dksX0_price_1 0 rfl rfl)
theorem dX0_price_26 : decode cX0_price 26 = .ok (.invokevirtual 507, 3) := dk_182 1 251 (dk_at dksX0_price_1 3 rfl rfl)
theorem dX0_price_29 : decode cX0_price 29 = .ok (.astore_n 3, 1) := dk_78 (dk_at dksX0_price_1 6 rfl rfl)
theorem dX0_price_30 : decode cX0_price 30 = .ok (.iconst 0, 1) := dk_3 (dk_at dksX0_price_1 7 rfl rfl)
theorem dX0_price_31 : decode cX0_price 31 = .ok (.istore 4, 2) := dk_54 4 (dk_at dksX0_price_1 8 rfl rfl)
theorem dX0_price_33 : decode cX0_price 33 = .ok (.iload 4, 2) := dk_21 4 (dk_at dksX0_price_1 10 rfl rfl)
theorem dX0_price_35 : decode cX0_price 35 = .ok (.bipush 99, 2) := dk_16 99 (dk_at dksX0_price_1 12 rfl rfl)
theorem dX0_price_37 : decode cX0_price 37 = .ok (.aload_n 0, 1) := dk_42 (dk_at dksX0_price_1 14 rfl rfl)
theorem dX0_price_38 : decode cX0_price 38 = .ok (.getfield 160, 3) := dk_180 0 160 (dk_at dksX0_price_1 15 rfl rfl)
theorem dX0_price_41 : decode cX0_price 41 = .ok (.getfield 441, 3) := dk_180 1 185 (dk_at dksX0_price_1 18 rfl rfl)
theorem dX0_price_44 : decode cX0_price 44 = .ok (.iload_n 1, 1) := dk_27 (dk_at dksX0_price_1 21 rfl rfl)
theorem dX0_price_45 : decode cX0_price 45 = .ok (.iaload, 1) := dk_46 (dk_at dksX0_price_1 22 rfl rfl)
theorem dX0_price_46 : decode cX0_price 46 = .ok (.isub, 1) := dk_100 (dk_at dksX0_price_1 23 rfl rfl)
theorem dX0_price_47 : decode cX0_price 47 = .ok (.if_icmp .gt 43, 3) := dk_163 0 43 (dk_at dksX0_price_2 0 rfl rfl)
theorem dX0_price_50 : decode cX0_price 50 = .ok (.aload_n 3, 1) := dk_45 (dk_at dksX0_price_2 3 rfl rfl)
theorem dX0_price_51 : decode cX0_price 51 = .ok (.getfield 441, 3) := dk_180 1 185 (dk_at dksX0_price_2 4 rfl rfl)
theorem dX0_price_54 : decode cX0_price 54 = .ok (.iload_n 1, 1) := dk_27 (dk_at dksX0_price_2 7 rfl rfl)
theorem dX0_price_55 : decode cX0_price 55 = .ok (.aload_n 0, 1) := dk_42 (dk_at dksX0_price_2 8 rfl rfl)
theorem dX0_price_56 : decode cX0_price 56 = .ok (.getfield 160, 3) := dk_180 0 160 (dk_at dksX0_price_2 9 rfl rfl)
theorem dX0_price_59 : decode cX0_price 59 = .ok (.getfield 441, 3) := dk_180 1 185 (dk_at dksX0_price_2 12 rfl rfl)
theorem dX0_price_62 : decode cX0_price 62 = .ok (.iload_n 1, 1) := dk_27 (dk_at dksX0_price_2 15 rfl rfl)
theorem dX0_price_63 : decode cX0_price 63 = .ok (.iaload, 1) := dk_46 (dk_at dksX0_price_2 16 rfl rfl)
theorem dX0_price_64 : decode cX0_price 64 = .ok (.iload 4, 2) := dk_21 4 (dk_at dksX0_price_2 17 rfl rfl)
theorem dX0_price_66 : decode cX0_price 66 = .ok (.iadd, 1) := dk_96 (dk_at dksX0_price_2 19 rfl rfl)
theorem dX0_price_67 : decode cX0_price 67 = .ok (.iastore, 1) := dk_79 (dk_at dksX0_price_2 20 rfl rfl)
theorem dX0_price_68 : decode cX0_price 68 = .ok (.aload_n 3, 1) := dk_45 (dk_at dksX0_price_2 21 rfl rfl)
theorem dX0_price_69 : decode cX0_price 69 = .ok (.iload_n 1, 1) := dk_27 (dk_at dksX0_price_2 22 rfl rfl)
theorem dX0_price_70 : decode cX0_price 70 = .ok (.iload_n 2, 1) := dk_28 (dk_at dksX0_price_2 23 rfl rfl)
theorem dX0_price_71 : decode cX0_price 71 = .ok (.iconst 0, 1) := dk_3 (dk_at dksX0_price_3 0 rfl rfl)
theorem dX0_price_72 : decode cX0_price 72 = .ok (.invokevirtual 488, 3) := dk_182 1 232 (dk_at dksX0_price_3 1 rfl rfl)
theorem dX0_price_75 : decode cX0_price 75 = .ok (.sipush 500, 3) := dk_17 1 244 (dk_at dksX0_price_3 4 rfl rfl)
theorem dX0_price_78 : decode cX0_price 78 = .ok (.if_icmp .le 6, 3) := dk_164 0 6 (dk_at dksX0_price_3 7 rfl rfl)
theorem dX0_price_81 : decode cX0_price 81 = .ok (.iload 4, 2) := dk_21 4 (dk_at dksX0_price_3 10 rfl rfl)
theorem dX0_price_83 : decode cX0_price 83 = .ok (.ireturn, 1) := dk_172 (dk_at dksX0_price_3 12 rfl rfl)
theorem dX0_price_84 : decode cX0_price 84 = .ok (.iinc 4 1, 3) := dk_132 4 1 (dk_at dksX0_price_3 13 rfl rfl)
theorem dX0_price_87 : decode cX0_price 87 = .ok (.goto (-54), 3) := dk_167 255 202 (dk_at dksX0_price_3 16 rfl rfl)
theorem dX0_price_90 : decode cX0_price 90 = .ok (.iconst (-1), 1) := dk_2 (dk_at dksX0_price_3 19 rfl rfl)
theorem dX0_price_91 : decode cX0_price 91 = .ok (.ireturn, 1) := dk_172 (dk_at dksX0_price_3 20 rfl rfl)
abbrev cX0_gain : ByteArray := prog_1_method_85_code
def yX0_gain : MethodName := ⟨RX0, "gain", "(I)I"⟩
def dkwX0_gain_3 : List UInt8 := [4, 167, 0, 4, 3, 96, 62, 132, 5, 1, 167, 255, 208, 132, 4, 1, 167, 255, 190, 29, 172]
abbrev dktX0_gain_3 : List UInt8 := dkwX0_gain_3 ++ []
def dkwX0_gain_2 : List UInt8 := [46, 21, 5, 184, 1, 225, 153, 0, 22, 28, 21, 4, 184, 1, 225, 28, 21, 5, 184, 1, 225, 159, 0, 7]
abbrev dktX0_gain_2 : List UInt8 := dkwX0_gain_2 ++ dktX0_gain_3
def dkwX0_gain_1 : List UInt8 := [42, 180, 1, 113, 162, 0, 63, 3, 54, 5, 21, 5, 21, 4, 162, 0, 47, 29, 42, 180, 0, 139, 21, 4]
abbrev dktX0_gain_1 : List UInt8 := dkwX0_gain_1 ++ dktX0_gain_2
def dkwX0_gain_0 : List UInt8 := [42, 27, 182, 1, 201, 154, 0, 5, 2, 172, 42, 27, 3, 182, 2, 60, 61, 3, 62, 3, 54, 4, 21, 4]
abbrev dktX0_gain_0 : List UInt8 := dkwX0_gain_0 ++ dktX0_gain_1
theorem dksX0_gain_0 : cX0_gain.data.toList.drop 0 = dktX0_gain_0 := by decide +kernel
theorem dksX0_gain_1 : cX0_gain.data.toList.drop 24 = dktX0_gain_1 := dk_seg dksX0_gain_0 24 rfl rfl
theorem dksX0_gain_2 : cX0_gain.data.toList.drop 48 = dktX0_gain_2 := dk_seg dksX0_gain_1 24 rfl rfl
theorem dksX0_gain_3 : cX0_gain.data.toList.drop 72 = dktX0_gain_3 := dk_seg dksX0_gain_2 24 rfl rfl
theorem dX0_gain_0 : decode cX0_gain 0 = .ok (.aload_n 0, 1) := dk_42 (dk_at dksX0_gain_0 0 rfl rfl)
theorem dX0_gain_1 : decode cX0_gain 1 = .ok (.iload_n 1, 1) := dk_27 (dk_at dksX0_gain_0 1 rfl rfl)
theorem dX0_gain_2 : decode cX0_gain 2 = .ok (.invokevirtual 457, 3) := dk_182 1 201 (dk_at dksX0_gain_0 2 rfl rfl)
theorem dX0_gain_5 : decode cX0_gain 5 = .ok (.ifCond .ne 5, 3) := dk_154 0 5 (dk_at dksX0_gain_0 5 rfl rfl)
theorem dX0_gain_8 : decode cX0_gain 8 = .ok (.iconst (-1), 1) := dk_2 (dk_at dksX0_gain_0 8 rfl rfl)
theorem dX0_gain_9 : decode cX0_gain 9 = .ok (.ireturn, 1) := dk_172 (dk_at dksX0_gain_0 9 rfl rfl)
theorem dX0_gain_10 : decode cX0_gain 10 = .ok (.aload_n 0, 1) := dk_42 (dk_at dksX0_gain_0 10 rfl rfl)
theorem dX0_gain_11 : decode cX0_gain 11 = .ok (.iload_n 1, 1) := dk_27 (dk_at dksX0_gain_0 11 rfl rfl)
theorem dX0_gain_12 : decode cX0_gain 12 = .ok (.iconst 0, 1) := dk_3 (dk_at dksX0_gain_0 12 rfl rfl)
theorem dX0_gain_13 : decode cX0_gain 13 = .ok (.invokevirtual 572, 3) := dk_182 2 60 (dk_at dksX0_gain_0 13 rfl rfl)
theorem dX0_gain_16 : decode cX0_gain 16 = .ok (.istore_n 2, 1) := dk_61 (dk_at dksX0_gain_0 16 rfl rfl)
theorem dX0_gain_17 : decode cX0_gain 17 = .ok (.iconst 0, 1) := dk_3 (dk_at dksX0_gain_0 17 rfl rfl)
theorem dX0_gain_18 : decode cX0_gain 18 = .ok (.istore_n 3, 1) := dk_62 (dk_at dksX0_gain_0 18 rfl rfl)
theorem dX0_gain_19 : decode cX0_gain 19 = .ok (.iconst 0, 1) := dk_3 (dk_at dksX0_gain_0 19 rfl rfl)
theorem dX0_gain_20 : decode cX0_gain 20 = .ok (.istore 4, 2) := dk_54 4 (dk_at dksX0_gain_0 20 rfl rfl)
theorem dX0_gain_22 : decode cX0_gain 22 = .ok (.iload 4, 2) := dk_21 4 (dk_at dksX0_gain_0 22 rfl rfl)
theorem dX0_gain_24 : decode cX0_gain 24 = .ok (.aload_n 0, 1) := dk_42 (dk_at dksX0_gain_1 0 rfl rfl)
theorem dX0_gain_25 : decode cX0_gain 25 = .ok (.getfield 369, 3) := dk_180 1 113 (dk_at dksX0_gain_1 1 rfl rfl)
theorem dX0_gain_28 : decode cX0_gain 28 = .ok (.if_icmp .ge 63, 3) := dk_162 0 63 (dk_at dksX0_gain_1 4 rfl rfl)
theorem dX0_gain_31 : decode cX0_gain 31 = .ok (.iconst 0, 1) := dk_3 (dk_at dksX0_gain_1 7 rfl rfl)
theorem dX0_gain_32 : decode cX0_gain 32 = .ok (.istore 5, 2) := dk_54 5 (dk_at dksX0_gain_1 8 rfl rfl)
theorem dX0_gain_34 : decode cX0_gain 34 = .ok (.iload 5, 2) := dk_21 5 (dk_at dksX0_gain_1 10 rfl rfl)
theorem dX0_gain_36 : decode cX0_gain 36 = .ok (.iload 4, 2) := dk_21 4 (dk_at dksX0_gain_1 12 rfl rfl)
theorem dX0_gain_38 : decode cX0_gain 38 = .ok (.if_icmp .ge 47, 3) := dk_162 0 47 (dk_at dksX0_gain_1 14 rfl rfl)
theorem dX0_gain_41 : decode cX0_gain 41 = .ok (.iload_n 3, 1) := dk_29 (dk_at dksX0_gain_1 17 rfl rfl)
theorem dX0_gain_42 : decode cX0_gain 42 = .ok (.aload_n 0, 1) := dk_42 (dk_at dksX0_gain_1 18 rfl rfl)
theorem dX0_gain_43 : decode cX0_gain 43 = .ok (.getfield 139, 3) := dk_180 0 139 (dk_at dksX0_gain_1 19 rfl rfl)
theorem dX0_gain_46 : decode cX0_gain 46 = .ok (.iload 4, 2) := dk_21 4 (dk_at dksX0_gain_1 22 rfl rfl)
theorem dX0_gain_48 : decode cX0_gain 48 = .ok (.iaload, 1) := dk_46 (dk_at dksX0_gain_2 0 rfl rfl)
theorem dX0_gain_49 : decode cX0_gain 49 = .ok (.iload 5, 2) := dk_21 5 (dk_at dksX0_gain_2 1 rfl rfl)
theorem dX0_gain_51 : decode cX0_gain 51 = .ok (.invokestatic 481, 3) := dk_184 1 225 (dk_at dksX0_gain_2 3 rfl rfl)
theorem dX0_gain_54 : decode cX0_gain 54 = .ok (.ifCond .eq 22, 3) := dk_153 0 22 (dk_at dksX0_gain_2 6 rfl rfl)
theorem dX0_gain_57 : decode cX0_gain 57 = .ok (.iload_n 2, 1) := dk_28 (dk_at dksX0_gain_2 9 rfl rfl)
theorem dX0_gain_58 : decode cX0_gain 58 = .ok (.iload 4, 2) := dk_21 4 (dk_at dksX0_gain_2 10 rfl rfl)
theorem dX0_gain_60 : decode cX0_gain 60 = .ok (.invokestatic 481, 3) := dk_184 1 225 (dk_at dksX0_gain_2 12 rfl rfl)
theorem dX0_gain_63 : decode cX0_gain 63 = .ok (.iload_n 2, 1) := dk_28 (dk_at dksX0_gain_2 15 rfl rfl)
theorem dX0_gain_64 : decode cX0_gain 64 = .ok (.iload 5, 2) := dk_21 5 (dk_at dksX0_gain_2 16 rfl rfl)
theorem dX0_gain_66 : decode cX0_gain 66 = .ok (.invokestatic 481, 3) := dk_184 1 225 (dk_at dksX0_gain_2 18 rfl rfl)
theorem dX0_gain_69 : decode cX0_gain 69 = .ok (.if_icmp .eq 7, 3) := dk_159 0 7 (dk_at dksX0_gain_2 21 rfl rfl)
theorem dX0_gain_72 : decode cX0_gain 72 = .ok (.iconst 1, 1) := dk_4 (dk_at dksX0_gain_3 0 rfl rfl)
theorem dX0_gain_73 : decode cX0_gain 73 = .ok (.goto 4, 3) := dk_167 0 4 (dk_at dksX0_gain_3 1 rfl rfl)
theorem dX0_gain_76 : decode cX0_gain 76 = .ok (.iconst 0, 1) := dk_3 (dk_at dksX0_gain_3 4 rfl rfl)
theorem dX0_gain_77 : decode cX0_gain 77 = .ok (.iadd, 1) := dk_96 (dk_at dksX0_gain_3 5 rfl rfl)
theorem dX0_gain_78 : decode cX0_gain 78 = .ok (.istore_n 3, 1) := dk_62 (dk_at dksX0_gain_3 6 rfl rfl)
theorem dX0_gain_79 : decode cX0_gain 79 = .ok (.iinc 5 1, 3) := dk_132 5 1 (dk_at dksX0_gain_3 7 rfl rfl)
theorem dX0_gain_82 : decode cX0_gain 82 = .ok (.goto (-48), 3) := dk_167 255 208 (dk_at dksX0_gain_3 10 rfl rfl)
theorem dX0_gain_85 : decode cX0_gain 85 = .ok (.iinc 4 1, 3) := dk_132 4 1 (dk_at dksX0_gain_3 13 rfl rfl)
theorem dX0_gain_88 : decode cX0_gain 88 = .ok (.goto (-66), 3) := dk_167 255 190 (dk_at dksX0_gain_3 16 rfl rfl)
theorem dX0_gain_91 : decode cX0_gain 91 = .ok (.iload_n 3, 1) := dk_29 (dk_at dksX0_gain_3 19 rfl rfl)
theorem dX0_gain_92 : decode cX0_gain 92 = .ok (.ireturn, 1) := dk_172 (dk_at dksX0_gain_3 20 rfl rfl)
abbrev cX0_bargain : ByteArray := prog_1_method_86_code
def yX0_bargain : MethodName := ⟨RX0, "bargain", "(I)I"⟩
def dkwX0_bargain_3 : List UInt8 := [154, 0, 7, 28, 167, 0, 19, 42, 180, 0, 147, 28, 46, 16, 60, 104, 42, 180, 0, 149, 28, 46, 108, 172]
abbrev dktX0_bargain_3 : List UInt8 := dkwX0_bargain_3 ++ []
def dkwX0_bargain_2 : List UInt8 := [46, 42, 180, 0, 149, 29, 46, 104, 164, 0, 7, 29, 167, 0, 4, 28, 61, 132, 3, 1, 167, 255, 210, 27]
abbrev dktX0_bargain_2 : List UInt8 := dkwX0_bargain_2 ++ dktX0_bargain_3
def dkwX0_bargain_1 : List UInt8 := [180, 1, 120, 162, 0, 44, 42, 180, 0, 147, 29, 46, 42, 180, 0, 149, 28, 46, 104, 42, 180, 0, 147, 28]
abbrev dktX0_bargain_1 : List UInt8 := dkwX0_bargain_1 ++ dktX0_bargain_2
def dkwX0_bargain_0 : List UInt8 := [42, 180, 1, 120, 153, 0, 12, 27, 3, 4, 184, 0, 207, 154, 0, 5, 2, 172, 3, 61, 4, 62, 29, 42]
abbrev dktX0_bargain_0 : List UInt8 := dkwX0_bargain_0 ++ dktX0_bargain_1
theorem dksX0_bargain_0 : cX0_bargain.data.toList.drop 0 = dktX0_bargain_0 := by decide +kernel
theorem dksX0_bargain_1 : cX0_bargain.data.toList.drop 24 = dktX0_bargain_1 := dk_seg dksX0_bargain_0 24 rfl rfl
theorem dksX0_bargain_2 : cX0_bargain.data.toList.drop 48 = dktX0_bargain_2 := dk_seg dksX0_bargain_1 24 rfl rfl
theorem dksX0_bargain_3 : cX0_bargain.data.toList.drop 72 = dktX0_bargain_3 := dk_seg dksX0_bargain_2 24 rfl rfl
theorem dX0_bargain_0 : decode cX0_bargain 0 = .ok (.aload_n 0, 1) := dk_42 (dk_at dksX0_bargain_0 0 rfl rfl)
theorem dX0_bargain_1 : decode cX0_bargain 1 = .ok (.getfield 376, 3) := dk_180 1 120 (dk_at dksX0_bargain_0 1 rfl rfl)
theorem dX0_bargain_4 : decode cX0_bargain 4 = .ok (.ifCond .eq 12, 3) := dk_153 0 12 (dk_at dksX0_bargain_0 4 rfl rfl)
theorem dX0_bargain_7 : decode cX0_bargain 7 = .ok (.iload_n 1, 1) := dk_27 (dk_at dksX0_bargain_0 7 rfl rfl)
theorem dX0_bargain_8 : decode cX0_bargain 8 = .ok (.iconst 0, 1) := dk_3 (dk_at dksX0_bargain_0 8 rfl rfl)
theorem dX0_bargain_9 : decode cX0_bargain 9 = .ok (.iconst 1, 1) := dk_4 (dk_at dksX0_bargain_0 9 rfl rfl)
theorem dX0_bargain_10 : decode cX0_bargain 10 = .ok (.invokestatic 207, 3) := dk_184 0 207 (dk_at dksX0_bargain_0 10 rfl rfl)
theorem dX0_bargain_13 : decode cX0_bargain 13 = .ok (.ifCond .ne 5, 3) := dk_154 0 5 (dk_at dksX0_bargain_0 13 rfl rfl)
theorem dX0_bargain_16 : decode cX0_bargain 16 = .ok (.iconst (-1), 1) := dk_2 (dk_at dksX0_bargain_0 16 rfl rfl)
theorem dX0_bargain_17 : decode cX0_bargain 17 = .ok (.ireturn, 1) := dk_172 (dk_at dksX0_bargain_0 17 rfl rfl)
theorem dX0_bargain_18 : decode cX0_bargain 18 = .ok (.iconst 0, 1) := dk_3 (dk_at dksX0_bargain_0 18 rfl rfl)
theorem dX0_bargain_19 : decode cX0_bargain 19 = .ok (.istore_n 2, 1) := dk_61 (dk_at dksX0_bargain_0 19 rfl rfl)
theorem dX0_bargain_20 : decode cX0_bargain 20 = .ok (.iconst 1, 1) := dk_4 (dk_at dksX0_bargain_0 20 rfl rfl)
theorem dX0_bargain_21 : decode cX0_bargain 21 = .ok (.istore_n 3, 1) := dk_62 (dk_at dksX0_bargain_0 21 rfl rfl)
theorem dX0_bargain_22 : decode cX0_bargain 22 = .ok (.iload_n 3, 1) := dk_29 (dk_at dksX0_bargain_0 22 rfl rfl)
theorem dX0_bargain_23 : decode cX0_bargain 23 = .ok (.aload_n 0, 1) := dk_42 (dk_at dksX0_bargain_0 23 rfl rfl)
theorem dX0_bargain_24 : decode cX0_bargain 24 = .ok (.getfield 376, 3) := dk_180 1 120 (dk_at dksX0_bargain_1 0 rfl rfl)
theorem dX0_bargain_27 : decode cX0_bargain 27 = .ok (.if_icmp .ge 44, 3) := dk_162 0 44 (dk_at dksX0_bargain_1 3 rfl rfl)
theorem dX0_bargain_30 : decode cX0_bargain 30 = .ok (.aload_n 0, 1) := dk_42 (dk_at dksX0_bargain_1 6 rfl rfl)
theorem dX0_bargain_31 : decode cX0_bargain 31 = .ok (.getfield 147, 3) := dk_180 0 147 (dk_at dksX0_bargain_1 7 rfl rfl)
theorem dX0_bargain_34 : decode cX0_bargain 34 = .ok (.iload_n 3, 1) := dk_29 (dk_at dksX0_bargain_1 10 rfl rfl)
theorem dX0_bargain_35 : decode cX0_bargain 35 = .ok (.iaload, 1) := dk_46 (dk_at dksX0_bargain_1 11 rfl rfl)
theorem dX0_bargain_36 : decode cX0_bargain 36 = .ok (.aload_n 0, 1) := dk_42 (dk_at dksX0_bargain_1 12 rfl rfl)
theorem dX0_bargain_37 : decode cX0_bargain 37 = .ok (.getfield 149, 3) := dk_180 0 149 (dk_at dksX0_bargain_1 13 rfl rfl)
theorem dX0_bargain_40 : decode cX0_bargain 40 = .ok (.iload_n 2, 1) := dk_28 (dk_at dksX0_bargain_1 16 rfl rfl)
theorem dX0_bargain_41 : decode cX0_bargain 41 = .ok (.iaload, 1) := dk_46 (dk_at dksX0_bargain_1 17 rfl rfl)
theorem dX0_bargain_42 : decode cX0_bargain 42 = .ok (.imul, 1) := dk_104 (dk_at dksX0_bargain_1 18 rfl rfl)
theorem dX0_bargain_43 : decode cX0_bargain 43 = .ok (.aload_n 0, 1) := dk_42 (dk_at dksX0_bargain_1 19 rfl rfl)
theorem dX0_bargain_44 : decode cX0_bargain 44 = .ok (.getfield 147, 3) := dk_180 0 147 (dk_at dksX0_bargain_1 20 rfl rfl)
theorem dX0_bargain_47 : decode cX0_bargain 47 = .ok (.iload_n 2, 1) := dk_28 (dk_at dksX0_bargain_1 23 rfl rfl)
theorem dX0_bargain_48 : decode cX0_bargain 48 = .ok (.iaload, 1) := dk_46 (dk_at dksX0_bargain_2 0 rfl rfl)
theorem dX0_bargain_49 : decode cX0_bargain 49 = .ok (.aload_n 0, 1) := dk_42 (dk_at dksX0_bargain_2 1 rfl rfl)
theorem dX0_bargain_50 : decode cX0_bargain 50 = .ok (.getfield 149, 3) := dk_180 0 149 (dk_at dksX0_bargain_2 2 rfl rfl)
theorem dX0_bargain_53 : decode cX0_bargain 53 = .ok (.iload_n 3, 1) := dk_29 (dk_at dksX0_bargain_2 5 rfl rfl)
theorem dX0_bargain_54 : decode cX0_bargain 54 = .ok (.iaload, 1) := dk_46 (dk_at dksX0_bargain_2 6 rfl rfl)
theorem dX0_bargain_55 : decode cX0_bargain 55 = .ok (.imul, 1) := dk_104 (dk_at dksX0_bargain_2 7 rfl rfl)
theorem dX0_bargain_56 : decode cX0_bargain 56 = .ok (.if_icmp .le 7, 3) := dk_164 0 7 (dk_at dksX0_bargain_2 8 rfl rfl)
theorem dX0_bargain_59 : decode cX0_bargain 59 = .ok (.iload_n 3, 1) := dk_29 (dk_at dksX0_bargain_2 11 rfl rfl)
theorem dX0_bargain_60 : decode cX0_bargain 60 = .ok (.goto 4, 3) := dk_167 0 4 (dk_at dksX0_bargain_2 12 rfl rfl)
theorem dX0_bargain_63 : decode cX0_bargain 63 = .ok (.iload_n 2, 1) := dk_28 (dk_at dksX0_bargain_2 15 rfl rfl)
theorem dX0_bargain_64 : decode cX0_bargain 64 = .ok (.istore_n 2, 1) := dk_61 (dk_at dksX0_bargain_2 16 rfl rfl)
theorem dX0_bargain_65 : decode cX0_bargain 65 = .ok (.iinc 3 1, 3) := dk_132 3 1 (dk_at dksX0_bargain_2 17 rfl rfl)
theorem dX0_bargain_68 : decode cX0_bargain 68 = .ok (.goto (-46), 3) := dk_167 255 210 (dk_at dksX0_bargain_2 20 rfl rfl)
theorem dX0_bargain_71 : decode cX0_bargain 71 = .ok (.iload_n 1, 1) := dk_27 (dk_at dksX0_bargain_2 23 rfl rfl)
theorem dX0_bargain_72 : decode cX0_bargain 72 = .ok (.ifCond .ne 7, 3) := dk_154 0 7 (dk_at dksX0_bargain_3 0 rfl rfl)
theorem dX0_bargain_75 : decode cX0_bargain 75 = .ok (.iload_n 2, 1) := dk_28 (dk_at dksX0_bargain_3 3 rfl rfl)
theorem dX0_bargain_76 : decode cX0_bargain 76 = .ok (.goto 19, 3) := dk_167 0 19 (dk_at dksX0_bargain_3 4 rfl rfl)
theorem dX0_bargain_79 : decode cX0_bargain 79 = .ok (.aload_n 0, 1) := dk_42 (dk_at dksX0_bargain_3 7 rfl rfl)
theorem dX0_bargain_80 : decode cX0_bargain 80 = .ok (.getfield 147, 3) := dk_180 0 147 (dk_at dksX0_bargain_3 8 rfl rfl)
theorem dX0_bargain_83 : decode cX0_bargain 83 = .ok (.iload_n 2, 1) := dk_28 (dk_at dksX0_bargain_3 11 rfl rfl)
theorem dX0_bargain_84 : decode cX0_bargain 84 = .ok (.iaload, 1) := dk_46 (dk_at dksX0_bargain_3 12 rfl rfl)
theorem dX0_bargain_85 : decode cX0_bargain 85 = .ok (.bipush 60, 2) := dk_16 60 (dk_at dksX0_bargain_3 13 rfl rfl)
theorem dX0_bargain_87 : decode cX0_bargain 87 = .ok (.imul, 1) := dk_104 (dk_at dksX0_bargain_3 15 rfl rfl)
theorem dX0_bargain_88 : decode cX0_bargain 88 = .ok (.aload_n 0, 1) := dk_42 (dk_at dksX0_bargain_3 16 rfl rfl)
theorem dX0_bargain_89 : decode cX0_bargain 89 = .ok (.getfield 149, 3) := dk_180 0 149 (dk_at dksX0_bargain_3 17 rfl rfl)
theorem dX0_bargain_92 : decode cX0_bargain 92 = .ok (.iload_n 2, 1) := dk_28 (dk_at dksX0_bargain_3 20 rfl rfl)
theorem dX0_bargain_93 : decode cX0_bargain 93 = .ok (.iaload, 1) := dk_46 (dk_at dksX0_bargain_3 21 rfl rfl)
theorem dX0_bargain_94 : decode cX0_bargain 94 = .ok (.idiv, 1) := dk_108 (dk_at dksX0_bargain_3 22 rfl rfl)
theorem dX0_bargain_95 : decode cX0_bargain 95 = .ok (.ireturn, 1) := dk_172 (dk_at dksX0_bargain_3 23 rfl rfl)
abbrev cX0_calm : ByteArray := prog_1_method_87_code
def yX0_calm : MethodName := ⟨RX0, "calm", "(I)I"⟩
def dkwX0_calm_5 : List UInt8 := [21, 4, 46, 96, 62, 132, 4, 1, 167, 255, 188, 27, 154, 0, 7, 28, 167, 0, 4, 29, 172]
abbrev dktX0_calm_5 : List UInt8 := dkwX0_calm_5 ++ []
def dkwX0_calm_4 : List UInt8 := [21, 4, 46, 42, 180, 0, 145, 28, 46, 164, 0, 8, 21, 4, 167, 0, 4, 28, 61, 29, 42, 180, 0, 145]
abbrev dktX0_calm_4 : List UInt8 := dkwX0_calm_4 ++ dktX0_calm_5
def dkwX0_calm_3 : List UInt8 := [180, 1, 187, 21, 4, 184, 1, 225, 154, 0, 6, 167, 0, 41, 28, 2, 159, 0, 19, 42, 180, 0, 145]
abbrev dktX0_calm_3 : List UInt8 := dkwX0_calm_3 ++ dktX0_calm_4
def dkwX0_calm_2 : List UInt8 := [2, 172, 2, 61, 3, 62, 3, 54, 4, 21, 4, 42, 180, 1, 113, 162, 0, 65, 42, 180, 0, 160]
abbrev dktX0_calm_2 : List UInt8 := dkwX0_calm_2 ++ dktX0_calm_3
def dkwX0_calm_1 : List UInt8 := [27, 16, 10, 100, 3, 182, 2, 60, 2, 130, 126, 184, 2, 11, 172, 27, 3, 4, 184, 0, 207, 154, 0, 5]
abbrev dktX0_calm_1 : List UInt8 := dkwX0_calm_1 ++ dktX0_calm_2
def dkwX0_calm_0 : List UInt8 := [27, 16, 10, 16, 9, 42, 180, 1, 120, 96, 184, 0, 207, 153, 0, 26, 42, 180, 0, 160, 180, 1, 187, 42]
abbrev dktX0_calm_0 : List UInt8 := dkwX0_calm_0 ++ dktX0_calm_1
theorem dksX0_calm_0 : cX0_calm.data.toList.drop 0 = dktX0_calm_0 := by decide +kernel
theorem dksX0_calm_1 : cX0_calm.data.toList.drop 24 = dktX0_calm_1 := dk_seg dksX0_calm_0 24 rfl rfl
theorem dksX0_calm_2 : cX0_calm.data.toList.drop 48 = dktX0_calm_2 := dk_seg dksX0_calm_1 24 rfl rfl
theorem dksX0_calm_3 : cX0_calm.data.toList.drop 70 = dktX0_calm_3 := dk_seg dksX0_calm_2 22 rfl rfl
theorem dksX0_calm_4 : cX0_calm.data.toList.drop 93 = dktX0_calm_4 := dk_seg dksX0_calm_3 23 rfl rfl
theorem dksX0_calm_5 : cX0_calm.data.toList.drop 117 = dktX0_calm_5 := dk_seg dksX0_calm_4 24 rfl rfl
theorem dX0_calm_0 : decode cX0_calm 0 = .ok (.iload_n 1, 1) := dk_27 (dk_at dksX0_calm_0 0 rfl rfl)
theorem dX0_calm_1 : decode cX0_calm 1 = .ok (.bipush 10, 2) := dk_16 10 (dk_at dksX0_calm_0 1 rfl rfl)
theorem dX0_calm_3 : decode cX0_calm 3 = .ok (.bipush 9, 2) := dk_16 9 (dk_at dksX0_calm_0 3 rfl rfl)
theorem dX0_calm_5 : decode cX0_calm 5 = .ok (.aload_n 0, 1) := dk_42 (dk_at dksX0_calm_0 5 rfl rfl)
theorem dX0_calm_6 : decode cX0_calm 6 = .ok (.getfield 376, 3) := dk_180 1 120 (dk_at dksX0_calm_0 6 rfl rfl)
theorem dX0_calm_9 : decode cX0_calm 9 = .ok (.iadd, 1) := dk_96 (dk_at dksX0_calm_0 9 rfl rfl)
theorem dX0_calm_10 : decode cX0_calm 10 = .ok (.invokestatic 207, 3) := dk_184 0 207 (dk_at dksX0_calm_0 10 rfl rfl)
theorem dX0_calm_13 : decode cX0_calm 13 = .ok (.ifCond .eq 26, 3) := dk_153 0 26 (dk_at dksX0_calm_0 13 rfl rfl)
theorem dX0_calm_16 : decode cX0_calm 16 = .ok (.aload_n 0, 1) := dk_42 (dk_at dksX0_calm_0 16 rfl rfl)
theorem dX0_calm_17 : decode cX0_calm 17 = .ok (.getfield 160, 3) := dk_180 0 160 (dk_at dksX0_calm_0 17 rfl rfl)
theorem dX0_calm_20 : decode cX0_calm 20 = .ok (.getfield 443, 3) := dk_180 1 187 (dk_at dksX0_calm_0 20 rfl rfl)
theorem dX0_calm_23 : decode cX0_calm 23 = .ok (.aload_n 0, 1) := dk_42 (dk_at dksX0_calm_0 23 rfl rfl)
theorem dX0_calm_24 : decode cX0_calm 24 = .ok (.iload_n 1, 1) := dk_27 (dk_at dksX0_calm_1 0 rfl rfl)
theorem dX0_calm_25 : decode cX0_calm 25 = .ok (.bipush 10, 2) := dk_16 10 (dk_at dksX0_calm_1 1 rfl rfl)
theorem dX0_calm_27 : decode cX0_calm 27 = .ok (.isub, 1) := dk_100 (dk_at dksX0_calm_1 3 rfl rfl)
theorem dX0_calm_28 : decode cX0_calm 28 = .ok (.iconst 0, 1) := dk_3 (dk_at dksX0_calm_1 4 rfl rfl)
theorem dX0_calm_29 : decode cX0_calm 29 = .ok (.invokevirtual 572, 3) := dk_182 2 60 (dk_at dksX0_calm_1 5 rfl rfl)
theorem dX0_calm_32 : decode cX0_calm 32 = .ok (.iconst (-1), 1) := dk_2 (dk_at dksX0_calm_1 8 rfl rfl)
theorem dX0_calm_33 : decode cX0_calm 33 = .ok (.ixor, 1) := dk_130 (dk_at dksX0_calm_1 9 rfl rfl)
theorem dX0_calm_34 : decode cX0_calm 34 = .ok (.iand, 1) := dk_126 (dk_at dksX0_calm_1 10 rfl rfl)
theorem dX0_calm_35 : decode cX0_calm 35 = .ok (.invokestatic 523, 3) := dk_184 2 11 (dk_at dksX0_calm_1 11 rfl rfl)
theorem dX0_calm_38 : decode cX0_calm 38 = .ok (.ireturn, 1) := dk_172 (dk_at dksX0_calm_1 14 rfl rfl)
theorem dX0_calm_39 : decode cX0_calm 39 = .ok (.iload_n 1, 1) := dk_27 (dk_at dksX0_calm_1 15 rfl rfl)
theorem dX0_calm_40 : decode cX0_calm 40 = .ok (.iconst 0, 1) := dk_3 (dk_at dksX0_calm_1 16 rfl rfl)
theorem dX0_calm_41 : decode cX0_calm 41 = .ok (.iconst 1, 1) := dk_4 (dk_at dksX0_calm_1 17 rfl rfl)
theorem dX0_calm_42 : decode cX0_calm 42 = .ok (.invokestatic 207, 3) := dk_184 0 207 (dk_at dksX0_calm_1 18 rfl rfl)
theorem dX0_calm_45 : decode cX0_calm 45 = .ok (.ifCond .ne 5, 3) := dk_154 0 5 (dk_at dksX0_calm_1 21 rfl rfl)
theorem dX0_calm_48 : decode cX0_calm 48 = .ok (.iconst (-1), 1) := dk_2 (dk_at dksX0_calm_2 0 rfl rfl)
theorem dX0_calm_49 : decode cX0_calm 49 = .ok (.ireturn, 1) := dk_172 (dk_at dksX0_calm_2 1 rfl rfl)
theorem dX0_calm_50 : decode cX0_calm 50 = .ok (.iconst (-1), 1) := dk_2 (dk_at dksX0_calm_2 2 rfl rfl)
theorem dX0_calm_51 : decode cX0_calm 51 = .ok (.istore_n 2, 1) := dk_61 (dk_at dksX0_calm_2 3 rfl rfl)
theorem dX0_calm_52 : decode cX0_calm 52 = .ok (.iconst 0, 1) := dk_3 (dk_at dksX0_calm_2 4 rfl rfl)
theorem dX0_calm_53 : decode cX0_calm 53 = .ok (.istore_n 3, 1) := dk_62 (dk_at dksX0_calm_2 5 rfl rfl)
theorem dX0_calm_54 : decode cX0_calm 54 = .ok (.iconst 0, 1) := dk_3 (dk_at dksX0_calm_2 6 rfl rfl)
theorem dX0_calm_55 : decode cX0_calm 55 = .ok (.istore 4, 2) := dk_54 4 (dk_at dksX0_calm_2 7 rfl rfl)
theorem dX0_calm_57 : decode cX0_calm 57 = .ok (.iload 4, 2) := dk_21 4 (dk_at dksX0_calm_2 9 rfl rfl)
theorem dX0_calm_59 : decode cX0_calm 59 = .ok (.aload_n 0, 1) := dk_42 (dk_at dksX0_calm_2 11 rfl rfl)
theorem dX0_calm_60 : decode cX0_calm 60 = .ok (.getfield 369, 3) := dk_180 1 113 (dk_at dksX0_calm_2 12 rfl rfl)
theorem dX0_calm_63 : decode cX0_calm 63 = .ok (.if_icmp .ge 65, 3) := dk_162 0 65 (dk_at dksX0_calm_2 15 rfl rfl)
theorem dX0_calm_66 : decode cX0_calm 66 = .ok (.aload_n 0, 1) := dk_42 (dk_at dksX0_calm_2 18 rfl rfl)
theorem dX0_calm_67 : decode cX0_calm 67 = .ok (.getfield 160, 3) := dk_180 0 160 (dk_at dksX0_calm_2 19 rfl rfl)
theorem dX0_calm_70 : decode cX0_calm 70 = .ok (.getfield 443, 3) := dk_180 1 187 (dk_at dksX0_calm_3 0 rfl rfl)
theorem dX0_calm_73 : decode cX0_calm 73 = .ok (.iload 4, 2) := dk_21 4 (dk_at dksX0_calm_3 3 rfl rfl)
theorem dX0_calm_75 : decode cX0_calm 75 = .ok (.invokestatic 481, 3) := dk_184 1 225 (dk_at dksX0_calm_3 5 rfl rfl)
theorem dX0_calm_78 : decode cX0_calm 78 = .ok (.ifCond .ne 6, 3) := dk_154 0 6 (dk_at dksX0_calm_3 8 rfl rfl)
theorem dX0_calm_81 : decode cX0_calm 81 = .ok (.goto 41, 3) := dk_167 0 41 (dk_at dksX0_calm_3 11 rfl rfl)
theorem dX0_calm_84 : decode cX0_calm 84 = .ok (.iload_n 2, 1) := dk_28 (dk_at dksX0_calm_3 14 rfl rfl)
theorem dX0_calm_85 : decode cX0_calm 85 = .ok (.iconst (-1), 1) := dk_2 (dk_at dksX0_calm_3 15 rfl rfl)
theorem dX0_calm_86 : decode cX0_calm 86 = .ok (.if_icmp .eq 19, 3) := dk_159 0 19 (dk_at dksX0_calm_3 16 rfl rfl)
theorem dX0_calm_89 : decode cX0_calm 89 = .ok (.aload_n 0, 1) := dk_42 (dk_at dksX0_calm_3 19 rfl rfl)
theorem dX0_calm_90 : decode cX0_calm 90 = .ok (.getfield 145, 3) := dk_180 0 145 (dk_at dksX0_calm_3 20 rfl rfl)
theorem dX0_calm_93 : decode cX0_calm 93 = .ok (.iload 4, 2) := dk_21 4 (dk_at dksX0_calm_4 0 rfl rfl)
theorem dX0_calm_95 : decode cX0_calm 95 = .ok (.iaload, 1) := dk_46 (dk_at dksX0_calm_4 2 rfl rfl)
theorem dX0_calm_96 : decode cX0_calm 96 = .ok (.aload_n 0, 1) := dk_42 (dk_at dksX0_calm_4 3 rfl rfl)
theorem dX0_calm_97 : decode cX0_calm 97 = .ok (.getfield 145, 3) := dk_180 0 145 (dk_at dksX0_calm_4 4 rfl rfl)
theorem dX0_calm_100 : decode cX0_calm 100 = .ok (.iload_n 2, 1) := dk_28 (dk_at dksX0_calm_4 7 rfl rfl)
theorem dX0_calm_101 : decode cX0_calm 101 = .ok (.iaload, 1) := dk_46 (dk_at dksX0_calm_4 8 rfl rfl)
theorem dX0_calm_102 : decode cX0_calm 102 = .ok (.if_icmp .le 8, 3) := dk_164 0 8 (dk_at dksX0_calm_4 9 rfl rfl)
theorem dX0_calm_105 : decode cX0_calm 105 = .ok (.iload 4, 2) := dk_21 4 (dk_at dksX0_calm_4 12 rfl rfl)
theorem dX0_calm_107 : decode cX0_calm 107 = .ok (.goto 4, 3) := dk_167 0 4 (dk_at dksX0_calm_4 14 rfl rfl)
theorem dX0_calm_110 : decode cX0_calm 110 = .ok (.iload_n 2, 1) := dk_28 (dk_at dksX0_calm_4 17 rfl rfl)
theorem dX0_calm_111 : decode cX0_calm 111 = .ok (.istore_n 2, 1) := dk_61 (dk_at dksX0_calm_4 18 rfl rfl)
theorem dX0_calm_112 : decode cX0_calm 112 = .ok (.iload_n 3, 1) := dk_29 (dk_at dksX0_calm_4 19 rfl rfl)
theorem dX0_calm_113 : decode cX0_calm 113 = .ok (.aload_n 0, 1) := dk_42 (dk_at dksX0_calm_4 20 rfl rfl)
theorem dX0_calm_114 : decode cX0_calm 114 = .ok (.getfield 145, 3) := dk_180 0 145 (dk_at dksX0_calm_4 21 rfl rfl)
theorem dX0_calm_117 : decode cX0_calm 117 = .ok (.iload 4, 2) := dk_21 4 (dk_at dksX0_calm_5 0 rfl rfl)
theorem dX0_calm_119 : decode cX0_calm 119 = .ok (.iaload, 1) := dk_46 (dk_at dksX0_calm_5 2 rfl rfl)
theorem dX0_calm_120 : decode cX0_calm 120 = .ok (.iadd, 1) := dk_96 (dk_at dksX0_calm_5 3 rfl rfl)
theorem dX0_calm_121 : decode cX0_calm 121 = .ok (.istore_n 3, 1) := dk_62 (dk_at dksX0_calm_5 4 rfl rfl)
theorem dX0_calm_122 : decode cX0_calm 122 = .ok (.iinc 4 1, 3) := dk_132 4 1 (dk_at dksX0_calm_5 5 rfl rfl)
theorem dX0_calm_125 : decode cX0_calm 125 = .ok (.goto (-68), 3) := dk_167 255 188 (dk_at dksX0_calm_5 8 rfl rfl)
theorem dX0_calm_128 : decode cX0_calm 128 = .ok (.iload_n 1, 1) := dk_27 (dk_at dksX0_calm_5 11 rfl rfl)
theorem dX0_calm_129 : decode cX0_calm 129 = .ok (.ifCond .ne 7, 3) := dk_154 0 7 (dk_at dksX0_calm_5 12 rfl rfl)
theorem dX0_calm_132 : decode cX0_calm 132 = .ok (.iload_n 2, 1) := dk_28 (dk_at dksX0_calm_5 15 rfl rfl)
theorem dX0_calm_133 : decode cX0_calm 133 = .ok (.goto 4, 3) := dk_167 0 4 (dk_at dksX0_calm_5 16 rfl rfl)
theorem dX0_calm_136 : decode cX0_calm 136 = .ok (.iload_n 3, 1) := dk_29 (dk_at dksX0_calm_5 19 rfl rfl)
theorem dX0_calm_137 : decode cX0_calm 137 = .ok (.ireturn, 1) := dk_172 (dk_at dksX0_calm_5 20 rfl rfl)
abbrev cX0_means : ByteArray := prog_1_method_88_code
def yX0_means : MethodName := ⟨RX0, "means", "(II)Z"⟩
def dkwX0_means_1 : List UInt8 := [180, 0, 186, 27, 28, 79, 4, 172]
abbrev dktX0_means_1 : List UInt8 := dkwX0_means_1 ++ []
def dkwX0_means_0 : List UInt8 := [27, 3, 16, 9, 184, 0, 207, 153, 0, 13, 28, 3, 16, 9, 184, 0, 207, 154, 0, 5, 3, 172, 42]
abbrev dktX0_means_0 : List UInt8 := dkwX0_means_0 ++ dktX0_means_1
theorem dksX0_means_0 : cX0_means.data.toList.drop 0 = dktX0_means_0 := by decide +kernel
theorem dksX0_means_1 : cX0_means.data.toList.drop 23 = dktX0_means_1 := dk_seg dksX0_means_0 23 rfl rfl
theorem dX0_means_0 : decode cX0_means 0 = .ok (.iload_n 1, 1) := dk_27 (dk_at dksX0_means_0 0 rfl rfl)
theorem dX0_means_1 : decode cX0_means 1 = .ok (.iconst 0, 1) := dk_3 (dk_at dksX0_means_0 1 rfl rfl)
theorem dX0_means_2 : decode cX0_means 2 = .ok (.bipush 9, 2) := dk_16 9 (dk_at dksX0_means_0 2 rfl rfl)
theorem dX0_means_4 : decode cX0_means 4 = .ok (.invokestatic 207, 3) := dk_184 0 207 (dk_at dksX0_means_0 4 rfl rfl)
theorem dX0_means_7 : decode cX0_means 7 = .ok (.ifCond .eq 13, 3) := dk_153 0 13 (dk_at dksX0_means_0 7 rfl rfl)
theorem dX0_means_10 : decode cX0_means 10 = .ok (.iload_n 2, 1) := dk_28 (dk_at dksX0_means_0 10 rfl rfl)
theorem dX0_means_11 : decode cX0_means 11 = .ok (.iconst 0, 1) := dk_3 (dk_at dksX0_means_0 11 rfl rfl)
theorem dX0_means_12 : decode cX0_means 12 = .ok (.bipush 9, 2) := dk_16 9 (dk_at dksX0_means_0 12 rfl rfl)
theorem dX0_means_14 : decode cX0_means 14 = .ok (.invokestatic 207, 3) := dk_184 0 207 (dk_at dksX0_means_0 14 rfl rfl)
theorem dX0_means_17 : decode cX0_means 17 = .ok (.ifCond .ne 5, 3) := dk_154 0 5 (dk_at dksX0_means_0 17 rfl rfl)
theorem dX0_means_20 : decode cX0_means 20 = .ok (.iconst 0, 1) := dk_3 (dk_at dksX0_means_0 20 rfl rfl)
theorem dX0_means_21 : decode cX0_means 21 = .ok (.ireturn, 1) := dk_172 (dk_at dksX0_means_0 21 rfl rfl)
theorem dX0_means_22 : decode cX0_means 22 = .ok (.aload_n 0, 1) := dk_42 (dk_at dksX0_means_0 22 rfl rfl)
theorem dX0_means_23 : decode cX0_means 23 = .ok (.getfield 186, 3) := dk_180 0 186 (dk_at dksX0_means_1 0 rfl rfl)
theorem dX0_means_26 : decode cX0_means 26 = .ok (.iload_n 1, 1) := dk_27 (dk_at dksX0_means_1 3 rfl rfl)
theorem dX0_means_27 : decode cX0_means 27 = .ok (.iload_n 2, 1) := dk_28 (dk_at dksX0_means_1 4 rfl rfl)
theorem dX0_means_28 : decode cX0_means 28 = .ok (.iastore, 1) := dk_79 (dk_at dksX0_means_1 5 rfl rfl)
theorem dX0_means_29 : decode cX0_means 29 = .ok (.iconst 1, 1) := dk_4 (dk_at dksX0_means_1 6 rfl rfl)
theorem dX0_means_30 : decode cX0_means 30 = .ok (.ireturn, 1) := dk_172 (dk_at dksX0_means_1 7 rfl rfl)
abbrev cX0_passed : ByteArray := prog_1_method_90_code
def yX0_passed : MethodName := ⟨RX0, "passed", "(III)I"⟩
def dkwX0_passed_5 : List UInt8 := [21, 5, 167, 0, 8, 21, 5, 21, 6, 100, 172]
abbrev dktX0_passed_5 : List UInt8 := dkwX0_passed_5 ++ []
def dkwX0_passed_4 : List UInt8 := [182, 2, 63, 42, 27, 21, 5, 182, 2, 63, 159, 0, 9, 132, 6, 1, 167, 255, 236, 29, 4, 160, 0, 8]
abbrev dktX0_passed_4 : List UInt8 := dkwX0_passed_4 ++ dktX0_passed_5
def dkwX0_passed_3 : List UInt8 := [27, 21, 5, 182, 2, 63, 120, 128, 54, 4, 132, 5, 1, 167, 255, 224, 3, 54, 6, 42, 27, 21, 6]
abbrev dktX0_passed_3 : List UInt8 := dkwX0_passed_3 ++ dktX0_passed_4
def dkwX0_passed_2 : List UInt8 := [54, 4, 3, 54, 5, 21, 4, 42, 27, 21, 5, 182, 2, 63, 184, 1, 225, 154, 0, 23, 21, 4, 4, 42]
abbrev dktX0_passed_2 : List UInt8 := dkwX0_passed_2 ++ dktX0_passed_3
def dkwX0_passed_1 : List UInt8 := [3, 17, 39, 15, 184, 0, 207, 154, 0, 5, 2, 172, 29, 154, 0, 10, 42, 27, 28, 182, 2, 63, 172, 3]
abbrev dktX0_passed_1 : List UInt8 := dkwX0_passed_1 ++ dktX0_passed_2
def dkwX0_passed_0 : List UInt8 := [27, 3, 16, 9, 184, 0, 207, 153, 0, 27, 29, 3, 5, 184, 0, 207, 153, 0, 18, 29, 154, 0, 16, 28]
abbrev dktX0_passed_0 : List UInt8 := dkwX0_passed_0 ++ dktX0_passed_1
theorem dksX0_passed_0 : cX0_passed.data.toList.drop 0 = dktX0_passed_0 := by decide +kernel
theorem dksX0_passed_1 : cX0_passed.data.toList.drop 24 = dktX0_passed_1 := dk_seg dksX0_passed_0 24 rfl rfl
theorem dksX0_passed_2 : cX0_passed.data.toList.drop 48 = dktX0_passed_2 := dk_seg dksX0_passed_1 24 rfl rfl
theorem dksX0_passed_3 : cX0_passed.data.toList.drop 72 = dktX0_passed_3 := dk_seg dksX0_passed_2 24 rfl rfl
theorem dksX0_passed_4 : cX0_passed.data.toList.drop 95 = dktX0_passed_4 := dk_seg dksX0_passed_3 23 rfl rfl
theorem dksX0_passed_5 : cX0_passed.data.toList.drop 119 = dktX0_passed_5 := dk_seg dksX0_passed_4 24 rfl rfl
theorem dX0_passed_0 : decode cX0_passed 0 = .ok (.iload_n 1, 1) := dk_27 (dk_at dksX0_passed_0 0 rfl rfl)
theorem dX0_passed_1 : decode cX0_passed 1 = .ok (.iconst 0, 1) := dk_3 (dk_at dksX0_passed_0 1 rfl rfl)
theorem dX0_passed_2 : decode cX0_passed 2 = .ok (.bipush 9, 2) := dk_16 9 (dk_at dksX0_passed_0 2 rfl rfl)
theorem dX0_passed_4 : decode cX0_passed 4 = .ok (.invokestatic 207, 3) := dk_184 0 207 (dk_at dksX0_passed_0 4 rfl rfl)
theorem dX0_passed_7 : decode cX0_passed 7 = .ok (.ifCond .eq 27, 3) := dk_153 0 27 (dk_at dksX0_passed_0 7 rfl rfl)
theorem dX0_passed_10 : decode cX0_passed 10 = .ok (.iload_n 3, 1) := dk_29 (dk_at dksX0_passed_0 10 rfl rfl)
theorem dX0_passed_11 : decode cX0_passed 11 = .ok (.iconst 0, 1) := dk_3 (dk_at dksX0_passed_0 11 rfl rfl)
theorem dX0_passed_12 : decode cX0_passed 12 = .ok (.iconst 2, 1) := dk_5 (dk_at dksX0_passed_0 12 rfl rfl)
theorem dX0_passed_13 : decode cX0_passed 13 = .ok (.invokestatic 207, 3) := dk_184 0 207 (dk_at dksX0_passed_0 13 rfl rfl)
theorem dX0_passed_16 : decode cX0_passed 16 = .ok (.ifCond .eq 18, 3) := dk_153 0 18 (dk_at dksX0_passed_0 16 rfl rfl)
theorem dX0_passed_19 : decode cX0_passed 19 = .ok (.iload_n 3, 1) := dk_29 (dk_at dksX0_passed_0 19 rfl rfl)
theorem dX0_passed_20 : decode cX0_passed 20 = .ok (.ifCond .ne 16, 3) := dk_154 0 16 (dk_at dksX0_passed_0 20 rfl rfl)
theorem dX0_passed_23 : decode cX0_passed 23 = .ok (.iload_n 2, 1) := dk_28 (dk_at dksX0_passed_0 23 rfl rfl)
theorem dX0_passed_24 : decode cX0_passed 24 = .ok (.iconst 0, 1) := dk_3 (dk_at dksX0_passed_1 0 rfl rfl)
theorem dX0_passed_25 : decode cX0_passed 25 = .ok (.sipush 9999, 3) := dk_17 39 15 (dk_at dksX0_passed_1 1 rfl rfl)
theorem dX0_passed_28 : decode cX0_passed 28 = .ok (.invokestatic 207, 3) := dk_184 0 207 (dk_at dksX0_passed_1 4 rfl rfl)
theorem dX0_passed_31 : decode cX0_passed 31 = .ok (.ifCond .ne 5, 3) := dk_154 0 5 (dk_at dksX0_passed_1 7 rfl rfl)
theorem dX0_passed_34 : decode cX0_passed 34 = .ok (.iconst (-1), 1) := dk_2 (dk_at dksX0_passed_1 10 rfl rfl)
theorem dX0_passed_35 : decode cX0_passed 35 = .ok (.ireturn, 1) := dk_172 (dk_at dksX0_passed_1 11 rfl rfl)
theorem dX0_passed_36 : decode cX0_passed 36 = .ok (.iload_n 3, 1) := dk_29 (dk_at dksX0_passed_1 12 rfl rfl)
theorem dX0_passed_37 : decode cX0_passed 37 = .ok (.ifCond .ne 10, 3) := dk_154 0 10 (dk_at dksX0_passed_1 13 rfl rfl)
theorem dX0_passed_40 : decode cX0_passed 40 = .ok (.aload_n 0, 1) := dk_42 (dk_at dksX0_passed_1 16 rfl rfl)
theorem dX0_passed_41 : decode cX0_passed 41 = .ok (.iload_n 1, 1) := dk_27 (dk_at dksX0_passed_1 17 rfl rfl)
theorem dX0_passed_42 : decode cX0_passed 42 = .ok (.iload_n 2, 1) := dk_28 (dk_at dksX0_passed_1 18 rfl rfl)
theorem dX0_passed_43 : decode cX0_passed 43 = .ok (.invokevirtual 575, 3) := dk_182 2 63 (dk_at dksX0_passed_1 19 rfl rfl)
theorem dX0_passed_46 : decode cX0_passed 46 = .ok (.ireturn, 1) := dk_172 (dk_at dksX0_passed_1 22 rfl rfl)
theorem dX0_passed_47 : decode cX0_passed 47 = .ok (.iconst 0, 1) := dk_3 (dk_at dksX0_passed_1 23 rfl rfl)
theorem dX0_passed_48 : decode cX0_passed 48 = .ok (.istore 4, 2) := dk_54 4 (dk_at dksX0_passed_2 0 rfl rfl)
theorem dX0_passed_50 : decode cX0_passed 50 = .ok (.iconst 0, 1) := dk_3 (dk_at dksX0_passed_2 2 rfl rfl)
theorem dX0_passed_51 : decode cX0_passed 51 = .ok (.istore 5, 2) := dk_54 5 (dk_at dksX0_passed_2 3 rfl rfl)
theorem dX0_passed_53 : decode cX0_passed 53 = .ok (.iload 4, 2) := dk_21 4 (dk_at dksX0_passed_2 5 rfl rfl)
theorem dX0_passed_55 : decode cX0_passed 55 = .ok (.aload_n 0, 1) := dk_42 (dk_at dksX0_passed_2 7 rfl rfl)
theorem dX0_passed_56 : decode cX0_passed 56 = .ok (.iload_n 1, 1) := dk_27 (dk_at dksX0_passed_2 8 rfl rfl)
theorem dX0_passed_57 : decode cX0_passed 57 = .ok (.iload 5, 2) := dk_21 5 (dk_at dksX0_passed_2 9 rfl rfl)
theorem dX0_passed_59 : decode cX0_passed 59 = .ok (.invokevirtual 575, 3) := dk_182 2 63 (dk_at dksX0_passed_2 11 rfl rfl)
theorem dX0_passed_62 : decode cX0_passed 62 = .ok (.invokestatic 481, 3) := dk_184 1 225 (dk_at dksX0_passed_2 14 rfl rfl)
theorem dX0_passed_65 : decode cX0_passed 65 = .ok (.ifCond .ne 23, 3) := dk_154 0 23 (dk_at dksX0_passed_2 17 rfl rfl)
theorem dX0_passed_68 : decode cX0_passed 68 = .ok (.iload 4, 2) := dk_21 4 (dk_at dksX0_passed_2 20 rfl rfl)
theorem dX0_passed_70 : decode cX0_passed 70 = .ok (.iconst 1, 1) := dk_4 (dk_at dksX0_passed_2 22 rfl rfl)
theorem dX0_passed_71 : decode cX0_passed 71 = .ok (.aload_n 0, 1) := dk_42 (dk_at dksX0_passed_2 23 rfl rfl)
theorem dX0_passed_72 : decode cX0_passed 72 = .ok (.iload_n 1, 1) := dk_27 (dk_at dksX0_passed_3 0 rfl rfl)
theorem dX0_passed_73 : decode cX0_passed 73 = .ok (.iload 5, 2) := dk_21 5 (dk_at dksX0_passed_3 1 rfl rfl)
theorem dX0_passed_75 : decode cX0_passed 75 = .ok (.invokevirtual 575, 3) := dk_182 2 63 (dk_at dksX0_passed_3 3 rfl rfl)
theorem dX0_passed_78 : decode cX0_passed 78 = .ok (.ishl, 1) := dk_120 (dk_at dksX0_passed_3 6 rfl rfl)
theorem dX0_passed_79 : decode cX0_passed 79 = .ok (.ior, 1) := dk_128 (dk_at dksX0_passed_3 7 rfl rfl)
theorem dX0_passed_80 : decode cX0_passed 80 = .ok (.istore 4, 2) := dk_54 4 (dk_at dksX0_passed_3 8 rfl rfl)
theorem dX0_passed_82 : decode cX0_passed 82 = .ok (.iinc 5 1, 3) := dk_132 5 1 (dk_at dksX0_passed_3 10 rfl rfl)
theorem dX0_passed_85 : decode cX0_passed 85 = .ok (.goto (-32), 3) := dk_167 255 224 (dk_at dksX0_passed_3 13 rfl rfl)
theorem dX0_passed_88 : decode cX0_passed 88 = .ok (.iconst 0, 1) := dk_3 (dk_at dksX0_passed_3 16 rfl rfl)
theorem dX0_passed_89 : decode cX0_passed 89 = .ok (.istore 6, 2) := dk_54 6 (dk_at dksX0_passed_3 17 rfl rfl)
theorem dX0_passed_91 : decode cX0_passed 91 = .ok (.aload_n 0, 1) := dk_42 (dk_at dksX0_passed_3 19 rfl rfl)
theorem dX0_passed_92 : decode cX0_passed 92 = .ok (.iload_n 1, 1) := dk_27 (dk_at dksX0_passed_3 20 rfl rfl)
theorem dX0_passed_93 : decode cX0_passed 93 = .ok (.iload 6, 2) := dk_21 6 (dk_at dksX0_passed_3 21 rfl rfl)
theorem dX0_passed_95 : decode cX0_passed 95 = .ok (.invokevirtual 575, 3) := dk_182 2 63 (dk_at dksX0_passed_4 0 rfl rfl)
theorem dX0_passed_98 : decode cX0_passed 98 = .ok (.aload_n 0, 1) := dk_42 (dk_at dksX0_passed_4 3 rfl rfl)
theorem dX0_passed_99 : decode cX0_passed 99 = .ok (.iload_n 1, 1) := dk_27 (dk_at dksX0_passed_4 4 rfl rfl)
theorem dX0_passed_100 : decode cX0_passed 100 = .ok (.iload 5, 2) := dk_21 5 (dk_at dksX0_passed_4 5 rfl rfl)
theorem dX0_passed_102 : decode cX0_passed 102 = .ok (.invokevirtual 575, 3) := dk_182 2 63 (dk_at dksX0_passed_4 7 rfl rfl)
theorem dX0_passed_105 : decode cX0_passed 105 = .ok (.if_icmp .eq 9, 3) := dk_159 0 9 (dk_at dksX0_passed_4 10 rfl rfl)
theorem dX0_passed_108 : decode cX0_passed 108 = .ok (.iinc 6 1, 3) := dk_132 6 1 (dk_at dksX0_passed_4 13 rfl rfl)
theorem dX0_passed_111 : decode cX0_passed 111 = .ok (.goto (-20), 3) := dk_167 255 236 (dk_at dksX0_passed_4 16 rfl rfl)
theorem dX0_passed_114 : decode cX0_passed 114 = .ok (.iload_n 3, 1) := dk_29 (dk_at dksX0_passed_4 19 rfl rfl)
theorem dX0_passed_115 : decode cX0_passed 115 = .ok (.iconst 1, 1) := dk_4 (dk_at dksX0_passed_4 20 rfl rfl)
theorem dX0_passed_116 : decode cX0_passed 116 = .ok (.if_icmp .ne 8, 3) := dk_160 0 8 (dk_at dksX0_passed_4 21 rfl rfl)
theorem dX0_passed_119 : decode cX0_passed 119 = .ok (.iload 5, 2) := dk_21 5 (dk_at dksX0_passed_5 0 rfl rfl)
theorem dX0_passed_121 : decode cX0_passed 121 = .ok (.goto 8, 3) := dk_167 0 8 (dk_at dksX0_passed_5 2 rfl rfl)
theorem dX0_passed_124 : decode cX0_passed 124 = .ok (.iload 5, 2) := dk_21 5 (dk_at dksX0_passed_5 5 rfl rfl)
theorem dX0_passed_126 : decode cX0_passed 126 = .ok (.iload 6, 2) := dk_21 6 (dk_at dksX0_passed_5 7 rfl rfl)
theorem dX0_passed_128 : decode cX0_passed 128 = .ok (.isub, 1) := dk_100 (dk_at dksX0_passed_5 9 rfl rfl)
theorem dX0_passed_129 : decode cX0_passed 129 = .ok (.ireturn, 1) := dk_172 (dk_at dksX0_passed_5 10 rfl rfl)
abbrev cX0_passedBy : ByteArray := prog_1_method_89_code
def yX0_passedBy : MethodName := ⟨RX0, "passedBy", "(II)I"⟩
def dkwX0_passedBy_1 : List UInt8 := [29, 172]
abbrev dktX0_passedBy_1 : List UInt8 := dkwX0_passedBy_1 ++ []
def dkwX0_passedBy_0 : List UInt8 := [27, 62, 3, 54, 4, 21, 4, 28, 162, 0, 16, 42, 180, 0, 186, 29, 46, 62, 132, 4, 1, 167, 255, 240]
abbrev dktX0_passedBy_0 : List UInt8 := dkwX0_passedBy_0 ++ dktX0_passedBy_1
theorem dksX0_passedBy_0 : cX0_passedBy.data.toList.drop 0 = dktX0_passedBy_0 := by decide +kernel
theorem dksX0_passedBy_1 : cX0_passedBy.data.toList.drop 24 = dktX0_passedBy_1 := dk_seg dksX0_passedBy_0 24 rfl rfl
theorem dX0_passedBy_0 : decode cX0_passedBy 0 = .ok (.iload_n 1, 1) := dk_27 (dk_at dksX0_passedBy_0 0 rfl rfl)
theorem dX0_passedBy_1 : decode cX0_passedBy 1 = .ok (.istore_n 3, 1) := dk_62 (dk_at dksX0_passedBy_0 1 rfl rfl)
theorem dX0_passedBy_2 : decode cX0_passedBy 2 = .ok (.iconst 0, 1) := dk_3 (dk_at dksX0_passedBy_0 2 rfl rfl)
theorem dX0_passedBy_3 : decode cX0_passedBy 3 = .ok (.istore 4, 2) := dk_54 4 (dk_at dksX0_passedBy_0 3 rfl rfl)
theorem dX0_passedBy_5 : decode cX0_passedBy 5 = .ok (.iload 4, 2) := dk_21 4 (dk_at dksX0_passedBy_0 5 rfl rfl)
theorem dX0_passedBy_7 : decode cX0_passedBy 7 = .ok (.iload_n 2, 1) := dk_28 (dk_at dksX0_passedBy_0 7 rfl rfl)
theorem dX0_passedBy_8 : decode cX0_passedBy 8 = .ok (.if_icmp .ge 16, 3) := dk_162 0 16 (dk_at dksX0_passedBy_0 8 rfl rfl)
theorem dX0_passedBy_11 : decode cX0_passedBy 11 = .ok (.aload_n 0, 1) := dk_42 (dk_at dksX0_passedBy_0 11 rfl rfl)
theorem dX0_passedBy_12 : decode cX0_passedBy 12 = .ok (.getfield 186, 3) := dk_180 0 186 (dk_at dksX0_passedBy_0 12 rfl rfl)
theorem dX0_passedBy_15 : decode cX0_passedBy 15 = .ok (.iload_n 3, 1) := dk_29 (dk_at dksX0_passedBy_0 15 rfl rfl)
theorem dX0_passedBy_16 : decode cX0_passedBy 16 = .ok (.iaload, 1) := dk_46 (dk_at dksX0_passedBy_0 16 rfl rfl)
theorem dX0_passedBy_17 : decode cX0_passedBy 17 = .ok (.istore_n 3, 1) := dk_62 (dk_at dksX0_passedBy_0 17 rfl rfl)
theorem dX0_passedBy_18 : decode cX0_passedBy 18 = .ok (.iinc 4 1, 3) := dk_132 4 1 (dk_at dksX0_passedBy_0 18 rfl rfl)
theorem dX0_passedBy_21 : decode cX0_passedBy 21 = .ok (.goto (-16), 3) := dk_167 255 240 (dk_at dksX0_passedBy_0 21 rfl rfl)
theorem dX0_passedBy_24 : decode cX0_passedBy 24 = .ok (.iload_n 3, 1) := dk_29 (dk_at dksX0_passedBy_1 0 rfl rfl)
theorem dX0_passedBy_25 : decode cX0_passedBy 25 = .ok (.ireturn, 1) := dk_172 (dk_at dksX0_passedBy_1 1 rfl rfl)
abbrev cX0_share : ByteArray := prog_1_method_93_code
def yX0_share : MethodName := ⟨RX0, "share", "(II)I"⟩
def dkwX0_share_5 : List UInt8 := [4, 167, 0, 4, 3, 96, 172]
abbrev dktX0_share_5 : List UInt8 := dkwX0_share_5 ++ []
def dkwX0_share_4 : List UInt8 := [167, 255, 229, 27, 42, 28, 182, 2, 66, 104, 29, 108, 42, 28, 27, 29, 182, 2, 69, 21, 4, 162, 0, 7]
abbrev dktX0_share_4 : List UInt8 := dkwX0_share_4 ++ dktX0_share_5
def dkwX0_share_3 : List UInt8 := [180, 1, 113, 162, 0, 24, 21, 4, 27, 42, 21, 5, 182, 2, 66, 104, 29, 108, 100, 54, 4, 132, 5, 1]
abbrev dktX0_share_3 : List UInt8 := dkwX0_share_3 ++ dktX0_share_4
def dkwX0_share_2 : List UInt8 := [21, 4, 182, 2, 66, 96, 62, 132, 4, 1, 167, 255, 235, 27, 54, 4, 3, 54, 5, 21, 5, 42]
abbrev dktX0_share_2 : List UInt8 := dkwX0_share_2 ++ dktX0_share_3
def dkwX0_share_1 : List UInt8 := [180, 1, 187, 154, 0, 5, 2, 172, 3, 62, 3, 54, 4, 21, 4, 42, 180, 1, 113, 162, 0, 18, 29, 42]
abbrev dktX0_share_1 : List UInt8 := dkwX0_share_1 ++ dktX0_share_2
def dkwX0_share_0 : List UInt8 := [27, 3, 17, 39, 15, 184, 0, 207, 153, 0, 21, 42, 28, 182, 1, 198, 153, 0, 13, 42, 180, 0, 160]
abbrev dktX0_share_0 : List UInt8 := dkwX0_share_0 ++ dktX0_share_1
theorem dksX0_share_0 : cX0_share.data.toList.drop 0 = dktX0_share_0 := by decide +kernel
theorem dksX0_share_1 : cX0_share.data.toList.drop 23 = dktX0_share_1 := dk_seg dksX0_share_0 23 rfl rfl
theorem dksX0_share_2 : cX0_share.data.toList.drop 47 = dktX0_share_2 := dk_seg dksX0_share_1 24 rfl rfl
theorem dksX0_share_3 : cX0_share.data.toList.drop 69 = dktX0_share_3 := dk_seg dksX0_share_2 22 rfl rfl
theorem dksX0_share_4 : cX0_share.data.toList.drop 93 = dktX0_share_4 := dk_seg dksX0_share_3 24 rfl rfl
theorem dksX0_share_5 : cX0_share.data.toList.drop 117 = dktX0_share_5 := dk_seg dksX0_share_4 24 rfl rfl
theorem dX0_share_0 : decode cX0_share 0 = .ok (.iload_n 1, 1) := dk_27 (dk_at dksX0_share_0 0 rfl rfl)
theorem dX0_share_1 : decode cX0_share 1 = .ok (.iconst 0, 1) := dk_3 (dk_at dksX0_share_0 1 rfl rfl)
theorem dX0_share_2 : decode cX0_share 2 = .ok (.sipush 9999, 3) := dk_17 39 15 (dk_at dksX0_share_0 2 rfl rfl)
theorem dX0_share_5 : decode cX0_share 5 = .ok (.invokestatic 207, 3) := dk_184 0 207 (dk_at dksX0_share_0 5 rfl rfl)
theorem dX0_share_8 : decode cX0_share 8 = .ok (.ifCond .eq 21, 3) := dk_153 0 21 (dk_at dksX0_share_0 8 rfl rfl)
theorem dX0_share_11 : decode cX0_share 11 = .ok (.aload_n 0, 1) := dk_42 (dk_at dksX0_share_0 11 rfl rfl)
theorem dX0_share_12 : decode cX0_share 12 = .ok (.iload_n 2, 1) := dk_28 (dk_at dksX0_share_0 12 rfl rfl)
theorem dX0_share_13 : decode cX0_share 13 = .ok (.invokevirtual 454, 3) := dk_182 1 198 (dk_at dksX0_share_0 13 rfl rfl)
theorem dX0_share_16 : decode cX0_share 16 = .ok (.ifCond .eq 13, 3) := dk_153 0 13 (dk_at dksX0_share_0 16 rfl rfl)
theorem dX0_share_19 : decode cX0_share 19 = .ok (.aload_n 0, 1) := dk_42 (dk_at dksX0_share_0 19 rfl rfl)
theorem dX0_share_20 : decode cX0_share 20 = .ok (.getfield 160, 3) := dk_180 0 160 (dk_at dksX0_share_0 20 rfl rfl)
theorem dX0_share_23 : decode cX0_share 23 = .ok (.getfield 443, 3) := dk_180 1 187 (dk_at dksX0_share_1 0 rfl rfl)
theorem dX0_share_26 : decode cX0_share 26 = .ok (.ifCond .ne 5, 3) := dk_154 0 5 (dk_at dksX0_share_1 3 rfl rfl)
theorem dX0_share_29 : decode cX0_share 29 = .ok (.iconst (-1), 1) := dk_2 (dk_at dksX0_share_1 6 rfl rfl)
theorem dX0_share_30 : decode cX0_share 30 = .ok (.ireturn, 1) := dk_172 (dk_at dksX0_share_1 7 rfl rfl)
theorem dX0_share_31 : decode cX0_share 31 = .ok (.iconst 0, 1) := dk_3 (dk_at dksX0_share_1 8 rfl rfl)
theorem dX0_share_32 : decode cX0_share 32 = .ok (.istore_n 3, 1) := dk_62 (dk_at dksX0_share_1 9 rfl rfl)
theorem dX0_share_33 : decode cX0_share 33 = .ok (.iconst 0, 1) := dk_3 (dk_at dksX0_share_1 10 rfl rfl)
theorem dX0_share_34 : decode cX0_share 34 = .ok (.istore 4, 2) := dk_54 4 (dk_at dksX0_share_1 11 rfl rfl)
theorem dX0_share_36 : decode cX0_share 36 = .ok (.iload 4, 2) := dk_21 4 (dk_at dksX0_share_1 13 rfl rfl)
theorem dX0_share_38 : decode cX0_share 38 = .ok (.aload_n 0, 1) := dk_42 (dk_at dksX0_share_1 15 rfl rfl)
theorem dX0_share_39 : decode cX0_share 39 = .ok (.getfield 369, 3) := dk_180 1 113 (dk_at dksX0_share_1 16 rfl rfl)
theorem dX0_share_42 : decode cX0_share 42 = .ok (.if_icmp .ge 18, 3) := dk_162 0 18 (dk_at dksX0_share_1 19 rfl rfl)
theorem dX0_share_45 : decode cX0_share 45 = .ok (.iload_n 3, 1) := dk_29 (dk_at dksX0_share_1 22 rfl rfl)
theorem dX0_share_46 : decode cX0_share 46 = .ok (.aload_n 0, 1) := dk_42 (dk_at dksX0_share_1 23 rfl rfl)
theorem dX0_share_47 : decode cX0_share 47 = .ok (.iload 4, 2) := dk_21 4 (dk_at dksX0_share_2 0 rfl rfl)
theorem dX0_share_49 : decode cX0_share 49 = .ok (.invokevirtual 578, 3) := dk_182 2 66 (dk_at dksX0_share_2 2 rfl rfl)
theorem dX0_share_52 : decode cX0_share 52 = .ok (.iadd, 1) := dk_96 (dk_at dksX0_share_2 5 rfl rfl)
theorem dX0_share_53 : decode cX0_share 53 = .ok (.istore_n 3, 1) := dk_62 (dk_at dksX0_share_2 6 rfl rfl)
theorem dX0_share_54 : decode cX0_share 54 = .ok (.iinc 4 1, 3) := dk_132 4 1 (dk_at dksX0_share_2 7 rfl rfl)
theorem dX0_share_57 : decode cX0_share 57 = .ok (.goto (-21), 3) := dk_167 255 235 (dk_at dksX0_share_2 10 rfl rfl)
theorem dX0_share_60 : decode cX0_share 60 = .ok (.iload_n 1, 1) := dk_27 (dk_at dksX0_share_2 13 rfl rfl)
theorem dX0_share_61 : decode cX0_share 61 = .ok (.istore 4, 2) := dk_54 4 (dk_at dksX0_share_2 14 rfl rfl)
theorem dX0_share_63 : decode cX0_share 63 = .ok (.iconst 0, 1) := dk_3 (dk_at dksX0_share_2 16 rfl rfl)
theorem dX0_share_64 : decode cX0_share 64 = .ok (.istore 5, 2) := dk_54 5 (dk_at dksX0_share_2 17 rfl rfl)
theorem dX0_share_66 : decode cX0_share 66 = .ok (.iload 5, 2) := dk_21 5 (dk_at dksX0_share_2 19 rfl rfl)
theorem dX0_share_68 : decode cX0_share 68 = .ok (.aload_n 0, 1) := dk_42 (dk_at dksX0_share_2 21 rfl rfl)
theorem dX0_share_69 : decode cX0_share 69 = .ok (.getfield 369, 3) := dk_180 1 113 (dk_at dksX0_share_3 0 rfl rfl)
theorem dX0_share_72 : decode cX0_share 72 = .ok (.if_icmp .ge 24, 3) := dk_162 0 24 (dk_at dksX0_share_3 3 rfl rfl)
theorem dX0_share_75 : decode cX0_share 75 = .ok (.iload 4, 2) := dk_21 4 (dk_at dksX0_share_3 6 rfl rfl)
theorem dX0_share_77 : decode cX0_share 77 = .ok (.iload_n 1, 1) := dk_27 (dk_at dksX0_share_3 8 rfl rfl)
theorem dX0_share_78 : decode cX0_share 78 = .ok (.aload_n 0, 1) := dk_42 (dk_at dksX0_share_3 9 rfl rfl)
theorem dX0_share_79 : decode cX0_share 79 = .ok (.iload 5, 2) := dk_21 5 (dk_at dksX0_share_3 10 rfl rfl)
theorem dX0_share_81 : decode cX0_share 81 = .ok (.invokevirtual 578, 3) := dk_182 2 66 (dk_at dksX0_share_3 12 rfl rfl)
theorem dX0_share_84 : decode cX0_share 84 = .ok (.imul, 1) := dk_104 (dk_at dksX0_share_3 15 rfl rfl)
theorem dX0_share_85 : decode cX0_share 85 = .ok (.iload_n 3, 1) := dk_29 (dk_at dksX0_share_3 16 rfl rfl)
theorem dX0_share_86 : decode cX0_share 86 = .ok (.idiv, 1) := dk_108 (dk_at dksX0_share_3 17 rfl rfl)
theorem dX0_share_87 : decode cX0_share 87 = .ok (.isub, 1) := dk_100 (dk_at dksX0_share_3 18 rfl rfl)
theorem dX0_share_88 : decode cX0_share 88 = .ok (.istore 4, 2) := dk_54 4 (dk_at dksX0_share_3 19 rfl rfl)
theorem dX0_share_90 : decode cX0_share 90 = .ok (.iinc 5 1, 3) := dk_132 5 1 (dk_at dksX0_share_3 21 rfl rfl)
theorem dX0_share_93 : decode cX0_share 93 = .ok (.goto (-27), 3) := dk_167 255 229 (dk_at dksX0_share_4 0 rfl rfl)
theorem dX0_share_96 : decode cX0_share 96 = .ok (.iload_n 1, 1) := dk_27 (dk_at dksX0_share_4 3 rfl rfl)
theorem dX0_share_97 : decode cX0_share 97 = .ok (.aload_n 0, 1) := dk_42 (dk_at dksX0_share_4 4 rfl rfl)
theorem dX0_share_98 : decode cX0_share 98 = .ok (.iload_n 2, 1) := dk_28 (dk_at dksX0_share_4 5 rfl rfl)
theorem dX0_share_99 : decode cX0_share 99 = .ok (.invokevirtual 578, 3) := dk_182 2 66 (dk_at dksX0_share_4 6 rfl rfl)
theorem dX0_share_102 : decode cX0_share 102 = .ok (.imul, 1) := dk_104 (dk_at dksX0_share_4 9 rfl rfl)
theorem dX0_share_103 : decode cX0_share 103 = .ok (.iload_n 3, 1) := dk_29 (dk_at dksX0_share_4 10 rfl rfl)
theorem dX0_share_104 : decode cX0_share 104 = .ok (.idiv, 1) := dk_108 (dk_at dksX0_share_4 11 rfl rfl)
theorem dX0_share_105 : decode cX0_share 105 = .ok (.aload_n 0, 1) := dk_42 (dk_at dksX0_share_4 12 rfl rfl)
theorem dX0_share_106 : decode cX0_share 106 = .ok (.iload_n 2, 1) := dk_28 (dk_at dksX0_share_4 13 rfl rfl)
theorem dX0_share_107 : decode cX0_share 107 = .ok (.iload_n 1, 1) := dk_27 (dk_at dksX0_share_4 14 rfl rfl)
theorem dX0_share_108 : decode cX0_share 108 = .ok (.iload_n 3, 1) := dk_29 (dk_at dksX0_share_4 15 rfl rfl)
theorem dX0_share_109 : decode cX0_share 109 = .ok (.invokevirtual 581, 3) := dk_182 2 69 (dk_at dksX0_share_4 16 rfl rfl)
theorem dX0_share_112 : decode cX0_share 112 = .ok (.iload 4, 2) := dk_21 4 (dk_at dksX0_share_4 19 rfl rfl)
theorem dX0_share_114 : decode cX0_share 114 = .ok (.if_icmp .ge 7, 3) := dk_162 0 7 (dk_at dksX0_share_4 21 rfl rfl)
theorem dX0_share_117 : decode cX0_share 117 = .ok (.iconst 1, 1) := dk_4 (dk_at dksX0_share_5 0 rfl rfl)
theorem dX0_share_118 : decode cX0_share 118 = .ok (.goto 4, 3) := dk_167 0 4 (dk_at dksX0_share_5 1 rfl rfl)
theorem dX0_share_121 : decode cX0_share 121 = .ok (.iconst 0, 1) := dk_3 (dk_at dksX0_share_5 4 rfl rfl)
theorem dX0_share_122 : decode cX0_share 122 = .ok (.iadd, 1) := dk_96 (dk_at dksX0_share_5 5 rfl rfl)
theorem dX0_share_123 : decode cX0_share 123 = .ok (.ireturn, 1) := dk_172 (dk_at dksX0_share_5 6 rfl rfl)
abbrev cX0_weightOf : ByteArray := prog_1_method_91_code
def yX0_weightOf : MethodName := ⟨RX0, "weightOf", "(I)I"⟩
def dkwX0_weightOf_1 : List UInt8 := [167, 0, 4, 3, 172]
abbrev dktX0_weightOf_1 : List UInt8 := dkwX0_weightOf_1 ++ []
def dkwX0_weightOf_0 : List UInt8 := [42, 180, 0, 160, 180, 1, 187, 27, 184, 1, 225, 153, 0, 14, 42, 180, 0, 143, 27, 46, 4, 96]
abbrev dktX0_weightOf_0 : List UInt8 := dkwX0_weightOf_0 ++ dktX0_weightOf_1
theorem dksX0_weightOf_0 : cX0_weightOf.data.toList.drop 0 = dktX0_weightOf_0 := by decide +kernel
theorem dksX0_weightOf_1 : cX0_weightOf.data.toList.drop 22 = dktX0_weightOf_1 := dk_seg dksX0_weightOf_0 22 rfl rfl
theorem dX0_weightOf_0 : decode cX0_weightOf 0 = .ok (.aload_n 0, 1) := dk_42 (dk_at dksX0_weightOf_0 0 rfl rfl)
theorem dX0_weightOf_1 : decode cX0_weightOf 1 = .ok (.getfield 160, 3) := dk_180 0 160 (dk_at dksX0_weightOf_0 1 rfl rfl)
theorem dX0_weightOf_4 : decode cX0_weightOf 4 = .ok (.getfield 443, 3) := dk_180 1 187 (dk_at dksX0_weightOf_0 4 rfl rfl)
theorem dX0_weightOf_7 : decode cX0_weightOf 7 = .ok (.iload_n 1, 1) := dk_27 (dk_at dksX0_weightOf_0 7 rfl rfl)
theorem dX0_weightOf_8 : decode cX0_weightOf 8 = .ok (.invokestatic 481, 3) := dk_184 1 225 (dk_at dksX0_weightOf_0 8 rfl rfl)
theorem dX0_weightOf_11 : decode cX0_weightOf 11 = .ok (.ifCond .eq 14, 3) := dk_153 0 14 (dk_at dksX0_weightOf_0 11 rfl rfl)
theorem dX0_weightOf_14 : decode cX0_weightOf 14 = .ok (.aload_n 0, 1) := dk_42 (dk_at dksX0_weightOf_0 14 rfl rfl)
theorem dX0_weightOf_15 : decode cX0_weightOf 15 = .ok (.getfield 143, 3) := dk_180 0 143 (dk_at dksX0_weightOf_0 15 rfl rfl)
theorem dX0_weightOf_18 : decode cX0_weightOf 18 = .ok (.iload_n 1, 1) := dk_27 (dk_at dksX0_weightOf_0 18 rfl rfl)
theorem dX0_weightOf_19 : decode cX0_weightOf 19 = .ok (.iaload, 1) := dk_46 (dk_at dksX0_weightOf_0 19 rfl rfl)
theorem dX0_weightOf_20 : decode cX0_weightOf 20 = .ok (.iconst 1, 1) := dk_4 (dk_at dksX0_weightOf_0 20 rfl rfl)
theorem dX0_weightOf_21 : decode cX0_weightOf 21 = .ok (.iadd, 1) := dk_96 (dk_at dksX0_weightOf_0 21 rfl rfl)
theorem dX0_weightOf_22 : decode cX0_weightOf 22 = .ok (.goto 4, 3) := dk_167 0 4 (dk_at dksX0_weightOf_1 0 rfl rfl)
theorem dX0_weightOf_25 : decode cX0_weightOf 25 = .ok (.iconst 0, 1) := dk_3 (dk_at dksX0_weightOf_1 3 rfl rfl)
theorem dX0_weightOf_26 : decode cX0_weightOf 26 = .ok (.ireturn, 1) := dk_172 (dk_at dksX0_weightOf_1 4 rfl rfl)
abbrev cX0_aheadOf : ByteArray := prog_1_method_92_code
def yX0_aheadOf : MethodName := ⟨RX0, "aheadOf", "(III)I"⟩
def dkwX0_aheadOf_3 : List UInt8 := [54, 5, 132, 6, 1, 167, 255, 198, 21, 5, 172]
abbrev dktX0_aheadOf_3 : List UInt8 := dkwX0_aheadOf_3 ++ []
def dkwX0_aheadOf_2 : List UInt8 := [182, 2, 66, 104, 29, 112, 21, 4, 160, 0, 13, 21, 6, 27, 162, 0, 7, 4, 167, 0, 4, 3, 96]
abbrev dktX0_aheadOf_2 : List UInt8 := dkwX0_aheadOf_2 ++ dktX0_aheadOf_3
def dkwX0_aheadOf_1 : List UInt8 := [162, 0, 55, 21, 5, 28, 42, 21, 6, 182, 2, 66, 104, 29, 112, 21, 4, 163, 0, 24, 28, 42, 21, 6]
abbrev dktX0_aheadOf_1 : List UInt8 := dkwX0_aheadOf_1 ++ dktX0_aheadOf_2
def dkwX0_aheadOf_0 : List UInt8 := [28, 42, 27, 182, 2, 66, 104, 29, 112, 54, 4, 3, 54, 5, 3, 54, 6, 21, 6, 42, 180, 1, 113]
abbrev dktX0_aheadOf_0 : List UInt8 := dkwX0_aheadOf_0 ++ dktX0_aheadOf_1
theorem dksX0_aheadOf_0 : cX0_aheadOf.data.toList.drop 0 = dktX0_aheadOf_0 := by decide +kernel
theorem dksX0_aheadOf_1 : cX0_aheadOf.data.toList.drop 23 = dktX0_aheadOf_1 := dk_seg dksX0_aheadOf_0 23 rfl rfl
theorem dksX0_aheadOf_2 : cX0_aheadOf.data.toList.drop 47 = dktX0_aheadOf_2 := dk_seg dksX0_aheadOf_1 24 rfl rfl
theorem dksX0_aheadOf_3 : cX0_aheadOf.data.toList.drop 70 = dktX0_aheadOf_3 := dk_seg dksX0_aheadOf_2 23 rfl rfl
theorem dX0_aheadOf_0 : decode cX0_aheadOf 0 = .ok (.iload_n 2, 1) := dk_28 (dk_at dksX0_aheadOf_0 0 rfl rfl)
theorem dX0_aheadOf_1 : decode cX0_aheadOf 1 = .ok (.aload_n 0, 1) := dk_42 (dk_at dksX0_aheadOf_0 1 rfl rfl)
theorem dX0_aheadOf_2 : decode cX0_aheadOf 2 = .ok (.iload_n 1, 1) := dk_27 (dk_at dksX0_aheadOf_0 2 rfl rfl)
theorem dX0_aheadOf_3 : decode cX0_aheadOf 3 = .ok (.invokevirtual 578, 3) := dk_182 2 66 (dk_at dksX0_aheadOf_0 3 rfl rfl)
theorem dX0_aheadOf_6 : decode cX0_aheadOf 6 = .ok (.imul, 1) := dk_104 (dk_at dksX0_aheadOf_0 6 rfl rfl)
theorem dX0_aheadOf_7 : decode cX0_aheadOf 7 = .ok (.iload_n 3, 1) := dk_29 (dk_at dksX0_aheadOf_0 7 rfl rfl)
theorem dX0_aheadOf_8 : decode cX0_aheadOf 8 = .ok (.irem, 1) := dk_112 (dk_at dksX0_aheadOf_0 8 rfl rfl)
theorem dX0_aheadOf_9 : decode cX0_aheadOf 9 = .ok (.istore 4, 2) := dk_54 4 (dk_at dksX0_aheadOf_0 9 rfl rfl)
theorem dX0_aheadOf_11 : decode cX0_aheadOf 11 = .ok (.iconst 0, 1) := dk_3 (dk_at dksX0_aheadOf_0 11 rfl rfl)
theorem dX0_aheadOf_12 : decode cX0_aheadOf 12 = .ok (.istore 5, 2) := dk_54 5 (dk_at dksX0_aheadOf_0 12 rfl rfl)
theorem dX0_aheadOf_14 : decode cX0_aheadOf 14 = .ok (.iconst 0, 1) := dk_3 (dk_at dksX0_aheadOf_0 14 rfl rfl)
theorem dX0_aheadOf_15 : decode cX0_aheadOf 15 = .ok (.istore 6, 2) := dk_54 6 (dk_at dksX0_aheadOf_0 15 rfl rfl)
theorem dX0_aheadOf_17 : decode cX0_aheadOf 17 = .ok (.iload 6, 2) := dk_21 6 (dk_at dksX0_aheadOf_0 17 rfl rfl)
theorem dX0_aheadOf_19 : decode cX0_aheadOf 19 = .ok (.aload_n 0, 1) := dk_42 (dk_at dksX0_aheadOf_0 19 rfl rfl)
theorem dX0_aheadOf_20 : decode cX0_aheadOf 20 = .ok (.getfield 369, 3) := dk_180 1 113 (dk_at dksX0_aheadOf_0 20 rfl rfl)
theorem dX0_aheadOf_23 : decode cX0_aheadOf 23 = .ok (.if_icmp .ge 55, 3) := dk_162 0 55 (dk_at dksX0_aheadOf_1 0 rfl rfl)
theorem dX0_aheadOf_26 : decode cX0_aheadOf 26 = .ok (.iload 5, 2) := dk_21 5 (dk_at dksX0_aheadOf_1 3 rfl rfl)
theorem dX0_aheadOf_28 : decode cX0_aheadOf 28 = .ok (.iload_n 2, 1) := dk_28 (dk_at dksX0_aheadOf_1 5 rfl rfl)
theorem dX0_aheadOf_29 : decode cX0_aheadOf 29 = .ok (.aload_n 0, 1) := dk_42 (dk_at dksX0_aheadOf_1 6 rfl rfl)
theorem dX0_aheadOf_30 : decode cX0_aheadOf 30 = .ok (.iload 6, 2) := dk_21 6 (dk_at dksX0_aheadOf_1 7 rfl rfl)
theorem dX0_aheadOf_32 : decode cX0_aheadOf 32 = .ok (.invokevirtual 578, 3) := dk_182 2 66 (dk_at dksX0_aheadOf_1 9 rfl rfl)
theorem dX0_aheadOf_35 : decode cX0_aheadOf 35 = .ok (.imul, 1) := dk_104 (dk_at dksX0_aheadOf_1 12 rfl rfl)
theorem dX0_aheadOf_36 : decode cX0_aheadOf 36 = .ok (.iload_n 3, 1) := dk_29 (dk_at dksX0_aheadOf_1 13 rfl rfl)
theorem dX0_aheadOf_37 : decode cX0_aheadOf 37 = .ok (.irem, 1) := dk_112 (dk_at dksX0_aheadOf_1 14 rfl rfl)
theorem dX0_aheadOf_38 : decode cX0_aheadOf 38 = .ok (.iload 4, 2) := dk_21 4 (dk_at dksX0_aheadOf_1 15 rfl rfl)
theorem dX0_aheadOf_40 : decode cX0_aheadOf 40 = .ok (.if_icmp .gt 24, 3) := dk_163 0 24 (dk_at dksX0_aheadOf_1 17 rfl rfl)
theorem dX0_aheadOf_43 : decode cX0_aheadOf 43 = .ok (.iload_n 2, 1) := dk_28 (dk_at dksX0_aheadOf_1 20 rfl rfl)
theorem dX0_aheadOf_44 : decode cX0_aheadOf 44 = .ok (.aload_n 0, 1) := dk_42 (dk_at dksX0_aheadOf_1 21 rfl rfl)
theorem dX0_aheadOf_45 : decode cX0_aheadOf 45 = .ok (.iload 6, 2) := dk_21 6 (dk_at dksX0_aheadOf_1 22 rfl rfl)
theorem dX0_aheadOf_47 : decode cX0_aheadOf 47 = .ok (.invokevirtual 578, 3) := dk_182 2 66 (dk_at dksX0_aheadOf_2 0 rfl rfl)
theorem dX0_aheadOf_50 : decode cX0_aheadOf 50 = .ok (.imul, 1) := dk_104 (dk_at dksX0_aheadOf_2 3 rfl rfl)
theorem dX0_aheadOf_51 : decode cX0_aheadOf 51 = .ok (.iload_n 3, 1) := dk_29 (dk_at dksX0_aheadOf_2 4 rfl rfl)
theorem dX0_aheadOf_52 : decode cX0_aheadOf 52 = .ok (.irem, 1) := dk_112 (dk_at dksX0_aheadOf_2 5 rfl rfl)
theorem dX0_aheadOf_53 : decode cX0_aheadOf 53 = .ok (.iload 4, 2) := dk_21 4 (dk_at dksX0_aheadOf_2 6 rfl rfl)
theorem dX0_aheadOf_55 : decode cX0_aheadOf 55 = .ok (.if_icmp .ne 13, 3) := dk_160 0 13 (dk_at dksX0_aheadOf_2 8 rfl rfl)
theorem dX0_aheadOf_58 : decode cX0_aheadOf 58 = .ok (.iload 6, 2) := dk_21 6 (dk_at dksX0_aheadOf_2 11 rfl rfl)
theorem dX0_aheadOf_60 : decode cX0_aheadOf 60 = .ok (.iload_n 1, 1) := dk_27 (dk_at dksX0_aheadOf_2 13 rfl rfl)
theorem dX0_aheadOf_61 : decode cX0_aheadOf 61 = .ok (.if_icmp .ge 7, 3) := dk_162 0 7 (dk_at dksX0_aheadOf_2 14 rfl rfl)
theorem dX0_aheadOf_64 : decode cX0_aheadOf 64 = .ok (.iconst 1, 1) := dk_4 (dk_at dksX0_aheadOf_2 17 rfl rfl)
theorem dX0_aheadOf_65 : decode cX0_aheadOf 65 = .ok (.goto 4, 3) := dk_167 0 4 (dk_at dksX0_aheadOf_2 18 rfl rfl)
theorem dX0_aheadOf_68 : decode cX0_aheadOf 68 = .ok (.iconst 0, 1) := dk_3 (dk_at dksX0_aheadOf_2 21 rfl rfl)
theorem dX0_aheadOf_69 : decode cX0_aheadOf 69 = .ok (.iadd, 1) := dk_96 (dk_at dksX0_aheadOf_2 22 rfl rfl)
theorem dX0_aheadOf_70 : decode cX0_aheadOf 70 = .ok (.istore 5, 2) := dk_54 5 (dk_at dksX0_aheadOf_3 0 rfl rfl)
theorem dX0_aheadOf_72 : decode cX0_aheadOf 72 = .ok (.iinc 6 1, 3) := dk_132 6 1 (dk_at dksX0_aheadOf_3 2 rfl rfl)
theorem dX0_aheadOf_75 : decode cX0_aheadOf 75 = .ok (.goto (-58), 3) := dk_167 255 198 (dk_at dksX0_aheadOf_3 5 rfl rfl)
theorem dX0_aheadOf_78 : decode cX0_aheadOf 78 = .ok (.iload 5, 2) := dk_21 5 (dk_at dksX0_aheadOf_3 8 rfl rfl)
theorem dX0_aheadOf_80 : decode cX0_aheadOf 80 = .ok (.ireturn, 1) := dk_172 (dk_at dksX0_aheadOf_3 10 rfl rfl)
abbrev cX0_brides : ByteArray := prog_1_method_94_code
def yX0_brides : MethodName := ⟨RX0, "brides", "()I"⟩
def dkwX0_brides_4 : List UInt8 := [133, 105, 20, 2, 72, 113, 55, 4, 132, 6, 1, 167, 255, 227, 22, 4, 136, 172]
abbrev dktX0_brides_4 : List UInt8 := dkwX0_brides_4 ++ []
def dkwX0_brides_3 : List UInt8 := [10, 55, 4, 3, 54, 6, 21, 6, 29, 162, 0, 29, 22, 4, 27, 28, 27, 100, 184, 0, 7, 21, 6, 100]
abbrev dktX0_brides_3 : List UInt8 := dkwX0_brides_3 ++ dktX0_brides_4
def dkwX0_brides_2 : List UInt8 := [158, 0, 7, 4, 167, 0, 4, 3, 96, 60, 132, 3, 1, 167, 255, 211, 27, 28, 27, 100, 184, 0, 1, 62]
abbrev dktX0_brides_2 : List UInt8 := dkwX0_brides_2 ++ dktX0_brides_3
def dkwX0_brides_1 : List UInt8 := [42, 180, 0, 160, 180, 1, 187, 29, 184, 1, 225, 153, 0, 19, 42, 180, 0, 160, 180, 1, 185, 29, 46]
abbrev dktX0_brides_1 : List UInt8 := dkwX0_brides_1 ++ dktX0_brides_2
def dkwX0_brides_0 : List UInt8 := [3, 60, 42, 180, 0, 160, 180, 1, 187, 184, 2, 11, 61, 3, 62, 29, 42, 180, 1, 113, 162, 0, 43, 27]
abbrev dktX0_brides_0 : List UInt8 := dkwX0_brides_0 ++ dktX0_brides_1
theorem dksX0_brides_0 : cX0_brides.data.toList.drop 0 = dktX0_brides_0 := by decide +kernel
theorem dksX0_brides_1 : cX0_brides.data.toList.drop 24 = dktX0_brides_1 := dk_seg dksX0_brides_0 24 rfl rfl
theorem dksX0_brides_2 : cX0_brides.data.toList.drop 47 = dktX0_brides_2 := dk_seg dksX0_brides_1 23 rfl rfl
theorem dksX0_brides_3 : cX0_brides.data.toList.drop 71 = dktX0_brides_3 := dk_seg dksX0_brides_2 24 rfl rfl
theorem dksX0_brides_4 : cX0_brides.data.toList.drop 95 = dktX0_brides_4 := dk_seg dksX0_brides_3 24 rfl rfl
theorem dX0_brides_0 : decode cX0_brides 0 = .ok (.iconst 0, 1) := dk_3 (dk_at dksX0_brides_0 0 rfl rfl)
theorem dX0_brides_1 : decode cX0_brides 1 = .ok (.istore_n 1, 1) := dk_60 (dk_at dksX0_brides_0 1 rfl rfl)
theorem dX0_brides_2 : decode cX0_brides 2 = .ok (.aload_n 0, 1) := dk_42 (dk_at dksX0_brides_0 2 rfl rfl)
theorem dX0_brides_3 : decode cX0_brides 3 = .ok (.getfield 160, 3) := dk_180 0 160 (dk_at dksX0_brides_0 3 rfl rfl)
theorem dX0_brides_6 : decode cX0_brides 6 = .ok (.getfield 443, 3) := dk_180 1 187 (dk_at dksX0_brides_0 6 rfl rfl)
theorem dX0_brides_9 : decode cX0_brides 9 = .ok (.invokestatic 523, 3) := dk_184 2 11 (dk_at dksX0_brides_0 9 rfl rfl)
theorem dX0_brides_12 : decode cX0_brides 12 = .ok (.istore_n 2, 1) := dk_61 (dk_at dksX0_brides_0 12 rfl rfl)
theorem dX0_brides_13 : decode cX0_brides 13 = .ok (.iconst 0, 1) := dk_3 (dk_at dksX0_brides_0 13 rfl rfl)
theorem dX0_brides_14 : decode cX0_brides 14 = .ok (.istore_n 3, 1) := dk_62 (dk_at dksX0_brides_0 14 rfl rfl)
theorem dX0_brides_15 : decode cX0_brides 15 = .ok (.iload_n 3, 1) := dk_29 (dk_at dksX0_brides_0 15 rfl rfl)
theorem dX0_brides_16 : decode cX0_brides 16 = .ok (.aload_n 0, 1) := dk_42 (dk_at dksX0_brides_0 16 rfl rfl)
theorem dX0_brides_17 : decode cX0_brides 17 = .ok (.getfield 369, 3) := dk_180 1 113 (dk_at dksX0_brides_0 17 rfl rfl)
theorem dX0_brides_20 : decode cX0_brides 20 = .ok (.if_icmp .ge 43, 3) := dk_162 0 43 (dk_at dksX0_brides_0 20 rfl rfl)
theorem dX0_brides_23 : decode cX0_brides 23 = .ok (.iload_n 1, 1) := dk_27 (dk_at dksX0_brides_0 23 rfl rfl)
theorem dX0_brides_24 : decode cX0_brides 24 = .ok (.aload_n 0, 1) := dk_42 (dk_at dksX0_brides_1 0 rfl rfl)
theorem dX0_brides_25 : decode cX0_brides 25 = .ok (.getfield 160, 3) := dk_180 0 160 (dk_at dksX0_brides_1 1 rfl rfl)
theorem dX0_brides_28 : decode cX0_brides 28 = .ok (.getfield 443, 3) := dk_180 1 187 (dk_at dksX0_brides_1 4 rfl rfl)
theorem dX0_brides_31 : decode cX0_brides 31 = .ok (.iload_n 3, 1) := dk_29 (dk_at dksX0_brides_1 7 rfl rfl)
theorem dX0_brides_32 : decode cX0_brides 32 = .ok (.invokestatic 481, 3) := dk_184 1 225 (dk_at dksX0_brides_1 8 rfl rfl)
theorem dX0_brides_35 : decode cX0_brides 35 = .ok (.ifCond .eq 19, 3) := dk_153 0 19 (dk_at dksX0_brides_1 11 rfl rfl)
theorem dX0_brides_38 : decode cX0_brides 38 = .ok (.aload_n 0, 1) := dk_42 (dk_at dksX0_brides_1 14 rfl rfl)
theorem dX0_brides_39 : decode cX0_brides 39 = .ok (.getfield 160, 3) := dk_180 0 160 (dk_at dksX0_brides_1 15 rfl rfl)
theorem dX0_brides_42 : decode cX0_brides 42 = .ok (.getfield 441, 3) := dk_180 1 185 (dk_at dksX0_brides_1 18 rfl rfl)
theorem dX0_brides_45 : decode cX0_brides 45 = .ok (.iload_n 3, 1) := dk_29 (dk_at dksX0_brides_1 21 rfl rfl)
theorem dX0_brides_46 : decode cX0_brides 46 = .ok (.iaload, 1) := dk_46 (dk_at dksX0_brides_1 22 rfl rfl)
theorem dX0_brides_47 : decode cX0_brides 47 = .ok (.ifCond .le 7, 3) := dk_158 0 7 (dk_at dksX0_brides_2 0 rfl rfl)
theorem dX0_brides_50 : decode cX0_brides 50 = .ok (.iconst 1, 1) := dk_4 (dk_at dksX0_brides_2 3 rfl rfl)
theorem dX0_brides_51 : decode cX0_brides 51 = .ok (.goto 4, 3) := dk_167 0 4 (dk_at dksX0_brides_2 4 rfl rfl)
theorem dX0_brides_54 : decode cX0_brides 54 = .ok (.iconst 0, 1) := dk_3 (dk_at dksX0_brides_2 7 rfl rfl)
theorem dX0_brides_55 : decode cX0_brides 55 = .ok (.iadd, 1) := dk_96 (dk_at dksX0_brides_2 8 rfl rfl)
theorem dX0_brides_56 : decode cX0_brides 56 = .ok (.istore_n 1, 1) := dk_60 (dk_at dksX0_brides_2 9 rfl rfl)
theorem dX0_brides_57 : decode cX0_brides 57 = .ok (.iinc 3 1, 3) := dk_132 3 1 (dk_at dksX0_brides_2 10 rfl rfl)
theorem dX0_brides_60 : decode cX0_brides 60 = .ok (.goto (-45), 3) := dk_167 255 211 (dk_at dksX0_brides_2 13 rfl rfl)
theorem dX0_brides_63 : decode cX0_brides 63 = .ok (.iload_n 1, 1) := dk_27 (dk_at dksX0_brides_2 16 rfl rfl)
theorem dX0_brides_64 : decode cX0_brides 64 = .ok (.iload_n 2, 1) := dk_28 (dk_at dksX0_brides_2 17 rfl rfl)
theorem dX0_brides_65 : decode cX0_brides 65 = .ok (.iload_n 1, 1) := dk_27 (dk_at dksX0_brides_2 18 rfl rfl)
theorem dX0_brides_66 : decode cX0_brides 66 = .ok (.isub, 1) := dk_100 (dk_at dksX0_brides_2 19 rfl rfl)
theorem dX0_brides_67 : decode cX0_brides 67 = .ok (.invokestatic 1, 3) := dk_184 0 1 (dk_at dksX0_brides_2 20 rfl rfl)
theorem dX0_brides_70 : decode cX0_brides 70 = .ok (.istore_n 3, 1) := dk_62 (dk_at dksX0_brides_2 23 rfl rfl)
theorem dX0_brides_71 : decode cX0_brides 71 = .ok (.lconst 1, 1) := dk_10 (dk_at dksX0_brides_3 0 rfl rfl)
theorem dX0_brides_72 : decode cX0_brides 72 = .ok (.lstore 4, 2) := dk_55 4 (dk_at dksX0_brides_3 1 rfl rfl)
theorem dX0_brides_74 : decode cX0_brides 74 = .ok (.iconst 0, 1) := dk_3 (dk_at dksX0_brides_3 3 rfl rfl)
theorem dX0_brides_75 : decode cX0_brides 75 = .ok (.istore 6, 2) := dk_54 6 (dk_at dksX0_brides_3 4 rfl rfl)
theorem dX0_brides_77 : decode cX0_brides 77 = .ok (.iload 6, 2) := dk_21 6 (dk_at dksX0_brides_3 6 rfl rfl)
theorem dX0_brides_79 : decode cX0_brides 79 = .ok (.iload_n 3, 1) := dk_29 (dk_at dksX0_brides_3 8 rfl rfl)
theorem dX0_brides_80 : decode cX0_brides 80 = .ok (.if_icmp .ge 29, 3) := dk_162 0 29 (dk_at dksX0_brides_3 9 rfl rfl)
theorem dX0_brides_83 : decode cX0_brides 83 = .ok (.lload 4, 2) := dk_22 4 (dk_at dksX0_brides_3 12 rfl rfl)
theorem dX0_brides_85 : decode cX0_brides 85 = .ok (.iload_n 1, 1) := dk_27 (dk_at dksX0_brides_3 14 rfl rfl)
theorem dX0_brides_86 : decode cX0_brides 86 = .ok (.iload_n 2, 1) := dk_28 (dk_at dksX0_brides_3 15 rfl rfl)
theorem dX0_brides_87 : decode cX0_brides 87 = .ok (.iload_n 1, 1) := dk_27 (dk_at dksX0_brides_3 16 rfl rfl)
theorem dX0_brides_88 : decode cX0_brides 88 = .ok (.isub, 1) := dk_100 (dk_at dksX0_brides_3 17 rfl rfl)
theorem dX0_brides_89 : decode cX0_brides 89 = .ok (.invokestatic 7, 3) := dk_184 0 7 (dk_at dksX0_brides_3 18 rfl rfl)
theorem dX0_brides_92 : decode cX0_brides 92 = .ok (.iload 6, 2) := dk_21 6 (dk_at dksX0_brides_3 21 rfl rfl)
theorem dX0_brides_94 : decode cX0_brides 94 = .ok (.isub, 1) := dk_100 (dk_at dksX0_brides_3 23 rfl rfl)
theorem dX0_brides_95 : decode cX0_brides 95 = .ok (.i2l, 1) := dk_133 (dk_at dksX0_brides_4 0 rfl rfl)
theorem dX0_brides_96 : decode cX0_brides 96 = .ok (.lmul, 1) := dk_105 (dk_at dksX0_brides_4 1 rfl rfl)
theorem dX0_brides_97 : decode cX0_brides 97 = .ok (.ldc2_w 584, 3) := dk_20 2 72 (dk_at dksX0_brides_4 2 rfl rfl)
theorem dX0_brides_100 : decode cX0_brides 100 = .ok (.lrem, 1) := dk_113 (dk_at dksX0_brides_4 5 rfl rfl)
theorem dX0_brides_101 : decode cX0_brides 101 = .ok (.lstore 4, 2) := dk_55 4 (dk_at dksX0_brides_4 6 rfl rfl)
theorem dX0_brides_103 : decode cX0_brides 103 = .ok (.iinc 6 1, 3) := dk_132 6 1 (dk_at dksX0_brides_4 8 rfl rfl)
theorem dX0_brides_106 : decode cX0_brides 106 = .ok (.goto (-29), 3) := dk_167 255 227 (dk_at dksX0_brides_4 11 rfl rfl)
theorem dX0_brides_109 : decode cX0_brides 109 = .ok (.lload 4, 2) := dk_22 4 (dk_at dksX0_brides_4 14 rfl rfl)
theorem dX0_brides_111 : decode cX0_brides 111 = .ok (.l2i, 1) := dk_136 (dk_at dksX0_brides_4 16 rfl rfl)
theorem dX0_brides_112 : decode cX0_brides 112 = .ok (.ireturn, 1) := dk_172 (dk_at dksX0_brides_4 17 rfl rfl)
abbrev cX0_game : ByteArray := prog_1_method_98_code
def yX0_game : MethodName := ⟨RX0, "game", "(I)I"⟩
def dkwX0_game_3 : List UInt8 := [154, 0, 7, 29, 167, 0, 9, 42, 29, 28, 182, 2, 80, 172, 132, 3, 1, 167, 255, 216, 2, 172]
abbrev dktX0_game_3 : List UInt8 := dkwX0_game_3 ++ []
def dkwX0_game_2 : List UInt8 := [62, 29, 42, 180, 1, 120, 162, 0, 38, 28, 153, 0, 34, 42, 29, 28, 182, 2, 80, 2, 159, 0, 18, 27]
abbrev dktX0_game_2 : List UInt8 := dkwX0_game_2 ++ dktX0_game_3
def dkwX0_game_1 : List UInt8 := [162, 0, 23, 28, 42, 180, 0, 189, 42, 180, 0, 149, 29, 46, 46, 130, 61, 132, 3, 1, 167, 255, 231, 3]
abbrev dktX0_game_1 : List UInt8 := dkwX0_game_1 ++ dktX0_game_2
def dkwX0_game_0 : List UInt8 := [27, 3, 4, 184, 0, 207, 154, 0, 5, 2, 172, 42, 182, 2, 77, 3, 61, 3, 62, 29, 42, 180, 1, 120]
abbrev dktX0_game_0 : List UInt8 := dkwX0_game_0 ++ dktX0_game_1
theorem dksX0_game_0 : cX0_game.data.toList.drop 0 = dktX0_game_0 := by decide +kernel
theorem dksX0_game_1 : cX0_game.data.toList.drop 24 = dktX0_game_1 := dk_seg dksX0_game_0 24 rfl rfl
theorem dksX0_game_2 : cX0_game.data.toList.drop 48 = dktX0_game_2 := dk_seg dksX0_game_1 24 rfl rfl
theorem dksX0_game_3 : cX0_game.data.toList.drop 72 = dktX0_game_3 := dk_seg dksX0_game_2 24 rfl rfl
theorem dX0_game_0 : decode cX0_game 0 = .ok (.iload_n 1, 1) := dk_27 (dk_at dksX0_game_0 0 rfl rfl)
theorem dX0_game_1 : decode cX0_game 1 = .ok (.iconst 0, 1) := dk_3 (dk_at dksX0_game_0 1 rfl rfl)
theorem dX0_game_2 : decode cX0_game 2 = .ok (.iconst 1, 1) := dk_4 (dk_at dksX0_game_0 2 rfl rfl)
theorem dX0_game_3 : decode cX0_game 3 = .ok (.invokestatic 207, 3) := dk_184 0 207 (dk_at dksX0_game_0 3 rfl rfl)
theorem dX0_game_6 : decode cX0_game 6 = .ok (.ifCond .ne 5, 3) := dk_154 0 5 (dk_at dksX0_game_0 6 rfl rfl)
theorem dX0_game_9 : decode cX0_game 9 = .ok (.iconst (-1), 1) := dk_2 (dk_at dksX0_game_0 9 rfl rfl)
theorem dX0_game_10 : decode cX0_game 10 = .ok (.ireturn, 1) := dk_172 (dk_at dksX0_game_0 10 rfl rfl)
theorem dX0_game_11 : decode cX0_game 11 = .ok (.aload_n 0, 1) := dk_42 (dk_at dksX0_game_0 11 rfl rfl)
theorem dX0_game_12 : decode cX0_game 12 = .ok (.invokevirtual 589, 3) := dk_182 2 77 (dk_at dksX0_game_0 12 rfl rfl)
theorem dX0_game_15 : decode cX0_game 15 = .ok (.iconst 0, 1) := dk_3 (dk_at dksX0_game_0 15 rfl rfl)
theorem dX0_game_16 : decode cX0_game 16 = .ok (.istore_n 2, 1) := dk_61 (dk_at dksX0_game_0 16 rfl rfl)
theorem dX0_game_17 : decode cX0_game 17 = .ok (.iconst 0, 1) := dk_3 (dk_at dksX0_game_0 17 rfl rfl)
theorem dX0_game_18 : decode cX0_game 18 = .ok (.istore_n 3, 1) := dk_62 (dk_at dksX0_game_0 18 rfl rfl)
theorem dX0_game_19 : decode cX0_game 19 = .ok (.iload_n 3, 1) := dk_29 (dk_at dksX0_game_0 19 rfl rfl)
theorem dX0_game_20 : decode cX0_game 20 = .ok (.aload_n 0, 1) := dk_42 (dk_at dksX0_game_0 20 rfl rfl)
theorem dX0_game_21 : decode cX0_game 21 = .ok (.getfield 376, 3) := dk_180 1 120 (dk_at dksX0_game_0 21 rfl rfl)
theorem dX0_game_24 : decode cX0_game 24 = .ok (.if_icmp .ge 23, 3) := dk_162 0 23 (dk_at dksX0_game_1 0 rfl rfl)
theorem dX0_game_27 : decode cX0_game 27 = .ok (.iload_n 2, 1) := dk_28 (dk_at dksX0_game_1 3 rfl rfl)
theorem dX0_game_28 : decode cX0_game 28 = .ok (.aload_n 0, 1) := dk_42 (dk_at dksX0_game_1 4 rfl rfl)
theorem dX0_game_29 : decode cX0_game 29 = .ok (.getfield 189, 3) := dk_180 0 189 (dk_at dksX0_game_1 5 rfl rfl)
theorem dX0_game_32 : decode cX0_game 32 = .ok (.aload_n 0, 1) := dk_42 (dk_at dksX0_game_1 8 rfl rfl)
theorem dX0_game_33 : decode cX0_game 33 = .ok (.getfield 149, 3) := dk_180 0 149 (dk_at dksX0_game_1 9 rfl rfl)
theorem dX0_game_36 : decode cX0_game 36 = .ok (.iload_n 3, 1) := dk_29 (dk_at dksX0_game_1 12 rfl rfl)
theorem dX0_game_37 : decode cX0_game 37 = .ok (.iaload, 1) := dk_46 (dk_at dksX0_game_1 13 rfl rfl)
theorem dX0_game_38 : decode cX0_game 38 = .ok (.iaload, 1) := dk_46 (dk_at dksX0_game_1 14 rfl rfl)
theorem dX0_game_39 : decode cX0_game 39 = .ok (.ixor, 1) := dk_130 (dk_at dksX0_game_1 15 rfl rfl)
theorem dX0_game_40 : decode cX0_game 40 = .ok (.istore_n 2, 1) := dk_61 (dk_at dksX0_game_1 16 rfl rfl)
theorem dX0_game_41 : decode cX0_game 41 = .ok (.iinc 3 1, 3) := dk_132 3 1 (dk_at dksX0_game_1 17 rfl rfl)
theorem dX0_game_44 : decode cX0_game 44 = .ok (.goto (-25), 3) := dk_167 255 231 (dk_at dksX0_game_1 20 rfl rfl)
theorem dX0_game_47 : decode cX0_game 47 = .ok (.iconst 0, 1) := dk_3 (dk_at dksX0_game_1 23 rfl rfl)
theorem dX0_game_48 : decode cX0_game 48 = .ok (.istore_n 3, 1) := dk_62 (dk_at dksX0_game_2 0 rfl rfl)
theorem dX0_game_49 : decode cX0_game 49 = .ok (.iload_n 3, 1) := dk_29 (dk_at dksX0_game_2 1 rfl rfl)
theorem dX0_game_50 : decode cX0_game 50 = .ok (.aload_n 0, 1) := dk_42 (dk_at dksX0_game_2 2 rfl rfl)
theorem dX0_game_51 : decode cX0_game 51 = .ok (.getfield 376, 3) := dk_180 1 120 (dk_at dksX0_game_2 3 rfl rfl)
theorem dX0_game_54 : decode cX0_game 54 = .ok (.if_icmp .ge 38, 3) := dk_162 0 38 (dk_at dksX0_game_2 6 rfl rfl)
theorem dX0_game_57 : decode cX0_game 57 = .ok (.iload_n 2, 1) := dk_28 (dk_at dksX0_game_2 9 rfl rfl)
theorem dX0_game_58 : decode cX0_game 58 = .ok (.ifCond .eq 34, 3) := dk_153 0 34 (dk_at dksX0_game_2 10 rfl rfl)
theorem dX0_game_61 : decode cX0_game 61 = .ok (.aload_n 0, 1) := dk_42 (dk_at dksX0_game_2 13 rfl rfl)
theorem dX0_game_62 : decode cX0_game 62 = .ok (.iload_n 3, 1) := dk_29 (dk_at dksX0_game_2 14 rfl rfl)
theorem dX0_game_63 : decode cX0_game 63 = .ok (.iload_n 2, 1) := dk_28 (dk_at dksX0_game_2 15 rfl rfl)
theorem dX0_game_64 : decode cX0_game 64 = .ok (.invokevirtual 592, 3) := dk_182 2 80 (dk_at dksX0_game_2 16 rfl rfl)
theorem dX0_game_67 : decode cX0_game 67 = .ok (.iconst (-1), 1) := dk_2 (dk_at dksX0_game_2 19 rfl rfl)
theorem dX0_game_68 : decode cX0_game 68 = .ok (.if_icmp .eq 18, 3) := dk_159 0 18 (dk_at dksX0_game_2 20 rfl rfl)
theorem dX0_game_71 : decode cX0_game 71 = .ok (.iload_n 1, 1) := dk_27 (dk_at dksX0_game_2 23 rfl rfl)
theorem dX0_game_72 : decode cX0_game 72 = .ok (.ifCond .ne 7, 3) := dk_154 0 7 (dk_at dksX0_game_3 0 rfl rfl)
theorem dX0_game_75 : decode cX0_game 75 = .ok (.iload_n 3, 1) := dk_29 (dk_at dksX0_game_3 3 rfl rfl)
theorem dX0_game_76 : decode cX0_game 76 = .ok (.goto 9, 3) := dk_167 0 9 (dk_at dksX0_game_3 4 rfl rfl)
theorem dX0_game_79 : decode cX0_game 79 = .ok (.aload_n 0, 1) := dk_42 (dk_at dksX0_game_3 7 rfl rfl)
theorem dX0_game_80 : decode cX0_game 80 = .ok (.iload_n 3, 1) := dk_29 (dk_at dksX0_game_3 8 rfl rfl)
theorem dX0_game_81 : decode cX0_game 81 = .ok (.iload_n 2, 1) := dk_28 (dk_at dksX0_game_3 9 rfl rfl)
theorem dX0_game_82 : decode cX0_game 82 = .ok (.invokevirtual 592, 3) := dk_182 2 80 (dk_at dksX0_game_3 10 rfl rfl)
theorem dX0_game_85 : decode cX0_game 85 = .ok (.ireturn, 1) := dk_172 (dk_at dksX0_game_3 13 rfl rfl)
theorem dX0_game_86 : decode cX0_game 86 = .ok (.iinc 3 1, 3) := dk_132 3 1 (dk_at dksX0_game_3 14 rfl rfl)
theorem dX0_game_89 : decode cX0_game 89 = .ok (.goto (-40), 3) := dk_167 255 216 (dk_at dksX0_game_3 17 rfl rfl)
theorem dX0_game_92 : decode cX0_game 92 = .ok (.iconst (-1), 1) := dk_2 (dk_at dksX0_game_3 20 rfl rfl)
theorem dX0_game_93 : decode cX0_game 93 = .ok (.ireturn, 1) := dk_172 (dk_at dksX0_game_3 21 rfl rfl)
abbrev cX0_findsGrundy : ByteArray := prog_1_method_95_code
def yX0_findsGrundy : MethodName := ⟨RX0, "findsGrundy", "()V"⟩
def dkwX0_findsGrundy_3 : List UInt8 := [184, 2, 57, 79, 132, 1, 1, 167, 255, 181, 177]
abbrev dktX0_findsGrundy_3 : List UInt8 := dkwX0_findsGrundy_3 ++ []
def dkwX0_findsGrundy_2 : List UInt8 := [42, 180, 0, 189, 27, 7, 100, 46, 120, 167, 0, 4, 3, 128, 61, 42, 180, 0, 189, 27, 28, 2, 130]
abbrev dktX0_findsGrundy_2 : List UInt8 := dkwX0_findsGrundy_2 ++ dktX0_findsGrundy_3
def dkwX0_findsGrundy_1 : List UInt8 := [164, 0, 16, 4, 42, 180, 0, 189, 27, 6, 100, 46, 120, 167, 0, 4, 3, 128, 27, 6, 164, 0, 16, 4]
abbrev dktX0_findsGrundy_1 : List UInt8 := dkwX0_findsGrundy_1 ++ dktX0_findsGrundy_2
def dkwX0_findsGrundy_0 : List UInt8 := [4, 60, 27, 42, 180, 0, 189, 190, 162, 0, 72, 4, 42, 180, 0, 189, 27, 4, 100, 46, 120, 27, 5]
abbrev dktX0_findsGrundy_0 : List UInt8 := dkwX0_findsGrundy_0 ++ dktX0_findsGrundy_1
theorem dksX0_findsGrundy_0 : cX0_findsGrundy.data.toList.drop 0 = dktX0_findsGrundy_0 := by decide +kernel
theorem dksX0_findsGrundy_1 : cX0_findsGrundy.data.toList.drop 23 = dktX0_findsGrundy_1 := dk_seg dksX0_findsGrundy_0 23 rfl rfl
theorem dksX0_findsGrundy_2 : cX0_findsGrundy.data.toList.drop 47 = dktX0_findsGrundy_2 := dk_seg dksX0_findsGrundy_1 24 rfl rfl
theorem dksX0_findsGrundy_3 : cX0_findsGrundy.data.toList.drop 70 = dktX0_findsGrundy_3 := dk_seg dksX0_findsGrundy_2 23 rfl rfl
theorem dX0_findsGrundy_0 : decode cX0_findsGrundy 0 = .ok (.iconst 1, 1) := dk_4 (dk_at dksX0_findsGrundy_0 0 rfl rfl)
theorem dX0_findsGrundy_1 : decode cX0_findsGrundy 1 = .ok (.istore_n 1, 1) := dk_60 (dk_at dksX0_findsGrundy_0 1 rfl rfl)
theorem dX0_findsGrundy_2 : decode cX0_findsGrundy 2 = .ok (.iload_n 1, 1) := dk_27 (dk_at dksX0_findsGrundy_0 2 rfl rfl)
theorem dX0_findsGrundy_3 : decode cX0_findsGrundy 3 = .ok (.aload_n 0, 1) := dk_42 (dk_at dksX0_findsGrundy_0 3 rfl rfl)
theorem dX0_findsGrundy_4 : decode cX0_findsGrundy 4 = .ok (.getfield 189, 3) := dk_180 0 189 (dk_at dksX0_findsGrundy_0 4 rfl rfl)
theorem dX0_findsGrundy_7 : decode cX0_findsGrundy 7 = .ok (.arraylength, 1) := dk_190 (dk_at dksX0_findsGrundy_0 7 rfl rfl)
theorem dX0_findsGrundy_8 : decode cX0_findsGrundy 8 = .ok (.if_icmp .ge 72, 3) := dk_162 0 72 (dk_at dksX0_findsGrundy_0 8 rfl rfl)
theorem dX0_findsGrundy_11 : decode cX0_findsGrundy 11 = .ok (.iconst 1, 1) := dk_4 (dk_at dksX0_findsGrundy_0 11 rfl rfl)
theorem dX0_findsGrundy_12 : decode cX0_findsGrundy 12 = .ok (.aload_n 0, 1) := dk_42 (dk_at dksX0_findsGrundy_0 12 rfl rfl)
theorem dX0_findsGrundy_13 : decode cX0_findsGrundy 13 = .ok (.getfield 189, 3) := dk_180 0 189 (dk_at dksX0_findsGrundy_0 13 rfl rfl)
theorem dX0_findsGrundy_16 : decode cX0_findsGrundy 16 = .ok (.iload_n 1, 1) := dk_27 (dk_at dksX0_findsGrundy_0 16 rfl rfl)
theorem dX0_findsGrundy_17 : decode cX0_findsGrundy 17 = .ok (.iconst 1, 1) := dk_4 (dk_at dksX0_findsGrundy_0 17 rfl rfl)
theorem dX0_findsGrundy_18 : decode cX0_findsGrundy 18 = .ok (.isub, 1) := dk_100 (dk_at dksX0_findsGrundy_0 18 rfl rfl)
theorem dX0_findsGrundy_19 : decode cX0_findsGrundy 19 = .ok (.iaload, 1) := dk_46 (dk_at dksX0_findsGrundy_0 19 rfl rfl)
theorem dX0_findsGrundy_20 : decode cX0_findsGrundy 20 = .ok (.ishl, 1) := dk_120 (dk_at dksX0_findsGrundy_0 20 rfl rfl)
theorem dX0_findsGrundy_21 : decode cX0_findsGrundy 21 = .ok (.iload_n 1, 1) := dk_27 (dk_at dksX0_findsGrundy_0 21 rfl rfl)
theorem dX0_findsGrundy_22 : decode cX0_findsGrundy 22 = .ok (.iconst 2, 1) := dk_5 (dk_at dksX0_findsGrundy_0 22 rfl rfl)
theorem dX0_findsGrundy_23 : decode cX0_findsGrundy 23 = .ok (.if_icmp .le 16, 3) := dk_164 0 16 (dk_at dksX0_findsGrundy_1 0 rfl rfl)
theorem dX0_findsGrundy_26 : decode cX0_findsGrundy 26 = .ok (.iconst 1, 1) := dk_4 (dk_at dksX0_findsGrundy_1 3 rfl rfl)
theorem dX0_findsGrundy_27 : decode cX0_findsGrundy 27 = .ok (.aload_n 0, 1) := dk_42 (dk_at dksX0_findsGrundy_1 4 rfl rfl)
theorem dX0_findsGrundy_28 : decode cX0_findsGrundy 28 = .ok (.getfield 189, 3) := dk_180 0 189 (dk_at dksX0_findsGrundy_1 5 rfl rfl)
theorem dX0_findsGrundy_31 : decode cX0_findsGrundy 31 = .ok (.iload_n 1, 1) := dk_27 (dk_at dksX0_findsGrundy_1 8 rfl rfl)
theorem dX0_findsGrundy_32 : decode cX0_findsGrundy 32 = .ok (.iconst 3, 1) := dk_6 (dk_at dksX0_findsGrundy_1 9 rfl rfl)
theorem dX0_findsGrundy_33 : decode cX0_findsGrundy 33 = .ok (.isub, 1) := dk_100 (dk_at dksX0_findsGrundy_1 10 rfl rfl)
theorem dX0_findsGrundy_34 : decode cX0_findsGrundy 34 = .ok (.iaload, 1) := dk_46 (dk_at dksX0_findsGrundy_1 11 rfl rfl)
theorem dX0_findsGrundy_35 : decode cX0_findsGrundy 35 = .ok (.ishl, 1) := dk_120 (dk_at dksX0_findsGrundy_1 12 rfl rfl)
theorem dX0_findsGrundy_36 : decode cX0_findsGrundy 36 = .ok (.goto 4, 3) := dk_167 0 4 (dk_at dksX0_findsGrundy_1 13 rfl rfl)
theorem dX0_findsGrundy_39 : decode cX0_findsGrundy 39 = .ok (.iconst 0, 1) := dk_3 (dk_at dksX0_findsGrundy_1 16 rfl rfl)
theorem dX0_findsGrundy_40 : decode cX0_findsGrundy 40 = .ok (.ior, 1) := dk_128 (dk_at dksX0_findsGrundy_1 17 rfl rfl)
theorem dX0_findsGrundy_41 : decode cX0_findsGrundy 41 = .ok (.iload_n 1, 1) := dk_27 (dk_at dksX0_findsGrundy_1 18 rfl rfl)
theorem dX0_findsGrundy_42 : decode cX0_findsGrundy 42 = .ok (.iconst 3, 1) := dk_6 (dk_at dksX0_findsGrundy_1 19 rfl rfl)
theorem dX0_findsGrundy_43 : decode cX0_findsGrundy 43 = .ok (.if_icmp .le 16, 3) := dk_164 0 16 (dk_at dksX0_findsGrundy_1 20 rfl rfl)
theorem dX0_findsGrundy_46 : decode cX0_findsGrundy 46 = .ok (.iconst 1, 1) := dk_4 (dk_at dksX0_findsGrundy_1 23 rfl rfl)
theorem dX0_findsGrundy_47 : decode cX0_findsGrundy 47 = .ok (.aload_n 0, 1) := dk_42 (dk_at dksX0_findsGrundy_2 0 rfl rfl)
theorem dX0_findsGrundy_48 : decode cX0_findsGrundy 48 = .ok (.getfield 189, 3) := dk_180 0 189 (dk_at dksX0_findsGrundy_2 1 rfl rfl)
theorem dX0_findsGrundy_51 : decode cX0_findsGrundy 51 = .ok (.iload_n 1, 1) := dk_27 (dk_at dksX0_findsGrundy_2 4 rfl rfl)
theorem dX0_findsGrundy_52 : decode cX0_findsGrundy 52 = .ok (.iconst 4, 1) := dk_7 (dk_at dksX0_findsGrundy_2 5 rfl rfl)
theorem dX0_findsGrundy_53 : decode cX0_findsGrundy 53 = .ok (.isub, 1) := dk_100 (dk_at dksX0_findsGrundy_2 6 rfl rfl)
theorem dX0_findsGrundy_54 : decode cX0_findsGrundy 54 = .ok (.iaload, 1) := dk_46 (dk_at dksX0_findsGrundy_2 7 rfl rfl)
theorem dX0_findsGrundy_55 : decode cX0_findsGrundy 55 = .ok (.ishl, 1) := dk_120 (dk_at dksX0_findsGrundy_2 8 rfl rfl)
theorem dX0_findsGrundy_56 : decode cX0_findsGrundy 56 = .ok (.goto 4, 3) := dk_167 0 4 (dk_at dksX0_findsGrundy_2 9 rfl rfl)
theorem dX0_findsGrundy_59 : decode cX0_findsGrundy 59 = .ok (.iconst 0, 1) := dk_3 (dk_at dksX0_findsGrundy_2 12 rfl rfl)
theorem dX0_findsGrundy_60 : decode cX0_findsGrundy 60 = .ok (.ior, 1) := dk_128 (dk_at dksX0_findsGrundy_2 13 rfl rfl)
theorem dX0_findsGrundy_61 : decode cX0_findsGrundy 61 = .ok (.istore_n 2, 1) := dk_61 (dk_at dksX0_findsGrundy_2 14 rfl rfl)
theorem dX0_findsGrundy_62 : decode cX0_findsGrundy 62 = .ok (.aload_n 0, 1) := dk_42 (dk_at dksX0_findsGrundy_2 15 rfl rfl)
theorem dX0_findsGrundy_63 : decode cX0_findsGrundy 63 = .ok (.getfield 189, 3) := dk_180 0 189 (dk_at dksX0_findsGrundy_2 16 rfl rfl)
theorem dX0_findsGrundy_66 : decode cX0_findsGrundy 66 = .ok (.iload_n 1, 1) := dk_27 (dk_at dksX0_findsGrundy_2 19 rfl rfl)
theorem dX0_findsGrundy_67 : decode cX0_findsGrundy 67 = .ok (.iload_n 2, 1) := dk_28 (dk_at dksX0_findsGrundy_2 20 rfl rfl)
theorem dX0_findsGrundy_68 : decode cX0_findsGrundy 68 = .ok (.iconst (-1), 1) := dk_2 (dk_at dksX0_findsGrundy_2 21 rfl rfl)
theorem dX0_findsGrundy_69 : decode cX0_findsGrundy 69 = .ok (.ixor, 1) := dk_130 (dk_at dksX0_findsGrundy_2 22 rfl rfl)
theorem dX0_findsGrundy_70 : decode cX0_findsGrundy 70 = .ok (.invokestatic 569, 3) := dk_184 2 57 (dk_at dksX0_findsGrundy_3 0 rfl rfl)
theorem dX0_findsGrundy_73 : decode cX0_findsGrundy 73 = .ok (.iastore, 1) := dk_79 (dk_at dksX0_findsGrundy_3 3 rfl rfl)
theorem dX0_findsGrundy_74 : decode cX0_findsGrundy 74 = .ok (.iinc 1 1, 3) := dk_132 1 1 (dk_at dksX0_findsGrundy_3 4 rfl rfl)
theorem dX0_findsGrundy_77 : decode cX0_findsGrundy 77 = .ok (.goto (-75), 3) := dk_167 255 181 (dk_at dksX0_findsGrundy_3 7 rfl rfl)
theorem dX0_findsGrundy_80 : decode cX0_findsGrundy 80 = .ok (.return_, 1) := dk_177 (dk_at dksX0_findsGrundy_3 10 rfl rfl)
abbrev cX0_takenFrom : ByteArray := prog_1_method_97_code
def yX0_takenFrom : MethodName := ⟨RX0, "takenFrom", "(II)I"⟩
def dkwX0_takenFrom_2 : List UInt8 := [130, 160, 0, 5, 29, 172, 132, 3, 1, 167, 255, 201, 2, 172]
abbrev dktX0_takenFrom_2 : List UInt8 := dkwX0_takenFrom_2 ++ []
def dkwX0_takenFrom_1 : List UInt8 := [180, 0, 189, 42, 180, 0, 149, 27, 46, 29, 100, 46, 28, 42, 180, 0, 189, 42, 180, 0, 149, 27, 46, 46]
abbrev dktX0_takenFrom_1 : List UInt8 := dkwX0_takenFrom_1 ++ dktX0_takenFrom_2
def dkwX0_takenFrom_0 : List UInt8 := [4, 62, 29, 7, 42, 180, 0, 149, 27, 46, 184, 0, 1, 163, 0, 47, 29, 184, 2, 74, 153, 0, 34, 42]
abbrev dktX0_takenFrom_0 : List UInt8 := dkwX0_takenFrom_0 ++ dktX0_takenFrom_1
theorem dksX0_takenFrom_0 : cX0_takenFrom.data.toList.drop 0 = dktX0_takenFrom_0 := by decide +kernel
theorem dksX0_takenFrom_1 : cX0_takenFrom.data.toList.drop 24 = dktX0_takenFrom_1 := dk_seg dksX0_takenFrom_0 24 rfl rfl
theorem dksX0_takenFrom_2 : cX0_takenFrom.data.toList.drop 48 = dktX0_takenFrom_2 := dk_seg dksX0_takenFrom_1 24 rfl rfl
theorem dX0_takenFrom_0 : decode cX0_takenFrom 0 = .ok (.iconst 1, 1) := dk_4 (dk_at dksX0_takenFrom_0 0 rfl rfl)
theorem dX0_takenFrom_1 : decode cX0_takenFrom 1 = .ok (.istore_n 3, 1) := dk_62 (dk_at dksX0_takenFrom_0 1 rfl rfl)
theorem dX0_takenFrom_2 : decode cX0_takenFrom 2 = .ok (.iload_n 3, 1) := dk_29 (dk_at dksX0_takenFrom_0 2 rfl rfl)
theorem dX0_takenFrom_3 : decode cX0_takenFrom 3 = .ok (.iconst 4, 1) := dk_7 (dk_at dksX0_takenFrom_0 3 rfl rfl)
theorem dX0_takenFrom_4 : decode cX0_takenFrom 4 = .ok (.aload_n 0, 1) := dk_42 (dk_at dksX0_takenFrom_0 4 rfl rfl)
theorem dX0_takenFrom_5 : decode cX0_takenFrom 5 = .ok (.getfield 149, 3) := dk_180 0 149 (dk_at dksX0_takenFrom_0 5 rfl rfl)
theorem dX0_takenFrom_8 : decode cX0_takenFrom 8 = .ok (.iload_n 1, 1) := dk_27 (dk_at dksX0_takenFrom_0 8 rfl rfl)
theorem dX0_takenFrom_9 : decode cX0_takenFrom 9 = .ok (.iaload, 1) := dk_46 (dk_at dksX0_takenFrom_0 9 rfl rfl)
theorem dX0_takenFrom_10 : decode cX0_takenFrom 10 = .ok (.invokestatic 1, 3) := dk_184 0 1 (dk_at dksX0_takenFrom_0 10 rfl rfl)
theorem dX0_takenFrom_13 : decode cX0_takenFrom 13 = .ok (.if_icmp .gt 47, 3) := dk_163 0 47 (dk_at dksX0_takenFrom_0 13 rfl rfl)
theorem dX0_takenFrom_16 : decode cX0_takenFrom 16 = .ok (.iload_n 3, 1) := dk_29 (dk_at dksX0_takenFrom_0 16 rfl rfl)
theorem dX0_takenFrom_17 : decode cX0_takenFrom 17 = .ok (.invokestatic 586, 3) := dk_184 2 74 (dk_at dksX0_takenFrom_0 17 rfl rfl)
theorem dX0_takenFrom_20 : decode cX0_takenFrom 20 = .ok (.ifCond .eq 34, 3) := dk_153 0 34 (dk_at dksX0_takenFrom_0 20 rfl rfl)
theorem dX0_takenFrom_23 : decode cX0_takenFrom 23 = .ok (.aload_n 0, 1) := dk_42 (dk_at dksX0_takenFrom_0 23 rfl rfl)
theorem dX0_takenFrom_24 : decode cX0_takenFrom 24 = .ok (.getfield 189, 3) := dk_180 0 189 (dk_at dksX0_takenFrom_1 0 rfl rfl)
theorem dX0_takenFrom_27 : decode cX0_takenFrom 27 = .ok (.aload_n 0, 1) := dk_42 (dk_at dksX0_takenFrom_1 3 rfl rfl)
theorem dX0_takenFrom_28 : decode cX0_takenFrom 28 = .ok (.getfield 149, 3) := dk_180 0 149 (dk_at dksX0_takenFrom_1 4 rfl rfl)
theorem dX0_takenFrom_31 : decode cX0_takenFrom 31 = .ok (.iload_n 1, 1) := dk_27 (dk_at dksX0_takenFrom_1 7 rfl rfl)
theorem dX0_takenFrom_32 : decode cX0_takenFrom 32 = .ok (.iaload, 1) := dk_46 (dk_at dksX0_takenFrom_1 8 rfl rfl)
theorem dX0_takenFrom_33 : decode cX0_takenFrom 33 = .ok (.iload_n 3, 1) := dk_29 (dk_at dksX0_takenFrom_1 9 rfl rfl)
theorem dX0_takenFrom_34 : decode cX0_takenFrom 34 = .ok (.isub, 1) := dk_100 (dk_at dksX0_takenFrom_1 10 rfl rfl)
theorem dX0_takenFrom_35 : decode cX0_takenFrom 35 = .ok (.iaload, 1) := dk_46 (dk_at dksX0_takenFrom_1 11 rfl rfl)
theorem dX0_takenFrom_36 : decode cX0_takenFrom 36 = .ok (.iload_n 2, 1) := dk_28 (dk_at dksX0_takenFrom_1 12 rfl rfl)
theorem dX0_takenFrom_37 : decode cX0_takenFrom 37 = .ok (.aload_n 0, 1) := dk_42 (dk_at dksX0_takenFrom_1 13 rfl rfl)
theorem dX0_takenFrom_38 : decode cX0_takenFrom 38 = .ok (.getfield 189, 3) := dk_180 0 189 (dk_at dksX0_takenFrom_1 14 rfl rfl)
theorem dX0_takenFrom_41 : decode cX0_takenFrom 41 = .ok (.aload_n 0, 1) := dk_42 (dk_at dksX0_takenFrom_1 17 rfl rfl)
theorem dX0_takenFrom_42 : decode cX0_takenFrom 42 = .ok (.getfield 149, 3) := dk_180 0 149 (dk_at dksX0_takenFrom_1 18 rfl rfl)
theorem dX0_takenFrom_45 : decode cX0_takenFrom 45 = .ok (.iload_n 1, 1) := dk_27 (dk_at dksX0_takenFrom_1 21 rfl rfl)
theorem dX0_takenFrom_46 : decode cX0_takenFrom 46 = .ok (.iaload, 1) := dk_46 (dk_at dksX0_takenFrom_1 22 rfl rfl)
theorem dX0_takenFrom_47 : decode cX0_takenFrom 47 = .ok (.iaload, 1) := dk_46 (dk_at dksX0_takenFrom_1 23 rfl rfl)
theorem dX0_takenFrom_48 : decode cX0_takenFrom 48 = .ok (.ixor, 1) := dk_130 (dk_at dksX0_takenFrom_2 0 rfl rfl)
theorem dX0_takenFrom_49 : decode cX0_takenFrom 49 = .ok (.if_icmp .ne 5, 3) := dk_160 0 5 (dk_at dksX0_takenFrom_2 1 rfl rfl)
theorem dX0_takenFrom_52 : decode cX0_takenFrom 52 = .ok (.iload_n 3, 1) := dk_29 (dk_at dksX0_takenFrom_2 4 rfl rfl)
theorem dX0_takenFrom_53 : decode cX0_takenFrom 53 = .ok (.ireturn, 1) := dk_172 (dk_at dksX0_takenFrom_2 5 rfl rfl)
theorem dX0_takenFrom_54 : decode cX0_takenFrom 54 = .ok (.iinc 3 1, 3) := dk_132 3 1 (dk_at dksX0_takenFrom_2 6 rfl rfl)
theorem dX0_takenFrom_57 : decode cX0_takenFrom 57 = .ok (.goto (-55), 3) := dk_167 255 201 (dk_at dksX0_takenFrom_2 9 rfl rfl)
theorem dX0_takenFrom_60 : decode cX0_takenFrom 60 = .ok (.iconst (-1), 1) := dk_2 (dk_at dksX0_takenFrom_2 12 rfl rfl)
theorem dX0_takenFrom_61 : decode cX0_takenFrom 61 = .ok (.ireturn, 1) := dk_172 (dk_at dksX0_takenFrom_2 13 rfl rfl)
abbrev cX0_canTake : ByteArray := prog_1_method_96_code
def yX0_canTake : MethodName := ⟨RX0, "canTake", "(I)Z"⟩
def dkwX0_canTake_0 : List UInt8 := [26, 4, 159, 0, 13, 26, 6, 159, 0, 8, 26, 7, 160, 0, 7, 4, 167, 0, 4, 3, 172]
abbrev dktX0_canTake_0 : List UInt8 := dkwX0_canTake_0 ++ []
theorem dksX0_canTake_0 : cX0_canTake.data.toList.drop 0 = dktX0_canTake_0 := by decide +kernel
theorem dX0_canTake_0 : decode cX0_canTake 0 = .ok (.iload_n 0, 1) := dk_26 (dk_at dksX0_canTake_0 0 rfl rfl)
theorem dX0_canTake_1 : decode cX0_canTake 1 = .ok (.iconst 1, 1) := dk_4 (dk_at dksX0_canTake_0 1 rfl rfl)
theorem dX0_canTake_2 : decode cX0_canTake 2 = .ok (.if_icmp .eq 13, 3) := dk_159 0 13 (dk_at dksX0_canTake_0 2 rfl rfl)
theorem dX0_canTake_5 : decode cX0_canTake 5 = .ok (.iload_n 0, 1) := dk_26 (dk_at dksX0_canTake_0 5 rfl rfl)
theorem dX0_canTake_6 : decode cX0_canTake 6 = .ok (.iconst 3, 1) := dk_6 (dk_at dksX0_canTake_0 6 rfl rfl)
theorem dX0_canTake_7 : decode cX0_canTake 7 = .ok (.if_icmp .eq 8, 3) := dk_159 0 8 (dk_at dksX0_canTake_0 7 rfl rfl)
theorem dX0_canTake_10 : decode cX0_canTake 10 = .ok (.iload_n 0, 1) := dk_26 (dk_at dksX0_canTake_0 10 rfl rfl)
theorem dX0_canTake_11 : decode cX0_canTake 11 = .ok (.iconst 4, 1) := dk_7 (dk_at dksX0_canTake_0 11 rfl rfl)
theorem dX0_canTake_12 : decode cX0_canTake 12 = .ok (.if_icmp .ne 7, 3) := dk_160 0 7 (dk_at dksX0_canTake_0 12 rfl rfl)
theorem dX0_canTake_15 : decode cX0_canTake 15 = .ok (.iconst 1, 1) := dk_4 (dk_at dksX0_canTake_0 15 rfl rfl)
theorem dX0_canTake_16 : decode cX0_canTake 16 = .ok (.goto 4, 3) := dk_167 0 4 (dk_at dksX0_canTake_0 16 rfl rfl)
theorem dX0_canTake_19 : decode cX0_canTake 19 = .ok (.iconst 0, 1) := dk_3 (dk_at dksX0_canTake_0 19 rfl rfl)
theorem dX0_canTake_20 : decode cX0_canTake 20 = .ok (.ireturn, 1) := dk_172 (dk_at dksX0_canTake_0 20 rfl rfl)
abbrev cX0_image : ByteArray := prog_1_method_101_code
def yX0_image : MethodName := ⟨RX0, "image", "(Z)Z"⟩
def dkwX0_image_1 : List UInt8 := [42, 182, 2, 117, 4, 172]
abbrev dktX0_image_1 : List UInt8 := dkwX0_image_1 ++ []
def dkwX0_image_0 : List UInt8 := [27, 154, 0, 12, 42, 180, 2, 111, 199, 0, 5, 3, 172, 27, 153, 0, 10, 42, 182, 2, 114, 167, 0, 7]
abbrev dktX0_image_0 : List UInt8 := dkwX0_image_0 ++ dktX0_image_1
theorem dksX0_image_0 : cX0_image.data.toList.drop 0 = dktX0_image_0 := by decide +kernel
theorem dksX0_image_1 : cX0_image.data.toList.drop 24 = dktX0_image_1 := dk_seg dksX0_image_0 24 rfl rfl
theorem dX0_image_0 : decode cX0_image 0 = .ok (.iload_n 1, 1) := dk_27 (dk_at dksX0_image_0 0 rfl rfl)
theorem dX0_image_1 : decode cX0_image 1 = .ok (.ifCond .ne 12, 3) := dk_154 0 12 (dk_at dksX0_image_0 1 rfl rfl)
theorem dX0_image_4 : decode cX0_image 4 = .ok (.aload_n 0, 1) := dk_42 (dk_at dksX0_image_0 4 rfl rfl)
theorem dX0_image_5 : decode cX0_image 5 = .ok (.getfield 623, 3) := dk_180 2 111 (dk_at dksX0_image_0 5 rfl rfl)
theorem dX0_image_8 : decode cX0_image 8 = .ok (.ifnonnull 5, 3) := dk_199 0 5 (dk_at dksX0_image_0 8 rfl rfl)
theorem dX0_image_11 : decode cX0_image 11 = .ok (.iconst 0, 1) := dk_3 (dk_at dksX0_image_0 11 rfl rfl)
theorem dX0_image_12 : decode cX0_image 12 = .ok (.ireturn, 1) := dk_172 (dk_at dksX0_image_0 12 rfl rfl)
theorem dX0_image_13 : decode cX0_image 13 = .ok (.iload_n 1, 1) := dk_27 (dk_at dksX0_image_0 13 rfl rfl)
theorem dX0_image_14 : decode cX0_image 14 = .ok (.ifCond .eq 10, 3) := dk_153 0 10 (dk_at dksX0_image_0 14 rfl rfl)
theorem dX0_image_17 : decode cX0_image 17 = .ok (.aload_n 0, 1) := dk_42 (dk_at dksX0_image_0 17 rfl rfl)
theorem dX0_image_18 : decode cX0_image 18 = .ok (.invokevirtual 626, 3) := dk_182 2 114 (dk_at dksX0_image_0 18 rfl rfl)
theorem dX0_image_21 : decode cX0_image 21 = .ok (.goto 7, 3) := dk_167 0 7 (dk_at dksX0_image_0 21 rfl rfl)
theorem dX0_image_24 : decode cX0_image 24 = .ok (.aload_n 0, 1) := dk_42 (dk_at dksX0_image_1 0 rfl rfl)
theorem dX0_image_25 : decode cX0_image 25 = .ok (.invokevirtual 629, 3) := dk_182 2 117 (dk_at dksX0_image_1 1 rfl rfl)
theorem dX0_image_28 : decode cX0_image 28 = .ok (.iconst 1, 1) := dk_4 (dk_at dksX0_image_1 4 rfl rfl)
theorem dX0_image_29 : decode cX0_image 29 = .ok (.ireturn, 1) := dk_172 (dk_at dksX0_image_1 5 rfl rfl)
abbrev cX0_takesAll : ByteArray := prog_1_method_99_code
def yX0_takesAll : MethodName := ⟨RX0, "takesAll", "()V"⟩
def dkwX0_takesAll_4 : List UInt8 := [180, 0, 139, 181, 2, 105, 42, 42, 180, 0, 179, 181, 2, 108, 42, 42, 180, 0, 119, 181, 2, 111, 177]
abbrev dktX0_takesAll_4 : List UInt8 := dkwX0_takesAll_4 ++ []
def dkwX0_takesAll_3 : List UInt8 := [180, 1, 124, 181, 2, 96, 42, 42, 180, 0, 129, 181, 2, 99, 42, 42, 180, 0, 135, 181, 2, 102, 42, 42]
abbrev dktX0_takesAll_3 : List UInt8 := dkwX0_takesAll_3 ++ dktX0_takesAll_4
def dkwX0_takesAll_2 : List UInt8 := [180, 1, 113, 181, 2, 87, 42, 42, 180, 1, 120, 181, 2, 90, 42, 42, 180, 1, 207, 181, 2, 93, 42, 42]
abbrev dktX0_takesAll_2 : List UInt8 := dkwX0_takesAll_2 ++ dktX0_takesAll_3
def dkwX0_takesAll_1 : List UInt8 := [184, 2, 83, 132, 1, 1, 167, 255, 229, 42, 180, 0, 167, 42, 180, 0, 160, 182, 1, 178, 42, 42]
abbrev dktX0_takesAll_1 : List UInt8 := dkwX0_takesAll_1 ++ dktX0_takesAll_2
def dkwX0_takesAll_0 : List UInt8 := [3, 60, 27, 42, 180, 0, 193, 190, 162, 0, 24, 42, 180, 0, 193, 27, 50, 42, 180, 0, 197, 27, 50]
abbrev dktX0_takesAll_0 : List UInt8 := dkwX0_takesAll_0 ++ dktX0_takesAll_1
theorem dksX0_takesAll_0 : cX0_takesAll.data.toList.drop 0 = dktX0_takesAll_0 := by decide +kernel
theorem dksX0_takesAll_1 : cX0_takesAll.data.toList.drop 23 = dktX0_takesAll_1 := dk_seg dksX0_takesAll_0 23 rfl rfl
theorem dksX0_takesAll_2 : cX0_takesAll.data.toList.drop 45 = dktX0_takesAll_2 := dk_seg dksX0_takesAll_1 22 rfl rfl
theorem dksX0_takesAll_3 : cX0_takesAll.data.toList.drop 69 = dktX0_takesAll_3 := dk_seg dksX0_takesAll_2 24 rfl rfl
theorem dksX0_takesAll_4 : cX0_takesAll.data.toList.drop 93 = dktX0_takesAll_4 := dk_seg dksX0_takesAll_3 24 rfl rfl
theorem dX0_takesAll_0 : decode cX0_takesAll 0 = .ok (.iconst 0, 1) := dk_3 (dk_at dksX0_takesAll_0 0 rfl rfl)
theorem dX0_takesAll_1 : decode cX0_takesAll 1 = .ok (.istore_n 1, 1) := dk_60 (dk_at dksX0_takesAll_0 1 rfl rfl)
theorem dX0_takesAll_2 : decode cX0_takesAll 2 = .ok (.iload_n 1, 1) := dk_27 (dk_at dksX0_takesAll_0 2 rfl rfl)
theorem dX0_takesAll_3 : decode cX0_takesAll 3 = .ok (.aload_n 0, 1) := dk_42 (dk_at dksX0_takesAll_0 3 rfl rfl)
theorem dX0_takesAll_4 : decode cX0_takesAll 4 = .ok (.getfield 193, 3) := dk_180 0 193 (dk_at dksX0_takesAll_0 4 rfl rfl)
theorem dX0_takesAll_7 : decode cX0_takesAll 7 = .ok (.arraylength, 1) := dk_190 (dk_at dksX0_takesAll_0 7 rfl rfl)
theorem dX0_takesAll_8 : decode cX0_takesAll 8 = .ok (.if_icmp .ge 24, 3) := dk_162 0 24 (dk_at dksX0_takesAll_0 8 rfl rfl)
theorem dX0_takesAll_11 : decode cX0_takesAll 11 = .ok (.aload_n 0, 1) := dk_42 (dk_at dksX0_takesAll_0 11 rfl rfl)
theorem dX0_takesAll_12 : decode cX0_takesAll 12 = .ok (.getfield 193, 3) := dk_180 0 193 (dk_at dksX0_takesAll_0 12 rfl rfl)
theorem dX0_takesAll_15 : decode cX0_takesAll 15 = .ok (.iload_n 1, 1) := dk_27 (dk_at dksX0_takesAll_0 15 rfl rfl)
theorem dX0_takesAll_16 : decode cX0_takesAll 16 = .ok (.aaload, 1) := dk_50 (dk_at dksX0_takesAll_0 16 rfl rfl)
theorem dX0_takesAll_17 : decode cX0_takesAll 17 = .ok (.aload_n 0, 1) := dk_42 (dk_at dksX0_takesAll_0 17 rfl rfl)
theorem dX0_takesAll_18 : decode cX0_takesAll 18 = .ok (.getfield 197, 3) := dk_180 0 197 (dk_at dksX0_takesAll_0 18 rfl rfl)
theorem dX0_takesAll_21 : decode cX0_takesAll 21 = .ok (.iload_n 1, 1) := dk_27 (dk_at dksX0_takesAll_0 21 rfl rfl)
theorem dX0_takesAll_22 : decode cX0_takesAll 22 = .ok (.aaload, 1) := dk_50 (dk_at dksX0_takesAll_0 22 rfl rfl)
theorem dX0_takesAll_23 : decode cX0_takesAll 23 = .ok (.invokestatic 595, 3) := dk_184 2 83 (dk_at dksX0_takesAll_1 0 rfl rfl)
theorem dX0_takesAll_26 : decode cX0_takesAll 26 = .ok (.iinc 1 1, 3) := dk_132 1 1 (dk_at dksX0_takesAll_1 3 rfl rfl)
theorem dX0_takesAll_29 : decode cX0_takesAll 29 = .ok (.goto (-27), 3) := dk_167 255 229 (dk_at dksX0_takesAll_1 6 rfl rfl)
theorem dX0_takesAll_32 : decode cX0_takesAll 32 = .ok (.aload_n 0, 1) := dk_42 (dk_at dksX0_takesAll_1 9 rfl rfl)
theorem dX0_takesAll_33 : decode cX0_takesAll 33 = .ok (.getfield 167, 3) := dk_180 0 167 (dk_at dksX0_takesAll_1 10 rfl rfl)
theorem dX0_takesAll_36 : decode cX0_takesAll 36 = .ok (.aload_n 0, 1) := dk_42 (dk_at dksX0_takesAll_1 13 rfl rfl)
theorem dX0_takesAll_37 : decode cX0_takesAll 37 = .ok (.getfield 160, 3) := dk_180 0 160 (dk_at dksX0_takesAll_1 14 rfl rfl)
theorem dX0_takesAll_40 : decode cX0_takesAll 40 = .ok (.invokevirtual 434, 3) := dk_182 1 178 (dk_at dksX0_takesAll_1 17 rfl rfl)
theorem dX0_takesAll_43 : decode cX0_takesAll 43 = .ok (.aload_n 0, 1) := dk_42 (dk_at dksX0_takesAll_1 20 rfl rfl)
theorem dX0_takesAll_44 : decode cX0_takesAll 44 = .ok (.aload_n 0, 1) := dk_42 (dk_at dksX0_takesAll_1 21 rfl rfl)
theorem dX0_takesAll_45 : decode cX0_takesAll 45 = .ok (.getfield 369, 3) := dk_180 1 113 (dk_at dksX0_takesAll_2 0 rfl rfl)
theorem dX0_takesAll_48 : decode cX0_takesAll 48 = .ok (.putfield 599, 3) := dk_181 2 87 (dk_at dksX0_takesAll_2 3 rfl rfl)
theorem dX0_takesAll_51 : decode cX0_takesAll 51 = .ok (.aload_n 0, 1) := dk_42 (dk_at dksX0_takesAll_2 6 rfl rfl)
theorem dX0_takesAll_52 : decode cX0_takesAll 52 = .ok (.aload_n 0, 1) := dk_42 (dk_at dksX0_takesAll_2 7 rfl rfl)
theorem dX0_takesAll_53 : decode cX0_takesAll 53 = .ok (.getfield 376, 3) := dk_180 1 120 (dk_at dksX0_takesAll_2 8 rfl rfl)
theorem dX0_takesAll_56 : decode cX0_takesAll 56 = .ok (.putfield 602, 3) := dk_181 2 90 (dk_at dksX0_takesAll_2 11 rfl rfl)
theorem dX0_takesAll_59 : decode cX0_takesAll 59 = .ok (.aload_n 0, 1) := dk_42 (dk_at dksX0_takesAll_2 14 rfl rfl)
theorem dX0_takesAll_60 : decode cX0_takesAll 60 = .ok (.aload_n 0, 1) := dk_42 (dk_at dksX0_takesAll_2 15 rfl rfl)
theorem dX0_takesAll_61 : decode cX0_takesAll 61 = .ok (.getfield 463, 3) := dk_180 1 207 (dk_at dksX0_takesAll_2 16 rfl rfl)
theorem dX0_takesAll_64 : decode cX0_takesAll 64 = .ok (.putfield 605, 3) := dk_181 2 93 (dk_at dksX0_takesAll_2 19 rfl rfl)
theorem dX0_takesAll_67 : decode cX0_takesAll 67 = .ok (.aload_n 0, 1) := dk_42 (dk_at dksX0_takesAll_2 22 rfl rfl)
theorem dX0_takesAll_68 : decode cX0_takesAll 68 = .ok (.aload_n 0, 1) := dk_42 (dk_at dksX0_takesAll_2 23 rfl rfl)
theorem dX0_takesAll_69 : decode cX0_takesAll 69 = .ok (.getfield 380, 3) := dk_180 1 124 (dk_at dksX0_takesAll_3 0 rfl rfl)
theorem dX0_takesAll_72 : decode cX0_takesAll 72 = .ok (.putfield 608, 3) := dk_181 2 96 (dk_at dksX0_takesAll_3 3 rfl rfl)
theorem dX0_takesAll_75 : decode cX0_takesAll 75 = .ok (.aload_n 0, 1) := dk_42 (dk_at dksX0_takesAll_3 6 rfl rfl)
theorem dX0_takesAll_76 : decode cX0_takesAll 76 = .ok (.aload_n 0, 1) := dk_42 (dk_at dksX0_takesAll_3 7 rfl rfl)
theorem dX0_takesAll_77 : decode cX0_takesAll 77 = .ok (.getfield 129, 3) := dk_180 0 129 (dk_at dksX0_takesAll_3 8 rfl rfl)
theorem dX0_takesAll_80 : decode cX0_takesAll 80 = .ok (.putfield 611, 3) := dk_181 2 99 (dk_at dksX0_takesAll_3 11 rfl rfl)
theorem dX0_takesAll_83 : decode cX0_takesAll 83 = .ok (.aload_n 0, 1) := dk_42 (dk_at dksX0_takesAll_3 14 rfl rfl)
theorem dX0_takesAll_84 : decode cX0_takesAll 84 = .ok (.aload_n 0, 1) := dk_42 (dk_at dksX0_takesAll_3 15 rfl rfl)
theorem dX0_takesAll_85 : decode cX0_takesAll 85 = .ok (.getfield 135, 3) := dk_180 0 135 (dk_at dksX0_takesAll_3 16 rfl rfl)
theorem dX0_takesAll_88 : decode cX0_takesAll 88 = .ok (.putfield 614, 3) := dk_181 2 102 (dk_at dksX0_takesAll_3 19 rfl rfl)
theorem dX0_takesAll_91 : decode cX0_takesAll 91 = .ok (.aload_n 0, 1) := dk_42 (dk_at dksX0_takesAll_3 22 rfl rfl)
theorem dX0_takesAll_92 : decode cX0_takesAll 92 = .ok (.aload_n 0, 1) := dk_42 (dk_at dksX0_takesAll_3 23 rfl rfl)
theorem dX0_takesAll_93 : decode cX0_takesAll 93 = .ok (.getfield 139, 3) := dk_180 0 139 (dk_at dksX0_takesAll_4 0 rfl rfl)
theorem dX0_takesAll_96 : decode cX0_takesAll 96 = .ok (.putfield 617, 3) := dk_181 2 105 (dk_at dksX0_takesAll_4 3 rfl rfl)
theorem dX0_takesAll_99 : decode cX0_takesAll 99 = .ok (.aload_n 0, 1) := dk_42 (dk_at dksX0_takesAll_4 6 rfl rfl)
theorem dX0_takesAll_100 : decode cX0_takesAll 100 = .ok (.aload_n 0, 1) := dk_42 (dk_at dksX0_takesAll_4 7 rfl rfl)
theorem dX0_takesAll_101 : decode cX0_takesAll 101 = .ok (.getfield 179, 3) := dk_180 0 179 (dk_at dksX0_takesAll_4 8 rfl rfl)
theorem dX0_takesAll_104 : decode cX0_takesAll 104 = .ok (.putfield 620, 3) := dk_181 2 108 (dk_at dksX0_takesAll_4 11 rfl rfl)
theorem dX0_takesAll_107 : decode cX0_takesAll 107 = .ok (.aload_n 0, 1) := dk_42 (dk_at dksX0_takesAll_4 14 rfl rfl)
theorem dX0_takesAll_108 : decode cX0_takesAll 108 = .ok (.aload_n 0, 1) := dk_42 (dk_at dksX0_takesAll_4 15 rfl rfl)
theorem dX0_takesAll_109 : decode cX0_takesAll 109 = .ok (.getfield 119, 3) := dk_180 0 119 (dk_at dksX0_takesAll_4 16 rfl rfl)
theorem dX0_takesAll_112 : decode cX0_takesAll 112 = .ok (.putfield 623, 3) := dk_181 2 111 (dk_at dksX0_takesAll_4 19 rfl rfl)
theorem dX0_takesAll_115 : decode cX0_takesAll 115 = .ok (.return_, 1) := dk_177 (dk_at dksX0_takesAll_4 22 rfl rfl)
abbrev cX0_goesBack : ByteArray := prog_1_method_100_code
def yX0_goesBack : MethodName := ⟨RX0, "goesBack", "()V"⟩
def dkwX0_goesBack_5 : List UInt8 := [181, 1, 139, 177]
abbrev dktX0_goesBack_5 : List UInt8 := dkwX0_goesBack_5 ++ []
def dkwX0_goesBack_4 : List UInt8 := [180, 2, 105, 181, 0, 139, 42, 42, 180, 2, 108, 181, 0, 179, 42, 42, 180, 2, 111, 181, 0, 119, 42, 3]
abbrev dktX0_goesBack_4 : List UInt8 := dkwX0_goesBack_4 ++ dktX0_goesBack_5
def dkwX0_goesBack_3 : List UInt8 := [180, 2, 96, 181, 1, 124, 42, 42, 180, 2, 99, 181, 0, 129, 42, 42, 180, 2, 102, 181, 0, 135, 42, 42]
abbrev dktX0_goesBack_3 : List UInt8 := dkwX0_goesBack_3 ++ dktX0_goesBack_4
def dkwX0_goesBack_2 : List UInt8 := [180, 2, 87, 181, 1, 113, 42, 42, 180, 2, 90, 181, 1, 120, 42, 42, 180, 2, 93, 181, 1, 207, 42, 42]
abbrev dktX0_goesBack_2 : List UInt8 := dkwX0_goesBack_2 ++ dktX0_goesBack_3
def dkwX0_goesBack_1 : List UInt8 := [184, 2, 83, 132, 1, 1, 167, 255, 229, 42, 180, 0, 160, 42, 180, 0, 167, 182, 1, 178, 42, 42]
abbrev dktX0_goesBack_1 : List UInt8 := dkwX0_goesBack_1 ++ dktX0_goesBack_2
def dkwX0_goesBack_0 : List UInt8 := [3, 60, 27, 42, 180, 0, 193, 190, 162, 0, 24, 42, 180, 0, 197, 27, 50, 42, 180, 0, 193, 27, 50]
abbrev dktX0_goesBack_0 : List UInt8 := dkwX0_goesBack_0 ++ dktX0_goesBack_1
theorem dksX0_goesBack_0 : cX0_goesBack.data.toList.drop 0 = dktX0_goesBack_0 := by decide +kernel
theorem dksX0_goesBack_1 : cX0_goesBack.data.toList.drop 23 = dktX0_goesBack_1 := dk_seg dksX0_goesBack_0 23 rfl rfl
theorem dksX0_goesBack_2 : cX0_goesBack.data.toList.drop 45 = dktX0_goesBack_2 := dk_seg dksX0_goesBack_1 22 rfl rfl
theorem dksX0_goesBack_3 : cX0_goesBack.data.toList.drop 69 = dktX0_goesBack_3 := dk_seg dksX0_goesBack_2 24 rfl rfl
theorem dksX0_goesBack_4 : cX0_goesBack.data.toList.drop 93 = dktX0_goesBack_4 := dk_seg dksX0_goesBack_3 24 rfl rfl
theorem dksX0_goesBack_5 : cX0_goesBack.data.toList.drop 117 = dktX0_goesBack_5 := dk_seg dksX0_goesBack_4 24 rfl rfl
theorem dX0_goesBack_0 : decode cX0_goesBack 0 = .ok (.iconst 0, 1) := dk_3 (dk_at dksX0_goesBack_0 0 rfl rfl)
theorem dX0_goesBack_1 : decode cX0_goesBack 1 = .ok (.istore_n 1, 1) := dk_60 (dk_at dksX0_goesBack_0 1 rfl rfl)
theorem dX0_goesBack_2 : decode cX0_goesBack 2 = .ok (.iload_n 1, 1) := dk_27 (dk_at dksX0_goesBack_0 2 rfl rfl)
theorem dX0_goesBack_3 : decode cX0_goesBack 3 = .ok (.aload_n 0, 1) := dk_42 (dk_at dksX0_goesBack_0 3 rfl rfl)
theorem dX0_goesBack_4 : decode cX0_goesBack 4 = .ok (.getfield 193, 3) := dk_180 0 193 (dk_at dksX0_goesBack_0 4 rfl rfl)
theorem dX0_goesBack_7 : decode cX0_goesBack 7 = .ok (.arraylength, 1) := dk_190 (dk_at dksX0_goesBack_0 7 rfl rfl)
theorem dX0_goesBack_8 : decode cX0_goesBack 8 = .ok (.if_icmp .ge 24, 3) := dk_162 0 24 (dk_at dksX0_goesBack_0 8 rfl rfl)
theorem dX0_goesBack_11 : decode cX0_goesBack 11 = .ok (.aload_n 0, 1) := dk_42 (dk_at dksX0_goesBack_0 11 rfl rfl)
theorem dX0_goesBack_12 : decode cX0_goesBack 12 = .ok (.getfield 197, 3) := dk_180 0 197 (dk_at dksX0_goesBack_0 12 rfl rfl)
theorem dX0_goesBack_15 : decode cX0_goesBack 15 = .ok (.iload_n 1, 1) := dk_27 (dk_at dksX0_goesBack_0 15 rfl rfl)
theorem dX0_goesBack_16 : decode cX0_goesBack 16 = .ok (.aaload, 1) := dk_50 (dk_at dksX0_goesBack_0 16 rfl rfl)
theorem dX0_goesBack_17 : decode cX0_goesBack 17 = .ok (.aload_n 0, 1) := dk_42 (dk_at dksX0_goesBack_0 17 rfl rfl)
theorem dX0_goesBack_18 : decode cX0_goesBack 18 = .ok (.getfield 193, 3) := dk_180 0 193 (dk_at dksX0_goesBack_0 18 rfl rfl)
theorem dX0_goesBack_21 : decode cX0_goesBack 21 = .ok (.iload_n 1, 1) := dk_27 (dk_at dksX0_goesBack_0 21 rfl rfl)
theorem dX0_goesBack_22 : decode cX0_goesBack 22 = .ok (.aaload, 1) := dk_50 (dk_at dksX0_goesBack_0 22 rfl rfl)
theorem dX0_goesBack_23 : decode cX0_goesBack 23 = .ok (.invokestatic 595, 3) := dk_184 2 83 (dk_at dksX0_goesBack_1 0 rfl rfl)
theorem dX0_goesBack_26 : decode cX0_goesBack 26 = .ok (.iinc 1 1, 3) := dk_132 1 1 (dk_at dksX0_goesBack_1 3 rfl rfl)
theorem dX0_goesBack_29 : decode cX0_goesBack 29 = .ok (.goto (-27), 3) := dk_167 255 229 (dk_at dksX0_goesBack_1 6 rfl rfl)
theorem dX0_goesBack_32 : decode cX0_goesBack 32 = .ok (.aload_n 0, 1) := dk_42 (dk_at dksX0_goesBack_1 9 rfl rfl)
theorem dX0_goesBack_33 : decode cX0_goesBack 33 = .ok (.getfield 160, 3) := dk_180 0 160 (dk_at dksX0_goesBack_1 10 rfl rfl)
theorem dX0_goesBack_36 : decode cX0_goesBack 36 = .ok (.aload_n 0, 1) := dk_42 (dk_at dksX0_goesBack_1 13 rfl rfl)
theorem dX0_goesBack_37 : decode cX0_goesBack 37 = .ok (.getfield 167, 3) := dk_180 0 167 (dk_at dksX0_goesBack_1 14 rfl rfl)
theorem dX0_goesBack_40 : decode cX0_goesBack 40 = .ok (.invokevirtual 434, 3) := dk_182 1 178 (dk_at dksX0_goesBack_1 17 rfl rfl)
theorem dX0_goesBack_43 : decode cX0_goesBack 43 = .ok (.aload_n 0, 1) := dk_42 (dk_at dksX0_goesBack_1 20 rfl rfl)
theorem dX0_goesBack_44 : decode cX0_goesBack 44 = .ok (.aload_n 0, 1) := dk_42 (dk_at dksX0_goesBack_1 21 rfl rfl)
theorem dX0_goesBack_45 : decode cX0_goesBack 45 = .ok (.getfield 599, 3) := dk_180 2 87 (dk_at dksX0_goesBack_2 0 rfl rfl)
theorem dX0_goesBack_48 : decode cX0_goesBack 48 = .ok (.putfield 369, 3) := dk_181 1 113 (dk_at dksX0_goesBack_2 3 rfl rfl)
theorem dX0_goesBack_51 : decode cX0_goesBack 51 = .ok (.aload_n 0, 1) := dk_42 (dk_at dksX0_goesBack_2 6 rfl rfl)
theorem dX0_goesBack_52 : decode cX0_goesBack 52 = .ok (.aload_n 0, 1) := dk_42 (dk_at dksX0_goesBack_2 7 rfl rfl)
theorem dX0_goesBack_53 : decode cX0_goesBack 53 = .ok (.getfield 602, 3) := dk_180 2 90 (dk_at dksX0_goesBack_2 8 rfl rfl)
theorem dX0_goesBack_56 : decode cX0_goesBack 56 = .ok (.putfield 376, 3) := dk_181 1 120 (dk_at dksX0_goesBack_2 11 rfl rfl)
theorem dX0_goesBack_59 : decode cX0_goesBack 59 = .ok (.aload_n 0, 1) := dk_42 (dk_at dksX0_goesBack_2 14 rfl rfl)
theorem dX0_goesBack_60 : decode cX0_goesBack 60 = .ok (.aload_n 0, 1) := dk_42 (dk_at dksX0_goesBack_2 15 rfl rfl)
theorem dX0_goesBack_61 : decode cX0_goesBack 61 = .ok (.getfield 605, 3) := dk_180 2 93 (dk_at dksX0_goesBack_2 16 rfl rfl)
theorem dX0_goesBack_64 : decode cX0_goesBack 64 = .ok (.putfield 463, 3) := dk_181 1 207 (dk_at dksX0_goesBack_2 19 rfl rfl)
theorem dX0_goesBack_67 : decode cX0_goesBack 67 = .ok (.aload_n 0, 1) := dk_42 (dk_at dksX0_goesBack_2 22 rfl rfl)
theorem dX0_goesBack_68 : decode cX0_goesBack 68 = .ok (.aload_n 0, 1) := dk_42 (dk_at dksX0_goesBack_2 23 rfl rfl)
theorem dX0_goesBack_69 : decode cX0_goesBack 69 = .ok (.getfield 608, 3) := dk_180 2 96 (dk_at dksX0_goesBack_3 0 rfl rfl)
theorem dX0_goesBack_72 : decode cX0_goesBack 72 = .ok (.putfield 380, 3) := dk_181 1 124 (dk_at dksX0_goesBack_3 3 rfl rfl)
theorem dX0_goesBack_75 : decode cX0_goesBack 75 = .ok (.aload_n 0, 1) := dk_42 (dk_at dksX0_goesBack_3 6 rfl rfl)
theorem dX0_goesBack_76 : decode cX0_goesBack 76 = .ok (.aload_n 0, 1) := dk_42 (dk_at dksX0_goesBack_3 7 rfl rfl)
theorem dX0_goesBack_77 : decode cX0_goesBack 77 = .ok (.getfield 611, 3) := dk_180 2 99 (dk_at dksX0_goesBack_3 8 rfl rfl)
theorem dX0_goesBack_80 : decode cX0_goesBack 80 = .ok (.putfield 129, 3) := dk_181 0 129 (dk_at dksX0_goesBack_3 11 rfl rfl)
theorem dX0_goesBack_83 : decode cX0_goesBack 83 = .ok (.aload_n 0, 1) := dk_42 (dk_at dksX0_goesBack_3 14 rfl rfl)
theorem dX0_goesBack_84 : decode cX0_goesBack 84 = .ok (.aload_n 0, 1) := dk_42 (dk_at dksX0_goesBack_3 15 rfl rfl)
theorem dX0_goesBack_85 : decode cX0_goesBack 85 = .ok (.getfield 614, 3) := dk_180 2 102 (dk_at dksX0_goesBack_3 16 rfl rfl)
theorem dX0_goesBack_88 : decode cX0_goesBack 88 = .ok (.putfield 135, 3) := dk_181 0 135 (dk_at dksX0_goesBack_3 19 rfl rfl)
theorem dX0_goesBack_91 : decode cX0_goesBack 91 = .ok (.aload_n 0, 1) := dk_42 (dk_at dksX0_goesBack_3 22 rfl rfl)
theorem dX0_goesBack_92 : decode cX0_goesBack 92 = .ok (.aload_n 0, 1) := dk_42 (dk_at dksX0_goesBack_3 23 rfl rfl)
theorem dX0_goesBack_93 : decode cX0_goesBack 93 = .ok (.getfield 617, 3) := dk_180 2 105 (dk_at dksX0_goesBack_4 0 rfl rfl)
theorem dX0_goesBack_96 : decode cX0_goesBack 96 = .ok (.putfield 139, 3) := dk_181 0 139 (dk_at dksX0_goesBack_4 3 rfl rfl)
theorem dX0_goesBack_99 : decode cX0_goesBack 99 = .ok (.aload_n 0, 1) := dk_42 (dk_at dksX0_goesBack_4 6 rfl rfl)
theorem dX0_goesBack_100 : decode cX0_goesBack 100 = .ok (.aload_n 0, 1) := dk_42 (dk_at dksX0_goesBack_4 7 rfl rfl)
theorem dX0_goesBack_101 : decode cX0_goesBack 101 = .ok (.getfield 620, 3) := dk_180 2 108 (dk_at dksX0_goesBack_4 8 rfl rfl)
theorem dX0_goesBack_104 : decode cX0_goesBack 104 = .ok (.putfield 179, 3) := dk_181 0 179 (dk_at dksX0_goesBack_4 11 rfl rfl)
theorem dX0_goesBack_107 : decode cX0_goesBack 107 = .ok (.aload_n 0, 1) := dk_42 (dk_at dksX0_goesBack_4 14 rfl rfl)
theorem dX0_goesBack_108 : decode cX0_goesBack 108 = .ok (.aload_n 0, 1) := dk_42 (dk_at dksX0_goesBack_4 15 rfl rfl)
theorem dX0_goesBack_109 : decode cX0_goesBack 109 = .ok (.getfield 623, 3) := dk_180 2 111 (dk_at dksX0_goesBack_4 16 rfl rfl)
theorem dX0_goesBack_112 : decode cX0_goesBack 112 = .ok (.putfield 119, 3) := dk_181 0 119 (dk_at dksX0_goesBack_4 19 rfl rfl)
theorem dX0_goesBack_115 : decode cX0_goesBack 115 = .ok (.aload_n 0, 1) := dk_42 (dk_at dksX0_goesBack_4 22 rfl rfl)
theorem dX0_goesBack_116 : decode cX0_goesBack 116 = .ok (.iconst 0, 1) := dk_3 (dk_at dksX0_goesBack_4 23 rfl rfl)
theorem dX0_goesBack_117 : decode cX0_goesBack 117 = .ok (.putfield 395, 3) := dk_181 1 139 (dk_at dksX0_goesBack_5 0 rfl rfl)
theorem dX0_goesBack_120 : decode cX0_goesBack 120 = .ok (.return_, 1) := dk_177 (dk_at dksX0_goesBack_5 3 rfl rfl)
abbrev cX0_look : ByteArray := prog_1_method_102_code
def yX0_look : MethodName := ⟨RX0, "look", "(I)I"⟩
def dkwX0_look_7 : List UInt8 := [172]
abbrev dktX0_look_7 : List UInt8 := dkwX0_look_7 ++ []
def dkwX0_look_6 : List UInt8 := [180, 0, 135, 190, 172, 42, 180, 1, 124, 172, 42, 180, 0, 179, 190, 172, 42, 180, 1, 139, 172, 19, 1, 250]
abbrev dktX0_look_6 : List UInt8 := dkwX0_look_6 ++ dktX0_look_7
def dkwX0_look_5 : List UInt8 := [172, 42, 180, 0, 160, 180, 1, 182, 172, 42, 180, 0, 119, 180, 1, 80, 172, 42, 180, 0, 129, 190, 172, 42]
abbrev dktX0_look_5 : List UInt8 := dkwX0_look_5 ++ dktX0_look_6
def dkwX0_look_4 : List UInt8 := [172, 42, 180, 0, 160, 180, 2, 122, 172, 42, 180, 0, 160, 180, 1, 187, 172, 42, 180, 0, 160, 180, 1, 172]
abbrev dktX0_look_4 : List UInt8 := dkwX0_look_4 ++ dktX0_look_5
def dkwX0_look_3 : List UInt8 := [180, 1, 175, 172, 42, 180, 0, 160, 180, 1, 219, 172, 42, 180, 1, 207, 172, 42, 180, 0, 160, 180, 2, 120]
abbrev dktX0_look_3 : List UInt8 := dkwX0_look_3 ++ dktX0_look_4
def dkwX0_look_2 : List UInt8 := [42, 180, 1, 113, 172, 42, 180, 1, 120, 172, 42, 180, 0, 160, 180, 1, 210, 172, 42, 180, 0, 160]
abbrev dktX0_look_2 : List UInt8 := dkwX0_look_2 ++ dktX0_look_3
def dkwX0_look_1 : List UInt8 := [170, 0, 0, 0, 0, 0, 198, 0, 0, 0, 0, 0, 0, 0, 16, 0, 0, 0, 83, 0, 0, 0, 88, 0, 0, 0, 93, 0, 0, 0, 101, 0, 0, 0, 109, 0, 0, 0, 117, 0, 0, 0, 122, 0, 0, 0, 130, 0, 0, 0, 138, 0, 0, 0, 146, 0, 0, 0, 154, 0, 0, 0, 162, 0, 0, 0, 170, 0, 0, 0, 176, 0, 0, 0, 182, 0, 0, 0, 187, 0, 0, 0, 193]
abbrev dktX0_look_1 : List UInt8 := dkwX0_look_1 ++ dktX0_look_2
def dkwX0_look_0 : List UInt8 := [27]
abbrev dktX0_look_0 : List UInt8 := dkwX0_look_0 ++ dktX0_look_1
theorem dksX0_look_0 : cX0_look.data.toList.drop 0 = dktX0_look_0 := by decide +kernel
theorem dksX0_look_1 : cX0_look.data.toList.drop 1 = dktX0_look_1 := dk_seg dksX0_look_0 1 rfl rfl
theorem dksX0_look_2 : cX0_look.data.toList.drop 84 = dktX0_look_2 := dk_seg dksX0_look_1 83 rfl rfl
theorem dksX0_look_3 : cX0_look.data.toList.drop 106 = dktX0_look_3 := dk_seg dksX0_look_2 22 rfl rfl
theorem dksX0_look_4 : cX0_look.data.toList.drop 130 = dktX0_look_4 := dk_seg dksX0_look_3 24 rfl rfl
theorem dksX0_look_5 : cX0_look.data.toList.drop 154 = dktX0_look_5 := dk_seg dksX0_look_4 24 rfl rfl
theorem dksX0_look_6 : cX0_look.data.toList.drop 178 = dktX0_look_6 := dk_seg dksX0_look_5 24 rfl rfl
theorem dksX0_look_7 : cX0_look.data.toList.drop 202 = dktX0_look_7 := dk_seg dksX0_look_6 24 rfl rfl
theorem dX0_look_0 : decode cX0_look 0 = .ok (.iload_n 1, 1) := dk_27 (dk_at dksX0_look_0 0 rfl rfl)
theorem dX0_look_1 : decode cX0_look 1 = .ok (.tableswitch 198 0 16 #[83, 88, 93, 101, 109, 117, 122, 130, 138, 146, 154, 162, 170, 176, 182, 187, 193], 83) := by decide +kernel
theorem dX0_look_84 : decode cX0_look 84 = .ok (.aload_n 0, 1) := dk_42 (dk_at dksX0_look_2 0 rfl rfl)
theorem dX0_look_85 : decode cX0_look 85 = .ok (.getfield 369, 3) := dk_180 1 113 (dk_at dksX0_look_2 1 rfl rfl)
theorem dX0_look_88 : decode cX0_look 88 = .ok (.ireturn, 1) := dk_172 (dk_at dksX0_look_2 4 rfl rfl)
theorem dX0_look_89 : decode cX0_look 89 = .ok (.aload_n 0, 1) := dk_42 (dk_at dksX0_look_2 5 rfl rfl)
theorem dX0_look_90 : decode cX0_look 90 = .ok (.getfield 376, 3) := dk_180 1 120 (dk_at dksX0_look_2 6 rfl rfl)
theorem dX0_look_93 : decode cX0_look 93 = .ok (.ireturn, 1) := dk_172 (dk_at dksX0_look_2 9 rfl rfl)
theorem dX0_look_94 : decode cX0_look 94 = .ok (.aload_n 0, 1) := dk_42 (dk_at dksX0_look_2 10 rfl rfl)
theorem dX0_look_95 : decode cX0_look 95 = .ok (.getfield 160, 3) := dk_180 0 160 (dk_at dksX0_look_2 11 rfl rfl)
theorem dX0_look_98 : decode cX0_look 98 = .ok (.getfield 466, 3) := dk_180 1 210 (dk_at dksX0_look_2 14 rfl rfl)
theorem dX0_look_101 : decode cX0_look 101 = .ok (.ireturn, 1) := dk_172 (dk_at dksX0_look_2 17 rfl rfl)
theorem dX0_look_102 : decode cX0_look 102 = .ok (.aload_n 0, 1) := dk_42 (dk_at dksX0_look_2 18 rfl rfl)
theorem dX0_look_103 : decode cX0_look 103 = .ok (.getfield 160, 3) := dk_180 0 160 (dk_at dksX0_look_2 19 rfl rfl)
theorem dX0_look_106 : decode cX0_look 106 = .ok (.getfield 431, 3) := dk_180 1 175 (dk_at dksX0_look_3 0 rfl rfl)
theorem dX0_look_109 : decode cX0_look 109 = .ok (.ireturn, 1) := dk_172 (dk_at dksX0_look_3 3 rfl rfl)
theorem dX0_look_110 : decode cX0_look 110 = .ok (.aload_n 0, 1) := dk_42 (dk_at dksX0_look_3 4 rfl rfl)
theorem dX0_look_111 : decode cX0_look 111 = .ok (.getfield 160, 3) := dk_180 0 160 (dk_at dksX0_look_3 5 rfl rfl)
theorem dX0_look_114 : decode cX0_look 114 = .ok (.getfield 475, 3) := dk_180 1 219 (dk_at dksX0_look_3 8 rfl rfl)
theorem dX0_look_117 : decode cX0_look 117 = .ok (.ireturn, 1) := dk_172 (dk_at dksX0_look_3 11 rfl rfl)
theorem dX0_look_118 : decode cX0_look 118 = .ok (.aload_n 0, 1) := dk_42 (dk_at dksX0_look_3 12 rfl rfl)
theorem dX0_look_119 : decode cX0_look 119 = .ok (.getfield 463, 3) := dk_180 1 207 (dk_at dksX0_look_3 13 rfl rfl)
theorem dX0_look_122 : decode cX0_look 122 = .ok (.ireturn, 1) := dk_172 (dk_at dksX0_look_3 16 rfl rfl)
theorem dX0_look_123 : decode cX0_look 123 = .ok (.aload_n 0, 1) := dk_42 (dk_at dksX0_look_3 17 rfl rfl)
theorem dX0_look_124 : decode cX0_look 124 = .ok (.getfield 160, 3) := dk_180 0 160 (dk_at dksX0_look_3 18 rfl rfl)
theorem dX0_look_127 : decode cX0_look 127 = .ok (.getfield 632, 3) := dk_180 2 120 (dk_at dksX0_look_3 21 rfl rfl)
theorem dX0_look_130 : decode cX0_look 130 = .ok (.ireturn, 1) := dk_172 (dk_at dksX0_look_4 0 rfl rfl)
theorem dX0_look_131 : decode cX0_look 131 = .ok (.aload_n 0, 1) := dk_42 (dk_at dksX0_look_4 1 rfl rfl)
theorem dX0_look_132 : decode cX0_look 132 = .ok (.getfield 160, 3) := dk_180 0 160 (dk_at dksX0_look_4 2 rfl rfl)
theorem dX0_look_135 : decode cX0_look 135 = .ok (.getfield 634, 3) := dk_180 2 122 (dk_at dksX0_look_4 5 rfl rfl)
theorem dX0_look_138 : decode cX0_look 138 = .ok (.ireturn, 1) := dk_172 (dk_at dksX0_look_4 8 rfl rfl)
theorem dX0_look_139 : decode cX0_look 139 = .ok (.aload_n 0, 1) := dk_42 (dk_at dksX0_look_4 9 rfl rfl)
theorem dX0_look_140 : decode cX0_look 140 = .ok (.getfield 160, 3) := dk_180 0 160 (dk_at dksX0_look_4 10 rfl rfl)
theorem dX0_look_143 : decode cX0_look 143 = .ok (.getfield 443, 3) := dk_180 1 187 (dk_at dksX0_look_4 13 rfl rfl)
theorem dX0_look_146 : decode cX0_look 146 = .ok (.ireturn, 1) := dk_172 (dk_at dksX0_look_4 16 rfl rfl)
theorem dX0_look_147 : decode cX0_look 147 = .ok (.aload_n 0, 1) := dk_42 (dk_at dksX0_look_4 17 rfl rfl)
theorem dX0_look_148 : decode cX0_look 148 = .ok (.getfield 160, 3) := dk_180 0 160 (dk_at dksX0_look_4 18 rfl rfl)
theorem dX0_look_151 : decode cX0_look 151 = .ok (.getfield 428, 3) := dk_180 1 172 (dk_at dksX0_look_4 21 rfl rfl)
theorem dX0_look_154 : decode cX0_look 154 = .ok (.ireturn, 1) := dk_172 (dk_at dksX0_look_5 0 rfl rfl)
theorem dX0_look_155 : decode cX0_look 155 = .ok (.aload_n 0, 1) := dk_42 (dk_at dksX0_look_5 1 rfl rfl)
theorem dX0_look_156 : decode cX0_look 156 = .ok (.getfield 160, 3) := dk_180 0 160 (dk_at dksX0_look_5 2 rfl rfl)
theorem dX0_look_159 : decode cX0_look 159 = .ok (.getfield 438, 3) := dk_180 1 182 (dk_at dksX0_look_5 5 rfl rfl)
theorem dX0_look_162 : decode cX0_look 162 = .ok (.ireturn, 1) := dk_172 (dk_at dksX0_look_5 8 rfl rfl)
theorem dX0_look_163 : decode cX0_look 163 = .ok (.aload_n 0, 1) := dk_42 (dk_at dksX0_look_5 9 rfl rfl)
theorem dX0_look_164 : decode cX0_look 164 = .ok (.getfield 119, 3) := dk_180 0 119 (dk_at dksX0_look_5 10 rfl rfl)
theorem dX0_look_167 : decode cX0_look 167 = .ok (.getfield 336, 3) := dk_180 1 80 (dk_at dksX0_look_5 13 rfl rfl)
theorem dX0_look_170 : decode cX0_look 170 = .ok (.ireturn, 1) := dk_172 (dk_at dksX0_look_5 16 rfl rfl)
theorem dX0_look_171 : decode cX0_look 171 = .ok (.aload_n 0, 1) := dk_42 (dk_at dksX0_look_5 17 rfl rfl)
theorem dX0_look_172 : decode cX0_look 172 = .ok (.getfield 129, 3) := dk_180 0 129 (dk_at dksX0_look_5 18 rfl rfl)
theorem dX0_look_175 : decode cX0_look 175 = .ok (.arraylength, 1) := dk_190 (dk_at dksX0_look_5 21 rfl rfl)
theorem dX0_look_176 : decode cX0_look 176 = .ok (.ireturn, 1) := dk_172 (dk_at dksX0_look_5 22 rfl rfl)
theorem dX0_look_177 : decode cX0_look 177 = .ok (.aload_n 0, 1) := dk_42 (dk_at dksX0_look_5 23 rfl rfl)
theorem dX0_look_178 : decode cX0_look 178 = .ok (.getfield 135, 3) := dk_180 0 135 (dk_at dksX0_look_6 0 rfl rfl)
theorem dX0_look_181 : decode cX0_look 181 = .ok (.arraylength, 1) := dk_190 (dk_at dksX0_look_6 3 rfl rfl)
theorem dX0_look_182 : decode cX0_look 182 = .ok (.ireturn, 1) := dk_172 (dk_at dksX0_look_6 4 rfl rfl)
theorem dX0_look_183 : decode cX0_look 183 = .ok (.aload_n 0, 1) := dk_42 (dk_at dksX0_look_6 5 rfl rfl)
theorem dX0_look_184 : decode cX0_look 184 = .ok (.getfield 380, 3) := dk_180 1 124 (dk_at dksX0_look_6 6 rfl rfl)
theorem dX0_look_187 : decode cX0_look 187 = .ok (.ireturn, 1) := dk_172 (dk_at dksX0_look_6 9 rfl rfl)
theorem dX0_look_188 : decode cX0_look 188 = .ok (.aload_n 0, 1) := dk_42 (dk_at dksX0_look_6 10 rfl rfl)
theorem dX0_look_189 : decode cX0_look 189 = .ok (.getfield 179, 3) := dk_180 0 179 (dk_at dksX0_look_6 11 rfl rfl)
theorem dX0_look_192 : decode cX0_look 192 = .ok (.arraylength, 1) := dk_190 (dk_at dksX0_look_6 14 rfl rfl)
theorem dX0_look_193 : decode cX0_look 193 = .ok (.ireturn, 1) := dk_172 (dk_at dksX0_look_6 15 rfl rfl)
theorem dX0_look_194 : decode cX0_look 194 = .ok (.aload_n 0, 1) := dk_42 (dk_at dksX0_look_6 16 rfl rfl)
theorem dX0_look_195 : decode cX0_look 195 = .ok (.getfield 395, 3) := dk_180 1 139 (dk_at dksX0_look_6 17 rfl rfl)
theorem dX0_look_198 : decode cX0_look 198 = .ok (.ireturn, 1) := dk_172 (dk_at dksX0_look_6 20 rfl rfl)
theorem dX0_look_199 : decode cX0_look 199 = .ok (.ldc_w 506, 3) := dk_19 1 250 (dk_at dksX0_look_6 21 rfl rfl)
theorem dX0_look_202 : decode cX0_look 202 = .ok (.ireturn, 1) := dk_172 (dk_at dksX0_look_7 0 rfl rfl)
theorem q134 : (Jvm.Cond.initialized "Encores") ∈ lw_all := lw_g (lw_at lw_m1 1 rfl) rfl
theorem q162 : (Jvm.Cond.instantiable "Encores" (52 : Nat)) ∈ lw_all := lw_g (lw_at lw_m1 29 rfl) rfl
theorem q164 : (Jvm.Cond.instanceMethod ({ cls := "Encores", name := "<init>", desc := "()V" } : Jvm.MethodName)) ∈ lw_all := lw_g (lw_at lw_m1 31 rfl) rfl
theorem q165 : (Jvm.Cond.code ({ cls := "Encores", name := "<init>", desc := "()V" } : Jvm.MethodName) prog_1_method_7_code (2 : Nat) (Option.none : Option Jvm.ClassFile.FieldType)) ∈ lw_all := lw_g (lw_at lw_m1 32 rfl) rfl
theorem q166 : (Jvm.Cond.methodLink "Encores" (30 : Nat) ({ cls := "java/lang/Object", name := "<init>", desc := "()V" } : Jvm.MethodName)) ∈ lw_all := lw_g (lw_at lw_m1 33 rfl) rfl
theorem q169 : (Jvm.Cond.classLink "Encores" (40 : Nat) "[Ljava/lang/String;") ∈ lw_all := lw_g (lw_at lw_m1 36 rfl) rfl
theorem q172 : (Jvm.Cond.classLink "Encores" (42 : Nat) "java/lang/String") ∈ lw_all := lw_g (lw_at lw_m1 39 rfl) rfl
theorem q173 : (Jvm.Cond.stringRef "Encores" (44 : Nat) "loud") ∈ lw_tbl := lw_at lw_m1 40 rfl
theorem q174 : (Jvm.Cond.stringRef "Encores" (46 : Nat) "clap") ∈ lw_tbl := lw_at lw_m1 41 rfl
theorem q175 : (Jvm.Cond.stringRef "Encores" (48 : Nat) "wears") ∈ lw_tbl := lw_at lw_m1 42 rfl
theorem q176 : (Jvm.Cond.stringRef "Encores" (50 : Nat) "hands") ∈ lw_tbl := lw_at lw_m1 43 rfl
theorem q177 : (Jvm.Cond.stringRef "Encores" (52 : Nat) "most") ∈ lw_tbl := lw_at lw_m1 44 rfl
theorem q178 : (Jvm.Cond.stringRef "Encores" (54 : Nat) "double") ∈ lw_tbl := lw_at lw_m1 45 rfl
theorem q179 : (Jvm.Cond.stringRef "Encores" (56 : Nat) "end") ∈ lw_tbl := lw_at lw_m1 46 rfl
theorem q180 : (Jvm.Cond.stringRef "Encores" (58 : Nat) "from") ∈ lw_tbl := lw_at lw_m1 47 rfl
theorem q181 : (Jvm.Cond.stringRef "Encores" (60 : Nat) "at") ∈ lw_tbl := lw_at lw_m1 48 rfl
theorem q182 : (Jvm.Cond.stringRef "Encores" (62 : Nat) "deed") ∈ lw_tbl := lw_at lw_m1 49 rfl
theorem q183 : (Jvm.Cond.stringRef "Encores" (64 : Nat) "hearer") ∈ lw_tbl := lw_at lw_m1 50 rfl
theorem q184 : (Jvm.Cond.stringRef "Encores" (66 : Nat) "beside") ∈ lw_tbl := lw_at lw_m1 51 rfl
theorem q185 : (Jvm.Cond.stringRef "Encores" (72 : Nat) "likes") ∈ lw_tbl := lw_at lw_m1 52 rfl
theorem q186 : (Jvm.Cond.stringRef "Encores" (74 : Nat) "manners") ∈ lw_tbl := lw_at lw_m1 53 rfl
theorem q187 : (Jvm.Cond.stringRef "Encores" (76 : Nat) "paid") ∈ lw_tbl := lw_at lw_m1 54 rfl
theorem q188 : (Jvm.Cond.stringRef "Encores" (78 : Nat) "worth") ∈ lw_tbl := lw_at lw_m1 55 rfl
theorem q189 : (Jvm.Cond.stringRef "Encores" (80 : Nat) "wear") ∈ lw_tbl := lw_at lw_m1 56 rfl
theorem q190 : (Jvm.Cond.stringRef "Encores" (82 : Nat) "agains") ∈ lw_tbl := lw_at lw_m1 57 rfl
theorem q191 : (Jvm.Cond.stringRef "Encores" (84 : Nat) "late") ∈ lw_tbl := lw_at lw_m1 58 rfl
theorem q192 : (Jvm.Cond.stringRef "Encores" (89 : Nat) "when") ∈ lw_tbl := lw_at lw_m1 59 rfl
theorem q193 : (Jvm.Cond.stringRef "Encores" (91 : Nat) "or") ∈ lw_tbl := lw_at lw_m1 60 rfl
theorem q194 : (Jvm.Cond.stringRef "Encores" (93 : Nat) "and") ∈ lw_tbl := lw_at lw_m1 61 rfl
theorem q195 : (Jvm.Cond.stringRef "Encores" (95 : Nat) "not") ∈ lw_tbl := lw_at lw_m1 62 rfl
theorem q196 : (Jvm.Cond.classLink "Encores" (116 : Nat) "Encores$Text") ∈ lw_all := lw_g (lw_at lw_m1 63 rfl) rfl
theorem q198 : (Jvm.Cond.methodLinkNest "Encores" (118 : Nat) ({ cls := "Encores$Text", name := "<init>", desc := "()V" } : Jvm.MethodName) "Encores") ∈ lw_tbl := lw_at lw_m1 65 rfl
theorem q205 : (Jvm.Cond.fieldLink "Encores" (342 : Nat) "Encores$Text" "word" "[I") ∈ lw_all := lw_g (lw_at lw_m1 72 rfl) rfl
theorem q207 : (Jvm.Cond.fieldLink "Encores" (345 : Nat) "Encores$Text" "worth" "[LEncores$Term;") ∈ lw_all := lw_g (lw_at lw_m1 74 rfl) rfl
theorem q209 : (Jvm.Cond.fieldLink "Encores" (348 : Nat) "Encores$Text" "when" "[LEncores$Term;") ∈ lw_all := lw_g (lw_at lw_m1 76 rfl) rfl
theorem q210 : (Jvm.Cond.fieldLink "Encores" (336 : Nat) "Encores$Text" "many" "I") ∈ lw_all := lw_g (lw_at lw_m1 77 rfl) rfl
theorem q222 : (Jvm.Cond.classLink "Encores" (127 : Nat) "Encores$Rule") ∈ lw_all := lw_g (lw_at lw_m1 89 rfl) rfl
theorem q224 : (Jvm.Cond.classLink "Encores" (133 : Nat) "Encores$Turn") ∈ lw_all := lw_g (lw_at lw_m1 91 rfl) rfl
theorem q226 : (Jvm.Cond.classLink "Encores" (155 : Nat) "Encores$Gallery") ∈ lw_all := lw_g (lw_at lw_m1 93 rfl) rfl
theorem q228 : (Jvm.Cond.methodLinkNest "Encores" (157 : Nat) ({ cls := "Encores$Gallery", name := "<init>", desc := "(LEncores;)V" } : Jvm.MethodName) "Encores") ∈ lw_tbl := lw_at lw_m1 95 rfl
theorem q233 : (Jvm.Cond.fieldLink "Encores" (441 : Nat) "Encores$Gallery" "paid" "[I") ∈ lw_all := lw_g (lw_at lw_m1 100 rfl) rfl
theorem q235 : (Jvm.Cond.fieldLink "Encores" (449 : Nat) "Encores$Gallery" "wear" "[I") ∈ lw_all := lw_g (lw_at lw_m1 102 rfl) rfl
theorem q237 : (Jvm.Cond.fieldLink "Encores" (451 : Nat) "Encores$Gallery" "done" "[I") ∈ lw_all := lw_g (lw_at lw_m1 104 rfl) rfl
theorem q240 : (Jvm.Cond.fieldLink "Encores" (443 : Nat) "Encores$Gallery" "there" "I") ∈ lw_all := lw_g (lw_at lw_m1 107 rfl) rfl
theorem q242 : (Jvm.Cond.fieldLink "Encores" (446 : Nat) "Encores$Gallery" "gloved" "I") ∈ lw_all := lw_g (lw_at lw_m1 109 rfl) rfl
theorem q244 : (Jvm.Cond.fieldLink "Encores" (466 : Nat) "Encores$Gallery" "minute" "I") ∈ lw_all := lw_g (lw_at lw_m1 111 rfl) rfl
theorem q246 : (Jvm.Cond.fieldLink "Encores" (431 : Nat) "Encores$Gallery" "evening" "I") ∈ lw_all := lw_g (lw_at lw_m1 113 rfl) rfl
theorem q248 : (Jvm.Cond.fieldLink "Encores" (475 : Nat) "Encores$Gallery" "coin" "I") ∈ lw_all := lw_g (lw_at lw_m1 115 rfl) rfl
theorem q250 : (Jvm.Cond.fieldLink "Encores" (632 : Nat) "Encores$Gallery" "latest" "I") ∈ lw_all := lw_g (lw_at lw_m1 117 rfl) rfl
theorem q252 : (Jvm.Cond.fieldLink "Encores" (634 : Nat) "Encores$Gallery" "agains" "I") ∈ lw_all := lw_g (lw_at lw_m1 119 rfl) rfl
theorem q254 : (Jvm.Cond.fieldLink "Encores" (438 : Nat) "Encores$Gallery" "state" "I") ∈ lw_all := lw_g (lw_at lw_m1 121 rfl) rfl
theorem q256 : (Jvm.Cond.fieldLink "Encores" (428 : Nat) "Encores$Gallery" "bookMany" "I") ∈ lw_all := lw_g (lw_at lw_m1 123 rfl) rfl
theorem q258 : (Jvm.Cond.fieldLink "Encores" (514 : Nat) "Encores$Gallery" "clapping" "I") ∈ lw_all := lw_g (lw_at lw_m1 125 rfl) rfl
theorem q260 : (Jvm.Cond.fieldLink "Encores" (517 : Nat) "Encores$Gallery" "rounds" "I") ∈ lw_all := lw_g (lw_at lw_m1 127 rfl) rfl
theorem q262 : (Jvm.Cond.fieldLink "Encores" (520 : Nat) "Encores$Gallery" "count" "I") ∈ lw_all := lw_g (lw_at lw_m1 129 rfl) rfl
theorem q303 : (Jvm.Cond.classLink "Encores" (177 : Nat) "Encores$Claque") ∈ lw_all := lw_g (lw_at lw_m1 170 rfl) rfl
theorem q305 : (Jvm.Cond.classLink "Encores" (192 : Nat) "[I") ∈ lw_all := lw_g (lw_at lw_m1 172 rfl) rfl
theorem q307 : (Jvm.Cond.fieldLink "Encores" (36 : Nat) "Encores" "tape" "[B") ∈ lw_all := lw_g (lw_at lw_m1 174 rfl) rfl
theorem q308 : (Jvm.Cond.fieldLink "Encores" (200 : Nat) "Encores" "taped" "I") ∈ lw_all := lw_g (lw_at lw_m1 175 rfl) rfl
theorem q309 : (Jvm.Cond.fieldLink "Encores" (68 : Nat) "Encores" "firstWords" "[[Ljava/lang/String;") ∈ lw_all := lw_g (lw_at lw_m1 176 rfl) rfl
theorem q310 : (Jvm.Cond.fieldLink "Encores" (86 : Nat) "Encores" "lawAsked" "[Ljava/lang/String;") ∈ lw_all := lw_g (lw_at lw_m1 177 rfl) rfl
theorem q311 : (Jvm.Cond.fieldLink "Encores" (97 : Nat) "Encores" "others" "[Ljava/lang/String;") ∈ lw_all := lw_g (lw_at lw_m1 178 rfl) rfl
theorem q312 : (Jvm.Cond.fieldLink "Encores" (100 : Nat) "Encores" "nothing" "[Ljava/lang/String;") ∈ lw_all := lw_g (lw_at lw_m1 179 rfl) rfl
theorem q313 : (Jvm.Cond.fieldLink "Encores" (103 : Nat) "Encores" "words" "[Ljava/lang/String;") ∈ lw_all := lw_g (lw_at lw_m1 180 rfl) rfl
theorem q314 : (Jvm.Cond.fieldLink "Encores" (106 : Nat) "Encores" "asked" "[Ljava/lang/String;") ∈ lw_all := lw_g (lw_at lw_m1 181 rfl) rfl
theorem q315 : (Jvm.Cond.fieldLink "Encores" (109 : Nat) "Encores" "joins" "[Ljava/lang/String;") ∈ lw_all := lw_g (lw_at lw_m1 182 rfl) rfl
theorem q316 : (Jvm.Cond.fieldLink "Encores" (227 : Nat) "Encores" "token" "LEncores$Token;") ∈ lw_all := lw_g (lw_at lw_m1 183 rfl) rfl
theorem q317 : (Jvm.Cond.fieldLink "Encores" (215 : Nat) "Encores" "spot" "I") ∈ lw_all := lw_g (lw_at lw_m1 184 rfl) rfl
theorem q318 : (Jvm.Cond.fieldLink "Encores" (218 : Nat) "Encores" "from" "I") ∈ lw_all := lw_g (lw_at lw_m1 185 rfl) rfl
theorem q319 : (Jvm.Cond.fieldLink "Encores" (243 : Nat) "Encores" "value" "I") ∈ lw_all := lw_g (lw_at lw_m1 186 rfl) rfl
theorem q320 : (Jvm.Cond.fieldLink "Encores" (306 : Nat) "Encores" "open" "I") ∈ lw_all := lw_g (lw_at lw_m1 187 rfl) rfl
theorem q321 : (Jvm.Cond.fieldLink "Encores" (408 : Nat) "Encores" "faultKind" "I") ∈ lw_all := lw_g (lw_at lw_m1 188 rfl) rfl
theorem q322 : (Jvm.Cond.fieldLink "Encores" (112 : Nat) "Encores" "faultPlace" "I") ∈ lw_all := lw_g (lw_at lw_m1 189 rfl) rfl
theorem q323 : (Jvm.Cond.fieldLink "Encores" (119 : Nat) "Encores" "law" "LEncores$Text;") ∈ lw_all := lw_g (lw_at lw_m1 190 rfl) rfl
theorem q325 : (Jvm.Cond.fieldLink "Encores" (123 : Nat) "Encores" "lawHas" "[I") ∈ lw_all := lw_g (lw_at lw_m1 192 rfl) rfl
theorem q326 : (Jvm.Cond.fieldLink "Encores" (129 : Nat) "Encores" "rules" "[LEncores$Rule;") ∈ lw_all := lw_g (lw_at lw_m1 193 rfl) rfl
theorem q327 : (Jvm.Cond.fieldLink "Encores" (135 : Nat) "Encores" "turns" "[LEncores$Turn;") ∈ lw_all := lw_g (lw_at lw_m1 194 rfl) rfl
theorem q329 : (Jvm.Cond.fieldLink "Encores" (139 : Nat) "Encores" "beside" "[I") ∈ lw_all := lw_g (lw_at lw_m1 196 rfl) rfl
theorem q331 : (Jvm.Cond.fieldLink "Encores" (380 : Nat) "Encores" "besideLines" "I") ∈ lw_all := lw_g (lw_at lw_m1 198 rfl) rfl
theorem q333 : (Jvm.Cond.fieldLink "Encores" (369 : Nat) "Encores" "hearers" "I") ∈ lw_all := lw_g (lw_at lw_m1 200 rfl) rfl
theorem q334 : (Jvm.Cond.fieldLink "Encores" (376 : Nat) "Encores" "deeds" "I") ∈ lw_all := lw_g (lw_at lw_m1 201 rfl) rfl
theorem q336 : (Jvm.Cond.fieldLink "Encores" (463 : Nat) "Encores" "coughs" "I") ∈ lw_all := lw_g (lw_at lw_m1 203 rfl) rfl
theorem q337 : (Jvm.Cond.fieldLink "Encores" (141 : Nat) "Encores" "hands" "[I") ∈ lw_all := lw_g (lw_at lw_m1 204 rfl) rfl
theorem q339 : (Jvm.Cond.fieldLink "Encores" (143 : Nat) "Encores" "likes" "[I") ∈ lw_all := lw_g (lw_at lw_m1 206 rfl) rfl
theorem q341 : (Jvm.Cond.fieldLink "Encores" (145 : Nat) "Encores" "manners" "[I") ∈ lw_all := lw_g (lw_at lw_m1 208 rfl) rfl
theorem q344 : (Jvm.Cond.fieldLink "Encores" (147 : Nat) "Encores" "worth" "[I") ∈ lw_all := lw_g (lw_at lw_m1 211 rfl) rfl
theorem q345 : (Jvm.Cond.fieldLink "Encores" (149 : Nat) "Encores" "lasting" "[I") ∈ lw_all := lw_g (lw_at lw_m1 212 rfl) rfl
theorem q347 : (Jvm.Cond.fieldLink "Encores" (152 : Nat) "Encores" "cost" "[I") ∈ lw_all := lw_g (lw_at lw_m1 214 rfl) rfl
theorem q349 : (Jvm.Cond.fieldLink "Encores" (160 : Nat) "Encores" "gallery" "LEncores$Gallery;") ∈ lw_all := lw_g (lw_at lw_m1 216 rfl) rfl
theorem q350 : (Jvm.Cond.fieldLink "Encores" (164 : Nat) "Encores" "thought" "LEncores$Gallery;") ∈ lw_all := lw_g (lw_at lw_m1 217 rfl) rfl
theorem q351 : (Jvm.Cond.fieldLink "Encores" (167 : Nat) "Encores" "kept" "LEncores$Gallery;") ∈ lw_all := lw_g (lw_at lw_m1 218 rfl) rfl
theorem q352 : (Jvm.Cond.fieldLink "Encores" (170 : Nat) "Encores" "book" "[I") ∈ lw_all := lw_g (lw_at lw_m1 219 rfl) rfl
theorem q353 : (Jvm.Cond.fieldLink "Encores" (173 : Nat) "Encores" "ahead" "[LEncores$Gallery;") ∈ lw_all := lw_g (lw_at lw_m1 220 rfl) rfl
theorem q354 : (Jvm.Cond.fieldLink "Encores" (395 : Nat) "Encores" "undoable" "I") ∈ lw_all := lw_g (lw_at lw_m1 221 rfl) rfl
theorem q355 : (Jvm.Cond.fieldLink "Encores" (179 : Nat) "Encores" "claques" "[LEncores$Claque;") ∈ lw_all := lw_g (lw_at lw_m1 222 rfl) rfl
theorem q356 : (Jvm.Cond.fieldLink "Encores" (183 : Nat) "Encores" "withHim" "[I") ∈ lw_all := lw_g (lw_at lw_m1 223 rfl) rfl
theorem q357 : (Jvm.Cond.fieldLink "Encores" (186 : Nat) "Encores" "meanings" "[I") ∈ lw_all := lw_g (lw_at lw_m1 224 rfl) rfl
theorem q358 : (Jvm.Cond.fieldLink "Encores" (189 : Nat) "Encores" "grundy" "[I") ∈ lw_all := lw_g (lw_at lw_m1 225 rfl) rfl
theorem q359 : (Jvm.Cond.fieldLink "Encores" (193 : Nat) "Encores" "rows" "[[I") ∈ lw_all := lw_g (lw_at lw_m1 226 rfl) rfl
theorem q360 : (Jvm.Cond.fieldLink "Encores" (197 : Nat) "Encores" "keptRows" "[[I") ∈ lw_all := lw_g (lw_at lw_m1 227 rfl) rfl
theorem q361 : (Jvm.Cond.fieldLink "Encores" (599 : Nat) "Encores" "keptHearers" "I") ∈ lw_all := lw_g (lw_at lw_m1 228 rfl) rfl
theorem q362 : (Jvm.Cond.fieldLink "Encores" (602 : Nat) "Encores" "keptDeeds" "I") ∈ lw_all := lw_g (lw_at lw_m1 229 rfl) rfl
theorem q363 : (Jvm.Cond.fieldLink "Encores" (605 : Nat) "Encores" "keptCoughs" "I") ∈ lw_all := lw_g (lw_at lw_m1 230 rfl) rfl
theorem q364 : (Jvm.Cond.fieldLink "Encores" (608 : Nat) "Encores" "keptLines" "I") ∈ lw_all := lw_g (lw_at lw_m1 231 rfl) rfl
theorem q365 : (Jvm.Cond.fieldLink "Encores" (611 : Nat) "Encores" "keptRules" "[LEncores$Rule;") ∈ lw_all := lw_g (lw_at lw_m1 232 rfl) rfl
theorem q366 : (Jvm.Cond.fieldLink "Encores" (614 : Nat) "Encores" "keptTurns" "[LEncores$Turn;") ∈ lw_all := lw_g (lw_at lw_m1 233 rfl) rfl
theorem q367 : (Jvm.Cond.fieldLink "Encores" (617 : Nat) "Encores" "keptBeside" "[I") ∈ lw_all := lw_g (lw_at lw_m1 234 rfl) rfl
theorem q368 : (Jvm.Cond.fieldLink "Encores" (620 : Nat) "Encores" "keptClaques" "[LEncores$Claque;") ∈ lw_all := lw_g (lw_at lw_m1 235 rfl) rfl
theorem q369 : (Jvm.Cond.fieldLink "Encores" (623 : Nat) "Encores" "keptLaw" "LEncores$Text;") ∈ lw_all := lw_g (lw_at lw_m1 236 rfl) rfl
theorem q370 : (Jvm.Cond.laysFinal "Encores" "Encores" "tape" "[B") ∈ lw_all := lw_g (lw_at lw_m1 237 rfl) rfl
theorem q371 : (Jvm.Cond.soleField "Encores" "tape") ∈ lw_all := lw_g (lw_at lw_m1 238 rfl) rfl
theorem q372 : (Jvm.Cond.lays "Encores" "Encores" "taped" "I") ∈ lw_all := lw_g (lw_at lw_m1 239 rfl) rfl
theorem q373 : (Jvm.Cond.soleField "Encores" "taped") ∈ lw_all := lw_g (lw_at lw_m2 0 rfl) rfl
theorem q374 : (Jvm.Cond.laysFinal "Encores" "Encores" "firstWords" "[[Ljava/lang/String;") ∈ lw_all := lw_g (lw_at lw_m2 1 rfl) rfl
theorem q375 : (Jvm.Cond.soleField "Encores" "firstWords") ∈ lw_all := lw_g (lw_at lw_m2 2 rfl) rfl
theorem q376 : (Jvm.Cond.laysFinal "Encores" "Encores" "lawAsked" "[Ljava/lang/String;") ∈ lw_all := lw_g (lw_at lw_m2 3 rfl) rfl
theorem q377 : (Jvm.Cond.soleField "Encores" "lawAsked") ∈ lw_all := lw_g (lw_at lw_m2 4 rfl) rfl
theorem q378 : (Jvm.Cond.laysFinal "Encores" "Encores" "others" "[Ljava/lang/String;") ∈ lw_all := lw_g (lw_at lw_m2 5 rfl) rfl
theorem q379 : (Jvm.Cond.soleField "Encores" "others") ∈ lw_all := lw_g (lw_at lw_m2 6 rfl) rfl
theorem q380 : (Jvm.Cond.laysFinal "Encores" "Encores" "nothing" "[Ljava/lang/String;") ∈ lw_all := lw_g (lw_at lw_m2 7 rfl) rfl
theorem q381 : (Jvm.Cond.soleField "Encores" "nothing") ∈ lw_all := lw_g (lw_at lw_m2 8 rfl) rfl
theorem q382 : (Jvm.Cond.lays "Encores" "Encores" "words" "[Ljava/lang/String;") ∈ lw_all := lw_g (lw_at lw_m2 9 rfl) rfl
theorem q383 : (Jvm.Cond.soleField "Encores" "words") ∈ lw_all := lw_g (lw_at lw_m2 10 rfl) rfl
theorem q384 : (Jvm.Cond.lays "Encores" "Encores" "asked" "[Ljava/lang/String;") ∈ lw_all := lw_g (lw_at lw_m2 11 rfl) rfl
theorem q385 : (Jvm.Cond.soleField "Encores" "asked") ∈ lw_all := lw_g (lw_at lw_m2 12 rfl) rfl
theorem q386 : (Jvm.Cond.lays "Encores" "Encores" "joins" "[Ljava/lang/String;") ∈ lw_all := lw_g (lw_at lw_m2 13 rfl) rfl
theorem q387 : (Jvm.Cond.soleField "Encores" "joins") ∈ lw_all := lw_g (lw_at lw_m2 14 rfl) rfl
theorem q388 : (Jvm.Cond.lays "Encores" "Encores" "token" "LEncores$Token;") ∈ lw_all := lw_g (lw_at lw_m2 15 rfl) rfl
theorem q389 : (Jvm.Cond.soleField "Encores" "token") ∈ lw_all := lw_g (lw_at lw_m2 16 rfl) rfl
theorem q390 : (Jvm.Cond.lays "Encores" "Encores" "spot" "I") ∈ lw_all := lw_g (lw_at lw_m2 17 rfl) rfl
theorem q391 : (Jvm.Cond.soleField "Encores" "spot") ∈ lw_all := lw_g (lw_at lw_m2 18 rfl) rfl
theorem q392 : (Jvm.Cond.lays "Encores" "Encores" "from" "I") ∈ lw_all := lw_g (lw_at lw_m2 19 rfl) rfl
theorem q393 : (Jvm.Cond.soleField "Encores" "from") ∈ lw_all := lw_g (lw_at lw_m2 20 rfl) rfl
theorem q394 : (Jvm.Cond.lays "Encores" "Encores" "value" "I") ∈ lw_all := lw_g (lw_at lw_m2 21 rfl) rfl
theorem q395 : (Jvm.Cond.soleField "Encores" "value") ∈ lw_all := lw_g (lw_at lw_m2 22 rfl) rfl
theorem q396 : (Jvm.Cond.lays "Encores" "Encores" "open" "I") ∈ lw_all := lw_g (lw_at lw_m2 23 rfl) rfl
theorem q397 : (Jvm.Cond.soleField "Encores" "open") ∈ lw_all := lw_g (lw_at lw_m2 24 rfl) rfl
theorem q398 : (Jvm.Cond.lays "Encores" "Encores" "faultKind" "I") ∈ lw_all := lw_g (lw_at lw_m2 25 rfl) rfl
theorem q399 : (Jvm.Cond.soleField "Encores" "faultKind") ∈ lw_all := lw_g (lw_at lw_m2 26 rfl) rfl
theorem q400 : (Jvm.Cond.lays "Encores" "Encores" "faultPlace" "I") ∈ lw_all := lw_g (lw_at lw_m2 27 rfl) rfl
theorem q401 : (Jvm.Cond.soleField "Encores" "faultPlace") ∈ lw_all := lw_g (lw_at lw_m2 28 rfl) rfl
theorem q402 : (Jvm.Cond.lays "Encores" "Encores" "law" "LEncores$Text;") ∈ lw_all := lw_g (lw_at lw_m2 29 rfl) rfl
theorem q403 : (Jvm.Cond.soleField "Encores" "law") ∈ lw_all := lw_g (lw_at lw_m2 30 rfl) rfl
theorem q404 : (Jvm.Cond.laysFinal "Encores" "Encores" "lawHas" "[I") ∈ lw_all := lw_g (lw_at lw_m2 31 rfl) rfl
theorem q405 : (Jvm.Cond.soleField "Encores" "lawHas") ∈ lw_all := lw_g (lw_at lw_m2 32 rfl) rfl
theorem q406 : (Jvm.Cond.lays "Encores" "Encores" "rules" "[LEncores$Rule;") ∈ lw_all := lw_g (lw_at lw_m2 33 rfl) rfl
theorem q407 : (Jvm.Cond.soleField "Encores" "rules") ∈ lw_all := lw_g (lw_at lw_m2 34 rfl) rfl
theorem q408 : (Jvm.Cond.lays "Encores" "Encores" "turns" "[LEncores$Turn;") ∈ lw_all := lw_g (lw_at lw_m2 35 rfl) rfl
theorem q409 : (Jvm.Cond.soleField "Encores" "turns") ∈ lw_all := lw_g (lw_at lw_m2 36 rfl) rfl
theorem q410 : (Jvm.Cond.lays "Encores" "Encores" "beside" "[I") ∈ lw_all := lw_g (lw_at lw_m2 37 rfl) rfl
theorem q411 : (Jvm.Cond.soleField "Encores" "beside") ∈ lw_all := lw_g (lw_at lw_m2 38 rfl) rfl
theorem q412 : (Jvm.Cond.lays "Encores" "Encores" "besideLines" "I") ∈ lw_all := lw_g (lw_at lw_m2 39 rfl) rfl
theorem q413 : (Jvm.Cond.soleField "Encores" "besideLines") ∈ lw_all := lw_g (lw_at lw_m2 40 rfl) rfl
theorem q414 : (Jvm.Cond.lays "Encores" "Encores" "hearers" "I") ∈ lw_all := lw_g (lw_at lw_m2 41 rfl) rfl
theorem q415 : (Jvm.Cond.soleField "Encores" "hearers") ∈ lw_all := lw_g (lw_at lw_m2 42 rfl) rfl
theorem q416 : (Jvm.Cond.lays "Encores" "Encores" "deeds" "I") ∈ lw_all := lw_g (lw_at lw_m2 43 rfl) rfl
theorem q417 : (Jvm.Cond.soleField "Encores" "deeds") ∈ lw_all := lw_g (lw_at lw_m2 44 rfl) rfl
theorem q418 : (Jvm.Cond.lays "Encores" "Encores" "coughs" "I") ∈ lw_all := lw_g (lw_at lw_m2 45 rfl) rfl
theorem q419 : (Jvm.Cond.soleField "Encores" "coughs") ∈ lw_all := lw_g (lw_at lw_m2 46 rfl) rfl
theorem q420 : (Jvm.Cond.laysFinal "Encores" "Encores" "hands" "[I") ∈ lw_all := lw_g (lw_at lw_m2 47 rfl) rfl
theorem q421 : (Jvm.Cond.soleField "Encores" "hands") ∈ lw_all := lw_g (lw_at lw_m2 48 rfl) rfl
theorem q422 : (Jvm.Cond.laysFinal "Encores" "Encores" "likes" "[I") ∈ lw_all := lw_g (lw_at lw_m2 49 rfl) rfl
theorem q423 : (Jvm.Cond.soleField "Encores" "likes") ∈ lw_all := lw_g (lw_at lw_m2 50 rfl) rfl
theorem q424 : (Jvm.Cond.laysFinal "Encores" "Encores" "manners" "[I") ∈ lw_all := lw_g (lw_at lw_m2 51 rfl) rfl
theorem q425 : (Jvm.Cond.soleField "Encores" "manners") ∈ lw_all := lw_g (lw_at lw_m2 52 rfl) rfl
theorem q426 : (Jvm.Cond.laysFinal "Encores" "Encores" "worth" "[I") ∈ lw_all := lw_g (lw_at lw_m2 53 rfl) rfl
theorem q427 : (Jvm.Cond.soleField "Encores" "worth") ∈ lw_all := lw_g (lw_at lw_m2 54 rfl) rfl
theorem q428 : (Jvm.Cond.laysFinal "Encores" "Encores" "lasting" "[I") ∈ lw_all := lw_g (lw_at lw_m2 55 rfl) rfl
theorem q429 : (Jvm.Cond.soleField "Encores" "lasting") ∈ lw_all := lw_g (lw_at lw_m2 56 rfl) rfl
theorem q430 : (Jvm.Cond.laysFinal "Encores" "Encores" "cost" "[I") ∈ lw_all := lw_g (lw_at lw_m2 57 rfl) rfl
theorem q431 : (Jvm.Cond.soleField "Encores" "cost") ∈ lw_all := lw_g (lw_at lw_m2 58 rfl) rfl
theorem q432 : (Jvm.Cond.laysFinal "Encores" "Encores" "gallery" "LEncores$Gallery;") ∈ lw_all := lw_g (lw_at lw_m2 59 rfl) rfl
theorem q433 : (Jvm.Cond.soleField "Encores" "gallery") ∈ lw_all := lw_g (lw_at lw_m2 60 rfl) rfl
theorem q434 : (Jvm.Cond.laysFinal "Encores" "Encores" "thought" "LEncores$Gallery;") ∈ lw_all := lw_g (lw_at lw_m2 61 rfl) rfl
theorem q435 : (Jvm.Cond.soleField "Encores" "thought") ∈ lw_all := lw_g (lw_at lw_m2 62 rfl) rfl
theorem q436 : (Jvm.Cond.laysFinal "Encores" "Encores" "kept" "LEncores$Gallery;") ∈ lw_all := lw_g (lw_at lw_m2 63 rfl) rfl
theorem q437 : (Jvm.Cond.soleField "Encores" "kept") ∈ lw_all := lw_g (lw_at lw_m2 64 rfl) rfl
theorem q438 : (Jvm.Cond.laysFinal "Encores" "Encores" "book" "[I") ∈ lw_all := lw_g (lw_at lw_m2 65 rfl) rfl
theorem q439 : (Jvm.Cond.soleField "Encores" "book") ∈ lw_all := lw_g (lw_at lw_m2 66 rfl) rfl
theorem q440 : (Jvm.Cond.laysFinal "Encores" "Encores" "ahead" "[LEncores$Gallery;") ∈ lw_all := lw_g (lw_at lw_m2 67 rfl) rfl
theorem q441 : (Jvm.Cond.soleField "Encores" "ahead") ∈ lw_all := lw_g (lw_at lw_m2 68 rfl) rfl
theorem q442 : (Jvm.Cond.lays "Encores" "Encores" "undoable" "I") ∈ lw_all := lw_g (lw_at lw_m2 69 rfl) rfl
theorem q443 : (Jvm.Cond.soleField "Encores" "undoable") ∈ lw_all := lw_g (lw_at lw_m2 70 rfl) rfl
theorem q444 : (Jvm.Cond.lays "Encores" "Encores" "claques" "[LEncores$Claque;") ∈ lw_all := lw_g (lw_at lw_m2 71 rfl) rfl
theorem q445 : (Jvm.Cond.soleField "Encores" "claques") ∈ lw_all := lw_g (lw_at lw_m2 72 rfl) rfl
theorem q446 : (Jvm.Cond.laysFinal "Encores" "Encores" "withHim" "[I") ∈ lw_all := lw_g (lw_at lw_m2 73 rfl) rfl
theorem q447 : (Jvm.Cond.soleField "Encores" "withHim") ∈ lw_all := lw_g (lw_at lw_m2 74 rfl) rfl
theorem q448 : (Jvm.Cond.laysFinal "Encores" "Encores" "meanings" "[I") ∈ lw_all := lw_g (lw_at lw_m2 75 rfl) rfl
theorem q449 : (Jvm.Cond.soleField "Encores" "meanings") ∈ lw_all := lw_g (lw_at lw_m2 76 rfl) rfl
theorem q450 : (Jvm.Cond.laysFinal "Encores" "Encores" "grundy" "[I") ∈ lw_all := lw_g (lw_at lw_m2 77 rfl) rfl
theorem q451 : (Jvm.Cond.soleField "Encores" "grundy") ∈ lw_all := lw_g (lw_at lw_m2 78 rfl) rfl
theorem q452 : (Jvm.Cond.laysFinal "Encores" "Encores" "rows" "[[I") ∈ lw_all := lw_g (lw_at lw_m2 79 rfl) rfl
theorem q453 : (Jvm.Cond.soleField "Encores" "rows") ∈ lw_all := lw_g (lw_at lw_m2 80 rfl) rfl
theorem q454 : (Jvm.Cond.laysFinal "Encores" "Encores" "keptRows" "[[I") ∈ lw_all := lw_g (lw_at lw_m2 81 rfl) rfl
theorem q455 : (Jvm.Cond.soleField "Encores" "keptRows") ∈ lw_all := lw_g (lw_at lw_m2 82 rfl) rfl
theorem q456 : (Jvm.Cond.lays "Encores" "Encores" "keptHearers" "I") ∈ lw_all := lw_g (lw_at lw_m2 83 rfl) rfl
theorem q457 : (Jvm.Cond.soleField "Encores" "keptHearers") ∈ lw_all := lw_g (lw_at lw_m2 84 rfl) rfl
theorem q458 : (Jvm.Cond.lays "Encores" "Encores" "keptDeeds" "I") ∈ lw_all := lw_g (lw_at lw_m2 85 rfl) rfl
theorem q459 : (Jvm.Cond.soleField "Encores" "keptDeeds") ∈ lw_all := lw_g (lw_at lw_m2 86 rfl) rfl
theorem q460 : (Jvm.Cond.lays "Encores" "Encores" "keptCoughs" "I") ∈ lw_all := lw_g (lw_at lw_m2 87 rfl) rfl
theorem q461 : (Jvm.Cond.soleField "Encores" "keptCoughs") ∈ lw_all := lw_g (lw_at lw_m2 88 rfl) rfl
theorem q462 : (Jvm.Cond.lays "Encores" "Encores" "keptLines" "I") ∈ lw_all := lw_g (lw_at lw_m2 89 rfl) rfl
theorem q463 : (Jvm.Cond.soleField "Encores" "keptLines") ∈ lw_all := lw_g (lw_at lw_m2 90 rfl) rfl
theorem q464 : (Jvm.Cond.lays "Encores" "Encores" "keptRules" "[LEncores$Rule;") ∈ lw_all := lw_g (lw_at lw_m2 91 rfl) rfl
theorem q465 : (Jvm.Cond.soleField "Encores" "keptRules") ∈ lw_all := lw_g (lw_at lw_m2 92 rfl) rfl
theorem q466 : (Jvm.Cond.lays "Encores" "Encores" "keptTurns" "[LEncores$Turn;") ∈ lw_all := lw_g (lw_at lw_m2 93 rfl) rfl
theorem q467 : (Jvm.Cond.soleField "Encores" "keptTurns") ∈ lw_all := lw_g (lw_at lw_m2 94 rfl) rfl
theorem q468 : (Jvm.Cond.lays "Encores" "Encores" "keptBeside" "[I") ∈ lw_all := lw_g (lw_at lw_m2 95 rfl) rfl
theorem q469 : (Jvm.Cond.soleField "Encores" "keptBeside") ∈ lw_all := lw_g (lw_at lw_m2 96 rfl) rfl
theorem q470 : (Jvm.Cond.lays "Encores" "Encores" "keptClaques" "[LEncores$Claque;") ∈ lw_all := lw_g (lw_at lw_m2 97 rfl) rfl
theorem q471 : (Jvm.Cond.soleField "Encores" "keptClaques") ∈ lw_all := lw_g (lw_at lw_m2 98 rfl) rfl
theorem q472 : (Jvm.Cond.lays "Encores" "Encores" "keptLaw" "LEncores$Text;") ∈ lw_all := lw_g (lw_at lw_m2 99 rfl) rfl
theorem q473 : (Jvm.Cond.soleField "Encores" "keptLaw") ∈ lw_all := lw_g (lw_at lw_m2 100 rfl) rfl
theorem q474 : (Jvm.Cond.superclass "Encores" "java/lang/Object") ∈ lw_all := lw_g (lw_at lw_m2 101 rfl) rfl
theorem q476 : (Jvm.Cond.instanceMethod ({ cls := "Encores", name := "feed", desc := "(IIIII)I" } : Jvm.MethodName)) ∈ lw_all := lw_g (lw_at lw_m2 103 rfl) rfl
theorem q477 : (Jvm.Cond.selects "Encores" ({ cls := "Encores", name := "feed", desc := "(IIIII)I" } : Jvm.MethodName) ({ cls := "Encores", name := "feed", desc := "(IIIII)I" } : Jvm.MethodName)) ∈ lw_all := lw_g (lw_at lw_m2 104 rfl) rfl
theorem q478 : (Jvm.Cond.code ({ cls := "Encores", name := "feed", desc := "(IIIII)I" } : Jvm.MethodName) prog_1_method_9_code (6 : Nat) (Option.some Jvm.ClassFile.FieldType.int)) ∈ lw_all := lw_g (lw_at lw_m2 105 rfl) rfl
theorem q479 : (Jvm.Cond.methodLink "Encores" (203 : Nat) ({ cls := "Encores", name := "puts", desc := "(I)V" } : Jvm.MethodName)) ∈ lw_all := lw_g (lw_at lw_m2 106 rfl) rfl
theorem q480 : (Jvm.Cond.privateMethod ({ cls := "Encores", name := "puts", desc := "(I)V" } : Jvm.MethodName)) ∈ lw_tbl := lw_at lw_m2 107 rfl
theorem q481 : (Jvm.Cond.instanceMethod ({ cls := "Encores", name := "puts", desc := "(I)V" } : Jvm.MethodName)) ∈ lw_all := lw_g (lw_at lw_m2 108 rfl) rfl
theorem q482 : (Jvm.Cond.code ({ cls := "Encores", name := "puts", desc := "(I)V" } : Jvm.MethodName) prog_1_method_8_code (3 : Nat) (Option.none : Option Jvm.ClassFile.FieldType)) ∈ lw_all := lw_g (lw_at lw_m2 109 rfl) rfl
theorem q484 : (Jvm.Cond.instanceMethod ({ cls := "Encores", name := "end", desc := "(I)Z" } : Jvm.MethodName)) ∈ lw_all := lw_g (lw_at lw_m2 111 rfl) rfl
theorem q485 : (Jvm.Cond.selects "Encores" ({ cls := "Encores", name := "end", desc := "(I)Z" } : Jvm.MethodName) ({ cls := "Encores", name := "end", desc := "(I)Z" } : Jvm.MethodName)) ∈ lw_all := lw_g (lw_at lw_m2 112 rfl) rfl
theorem q486 : (Jvm.Cond.code ({ cls := "Encores", name := "end", desc := "(I)Z" } : Jvm.MethodName) prog_1_method_10_code (2 : Nat) (Option.some Jvm.ClassFile.FieldType.boolean)) ∈ lw_all := lw_g (lw_at lw_m2 113 rfl) rfl
theorem q487 : (Jvm.Cond.methodLink "Encores" (207 : Nat) ({ cls := "Encores", name := "isIn", desc := "(III)Z" } : Jvm.MethodName)) ∈ lw_all := lw_g (lw_at lw_m2 114 rfl) rfl
theorem q488 : (Jvm.Cond.static ({ cls := "Encores", name := "isIn", desc := "(III)Z" } : Jvm.MethodName)) ∈ lw_all := lw_g (lw_at lw_m2 115 rfl) rfl
theorem q489 : (Jvm.Cond.code ({ cls := "Encores", name := "isIn", desc := "(III)Z" } : Jvm.MethodName) prog_1_method_1_code (3 : Nat) (Option.some Jvm.ClassFile.FieldType.boolean)) ∈ lw_all := lw_g (lw_at lw_m2 116 rfl) rfl
theorem q491 : (Jvm.Cond.instanceMethod ({ cls := "Encores", name := "text", desc := "(I)I" } : Jvm.MethodName)) ∈ lw_all := lw_g (lw_at lw_m2 118 rfl) rfl
theorem q492 : (Jvm.Cond.selects "Encores" ({ cls := "Encores", name := "text", desc := "(I)I" } : Jvm.MethodName) ({ cls := "Encores", name := "text", desc := "(I)I" } : Jvm.MethodName)) ∈ lw_all := lw_g (lw_at lw_m2 119 rfl) rfl
theorem q493 : (Jvm.Cond.codeWith ({ cls := "Encores", name := "text", desc := "(I)I" } : Jvm.MethodName) prog_1_method_40_code (5 : Nat) (Option.some Jvm.ClassFile.FieldType.int) [((10 : Nat), (29 : Nat), (36 : Nat), (271 : Nat)), ((10 : Nat), (29 : Nat), (62 : Nat), (0 : Nat)), ((36 : Nat), (55 : Nat), (62 : Nat), (0 : Nat)), ((62 : Nat), (64 : Nat), (62 : Nat), (0 : Nat))]) ∈ lw_all := lw_g (lw_at lw_m2 120 rfl) rfl
theorem q494 : (Jvm.Cond.classLink "Encores" (271 : Nat) "Encores$Fault") ∈ lw_all := lw_g (lw_at lw_m2 121 rfl) rfl
theorem q495 : (Jvm.Cond.methodLink "Encores" (411 : Nat) ({ cls := "Encores", name := "readsText", desc := "(I)I" } : Jvm.MethodName)) ∈ lw_all := lw_g (lw_at lw_m2 122 rfl) rfl
theorem q496 : (Jvm.Cond.privateMethod ({ cls := "Encores", name := "readsText", desc := "(I)I" } : Jvm.MethodName)) ∈ lw_tbl := lw_at lw_m2 123 rfl
theorem q497 : (Jvm.Cond.instanceMethod ({ cls := "Encores", name := "readsText", desc := "(I)I" } : Jvm.MethodName)) ∈ lw_all := lw_g (lw_at lw_m2 124 rfl) rfl
theorem q498 : (Jvm.Cond.code ({ cls := "Encores", name := "readsText", desc := "(I)I" } : Jvm.MethodName) prog_1_method_39_code (2 : Nat) (Option.some Jvm.ClassFile.FieldType.int)) ∈ lw_all := lw_g (lw_at lw_m2 125 rfl) rfl
theorem q499 : (Jvm.Cond.methodLink "Encores" (398 : Nat) ({ cls := "Encores", name := "openText", desc := "(I)V" } : Jvm.MethodName)) ∈ lw_all := lw_g (lw_at lw_m2 126 rfl) rfl
theorem q500 : (Jvm.Cond.privateMethod ({ cls := "Encores", name := "openText", desc := "(I)V" } : Jvm.MethodName)) ∈ lw_tbl := lw_at lw_m2 127 rfl
theorem q501 : (Jvm.Cond.instanceMethod ({ cls := "Encores", name := "openText", desc := "(I)V" } : Jvm.MethodName)) ∈ lw_all := lw_g (lw_at lw_m2 128 rfl) rfl
theorem q502 : (Jvm.Cond.code ({ cls := "Encores", name := "openText", desc := "(I)V" } : Jvm.MethodName) prog_1_method_37_code (2 : Nat) (Option.none : Option Jvm.ClassFile.FieldType)) ∈ lw_all := lw_g (lw_at lw_m2 129 rfl) rfl
theorem q503 : (Jvm.Cond.methodLink "Encores" (284 : Nat) ({ cls := "Encores", name := "readNext", desc := "()V" } : Jvm.MethodName)) ∈ lw_all := lw_g (lw_at lw_m2 130 rfl) rfl
theorem q504 : (Jvm.Cond.privateMethod ({ cls := "Encores", name := "readNext", desc := "()V" } : Jvm.MethodName)) ∈ lw_tbl := lw_at lw_m2 131 rfl
theorem q505 : (Jvm.Cond.instanceMethod ({ cls := "Encores", name := "readNext", desc := "()V" } : Jvm.MethodName)) ∈ lw_all := lw_g (lw_at lw_m2 132 rfl) rfl
theorem q506 : (Jvm.Cond.code ({ cls := "Encores", name := "readNext", desc := "()V" } : Jvm.MethodName) prog_1_method_18_code (2 : Nat) (Option.none : Option Jvm.ClassFile.FieldType)) ∈ lw_all := lw_g (lw_at lw_m2 133 rfl) rfl
theorem q507 : (Jvm.Cond.methodLink "Encores" (220 : Nat) ({ cls := "Encores", name := "raw", desc := "(I)I" } : Jvm.MethodName)) ∈ lw_all := lw_g (lw_at lw_m2 134 rfl) rfl
theorem q508 : (Jvm.Cond.privateMethod ({ cls := "Encores", name := "raw", desc := "(I)I" } : Jvm.MethodName)) ∈ lw_tbl := lw_at lw_m2 135 rfl
theorem q509 : (Jvm.Cond.instanceMethod ({ cls := "Encores", name := "raw", desc := "(I)I" } : Jvm.MethodName)) ∈ lw_all := lw_g (lw_at lw_m2 136 rfl) rfl
theorem q510 : (Jvm.Cond.code ({ cls := "Encores", name := "raw", desc := "(I)I" } : Jvm.MethodName) prog_1_method_11_code (2 : Nat) (Option.some Jvm.ClassFile.FieldType.int)) ∈ lw_all := lw_g (lw_at lw_m2 137 rfl) rfl
theorem q511 : (Jvm.Cond.fieldLink "Encores" (246 : Nat) "Encores$Token" "END" "LEncores$Token;") ∈ lw_all := lw_g (lw_at lw_m2 138 rfl) rfl
theorem q513 : (Jvm.Cond.fieldLink "Encores" (249 : Nat) "Encores$Token" "NONE" "LEncores$Token;") ∈ lw_all := lw_g (lw_at lw_m2 140 rfl) rfl
theorem q515 : (Jvm.Cond.methodLink "Encores" (252 : Nat) ({ cls := "Encores", name := "isLetter", desc := "(I)Z" } : Jvm.MethodName)) ∈ lw_all := lw_g (lw_at lw_m2 142 rfl) rfl
theorem q516 : (Jvm.Cond.static ({ cls := "Encores", name := "isLetter", desc := "(I)Z" } : Jvm.MethodName)) ∈ lw_all := lw_g (lw_at lw_m2 143 rfl) rfl
theorem q517 : (Jvm.Cond.code ({ cls := "Encores", name := "isLetter", desc := "(I)Z" } : Jvm.MethodName) prog_1_method_12_code (1 : Nat) (Option.some Jvm.ClassFile.FieldType.boolean)) ∈ lw_all := lw_g (lw_at lw_m2 144 rfl) rfl
theorem q518 : (Jvm.Cond.fieldLink "Encores" (231 : Nat) "Encores$Token" "WORD" "LEncores$Token;") ∈ lw_all := lw_g (lw_at lw_m2 145 rfl) rfl
theorem q520 : (Jvm.Cond.methodLink "Encores" (255 : Nat) ({ cls := "Encores", name := "wordOf", desc := "([Ljava/lang/String;)I" } : Jvm.MethodName)) ∈ lw_all := lw_g (lw_at lw_m2 147 rfl) rfl
theorem q521 : (Jvm.Cond.privateMethod ({ cls := "Encores", name := "wordOf", desc := "([Ljava/lang/String;)I" } : Jvm.MethodName)) ∈ lw_tbl := lw_at lw_m2 148 rfl
theorem q522 : (Jvm.Cond.instanceMethod ({ cls := "Encores", name := "wordOf", desc := "([Ljava/lang/String;)I" } : Jvm.MethodName)) ∈ lw_all := lw_g (lw_at lw_m2 149 rfl) rfl
theorem q523 : (Jvm.Cond.code ({ cls := "Encores", name := "wordOf", desc := "([Ljava/lang/String;)I" } : Jvm.MethodName) prog_1_method_15_code (3 : Nat) (Option.some Jvm.ClassFile.FieldType.int)) ∈ lw_all := lw_g (lw_at lw_m2 150 rfl) rfl
theorem q524 : (Jvm.Cond.methodLink "Encores" (236 : Nat) ({ cls := "Encores", name := "spells", desc := "(Ljava/lang/String;)Z" } : Jvm.MethodName)) ∈ lw_all := lw_g (lw_at lw_m2 151 rfl) rfl
theorem q525 : (Jvm.Cond.privateMethod ({ cls := "Encores", name := "spells", desc := "(Ljava/lang/String;)Z" } : Jvm.MethodName)) ∈ lw_tbl := lw_at lw_m2 152 rfl
theorem q526 : (Jvm.Cond.instanceMethod ({ cls := "Encores", name := "spells", desc := "(Ljava/lang/String;)Z" } : Jvm.MethodName)) ∈ lw_all := lw_g (lw_at lw_m2 153 rfl) rfl
theorem q527 : (Jvm.Cond.code ({ cls := "Encores", name := "spells", desc := "(Ljava/lang/String;)Z" } : Jvm.MethodName) prog_1_method_14_code (3 : Nat) (Option.some Jvm.ClassFile.FieldType.boolean)) ∈ lw_all := lw_g (lw_at lw_m2 154 rfl) rfl
theorem q528 : (Jvm.Cond.methodLink "Encores" (211 : Nat) ({ cls := "java/lang/String", name := "length", desc := "()I" } : Jvm.MethodName)) ∈ lw_all := lw_g (lw_at lw_m2 155 rfl) rfl
theorem q538 : (Jvm.Cond.methodLink "Encores" (223 : Nat) ({ cls := "java/lang/String", name := "charAt", desc := "(I)C" } : Jvm.MethodName)) ∈ lw_all := lw_g (lw_at lw_m2 165 rfl) rfl
theorem q576 : (Jvm.Cond.methodLink "Encores" (259 : Nat) ({ cls := "Encores", name := "isDigit", desc := "(I)Z" } : Jvm.MethodName)) ∈ lw_all := lw_g (lw_at lw_m2 203 rfl) rfl
theorem q577 : (Jvm.Cond.static ({ cls := "Encores", name := "isDigit", desc := "(I)Z" } : Jvm.MethodName)) ∈ lw_all := lw_g (lw_at lw_m2 204 rfl) rfl
theorem q578 : (Jvm.Cond.code ({ cls := "Encores", name := "isDigit", desc := "(I)Z" } : Jvm.MethodName) prog_1_method_13_code (1 : Nat) (Option.some Jvm.ClassFile.FieldType.boolean)) ∈ lw_all := lw_g (lw_at lw_m2 205 rfl) rfl
theorem q579 : (Jvm.Cond.constant "Encores" (262 : Nat) (99999 : Int32)) ∈ lw_all := lw_g (lw_at lw_m2 206 rfl) rfl
theorem q580 : (Jvm.Cond.methodLink "Encores" (1 : Nat) ({ cls := "java/lang/Math", name := "min", desc := "(II)I" } : Jvm.MethodName)) ∈ lw_all := lw_g (lw_at lw_m2 207 rfl) rfl
theorem q583 : (Jvm.Cond.fieldLink "Encores" (263 : Nat) "Encores$Token" "NUMBER" "LEncores$Token;") ∈ lw_all := lw_g (lw_at lw_m2 210 rfl) rfl
theorem q585 : (Jvm.Cond.stringRef "Encores" (266 : Nat) ";+-*/()<=>") ∈ lw_tbl := lw_at lw_m2 212 rfl
theorem q586 : (Jvm.Cond.methodLink "Encores" (268 : Nat) ({ cls := "java/lang/String", name := "indexOf", desc := "(I)I" } : Jvm.MethodName)) ∈ lw_all := lw_g (lw_at lw_m2 213 rfl) rfl
theorem q643 : (Jvm.Cond.fieldLink "Encores" (240 : Nat) "Encores$Token" "SIGN" "LEncores$Token;") ∈ lw_all := lw_g (lw_at lw_m3 30 rfl) rfl
theorem q645 : (Jvm.Cond.methodLink "Encores" (401 : Nat) ({ cls := "Encores", name := "readsOther", desc := "(I)I" } : Jvm.MethodName)) ∈ lw_all := lw_g (lw_at lw_m3 32 rfl) rfl
theorem q646 : (Jvm.Cond.privateMethod ({ cls := "Encores", name := "readsOther", desc := "(I)I" } : Jvm.MethodName)) ∈ lw_tbl := lw_at lw_m3 33 rfl
theorem q647 : (Jvm.Cond.instanceMethod ({ cls := "Encores", name := "readsOther", desc := "(I)I" } : Jvm.MethodName)) ∈ lw_all := lw_g (lw_at lw_m3 34 rfl) rfl
theorem q648 : (Jvm.Cond.code ({ cls := "Encores", name := "readsOther", desc := "(I)I" } : Jvm.MethodName) prog_1_method_38_code (3 : Nat) (Option.some Jvm.ClassFile.FieldType.int)) ∈ lw_all := lw_g (lw_at lw_m3 35 rfl) rfl
theorem q649 : (Jvm.Cond.methodLink "Encores" (383 : Nat) ({ cls := "Encores", name := "readsStatute", desc := "()[LEncores$Rule;" } : Jvm.MethodName)) ∈ lw_all := lw_g (lw_at lw_m3 36 rfl) rfl
theorem q650 : (Jvm.Cond.privateMethod ({ cls := "Encores", name := "readsStatute", desc := "()[LEncores$Rule;" } : Jvm.MethodName)) ∈ lw_tbl := lw_at lw_m3 37 rfl
theorem q651 : (Jvm.Cond.instanceMethod ({ cls := "Encores", name := "readsStatute", desc := "()[LEncores$Rule;" } : Jvm.MethodName)) ∈ lw_all := lw_g (lw_at lw_m3 38 rfl) rfl
theorem q652 : (Jvm.Cond.code ({ cls := "Encores", name := "readsStatute", desc := "()[LEncores$Rule;" } : Jvm.MethodName) prog_1_method_34_code (5 : Nat) (Option.some (Jvm.ClassFile.FieldType.array (Jvm.ClassFile.FieldType.object "Encores$Rule")))) ∈ lw_all := lw_g (lw_at lw_m3 39 rfl) rfl
theorem q653 : (Jvm.Cond.methodLink "Encores" (280 : Nat) ({ cls := "Encores", name := "must", desc := "(Z)V" } : Jvm.MethodName)) ∈ lw_all := lw_g (lw_at lw_m3 40 rfl) rfl
theorem q654 : (Jvm.Cond.privateMethod ({ cls := "Encores", name := "must", desc := "(Z)V" } : Jvm.MethodName)) ∈ lw_tbl := lw_at lw_m3 41 rfl
theorem q655 : (Jvm.Cond.instanceMethod ({ cls := "Encores", name := "must", desc := "(Z)V" } : Jvm.MethodName)) ∈ lw_all := lw_g (lw_at lw_m3 42 rfl) rfl
theorem q656 : (Jvm.Cond.code ({ cls := "Encores", name := "must", desc := "(Z)V" } : Jvm.MethodName) prog_1_method_19_code (2 : Nat) (Option.none : Option Jvm.ClassFile.FieldType)) ∈ lw_all := lw_g (lw_at lw_m3 43 rfl) rfl
theorem q693 : (Jvm.Cond.methodLink "Encores" (273 : Nat) ({ cls := "Encores$Fault", name := "<init>", desc := "(II)V" } : Jvm.MethodName)) ∈ lw_all := lw_g (lw_at lw_m3 80 rfl) rfl
theorem q703 : (Jvm.Cond.fieldLink "Encores" (414 : Nat) "Encores$Fault" "kind" "I") ∈ lw_all := lw_g (lw_at lw_m3 90 rfl) rfl
theorem q705 : (Jvm.Cond.fieldLink "Encores" (417 : Nat) "Encores$Fault" "place" "I") ∈ lw_all := lw_g (lw_at lw_m3 92 rfl) rfl
theorem q723 : (Jvm.Cond.methodLink "Encores" (339 : Nat) ({ cls := "Encores", name := "isRoom", desc := "(I)V" } : Jvm.MethodName)) ∈ lw_all := lw_g (lw_at lw_m3 110 rfl) rfl
theorem q724 : (Jvm.Cond.privateMethod ({ cls := "Encores", name := "isRoom", desc := "(I)V" } : Jvm.MethodName)) ∈ lw_tbl := lw_at lw_m3 111 rfl
theorem q725 : (Jvm.Cond.instanceMethod ({ cls := "Encores", name := "isRoom", desc := "(I)V" } : Jvm.MethodName)) ∈ lw_all := lw_g (lw_at lw_m3 112 rfl) rfl
theorem q726 : (Jvm.Cond.code ({ cls := "Encores", name := "isRoom", desc := "(I)V" } : Jvm.MethodName) prog_1_method_30_code (2 : Nat) (Option.none : Option Jvm.ClassFile.FieldType)) ∈ lw_all := lw_g (lw_at lw_m3 113 rfl) rfl
theorem q727 : (Jvm.Cond.methodLink "Encores" (372 : Nat) ({ cls := "Encores", name := "rule", desc := "()LEncores$Rule;" } : Jvm.MethodName)) ∈ lw_all := lw_g (lw_at lw_m3 114 rfl) rfl
theorem q728 : (Jvm.Cond.privateMethod ({ cls := "Encores", name := "rule", desc := "()LEncores$Rule;" } : Jvm.MethodName)) ∈ lw_tbl := lw_at lw_m3 115 rfl
theorem q729 : (Jvm.Cond.instanceMethod ({ cls := "Encores", name := "rule", desc := "()LEncores$Rule;" } : Jvm.MethodName)) ∈ lw_all := lw_g (lw_at lw_m3 116 rfl) rfl
theorem q730 : (Jvm.Cond.code ({ cls := "Encores", name := "rule", desc := "()LEncores$Rule;" } : Jvm.MethodName) prog_1_method_33_code (3 : Nat) (Option.some (Jvm.ClassFile.FieldType.object "Encores$Rule"))) ∈ lw_all := lw_g (lw_at lw_m3 117 rfl) rfl
theorem q731 : (Jvm.Cond.methodLink "Encores" (359 : Nat) ({ cls := "Encores", name := "number", desc := "(II)I" } : Jvm.MethodName)) ∈ lw_all := lw_g (lw_at lw_m3 118 rfl) rfl
theorem q732 : (Jvm.Cond.privateMethod ({ cls := "Encores", name := "number", desc := "(II)I" } : Jvm.MethodName)) ∈ lw_tbl := lw_at lw_m3 119 rfl
theorem q733 : (Jvm.Cond.instanceMethod ({ cls := "Encores", name := "number", desc := "(II)I" } : Jvm.MethodName)) ∈ lw_all := lw_g (lw_at lw_m3 120 rfl) rfl
theorem q734 : (Jvm.Cond.code ({ cls := "Encores", name := "number", desc := "(II)I" } : Jvm.MethodName) prog_1_method_31_code (4 : Nat) (Option.some Jvm.ClassFile.FieldType.int)) ∈ lw_all := lw_g (lw_at lw_m3 121 rfl) rfl
theorem q736 : (Jvm.Cond.methodLink "Encores" (362 : Nat) ({ cls := "Encores", name := "told", desc := "(Ljava/lang/String;II)I" } : Jvm.MethodName)) ∈ lw_all := lw_g (lw_at lw_m3 123 rfl) rfl
theorem q737 : (Jvm.Cond.privateMethod ({ cls := "Encores", name := "told", desc := "(Ljava/lang/String;II)I" } : Jvm.MethodName)) ∈ lw_tbl := lw_at lw_m3 124 rfl
theorem q738 : (Jvm.Cond.instanceMethod ({ cls := "Encores", name := "told", desc := "(Ljava/lang/String;II)I" } : Jvm.MethodName)) ∈ lw_all := lw_g (lw_at lw_m3 125 rfl) rfl
theorem q739 : (Jvm.Cond.code ({ cls := "Encores", name := "told", desc := "(Ljava/lang/String;II)I" } : Jvm.MethodName) prog_1_method_32_code (4 : Nat) (Option.some Jvm.ClassFile.FieldType.int)) ∈ lw_all := lw_g (lw_at lw_m3 126 rfl) rfl
theorem q740 : (Jvm.Cond.methodLink "Encores" (309 : Nat) ({ cls := "Encores", name := "isWord", desc := "(Ljava/lang/String;)Z" } : Jvm.MethodName)) ∈ lw_all := lw_g (lw_at lw_m3 127 rfl) rfl
theorem q741 : (Jvm.Cond.privateMethod ({ cls := "Encores", name := "isWord", desc := "(Ljava/lang/String;)Z" } : Jvm.MethodName)) ∈ lw_tbl := lw_at lw_m3 128 rfl
theorem q742 : (Jvm.Cond.instanceMethod ({ cls := "Encores", name := "isWord", desc := "(Ljava/lang/String;)Z" } : Jvm.MethodName)) ∈ lw_all := lw_g (lw_at lw_m3 129 rfl) rfl
theorem q743 : (Jvm.Cond.code ({ cls := "Encores", name := "isWord", desc := "(Ljava/lang/String;)Z" } : Jvm.MethodName) prog_1_method_16_code (2 : Nat) (Option.some Jvm.ClassFile.FieldType.boolean)) ∈ lw_all := lw_g (lw_at lw_m3 130 rfl) rfl
theorem q744 : (Jvm.Cond.methodLinkNest "Encores" (366 : Nat) ({ cls := "Encores$Rule", name := "<init>", desc := "(III)V" } : Jvm.MethodName) "Encores") ∈ lw_tbl := lw_at lw_m3 131 rfl
theorem q761 : (Jvm.Cond.methodLink "Encores" (326 : Nat) ({ cls := "Encores", name := "takesSign", desc := "(C)V" } : Jvm.MethodName)) ∈ lw_all := lw_g (lw_at lw_m3 148 rfl) rfl
theorem q762 : (Jvm.Cond.privateMethod ({ cls := "Encores", name := "takesSign", desc := "(C)V" } : Jvm.MethodName)) ∈ lw_tbl := lw_at lw_m3 149 rfl
theorem q763 : (Jvm.Cond.instanceMethod ({ cls := "Encores", name := "takesSign", desc := "(C)V" } : Jvm.MethodName)) ∈ lw_all := lw_g (lw_at lw_m3 150 rfl) rfl
theorem q764 : (Jvm.Cond.code ({ cls := "Encores", name := "takesSign", desc := "(C)V" } : Jvm.MethodName) prog_1_method_20_code (2 : Nat) (Option.none : Option Jvm.ClassFile.FieldType)) ∈ lw_all := lw_g (lw_at lw_m3 151 rfl) rfl
theorem q765 : (Jvm.Cond.methodLink "Encores" (276 : Nat) ({ cls := "Encores", name := "isSign", desc := "(C)Z" } : Jvm.MethodName)) ∈ lw_all := lw_g (lw_at lw_m3 152 rfl) rfl
theorem q766 : (Jvm.Cond.privateMethod ({ cls := "Encores", name := "isSign", desc := "(C)Z" } : Jvm.MethodName)) ∈ lw_tbl := lw_at lw_m3 153 rfl
theorem q767 : (Jvm.Cond.instanceMethod ({ cls := "Encores", name := "isSign", desc := "(C)Z" } : Jvm.MethodName)) ∈ lw_all := lw_g (lw_at lw_m3 154 rfl) rfl
theorem q768 : (Jvm.Cond.code ({ cls := "Encores", name := "isSign", desc := "(C)Z" } : Jvm.MethodName) prog_1_method_17_code (2 : Nat) (Option.some Jvm.ClassFile.FieldType.boolean)) ∈ lw_all := lw_g (lw_at lw_m3 155 rfl) rfl
theorem q769 : (Jvm.Cond.methodLink "Encores" (387 : Nat) ({ cls := "Encores", name := "readsProgramme", desc := "()[LEncores$Turn;" } : Jvm.MethodName)) ∈ lw_all := lw_g (lw_at lw_m3 156 rfl) rfl
theorem q770 : (Jvm.Cond.privateMethod ({ cls := "Encores", name := "readsProgramme", desc := "()[LEncores$Turn;" } : Jvm.MethodName)) ∈ lw_tbl := lw_at lw_m3 157 rfl
theorem q771 : (Jvm.Cond.instanceMethod ({ cls := "Encores", name := "readsProgramme", desc := "()[LEncores$Turn;" } : Jvm.MethodName)) ∈ lw_all := lw_g (lw_at lw_m3 158 rfl) rfl
theorem q772 : (Jvm.Cond.code ({ cls := "Encores", name := "readsProgramme", desc := "()[LEncores$Turn;" } : Jvm.MethodName) prog_1_method_35_code (5 : Nat) (Option.some (Jvm.ClassFile.FieldType.array (Jvm.ClassFile.FieldType.object "Encores$Turn")))) ∈ lw_all := lw_g (lw_at lw_m3 159 rfl) rfl
theorem q774 : (Jvm.Cond.methodLinkNest "Encores" (379 : Nat) ({ cls := "Encores$Turn", name := "<init>", desc := "(II)V" } : Jvm.MethodName) "Encores") ∈ lw_tbl := lw_at lw_m3 161 rfl
theorem q785 : (Jvm.Cond.methodLink "Encores" (391 : Nat) ({ cls := "Encores", name := "readsGallery", desc := "()[I" } : Jvm.MethodName)) ∈ lw_all := lw_g (lw_at lw_m3 172 rfl) rfl
theorem q786 : (Jvm.Cond.privateMethod ({ cls := "Encores", name := "readsGallery", desc := "()[I" } : Jvm.MethodName)) ∈ lw_tbl := lw_at lw_m3 173 rfl
theorem q787 : (Jvm.Cond.instanceMethod ({ cls := "Encores", name := "readsGallery", desc := "()[I" } : Jvm.MethodName)) ∈ lw_all := lw_g (lw_at lw_m3 174 rfl) rfl
theorem q788 : (Jvm.Cond.code ({ cls := "Encores", name := "readsGallery", desc := "()[I" } : Jvm.MethodName) prog_1_method_36_code (6 : Nat) (Option.some (Jvm.ClassFile.FieldType.array Jvm.ClassFile.FieldType.int))) ∈ lw_all := lw_g (lw_at lw_m3 175 rfl) rfl
theorem q789 : (Jvm.Cond.methodLink "Encores" (404 : Nat) ({ cls := "Encores", name := "readsLaw", desc := "()LEncores$Text;" } : Jvm.MethodName)) ∈ lw_all := lw_g (lw_at lw_m3 176 rfl) rfl
theorem q790 : (Jvm.Cond.privateMethod ({ cls := "Encores", name := "readsLaw", desc := "()LEncores$Text;" } : Jvm.MethodName)) ∈ lw_tbl := lw_at lw_m3 177 rfl
theorem q791 : (Jvm.Cond.instanceMethod ({ cls := "Encores", name := "readsLaw", desc := "()LEncores$Text;" } : Jvm.MethodName)) ∈ lw_all := lw_g (lw_at lw_m3 178 rfl) rfl
theorem q792 : (Jvm.Cond.code ({ cls := "Encores", name := "readsLaw", desc := "()LEncores$Text;" } : Jvm.MethodName) prog_1_method_28_code (3 : Nat) (Option.some (Jvm.ClassFile.FieldType.object "Encores$Text"))) ∈ lw_all := lw_g (lw_at lw_m3 179 rfl) rfl
theorem q793 : (Jvm.Cond.methodLink "Encores" (330 : Nat) ({ cls := "Encores", name := "sum", desc := "()LEncores$Term;" } : Jvm.MethodName)) ∈ lw_all := lw_g (lw_at lw_m3 180 rfl) rfl
theorem q794 : (Jvm.Cond.privateMethod ({ cls := "Encores", name := "sum", desc := "()LEncores$Term;" } : Jvm.MethodName)) ∈ lw_tbl := lw_at lw_m3 181 rfl
theorem q795 : (Jvm.Cond.instanceMethod ({ cls := "Encores", name := "sum", desc := "()LEncores$Term;" } : Jvm.MethodName)) ∈ lw_all := lw_g (lw_at lw_m3 182 rfl) rfl
theorem q796 : (Jvm.Cond.code ({ cls := "Encores", name := "sum", desc := "()LEncores$Term;" } : Jvm.MethodName) prog_1_method_23_code (3 : Nat) (Option.some (Jvm.ClassFile.FieldType.object "Encores$Term"))) ∈ lw_all := lw_g (lw_at lw_m3 183 rfl) rfl
theorem q797 : (Jvm.Cond.methodLink "Encores" (303 : Nat) ({ cls := "Encores", name := "product", desc := "()LEncores$Term;" } : Jvm.MethodName)) ∈ lw_all := lw_g (lw_at lw_m3 184 rfl) rfl
theorem q798 : (Jvm.Cond.privateMethod ({ cls := "Encores", name := "product", desc := "()LEncores$Term;" } : Jvm.MethodName)) ∈ lw_tbl := lw_at lw_m3 185 rfl
theorem q799 : (Jvm.Cond.instanceMethod ({ cls := "Encores", name := "product", desc := "()LEncores$Term;" } : Jvm.MethodName)) ∈ lw_all := lw_g (lw_at lw_m3 186 rfl) rfl
theorem q800 : (Jvm.Cond.code ({ cls := "Encores", name := "product", desc := "()LEncores$Term;" } : Jvm.MethodName) prog_1_method_22_code (3 : Nat) (Option.some (Jvm.ClassFile.FieldType.object "Encores$Term"))) ∈ lw_all := lw_g (lw_at lw_m3 187 rfl) rfl
theorem q801 : (Jvm.Cond.methodLink "Encores" (294 : Nat) ({ cls := "Encores", name := "unit", desc := "()LEncores$Term;" } : Jvm.MethodName)) ∈ lw_all := lw_g (lw_at lw_m3 188 rfl) rfl
theorem q802 : (Jvm.Cond.privateMethod ({ cls := "Encores", name := "unit", desc := "()LEncores$Term;" } : Jvm.MethodName)) ∈ lw_tbl := lw_at lw_m3 189 rfl
theorem q803 : (Jvm.Cond.instanceMethod ({ cls := "Encores", name := "unit", desc := "()LEncores$Term;" } : Jvm.MethodName)) ∈ lw_all := lw_g (lw_at lw_m3 190 rfl) rfl
theorem q804 : (Jvm.Cond.code ({ cls := "Encores", name := "unit", desc := "()LEncores$Term;" } : Jvm.MethodName) prog_1_method_21_code (2 : Nat) (Option.some (Jvm.ClassFile.FieldType.object "Encores$Term"))) ∈ lw_all := lw_g (lw_at lw_m3 191 rfl) rfl
theorem q805 : (Jvm.Cond.classLink "Encores" (287 : Nat) "Encores$Number") ∈ lw_all := lw_g (lw_at lw_m3 192 rfl) rfl
theorem q807 : (Jvm.Cond.methodLink "Encores" (289 : Nat) ({ cls := "Encores$Number", name := "<init>", desc := "(I)V" } : Jvm.MethodName)) ∈ lw_all := lw_g (lw_at lw_m3 194 rfl) rfl
theorem q818 : (Jvm.Cond.classLink "Encores" (291 : Nat) "Encores$Word") ∈ lw_all := lw_g (lw_at lw_m3 205 rfl) rfl
theorem q820 : (Jvm.Cond.methodLink "Encores" (293 : Nat) ({ cls := "Encores$Word", name := "<init>", desc := "(I)V" } : Jvm.MethodName)) ∈ lw_all := lw_g (lw_at lw_m3 207 rfl) rfl
theorem q828 : (Jvm.Cond.classLink "Encores" (298 : Nat) "Encores$Two") ∈ lw_all := lw_g (lw_at lw_m3 215 rfl) rfl
theorem q830 : (Jvm.Cond.methodLink "Encores" (300 : Nat) ({ cls := "Encores$Two", name := "<init>", desc := "(CLEncores$Term;LEncores$Term;)V" } : Jvm.MethodName)) ∈ lw_all := lw_g (lw_at lw_m3 217 rfl) rfl
theorem q844 : (Jvm.Cond.methodLink "Encores" (323 : Nat) ({ cls := "Encores", name := "any", desc := "()LEncores$Term;" } : Jvm.MethodName)) ∈ lw_all := lw_g (lw_at lw_m3 231 rfl) rfl
theorem q845 : (Jvm.Cond.privateMethod ({ cls := "Encores", name := "any", desc := "()LEncores$Term;" } : Jvm.MethodName)) ∈ lw_tbl := lw_at lw_m3 232 rfl
theorem q846 : (Jvm.Cond.instanceMethod ({ cls := "Encores", name := "any", desc := "()LEncores$Term;" } : Jvm.MethodName)) ∈ lw_all := lw_g (lw_at lw_m3 233 rfl) rfl
theorem q847 : (Jvm.Cond.code ({ cls := "Encores", name := "any", desc := "()LEncores$Term;" } : Jvm.MethodName) prog_1_method_27_code (2 : Nat) (Option.some (Jvm.ClassFile.FieldType.object "Encores$Term"))) ∈ lw_all := lw_g (lw_at lw_m3 234 rfl) rfl
theorem q848 : (Jvm.Cond.methodLink "Encores" (333 : Nat) ({ cls := "Encores", name := "both", desc := "()LEncores$Term;" } : Jvm.MethodName)) ∈ lw_all := lw_g (lw_at lw_m3 235 rfl) rfl
theorem q849 : (Jvm.Cond.privateMethod ({ cls := "Encores", name := "both", desc := "()LEncores$Term;" } : Jvm.MethodName)) ∈ lw_tbl := lw_at lw_m3 236 rfl
theorem q850 : (Jvm.Cond.instanceMethod ({ cls := "Encores", name := "both", desc := "()LEncores$Term;" } : Jvm.MethodName)) ∈ lw_all := lw_g (lw_at lw_m3 237 rfl) rfl
theorem q851 : (Jvm.Cond.code ({ cls := "Encores", name := "both", desc := "()LEncores$Term;" } : Jvm.MethodName) prog_1_method_26_code (2 : Nat) (Option.some (Jvm.ClassFile.FieldType.object "Encores$Term"))) ∈ lw_all := lw_g (lw_at lw_m3 238 rfl) rfl
theorem q852 : (Jvm.Cond.methodLink "Encores" (315 : Nat) ({ cls := "Encores", name := "oneOf", desc := "()LEncores$Term;" } : Jvm.MethodName)) ∈ lw_all := lw_g (lw_at lw_m3 239 rfl) rfl
theorem q853 : (Jvm.Cond.privateMethod ({ cls := "Encores", name := "oneOf", desc := "()LEncores$Term;" } : Jvm.MethodName)) ∈ lw_tbl := lw_at lw_m4 0 rfl
theorem q854 : (Jvm.Cond.instanceMethod ({ cls := "Encores", name := "oneOf", desc := "()LEncores$Term;" } : Jvm.MethodName)) ∈ lw_all := lw_g (lw_at lw_m4 1 rfl) rfl
theorem q855 : (Jvm.Cond.code ({ cls := "Encores", name := "oneOf", desc := "()LEncores$Term;" } : Jvm.MethodName) prog_1_method_25_code (3 : Nat) (Option.some (Jvm.ClassFile.FieldType.object "Encores$Term"))) ∈ lw_all := lw_g (lw_at lw_m4 2 rfl) rfl
theorem q856 : (Jvm.Cond.methodLink "Encores" (312 : Nat) ({ cls := "Encores", name := "opens", desc := "()V" } : Jvm.MethodName)) ∈ lw_all := lw_g (lw_at lw_m4 3 rfl) rfl
theorem q857 : (Jvm.Cond.privateMethod ({ cls := "Encores", name := "opens", desc := "()V" } : Jvm.MethodName)) ∈ lw_tbl := lw_at lw_m4 4 rfl
theorem q858 : (Jvm.Cond.instanceMethod ({ cls := "Encores", name := "opens", desc := "()V" } : Jvm.MethodName)) ∈ lw_all := lw_g (lw_at lw_m4 5 rfl) rfl
theorem q859 : (Jvm.Cond.code ({ cls := "Encores", name := "opens", desc := "()V" } : Jvm.MethodName) prog_1_method_24_code (1 : Nat) (Option.none : Option Jvm.ClassFile.FieldType)) ∈ lw_all := lw_g (lw_at lw_m4 6 rfl) rfl
theorem q860 : (Jvm.Cond.classLink "Encores" (318 : Nat) "Encores$Not") ∈ lw_all := lw_g (lw_at lw_m4 7 rfl) rfl
theorem q862 : (Jvm.Cond.methodLink "Encores" (320 : Nat) ({ cls := "Encores$Not", name := "<init>", desc := "(LEncores$Term;)V" } : Jvm.MethodName)) ∈ lw_all := lw_g (lw_at lw_m4 9 rfl) rfl
theorem q871 : (Jvm.Cond.instanceMethod ({ cls := "Encores", name := "fault", desc := "(I)I" } : Jvm.MethodName)) ∈ lw_all := lw_g (lw_at lw_m4 18 rfl) rfl
theorem q872 : (Jvm.Cond.selects "Encores" ({ cls := "Encores", name := "fault", desc := "(I)I" } : Jvm.MethodName) ({ cls := "Encores", name := "fault", desc := "(I)I" } : Jvm.MethodName)) ∈ lw_all := lw_g (lw_at lw_m4 19 rfl) rfl
theorem q873 : (Jvm.Cond.code ({ cls := "Encores", name := "fault", desc := "(I)I" } : Jvm.MethodName) prog_1_method_41_code (2 : Nat) (Option.some Jvm.ClassFile.FieldType.int)) ∈ lw_all := lw_g (lw_at lw_m4 20 rfl) rfl
theorem q875 : (Jvm.Cond.instanceMethod ({ cls := "Encores", name := "undo", desc := "()Z" } : Jvm.MethodName)) ∈ lw_all := lw_g (lw_at lw_m4 22 rfl) rfl
theorem q876 : (Jvm.Cond.selects "Encores" ({ cls := "Encores", name := "undo", desc := "()Z" } : Jvm.MethodName) ({ cls := "Encores", name := "undo", desc := "()Z" } : Jvm.MethodName)) ∈ lw_all := lw_g (lw_at lw_m4 23 rfl) rfl
theorem q877 : (Jvm.Cond.code ({ cls := "Encores", name := "undo", desc := "()Z" } : Jvm.MethodName) prog_1_method_47_code (1 : Nat) (Option.some Jvm.ClassFile.FieldType.boolean)) ∈ lw_all := lw_g (lw_at lw_m4 24 rfl) rfl
theorem q878 : (Jvm.Cond.methodLink "Encores" (434 : Nat) ({ cls := "Encores$Gallery", name := "become", desc := "(LEncores$Gallery;)V" } : Jvm.MethodName)) ∈ lw_all := lw_g (lw_at lw_m4 25 rfl) rfl
theorem q883 : (Jvm.Cond.static ({ cls := "Encores", name := "copies", desc := "([I[I)V" } : Jvm.MethodName)) ∈ lw_all := lw_g (lw_at lw_m4 30 rfl) rfl
theorem q884 : (Jvm.Cond.code ({ cls := "Encores", name := "copies", desc := "([I[I)V" } : Jvm.MethodName) prog_1_method_4_code (2 : Nat) (Option.none : Option Jvm.ClassFile.FieldType)) ∈ lw_all := lw_g (lw_at lw_m4 31 rfl) rfl
theorem q885 : (Jvm.Cond.methodLink "Encores" (10 : Nat) ({ cls := "java/lang/System", name := "arraycopy", desc := "(Ljava/lang/Object;ILjava/lang/Object;II)V" } : Jvm.MethodName)) ∈ lw_all := lw_g (lw_at lw_m4 32 rfl) rfl
theorem q889 : (Jvm.Cond.instanceMethod ({ cls := "Encores", name := "state", desc := "(I)I" } : Jvm.MethodName)) ∈ lw_all := lw_g (lw_at lw_m4 36 rfl) rfl
theorem q890 : (Jvm.Cond.selects "Encores" ({ cls := "Encores", name := "state", desc := "(I)I" } : Jvm.MethodName) ({ cls := "Encores", name := "state", desc := "(I)I" } : Jvm.MethodName)) ∈ lw_all := lw_g (lw_at lw_m4 37 rfl) rfl
theorem q891 : (Jvm.Cond.code ({ cls := "Encores", name := "state", desc := "(I)I" } : Jvm.MethodName) prog_1_method_50_code (3 : Nat) (Option.some Jvm.ClassFile.FieldType.int)) ∈ lw_all := lw_g (lw_at lw_m4 38 rfl) rfl
theorem q893 : (Jvm.Cond.instanceMethod ({ cls := "Encores", name := "hearer", desc := "(III)I" } : Jvm.MethodName)) ∈ lw_all := lw_g (lw_at lw_m4 40 rfl) rfl
theorem q894 : (Jvm.Cond.selects "Encores" ({ cls := "Encores", name := "hearer", desc := "(III)I" } : Jvm.MethodName) ({ cls := "Encores", name := "hearer", desc := "(III)I" } : Jvm.MethodName)) ∈ lw_all := lw_g (lw_at lw_m4 41 rfl) rfl
theorem q895 : (Jvm.Cond.code ({ cls := "Encores", name := "hearer", desc := "(III)I" } : Jvm.MethodName) prog_1_method_51_code (5 : Nat) (Option.some Jvm.ClassFile.FieldType.int)) ∈ lw_all := lw_g (lw_at lw_m4 42 rfl) rfl
theorem q897 : (Jvm.Cond.instanceMethod ({ cls := "Encores", name := "deed", desc := "(III)I" } : Jvm.MethodName)) ∈ lw_all := lw_g (lw_at lw_m4 44 rfl) rfl
theorem q898 : (Jvm.Cond.selects "Encores" ({ cls := "Encores", name := "deed", desc := "(III)I" } : Jvm.MethodName) ({ cls := "Encores", name := "deed", desc := "(III)I" } : Jvm.MethodName)) ∈ lw_all := lw_g (lw_at lw_m4 45 rfl) rfl
theorem q899 : (Jvm.Cond.code ({ cls := "Encores", name := "deed", desc := "(III)I" } : Jvm.MethodName) prog_1_method_52_code (5 : Nat) (Option.some Jvm.ClassFile.FieldType.int)) ∈ lw_all := lw_g (lw_at lw_m4 46 rfl) rfl
theorem q901 : (Jvm.Cond.instanceMethod ({ cls := "Encores", name := "set", desc := "(III)Z" } : Jvm.MethodName)) ∈ lw_all := lw_g (lw_at lw_m4 48 rfl) rfl
theorem q902 : (Jvm.Cond.selects "Encores" ({ cls := "Encores", name := "set", desc := "(III)Z" } : Jvm.MethodName) ({ cls := "Encores", name := "set", desc := "(III)Z" } : Jvm.MethodName)) ∈ lw_all := lw_g (lw_at lw_m4 49 rfl) rfl
theorem q903 : (Jvm.Cond.code ({ cls := "Encores", name := "set", desc := "(III)Z" } : Jvm.MethodName) prog_1_method_54_code (4 : Nat) (Option.some Jvm.ClassFile.FieldType.boolean)) ∈ lw_all := lw_g (lw_at lw_m4 50 rfl) rfl
theorem q904 : (Jvm.Cond.methodLink "Encores" (460 : Nat) ({ cls := "Encores", name := "canSet", desc := "(III)Z" } : Jvm.MethodName)) ∈ lw_all := lw_g (lw_at lw_m4 51 rfl) rfl
theorem q905 : (Jvm.Cond.privateMethod ({ cls := "Encores", name := "canSet", desc := "(III)Z" } : Jvm.MethodName)) ∈ lw_tbl := lw_at lw_m4 52 rfl
theorem q906 : (Jvm.Cond.instanceMethod ({ cls := "Encores", name := "canSet", desc := "(III)Z" } : Jvm.MethodName)) ∈ lw_all := lw_g (lw_at lw_m4 53 rfl) rfl
theorem q907 : (Jvm.Cond.code ({ cls := "Encores", name := "canSet", desc := "(III)Z" } : Jvm.MethodName) prog_1_method_53_code (4 : Nat) (Option.some Jvm.ClassFile.FieldType.boolean)) ∈ lw_all := lw_g (lw_at lw_m4 54 rfl) rfl
theorem q908 : (Jvm.Cond.methodLink "Encores" (454 : Nat) ({ cls := "Encores", name := "isHearer", desc := "(I)Z" } : Jvm.MethodName)) ∈ lw_all := lw_g (lw_at lw_m4 55 rfl) rfl
theorem q909 : (Jvm.Cond.privateMethod ({ cls := "Encores", name := "isHearer", desc := "(I)Z" } : Jvm.MethodName)) ∈ lw_tbl := lw_at lw_m4 56 rfl
theorem q910 : (Jvm.Cond.instanceMethod ({ cls := "Encores", name := "isHearer", desc := "(I)Z" } : Jvm.MethodName)) ∈ lw_all := lw_g (lw_at lw_m4 57 rfl) rfl
theorem q911 : (Jvm.Cond.code ({ cls := "Encores", name := "isHearer", desc := "(I)Z" } : Jvm.MethodName) prog_1_method_48_code (2 : Nat) (Option.some Jvm.ClassFile.FieldType.boolean)) ∈ lw_all := lw_g (lw_at lw_m4 58 rfl) rfl
theorem q912 : (Jvm.Cond.methodLink "Encores" (457 : Nat) ({ cls := "Encores", name := "isDeed", desc := "(I)Z" } : Jvm.MethodName)) ∈ lw_all := lw_g (lw_at lw_m4 59 rfl) rfl
theorem q913 : (Jvm.Cond.privateMethod ({ cls := "Encores", name := "isDeed", desc := "(I)Z" } : Jvm.MethodName)) ∈ lw_tbl := lw_at lw_m4 60 rfl
theorem q914 : (Jvm.Cond.instanceMethod ({ cls := "Encores", name := "isDeed", desc := "(I)Z" } : Jvm.MethodName)) ∈ lw_all := lw_g (lw_at lw_m4 61 rfl) rfl
theorem q915 : (Jvm.Cond.code ({ cls := "Encores", name := "isDeed", desc := "(I)Z" } : Jvm.MethodName) prog_1_method_49_code (2 : Nat) (Option.some Jvm.ClassFile.FieldType.boolean)) ∈ lw_all := lw_g (lw_at lw_m4 62 rfl) rfl
theorem q917 : (Jvm.Cond.instanceMethod ({ cls := "Encores", name := "perform", desc := "(I)I" } : Jvm.MethodName)) ∈ lw_all := lw_g (lw_at lw_m4 64 rfl) rfl
theorem q918 : (Jvm.Cond.selects "Encores" ({ cls := "Encores", name := "perform", desc := "(I)I" } : Jvm.MethodName) ({ cls := "Encores", name := "perform", desc := "(I)I" } : Jvm.MethodName)) ∈ lw_all := lw_g (lw_at lw_m4 65 rfl) rfl
theorem q919 : (Jvm.Cond.code ({ cls := "Encores", name := "perform", desc := "(I)I" } : Jvm.MethodName) prog_1_method_55_code (2 : Nat) (Option.some Jvm.ClassFile.FieldType.int)) ∈ lw_all := lw_g (lw_at lw_m4 66 rfl) rfl
theorem q920 : (Jvm.Cond.methodLink "Encores" (469 : Nat) ({ cls := "Encores", name := "keepsAhead", desc := "()V" } : Jvm.MethodName)) ∈ lw_all := lw_g (lw_at lw_m4 67 rfl) rfl
theorem q921 : (Jvm.Cond.privateMethod ({ cls := "Encores", name := "keepsAhead", desc := "()V" } : Jvm.MethodName)) ∈ lw_tbl := lw_at lw_m4 68 rfl
theorem q922 : (Jvm.Cond.instanceMethod ({ cls := "Encores", name := "keepsAhead", desc := "()V" } : Jvm.MethodName)) ∈ lw_all := lw_g (lw_at lw_m4 69 rfl) rfl
theorem q923 : (Jvm.Cond.code ({ cls := "Encores", name := "keepsAhead", desc := "()V" } : Jvm.MethodName) prog_1_method_46_code (2 : Nat) (Option.none : Option Jvm.ClassFile.FieldType)) ∈ lw_all := lw_g (lw_at lw_m4 70 rfl) rfl
theorem q924 : (Jvm.Cond.methodLink "Encores" (472 : Nat) ({ cls := "Encores$Gallery", name := "does", desc := "(I)I" } : Jvm.MethodName)) ∈ lw_all := lw_g (lw_at lw_m4 71 rfl) rfl
theorem q944 : (Jvm.Cond.privateMethod ({ cls := "Encores", name := "tells", desc := "(III)I" } : Jvm.MethodName)) ∈ lw_tbl := lw_at lw_m4 91 rfl
theorem q945 : (Jvm.Cond.instanceMethod ({ cls := "Encores", name := "tells", desc := "(III)I" } : Jvm.MethodName)) ∈ lw_all := lw_g (lw_at lw_m4 92 rfl) rfl
theorem q946 : (Jvm.Cond.code ({ cls := "Encores", name := "tells", desc := "(III)I" } : Jvm.MethodName) prog_1_method_29_code (5 : Nat) (Option.some Jvm.ClassFile.FieldType.int)) ∈ lw_all := lw_g (lw_at lw_m4 93 rfl) rfl
theorem q947 : (Jvm.Cond.methodLink "Encores" (350 : Nat) ({ cls := "Encores$Term", name := "of", desc := "([I)I" } : Jvm.MethodName)) ∈ lw_all := lw_g (lw_at lw_m4 94 rfl) rfl
theorem q964 : (Jvm.Cond.methodLink "Encores" (355 : Nat) ({ cls := "Encores", name := "held", desc := "(III)I" } : Jvm.MethodName)) ∈ lw_all := lw_g (lw_at lw_m4 111 rfl) rfl
theorem q965 : (Jvm.Cond.static ({ cls := "Encores", name := "held", desc := "(III)I" } : Jvm.MethodName)) ∈ lw_all := lw_g (lw_at lw_m4 112 rfl) rfl
theorem q966 : (Jvm.Cond.code ({ cls := "Encores", name := "held", desc := "(III)I" } : Jvm.MethodName) prog_1_method_2_code (3 : Nat) (Option.some Jvm.ClassFile.FieldType.int)) ∈ lw_all := lw_g (lw_at lw_m4 113 rfl) rfl
theorem q967 : (Jvm.Cond.methodLink "Encores" (7 : Nat) ({ cls := "java/lang/Math", name := "max", desc := "(II)I" } : Jvm.MethodName)) ∈ lw_all := lw_g (lw_at lw_m4 114 rfl) rfl
theorem q974 : (Jvm.Cond.static ({ cls := "Encores", name := "has", desc := "(II)Z" } : Jvm.MethodName)) ∈ lw_all := lw_g (lw_at lw_m4 121 rfl) rfl
theorem q975 : (Jvm.Cond.code ({ cls := "Encores", name := "has", desc := "(II)Z" } : Jvm.MethodName) prog_1_method_3_code (2 : Nat) (Option.some Jvm.ClassFile.FieldType.boolean)) ∈ lw_all := lw_g (lw_at lw_m4 122 rfl) rfl
theorem q1001 : (Jvm.Cond.privateMethod ({ cls := "Encores", name := "countOf", desc := "(I)I" } : Jvm.MethodName)) ∈ lw_tbl := lw_at lw_m4 148 rfl
theorem q1002 : (Jvm.Cond.instanceMethod ({ cls := "Encores", name := "countOf", desc := "(I)I" } : Jvm.MethodName)) ∈ lw_all := lw_g (lw_at lw_m4 149 rfl) rfl
theorem q1003 : (Jvm.Cond.code ({ cls := "Encores", name := "countOf", desc := "(I)I" } : Jvm.MethodName) prog_1_method_44_code (3 : Nat) (Option.some Jvm.ClassFile.FieldType.int)) ∈ lw_all := lw_g (lw_at lw_m4 150 rfl) rfl
theorem q1004 : (Jvm.Cond.methodLink "Encores" (420 : Nat) ({ cls := "Encores$Rule", name := "what", desc := "()I" } : Jvm.MethodName)) ∈ lw_all := lw_g (lw_at lw_m4 151 rfl) rfl
theorem q1008 : (Jvm.Cond.methodLink "Encores" (423 : Nat) ({ cls := "Encores$Rule", name := "n", desc := "()I" } : Jvm.MethodName)) ∈ lw_all := lw_g (lw_at lw_m4 155 rfl) rfl
theorem q1021 : (Jvm.Cond.privateMethod ({ cls := "Encores", name := "writes", desc := "(III)V" } : Jvm.MethodName)) ∈ lw_tbl := lw_at lw_m4 168 rfl
theorem q1022 : (Jvm.Cond.instanceMethod ({ cls := "Encores", name := "writes", desc := "(III)V" } : Jvm.MethodName)) ∈ lw_all := lw_g (lw_at lw_m4 169 rfl) rfl
theorem q1023 : (Jvm.Cond.code ({ cls := "Encores", name := "writes", desc := "(III)V" } : Jvm.MethodName) prog_1_method_45_code (5 : Nat) (Option.none : Option Jvm.ClassFile.FieldType)) ∈ lw_all := lw_g (lw_at lw_m4 170 rfl) rfl
theorem q1025 : (Jvm.Cond.privateMethod ({ cls := "Encores", name := "handsFrom", desc := "(I)I" } : Jvm.MethodName)) ∈ lw_tbl := lw_at lw_m4 172 rfl
theorem q1026 : (Jvm.Cond.instanceMethod ({ cls := "Encores", name := "handsFrom", desc := "(I)I" } : Jvm.MethodName)) ∈ lw_all := lw_g (lw_at lw_m4 173 rfl) rfl
theorem q1027 : (Jvm.Cond.code ({ cls := "Encores", name := "handsFrom", desc := "(I)I" } : Jvm.MethodName) prog_1_method_43_code (6 : Nat) (Option.some Jvm.ClassFile.FieldType.int)) ∈ lw_all := lw_g (lw_at lw_m4 174 rfl) rfl
theorem q1028 : (Jvm.Cond.methodLink "Encores" (426 : Nat) ({ cls := "Encores$Rule", name := "from", desc := "()I" } : Jvm.MethodName)) ∈ lw_all := lw_g (lw_at lw_m4 175 rfl) rfl
theorem q1033 : (Jvm.Cond.privateMethod ({ cls := "Encores", name := "latest", desc := "(II)I" } : Jvm.MethodName)) ∈ lw_tbl := lw_at lw_m4 180 rfl
theorem q1034 : (Jvm.Cond.instanceMethod ({ cls := "Encores", name := "latest", desc := "(II)I" } : Jvm.MethodName)) ∈ lw_all := lw_g (lw_at lw_m4 181 rfl) rfl
theorem q1035 : (Jvm.Cond.code ({ cls := "Encores", name := "latest", desc := "(II)I" } : Jvm.MethodName) prog_1_method_42_code (5 : Nat) (Option.some Jvm.ClassFile.FieldType.int)) ∈ lw_all := lw_g (lw_at lw_m4 182 rfl) rfl
theorem q1037 : (Jvm.Cond.instanceMethod ({ cls := "Encores", name := "pay", desc := "(II)Z" } : Jvm.MethodName)) ∈ lw_all := lw_g (lw_at lw_m4 184 rfl) rfl
theorem q1038 : (Jvm.Cond.selects "Encores" ({ cls := "Encores", name := "pay", desc := "(II)Z" } : Jvm.MethodName) ({ cls := "Encores", name := "pay", desc := "(II)Z" } : Jvm.MethodName)) ∈ lw_all := lw_g (lw_at lw_m4 185 rfl) rfl
theorem q1039 : (Jvm.Cond.code ({ cls := "Encores", name := "pay", desc := "(II)Z" } : Jvm.MethodName) prog_1_method_56_code (3 : Nat) (Option.some Jvm.ClassFile.FieldType.boolean)) ∈ lw_all := lw_g (lw_at lw_m4 186 rfl) rfl
theorem q1040 : (Jvm.Cond.methodLink "Encores" (478 : Nat) ({ cls := "Encores", name := "writes", desc := "(III)V" } : Jvm.MethodName)) ∈ lw_all := lw_g (lw_at lw_m4 187 rfl) rfl
theorem q1042 : (Jvm.Cond.instanceMethod ({ cls := "Encores", name := "glove", desc := "(IZ)Z" } : Jvm.MethodName)) ∈ lw_all := lw_g (lw_at lw_m4 189 rfl) rfl
theorem q1043 : (Jvm.Cond.selects "Encores" ({ cls := "Encores", name := "glove", desc := "(IZ)Z" } : Jvm.MethodName) ({ cls := "Encores", name := "glove", desc := "(IZ)Z" } : Jvm.MethodName)) ∈ lw_all := lw_g (lw_at lw_m4 190 rfl) rfl
theorem q1044 : (Jvm.Cond.code ({ cls := "Encores", name := "glove", desc := "(IZ)Z" } : Jvm.MethodName) prog_1_method_57_code (3 : Nat) (Option.some Jvm.ClassFile.FieldType.boolean)) ∈ lw_all := lw_g (lw_at lw_m4 191 rfl) rfl
theorem q1045 : (Jvm.Cond.methodLink "Encores" (481 : Nat) ({ cls := "Encores", name := "has", desc := "(II)Z" } : Jvm.MethodName)) ∈ lw_all := lw_g (lw_at lw_m4 192 rfl) rfl
theorem q1047 : (Jvm.Cond.instanceMethod ({ cls := "Encores", name := "let", desc := "(IZ)Z" } : Jvm.MethodName)) ∈ lw_all := lw_g (lw_at lw_m4 194 rfl) rfl
theorem q1048 : (Jvm.Cond.selects "Encores" ({ cls := "Encores", name := "let", desc := "(IZ)Z" } : Jvm.MethodName) ({ cls := "Encores", name := "let", desc := "(IZ)Z" } : Jvm.MethodName)) ∈ lw_all := lw_g (lw_at lw_m4 195 rfl) rfl
theorem q1049 : (Jvm.Cond.code ({ cls := "Encores", name := "let", desc := "(IZ)Z" } : Jvm.MethodName) prog_1_method_58_code (3 : Nat) (Option.some Jvm.ClassFile.FieldType.boolean)) ∈ lw_all := lw_g (lw_at lw_m4 196 rfl) rfl
theorem q1051 : (Jvm.Cond.instanceMethod ({ cls := "Encores", name := "evenings", desc := "(I)I" } : Jvm.MethodName)) ∈ lw_all := lw_g (lw_at lw_m4 198 rfl) rfl
theorem q1052 : (Jvm.Cond.selects "Encores" ({ cls := "Encores", name := "evenings", desc := "(I)I" } : Jvm.MethodName) ({ cls := "Encores", name := "evenings", desc := "(I)I" } : Jvm.MethodName)) ∈ lw_all := lw_g (lw_at lw_m4 199 rfl) rfl
theorem q1053 : (Jvm.Cond.code ({ cls := "Encores", name := "evenings", desc := "(I)I" } : Jvm.MethodName) prog_1_method_59_code (4 : Nat) (Option.some Jvm.ClassFile.FieldType.int)) ∈ lw_all := lw_g (lw_at lw_m4 200 rfl) rfl
theorem q1054 : (Jvm.Cond.methodLink "Encores" (485 : Nat) ({ cls := "Encores$Gallery", name := "goesBy", desc := "()I" } : Jvm.MethodName)) ∈ lw_all := lw_g (lw_at lw_m4 201 rfl) rfl
theorem q1069 : (Jvm.Cond.instanceMethod ({ cls := "Encores", name := "of", desc := "(II)I" } : Jvm.MethodName)) ∈ lw_all := lw_g (lw_at lw_m4 216 rfl) rfl
theorem q1070 : (Jvm.Cond.selects "Encores" ({ cls := "Encores", name := "of", desc := "(II)I" } : Jvm.MethodName) ({ cls := "Encores", name := "of", desc := "(II)I" } : Jvm.MethodName)) ∈ lw_all := lw_g (lw_at lw_m4 217 rfl) rfl
theorem q1071 : (Jvm.Cond.code ({ cls := "Encores", name := "of", desc := "(II)I" } : Jvm.MethodName) prog_1_method_60_code (3 : Nat) (Option.some Jvm.ClassFile.FieldType.int)) ∈ lw_all := lw_g (lw_at lw_m4 218 rfl) rfl
theorem q1072 : (Jvm.Cond.methodLink "Encores" (488 : Nat) ({ cls := "Encores$Gallery", name := "clapOf", desc := "(III)I" } : Jvm.MethodName)) ∈ lw_all := lw_g (lw_at lw_m4 219 rfl) rfl
theorem q1073 : (Jvm.Cond.methodLink "Encores" (491 : Nat) ({ cls := "Encores", name := "countOf", desc := "(I)I" } : Jvm.MethodName)) ∈ lw_all := lw_g (lw_at lw_m4 220 rfl) rfl
theorem q1075 : (Jvm.Cond.instanceMethod ({ cls := "Encores", name := "deedOf", desc := "(II)I" } : Jvm.MethodName)) ∈ lw_all := lw_g (lw_at lw_m4 222 rfl) rfl
theorem q1076 : (Jvm.Cond.selects "Encores" ({ cls := "Encores", name := "deedOf", desc := "(II)I" } : Jvm.MethodName) ({ cls := "Encores", name := "deedOf", desc := "(II)I" } : Jvm.MethodName)) ∈ lw_all := lw_g (lw_at lw_m4 223 rfl) rfl
theorem q1077 : (Jvm.Cond.code ({ cls := "Encores", name := "deedOf", desc := "(II)I" } : Jvm.MethodName) prog_1_method_61_code (3 : Nat) (Option.some Jvm.ClassFile.FieldType.int)) ∈ lw_all := lw_g (lw_at lw_m4 224 rfl) rfl
theorem q1078 : (Jvm.Cond.methodLink "Encores" (494 : Nat) ({ cls := "Encores$Gallery", name := "loudOf", desc := "(I)I" } : Jvm.MethodName)) ∈ lw_all := lw_g (lw_at lw_m4 225 rfl) rfl
theorem q1079 : (Jvm.Cond.methodLink "Encores" (497 : Nat) ({ cls := "Encores$Gallery", name := "wearsOf", desc := "(I)I" } : Jvm.MethodName)) ∈ lw_all := lw_g (lw_at lw_m4 226 rfl) rfl
theorem q1081 : (Jvm.Cond.instanceMethod ({ cls := "Encores", name := "statute", desc := "(I)I" } : Jvm.MethodName)) ∈ lw_all := lw_g (lw_at lw_m4 228 rfl) rfl
theorem q1082 : (Jvm.Cond.selects "Encores" ({ cls := "Encores", name := "statute", desc := "(I)I" } : Jvm.MethodName) ({ cls := "Encores", name := "statute", desc := "(I)I" } : Jvm.MethodName)) ∈ lw_all := lw_g (lw_at lw_m4 229 rfl) rfl
theorem q1083 : (Jvm.Cond.code ({ cls := "Encores", name := "statute", desc := "(I)I" } : Jvm.MethodName) prog_1_method_62_code (2 : Nat) (Option.some Jvm.ClassFile.FieldType.int)) ∈ lw_all := lw_g (lw_at lw_m4 230 rfl) rfl
theorem q1084 : (Jvm.Cond.methodLink "Encores" (500 : Nat) ({ cls := "Encores", name := "handsFrom", desc := "(I)I" } : Jvm.MethodName)) ∈ lw_all := lw_g (lw_at lw_m4 231 rfl) rfl
theorem q1085 : (Jvm.Cond.methodLink "Encores" (503 : Nat) ({ cls := "Encores", name := "latest", desc := "(II)I" } : Jvm.MethodName)) ∈ lw_all := lw_g (lw_at lw_m4 232 rfl) rfl
theorem q1087 : (Jvm.Cond.instanceMethod ({ cls := "Encores", name := "book", desc := "(II)I" } : Jvm.MethodName)) ∈ lw_all := lw_g (lw_at lw_m4 234 rfl) rfl
theorem q1088 : (Jvm.Cond.selects "Encores" ({ cls := "Encores", name := "book", desc := "(II)I" } : Jvm.MethodName) ({ cls := "Encores", name := "book", desc := "(II)I" } : Jvm.MethodName)) ∈ lw_all := lw_g (lw_at lw_m4 235 rfl) rfl
theorem q1089 : (Jvm.Cond.code ({ cls := "Encores", name := "book", desc := "(II)I" } : Jvm.MethodName) prog_1_method_63_code (3 : Nat) (Option.some Jvm.ClassFile.FieldType.int)) ∈ lw_all := lw_g (lw_at lw_m4 236 rfl) rfl
theorem q1091 : (Jvm.Cond.instanceMethod ({ cls := "Encores", name := "goes", desc := "(I)I" } : Jvm.MethodName)) ∈ lw_all := lw_g (lw_at lw_m4 238 rfl) rfl
theorem q1092 : (Jvm.Cond.selects "Encores" ({ cls := "Encores", name := "goes", desc := "(I)I" } : Jvm.MethodName) ({ cls := "Encores", name := "goes", desc := "(I)I" } : Jvm.MethodName)) ∈ lw_all := lw_g (lw_at lw_m4 239 rfl) rfl
theorem q1093 : (Jvm.Cond.code ({ cls := "Encores", name := "goes", desc := "(I)I" } : Jvm.MethodName) prog_1_method_64_code (3 : Nat) (Option.some Jvm.ClassFile.FieldType.int)) ∈ lw_all := lw_g (lw_at lw_m5 0 rfl) rfl
theorem q1094 : (Jvm.Cond.constant "Encores" (506 : Nat) (-100000 : Int32)) ∈ lw_all := lw_g (lw_at lw_m5 1 rfl) rfl
theorem q1095 : (Jvm.Cond.methodLink "Encores" (507 : Nat) ({ cls := "Encores$Gallery", name := "thinks", desc := "(LEncores$Gallery;)LEncores$Gallery;" } : Jvm.MethodName)) ∈ lw_all := lw_g (lw_at lw_m5 2 rfl) rfl
theorem q1101 : (Jvm.Cond.instanceMethod ({ cls := "Encores", name := "settles", desc := "(II)I" } : Jvm.MethodName)) ∈ lw_all := lw_g (lw_at lw_m5 8 rfl) rfl
theorem q1102 : (Jvm.Cond.selects "Encores" ({ cls := "Encores", name := "settles", desc := "(II)I" } : Jvm.MethodName) ({ cls := "Encores", name := "settles", desc := "(II)I" } : Jvm.MethodName)) ∈ lw_all := lw_g (lw_at lw_m5 9 rfl) rfl
theorem q1103 : (Jvm.Cond.code ({ cls := "Encores", name := "settles", desc := "(II)I" } : Jvm.MethodName) prog_1_method_65_code (4 : Nat) (Option.some Jvm.ClassFile.FieldType.int)) ∈ lw_all := lw_g (lw_at lw_m5 10 rfl) rfl
theorem q1104 : (Jvm.Cond.methodLink "Encores" (511 : Nat) ({ cls := "Encores$Gallery", name := "doesOnce", desc := "(I)Z" } : Jvm.MethodName)) ∈ lw_all := lw_g (lw_at lw_m5 11 rfl) rfl
theorem q1106 : (Jvm.Cond.instanceMethod ({ cls := "Encores", name := "makes", desc := "(III)I" } : Jvm.MethodName)) ∈ lw_all := lw_g (lw_at lw_m5 13 rfl) rfl
theorem q1107 : (Jvm.Cond.selects "Encores" ({ cls := "Encores", name := "makes", desc := "(III)I" } : Jvm.MethodName) ({ cls := "Encores", name := "makes", desc := "(III)I" } : Jvm.MethodName)) ∈ lw_all := lw_g (lw_at lw_m5 14 rfl) rfl
theorem q1108 : (Jvm.Cond.code ({ cls := "Encores", name := "makes", desc := "(III)I" } : Jvm.MethodName) prog_1_method_67_code (6 : Nat) (Option.some Jvm.ClassFile.FieldType.int)) ∈ lw_all := lw_g (lw_at lw_m5 15 rfl) rfl
theorem q1109 : (Jvm.Cond.methodLink "Encores" (523 : Nat) ({ cls := "java/lang/Integer", name := "bitCount", desc := "(I)I" } : Jvm.MethodName)) ∈ lw_all := lw_g (lw_at lw_m5 16 rfl) rfl
theorem q1110 : (Jvm.Cond.methodLink "Encores" (528 : Nat) ({ cls := "Encores", name := "isDoneBy", desc := "(III)Z" } : Jvm.MethodName)) ∈ lw_all := lw_g (lw_at lw_m5 17 rfl) rfl
theorem q1111 : (Jvm.Cond.privateMethod ({ cls := "Encores", name := "isDoneBy", desc := "(III)Z" } : Jvm.MethodName)) ∈ lw_tbl := lw_at lw_m5 18 rfl
theorem q1112 : (Jvm.Cond.instanceMethod ({ cls := "Encores", name := "isDoneBy", desc := "(III)Z" } : Jvm.MethodName)) ∈ lw_all := lw_g (lw_at lw_m5 19 rfl) rfl
theorem q1113 : (Jvm.Cond.code ({ cls := "Encores", name := "isDoneBy", desc := "(III)Z" } : Jvm.MethodName) prog_1_method_66_code (6 : Nat) (Option.some Jvm.ClassFile.FieldType.boolean)) ∈ lw_all := lw_g (lw_at lw_m5 20 rfl) rfl
theorem q1115 : (Jvm.Cond.instanceMethod ({ cls := "Encores", name := "brakes", desc := "(II)I" } : Jvm.MethodName)) ∈ lw_all := lw_g (lw_at lw_m5 22 rfl) rfl
theorem q1116 : (Jvm.Cond.selects "Encores" ({ cls := "Encores", name := "brakes", desc := "(II)I" } : Jvm.MethodName) ({ cls := "Encores", name := "brakes", desc := "(II)I" } : Jvm.MethodName)) ∈ lw_all := lw_g (lw_at lw_m5 23 rfl) rfl
theorem q1117 : (Jvm.Cond.code ({ cls := "Encores", name := "brakes", desc := "(II)I" } : Jvm.MethodName) prog_1_method_69_code (6 : Nat) (Option.some Jvm.ClassFile.FieldType.int)) ∈ lw_all := lw_g (lw_at lw_m5 24 rfl) rfl
theorem q1118 : (Jvm.Cond.methodLink "Encores" (531 : Nat) ({ cls := "Encores", name := "isOnceWith", desc := "(II)Z" } : Jvm.MethodName)) ∈ lw_all := lw_g (lw_at lw_m5 25 rfl) rfl
theorem q1119 : (Jvm.Cond.privateMethod ({ cls := "Encores", name := "isOnceWith", desc := "(II)Z" } : Jvm.MethodName)) ∈ lw_tbl := lw_at lw_m5 26 rfl
theorem q1120 : (Jvm.Cond.instanceMethod ({ cls := "Encores", name := "isOnceWith", desc := "(II)Z" } : Jvm.MethodName)) ∈ lw_all := lw_g (lw_at lw_m5 27 rfl) rfl
theorem q1121 : (Jvm.Cond.code ({ cls := "Encores", name := "isOnceWith", desc := "(II)Z" } : Jvm.MethodName) prog_1_method_68_code (4 : Nat) (Option.some Jvm.ClassFile.FieldType.boolean)) ∈ lw_all := lw_g (lw_at lw_m5 28 rfl) rfl
theorem q1123 : (Jvm.Cond.instanceMethod ({ cls := "Encores", name := "eager", desc := "(II)I" } : Jvm.MethodName)) ∈ lw_all := lw_g (lw_at lw_m5 30 rfl) rfl
theorem q1124 : (Jvm.Cond.selects "Encores" ({ cls := "Encores", name := "eager", desc := "(II)I" } : Jvm.MethodName) ({ cls := "Encores", name := "eager", desc := "(II)I" } : Jvm.MethodName)) ∈ lw_all := lw_g (lw_at lw_m5 31 rfl) rfl
theorem q1125 : (Jvm.Cond.code ({ cls := "Encores", name := "eager", desc := "(II)I" } : Jvm.MethodName) prog_1_method_70_code (5 : Nat) (Option.some Jvm.ClassFile.FieldType.int)) ∈ lw_all := lw_g (lw_at lw_m5 32 rfl) rfl
theorem q1127 : (Jvm.Cond.instanceMethod ({ cls := "Encores", name := "tires", desc := "(I)I" } : Jvm.MethodName)) ∈ lw_all := lw_g (lw_at lw_m5 34 rfl) rfl
theorem q1128 : (Jvm.Cond.selects "Encores" ({ cls := "Encores", name := "tires", desc := "(I)I" } : Jvm.MethodName) ({ cls := "Encores", name := "tires", desc := "(I)I" } : Jvm.MethodName)) ∈ lw_all := lw_g (lw_at lw_m5 35 rfl) rfl
theorem q1129 : (Jvm.Cond.code ({ cls := "Encores", name := "tires", desc := "(I)I" } : Jvm.MethodName) prog_1_method_71_code (4 : Nat) (Option.some Jvm.ClassFile.FieldType.int)) ∈ lw_all := lw_g (lw_at lw_m5 36 rfl) rfl
theorem q1131 : (Jvm.Cond.instanceMethod ({ cls := "Encores", name := "fills", desc := "(II)I" } : Jvm.MethodName)) ∈ lw_all := lw_g (lw_at lw_m5 38 rfl) rfl
theorem q1132 : (Jvm.Cond.selects "Encores" ({ cls := "Encores", name := "fills", desc := "(II)I" } : Jvm.MethodName) ({ cls := "Encores", name := "fills", desc := "(II)I" } : Jvm.MethodName)) ∈ lw_all := lw_g (lw_at lw_m5 39 rfl) rfl
theorem q1133 : (Jvm.Cond.code ({ cls := "Encores", name := "fills", desc := "(II)I" } : Jvm.MethodName) prog_1_method_73_code (5 : Nat) (Option.some Jvm.ClassFile.FieldType.int)) ∈ lw_all := lw_g (lw_at lw_m5 40 rfl) rfl
theorem q1134 : (Jvm.Cond.methodLink "Encores" (534 : Nat) ({ cls := "Encores", name := "sumOf", desc := "([II)I" } : Jvm.MethodName)) ∈ lw_all := lw_g (lw_at lw_m5 41 rfl) rfl
theorem q1135 : (Jvm.Cond.static ({ cls := "Encores", name := "sumOf", desc := "([II)I" } : Jvm.MethodName)) ∈ lw_all := lw_g (lw_at lw_m5 42 rfl) rfl
theorem q1136 : (Jvm.Cond.code ({ cls := "Encores", name := "sumOf", desc := "([II)I" } : Jvm.MethodName) prog_1_method_72_code (4 : Nat) (Option.some Jvm.ClassFile.FieldType.int)) ∈ lw_all := lw_g (lw_at lw_m5 43 rfl) rfl
theorem q1138 : (Jvm.Cond.instanceMethod ({ cls := "Encores", name := "lines", desc := "(II)I" } : Jvm.MethodName)) ∈ lw_all := lw_g (lw_at lw_m5 45 rfl) rfl
theorem q1139 : (Jvm.Cond.selects "Encores" ({ cls := "Encores", name := "lines", desc := "(II)I" } : Jvm.MethodName) ({ cls := "Encores", name := "lines", desc := "(II)I" } : Jvm.MethodName)) ∈ lw_all := lw_g (lw_at lw_m5 46 rfl) rfl
theorem q1140 : (Jvm.Cond.code ({ cls := "Encores", name := "lines", desc := "(II)I" } : Jvm.MethodName) prog_1_method_75_code (8 : Nat) (Option.some Jvm.ClassFile.FieldType.int)) ∈ lw_all := lw_g (lw_at lw_m5 47 rfl) rfl
theorem q1141 : (Jvm.Cond.methodLink "Encores" (538 : Nat) ({ cls := "Encores", name := "isAhead", desc := "(II)Z" } : Jvm.MethodName)) ∈ lw_all := lw_g (lw_at lw_m5 48 rfl) rfl
theorem q1142 : (Jvm.Cond.privateMethod ({ cls := "Encores", name := "isAhead", desc := "(II)Z" } : Jvm.MethodName)) ∈ lw_tbl := lw_at lw_m5 49 rfl
theorem q1143 : (Jvm.Cond.instanceMethod ({ cls := "Encores", name := "isAhead", desc := "(II)Z" } : Jvm.MethodName)) ∈ lw_all := lw_g (lw_at lw_m5 50 rfl) rfl
theorem q1144 : (Jvm.Cond.code ({ cls := "Encores", name := "isAhead", desc := "(II)Z" } : Jvm.MethodName) prog_1_method_74_code (3 : Nat) (Option.some Jvm.ClassFile.FieldType.boolean)) ∈ lw_all := lw_g (lw_at lw_m5 51 rfl) rfl
theorem q1146 : (Jvm.Cond.instanceMethod ({ cls := "Encores", name := "claque", desc := "(II)I" } : Jvm.MethodName)) ∈ lw_all := lw_g (lw_at lw_m5 53 rfl) rfl
theorem q1147 : (Jvm.Cond.selects "Encores" ({ cls := "Encores", name := "claque", desc := "(II)I" } : Jvm.MethodName) ({ cls := "Encores", name := "claque", desc := "(II)I" } : Jvm.MethodName)) ∈ lw_all := lw_g (lw_at lw_m5 54 rfl) rfl
theorem q1148 : (Jvm.Cond.code ({ cls := "Encores", name := "claque", desc := "(II)I" } : Jvm.MethodName) prog_1_method_76_code (5 : Nat) (Option.some Jvm.ClassFile.FieldType.int)) ∈ lw_all := lw_g (lw_at lw_m5 55 rfl) rfl
theorem q1150 : (Jvm.Cond.methodLinkNest "Encores" (541 : Nat) ({ cls := "Encores$Claque", name := "<init>", desc := "(II)V" } : Jvm.MethodName) "Encores") ∈ lw_tbl := lw_at lw_m5 57 rfl
theorem q1162 : (Jvm.Cond.instanceMethod ({ cls := "Encores", name := "fits", desc := "(I)I" } : Jvm.MethodName)) ∈ lw_all := lw_g (lw_at lw_m5 69 rfl) rfl
theorem q1163 : (Jvm.Cond.selects "Encores" ({ cls := "Encores", name := "fits", desc := "(I)I" } : Jvm.MethodName) ({ cls := "Encores", name := "fits", desc := "(I)I" } : Jvm.MethodName)) ∈ lw_all := lw_g (lw_at lw_m5 70 rfl) rfl
theorem q1164 : (Jvm.Cond.code ({ cls := "Encores", name := "fits", desc := "(I)I" } : Jvm.MethodName) prog_1_method_78_code (7 : Nat) (Option.some Jvm.ClassFile.FieldType.int)) ∈ lw_all := lw_g (lw_at lw_m5 71 rfl) rfl
theorem q1165 : (Jvm.Cond.methodLink "Encores" (547 : Nat) ({ cls := "java/util/Arrays", name := "fill", desc := "([II)V" } : Jvm.MethodName)) ∈ lw_all := lw_g (lw_at lw_m5 72 rfl) rfl
theorem q1166 : (Jvm.Cond.methodLink "Encores" (553 : Nat) ({ cls := "Encores", name := "fitsAll", desc := "(I)Z" } : Jvm.MethodName)) ∈ lw_all := lw_g (lw_at lw_m5 73 rfl) rfl
theorem q1167 : (Jvm.Cond.privateMethod ({ cls := "Encores", name := "fitsAll", desc := "(I)Z" } : Jvm.MethodName)) ∈ lw_tbl := lw_at lw_m5 74 rfl
theorem q1168 : (Jvm.Cond.instanceMethod ({ cls := "Encores", name := "fitsAll", desc := "(I)Z" } : Jvm.MethodName)) ∈ lw_all := lw_g (lw_at lw_m5 75 rfl) rfl
theorem q1169 : (Jvm.Cond.code ({ cls := "Encores", name := "fitsAll", desc := "(I)Z" } : Jvm.MethodName) prog_1_method_77_code (3 : Nat) (Option.some Jvm.ClassFile.FieldType.boolean)) ∈ lw_all := lw_g (lw_at lw_m5 76 rfl) rfl
theorem q1170 : (Jvm.Cond.methodLink "Encores" (542 : Nat) ({ cls := "Encores$Claque", name := "set", desc := "()I" } : Jvm.MethodName)) ∈ lw_all := lw_g (lw_at lw_m5 77 rfl) rfl
theorem q1174 : (Jvm.Cond.methodLink "Encores" (545 : Nat) ({ cls := "Encores$Claque", name := "many", desc := "()I" } : Jvm.MethodName)) ∈ lw_all := lw_g (lw_at lw_m5 81 rfl) rfl
theorem q1178 : (Jvm.Cond.privateMethod ({ cls := "Encores", name := "lambda$fits$0", desc := "(II)I" } : Jvm.MethodName)) ∈ lw_tbl := lw_at lw_m5 85 rfl
theorem q1179 : (Jvm.Cond.instanceMethod ({ cls := "Encores", name := "lambda$fits$0", desc := "(II)I" } : Jvm.MethodName)) ∈ lw_all := lw_g (lw_at lw_m5 86 rfl) rfl
theorem q1180 : (Jvm.Cond.code ({ cls := "Encores", name := "lambda$fits$0", desc := "(II)I" } : Jvm.MethodName) prog_1_method_103_code (3 : Nat) (Option.some Jvm.ClassFile.FieldType.int)) ∈ lw_all := lw_g (lw_at lw_m5 87 rfl) rfl
theorem q1181 : (Jvm.Cond.methodLink "Encores" (559 : Nat) ({ cls := "Encores", name := "leastBy", desc := "(ILEncores$Measure;)I" } : Jvm.MethodName)) ∈ lw_all := lw_g (lw_at lw_m5 88 rfl) rfl
theorem q1182 : (Jvm.Cond.static ({ cls := "Encores", name := "leastBy", desc := "(ILEncores$Measure;)I" } : Jvm.MethodName)) ∈ lw_all := lw_g (lw_at lw_m5 89 rfl) rfl
theorem q1183 : (Jvm.Cond.code ({ cls := "Encores", name := "leastBy", desc := "(ILEncores$Measure;)I" } : Jvm.MethodName) prog_1_method_6_code (4 : Nat) (Option.some Jvm.ClassFile.FieldType.int)) ∈ lw_all := lw_g (lw_at lw_m5 90 rfl) rfl
theorem q1184 : (Jvm.Cond.interfaceEntry "Encores" (24 : Nat)) ∈ lw_tbl := lw_at lw_m5 91 rfl
theorem q1185 : (Jvm.Cond.methodLink "Encores" (24 : Nat) ({ cls := "Encores$Measure", name := "of", desc := "(I)I" } : Jvm.MethodName)) ∈ lw_all := lw_g (lw_at lw_m5 92 rfl) rfl
theorem q1189 : (Jvm.Cond.instanceMethod ({ cls := "Encores", name := "cuts", desc := "(III)I" } : Jvm.MethodName)) ∈ lw_all := lw_g (lw_at lw_m5 96 rfl) rfl
theorem q1190 : (Jvm.Cond.selects "Encores" ({ cls := "Encores", name := "cuts", desc := "(III)I" } : Jvm.MethodName) ({ cls := "Encores", name := "cuts", desc := "(III)I" } : Jvm.MethodName)) ∈ lw_all := lw_g (lw_at lw_m5 97 rfl) rfl
theorem q1191 : (Jvm.Cond.code ({ cls := "Encores", name := "cuts", desc := "(III)I" } : Jvm.MethodName) prog_1_method_81_code (8 : Nat) (Option.some Jvm.ClassFile.FieldType.int)) ∈ lw_all := lw_g (lw_at lw_m5 98 rfl) rfl
theorem q1192 : (Jvm.Cond.methodLink "Encores" (566 : Nat) ({ cls := "Encores", name := "within", desc := "(III)I" } : Jvm.MethodName)) ∈ lw_all := lw_g (lw_at lw_m5 99 rfl) rfl
theorem q1193 : (Jvm.Cond.privateMethod ({ cls := "Encores", name := "within", desc := "(III)I" } : Jvm.MethodName)) ∈ lw_tbl := lw_at lw_m5 100 rfl
theorem q1194 : (Jvm.Cond.instanceMethod ({ cls := "Encores", name := "within", desc := "(III)I" } : Jvm.MethodName)) ∈ lw_all := lw_g (lw_at lw_m5 101 rfl) rfl
theorem q1195 : (Jvm.Cond.code ({ cls := "Encores", name := "within", desc := "(III)I" } : Jvm.MethodName) prog_1_method_80_code (6 : Nat) (Option.some Jvm.ClassFile.FieldType.int)) ∈ lw_all := lw_g (lw_at lw_m5 102 rfl) rfl
theorem q1196 : (Jvm.Cond.methodLink "Encores" (563 : Nat) ({ cls := "Encores", name := "besideAll", desc := "(I)I" } : Jvm.MethodName)) ∈ lw_all := lw_g (lw_at lw_m5 103 rfl) rfl
theorem q1197 : (Jvm.Cond.privateMethod ({ cls := "Encores", name := "besideAll", desc := "(I)I" } : Jvm.MethodName)) ∈ lw_tbl := lw_at lw_m5 104 rfl
theorem q1198 : (Jvm.Cond.instanceMethod ({ cls := "Encores", name := "besideAll", desc := "(I)I" } : Jvm.MethodName)) ∈ lw_all := lw_g (lw_at lw_m5 105 rfl) rfl
theorem q1199 : (Jvm.Cond.code ({ cls := "Encores", name := "besideAll", desc := "(I)I" } : Jvm.MethodName) prog_1_method_79_code (4 : Nat) (Option.some Jvm.ClassFile.FieldType.int)) ∈ lw_all := lw_g (lw_at lw_m5 106 rfl) rfl
theorem q1201 : (Jvm.Cond.instanceMethod ({ cls := "Encores", name := "near", desc := "(II)I" } : Jvm.MethodName)) ∈ lw_all := lw_g (lw_at lw_m5 108 rfl) rfl
theorem q1202 : (Jvm.Cond.selects "Encores" ({ cls := "Encores", name := "near", desc := "(II)I" } : Jvm.MethodName) ({ cls := "Encores", name := "near", desc := "(II)I" } : Jvm.MethodName)) ∈ lw_all := lw_g (lw_at lw_m5 109 rfl) rfl
theorem q1203 : (Jvm.Cond.code ({ cls := "Encores", name := "near", desc := "(II)I" } : Jvm.MethodName) prog_1_method_82_code (3 : Nat) (Option.some Jvm.ClassFile.FieldType.int)) ∈ lw_all := lw_g (lw_at lw_m5 110 rfl) rfl
theorem q1205 : (Jvm.Cond.instanceMethod ({ cls := "Encores", name := "groups", desc := "(I)I" } : Jvm.MethodName)) ∈ lw_all := lw_g (lw_at lw_m5 112 rfl) rfl
theorem q1206 : (Jvm.Cond.selects "Encores" ({ cls := "Encores", name := "groups", desc := "(I)I" } : Jvm.MethodName) ({ cls := "Encores", name := "groups", desc := "(I)I" } : Jvm.MethodName)) ∈ lw_all := lw_g (lw_at lw_m5 113 rfl) rfl
theorem q1207 : (Jvm.Cond.code ({ cls := "Encores", name := "groups", desc := "(I)I" } : Jvm.MethodName) prog_1_method_83_code (6 : Nat) (Option.some Jvm.ClassFile.FieldType.int)) ∈ lw_all := lw_g (lw_at lw_m5 114 rfl) rfl
theorem q1208 : (Jvm.Cond.methodLink "Encores" (569 : Nat) ({ cls := "java/lang/Integer", name := "numberOfTrailingZeros", desc := "(I)I" } : Jvm.MethodName)) ∈ lw_all := lw_g (lw_at lw_m5 115 rfl) rfl
theorem q1213 : (Jvm.Cond.instanceMethod ({ cls := "Encores", name := "price", desc := "(II)I" } : Jvm.MethodName)) ∈ lw_all := lw_g (lw_at lw_m5 120 rfl) rfl
theorem q1214 : (Jvm.Cond.selects "Encores" ({ cls := "Encores", name := "price", desc := "(II)I" } : Jvm.MethodName) ({ cls := "Encores", name := "price", desc := "(II)I" } : Jvm.MethodName)) ∈ lw_all := lw_g (lw_at lw_m5 121 rfl) rfl
theorem q1215 : (Jvm.Cond.code ({ cls := "Encores", name := "price", desc := "(II)I" } : Jvm.MethodName) prog_1_method_84_code (5 : Nat) (Option.some Jvm.ClassFile.FieldType.int)) ∈ lw_all := lw_g (lw_at lw_m5 122 rfl) rfl
theorem q1217 : (Jvm.Cond.instanceMethod ({ cls := "Encores", name := "gain", desc := "(I)I" } : Jvm.MethodName)) ∈ lw_all := lw_g (lw_at lw_m5 124 rfl) rfl
theorem q1218 : (Jvm.Cond.selects "Encores" ({ cls := "Encores", name := "gain", desc := "(I)I" } : Jvm.MethodName) ({ cls := "Encores", name := "gain", desc := "(I)I" } : Jvm.MethodName)) ∈ lw_all := lw_g (lw_at lw_m5 125 rfl) rfl
theorem q1219 : (Jvm.Cond.code ({ cls := "Encores", name := "gain", desc := "(I)I" } : Jvm.MethodName) prog_1_method_85_code (6 : Nat) (Option.some Jvm.ClassFile.FieldType.int)) ∈ lw_all := lw_g (lw_at lw_m5 126 rfl) rfl
theorem q1220 : (Jvm.Cond.methodLink "Encores" (572 : Nat) ({ cls := "Encores", name := "settles", desc := "(II)I" } : Jvm.MethodName)) ∈ lw_all := lw_g (lw_at lw_m5 127 rfl) rfl
theorem q1222 : (Jvm.Cond.instanceMethod ({ cls := "Encores", name := "bargain", desc := "(I)I" } : Jvm.MethodName)) ∈ lw_all := lw_g (lw_at lw_m5 129 rfl) rfl
theorem q1223 : (Jvm.Cond.selects "Encores" ({ cls := "Encores", name := "bargain", desc := "(I)I" } : Jvm.MethodName) ({ cls := "Encores", name := "bargain", desc := "(I)I" } : Jvm.MethodName)) ∈ lw_all := lw_g (lw_at lw_m5 130 rfl) rfl
theorem q1224 : (Jvm.Cond.code ({ cls := "Encores", name := "bargain", desc := "(I)I" } : Jvm.MethodName) prog_1_method_86_code (4 : Nat) (Option.some Jvm.ClassFile.FieldType.int)) ∈ lw_all := lw_g (lw_at lw_m5 131 rfl) rfl
theorem q1226 : (Jvm.Cond.instanceMethod ({ cls := "Encores", name := "calm", desc := "(I)I" } : Jvm.MethodName)) ∈ lw_all := lw_g (lw_at lw_m5 133 rfl) rfl
theorem q1227 : (Jvm.Cond.selects "Encores" ({ cls := "Encores", name := "calm", desc := "(I)I" } : Jvm.MethodName) ({ cls := "Encores", name := "calm", desc := "(I)I" } : Jvm.MethodName)) ∈ lw_all := lw_g (lw_at lw_m5 134 rfl) rfl
theorem q1228 : (Jvm.Cond.code ({ cls := "Encores", name := "calm", desc := "(I)I" } : Jvm.MethodName) prog_1_method_87_code (5 : Nat) (Option.some Jvm.ClassFile.FieldType.int)) ∈ lw_all := lw_g (lw_at lw_m5 135 rfl) rfl
theorem q1230 : (Jvm.Cond.instanceMethod ({ cls := "Encores", name := "means", desc := "(II)Z" } : Jvm.MethodName)) ∈ lw_all := lw_g (lw_at lw_m5 137 rfl) rfl
theorem q1231 : (Jvm.Cond.selects "Encores" ({ cls := "Encores", name := "means", desc := "(II)Z" } : Jvm.MethodName) ({ cls := "Encores", name := "means", desc := "(II)Z" } : Jvm.MethodName)) ∈ lw_all := lw_g (lw_at lw_m5 138 rfl) rfl
theorem q1232 : (Jvm.Cond.code ({ cls := "Encores", name := "means", desc := "(II)Z" } : Jvm.MethodName) prog_1_method_88_code (3 : Nat) (Option.some Jvm.ClassFile.FieldType.boolean)) ∈ lw_all := lw_g (lw_at lw_m5 139 rfl) rfl
theorem q1234 : (Jvm.Cond.instanceMethod ({ cls := "Encores", name := "passed", desc := "(III)I" } : Jvm.MethodName)) ∈ lw_all := lw_g (lw_at lw_m5 141 rfl) rfl
theorem q1235 : (Jvm.Cond.selects "Encores" ({ cls := "Encores", name := "passed", desc := "(III)I" } : Jvm.MethodName) ({ cls := "Encores", name := "passed", desc := "(III)I" } : Jvm.MethodName)) ∈ lw_all := lw_g (lw_at lw_m5 142 rfl) rfl
theorem q1236 : (Jvm.Cond.code ({ cls := "Encores", name := "passed", desc := "(III)I" } : Jvm.MethodName) prog_1_method_90_code (7 : Nat) (Option.some Jvm.ClassFile.FieldType.int)) ∈ lw_all := lw_g (lw_at lw_m5 143 rfl) rfl
theorem q1237 : (Jvm.Cond.methodLink "Encores" (575 : Nat) ({ cls := "Encores", name := "passedBy", desc := "(II)I" } : Jvm.MethodName)) ∈ lw_all := lw_g (lw_at lw_m5 144 rfl) rfl
theorem q1238 : (Jvm.Cond.privateMethod ({ cls := "Encores", name := "passedBy", desc := "(II)I" } : Jvm.MethodName)) ∈ lw_tbl := lw_at lw_m5 145 rfl
theorem q1239 : (Jvm.Cond.instanceMethod ({ cls := "Encores", name := "passedBy", desc := "(II)I" } : Jvm.MethodName)) ∈ lw_all := lw_g (lw_at lw_m5 146 rfl) rfl
theorem q1240 : (Jvm.Cond.code ({ cls := "Encores", name := "passedBy", desc := "(II)I" } : Jvm.MethodName) prog_1_method_89_code (5 : Nat) (Option.some Jvm.ClassFile.FieldType.int)) ∈ lw_all := lw_g (lw_at lw_m5 147 rfl) rfl
theorem q1242 : (Jvm.Cond.instanceMethod ({ cls := "Encores", name := "share", desc := "(II)I" } : Jvm.MethodName)) ∈ lw_all := lw_g (lw_at lw_m5 149 rfl) rfl
theorem q1243 : (Jvm.Cond.selects "Encores" ({ cls := "Encores", name := "share", desc := "(II)I" } : Jvm.MethodName) ({ cls := "Encores", name := "share", desc := "(II)I" } : Jvm.MethodName)) ∈ lw_all := lw_g (lw_at lw_m5 150 rfl) rfl
theorem q1244 : (Jvm.Cond.code ({ cls := "Encores", name := "share", desc := "(II)I" } : Jvm.MethodName) prog_1_method_93_code (6 : Nat) (Option.some Jvm.ClassFile.FieldType.int)) ∈ lw_all := lw_g (lw_at lw_m5 151 rfl) rfl
theorem q1245 : (Jvm.Cond.methodLink "Encores" (578 : Nat) ({ cls := "Encores", name := "weightOf", desc := "(I)I" } : Jvm.MethodName)) ∈ lw_all := lw_g (lw_at lw_m5 152 rfl) rfl
theorem q1246 : (Jvm.Cond.privateMethod ({ cls := "Encores", name := "weightOf", desc := "(I)I" } : Jvm.MethodName)) ∈ lw_tbl := lw_at lw_m5 153 rfl
theorem q1247 : (Jvm.Cond.instanceMethod ({ cls := "Encores", name := "weightOf", desc := "(I)I" } : Jvm.MethodName)) ∈ lw_all := lw_g (lw_at lw_m5 154 rfl) rfl
theorem q1248 : (Jvm.Cond.code ({ cls := "Encores", name := "weightOf", desc := "(I)I" } : Jvm.MethodName) prog_1_method_91_code (2 : Nat) (Option.some Jvm.ClassFile.FieldType.int)) ∈ lw_all := lw_g (lw_at lw_m5 155 rfl) rfl
theorem q1249 : (Jvm.Cond.methodLink "Encores" (581 : Nat) ({ cls := "Encores", name := "aheadOf", desc := "(III)I" } : Jvm.MethodName)) ∈ lw_all := lw_g (lw_at lw_m5 156 rfl) rfl
theorem q1250 : (Jvm.Cond.privateMethod ({ cls := "Encores", name := "aheadOf", desc := "(III)I" } : Jvm.MethodName)) ∈ lw_tbl := lw_at lw_m5 157 rfl
theorem q1251 : (Jvm.Cond.instanceMethod ({ cls := "Encores", name := "aheadOf", desc := "(III)I" } : Jvm.MethodName)) ∈ lw_all := lw_g (lw_at lw_m5 158 rfl) rfl
theorem q1252 : (Jvm.Cond.code ({ cls := "Encores", name := "aheadOf", desc := "(III)I" } : Jvm.MethodName) prog_1_method_92_code (7 : Nat) (Option.some Jvm.ClassFile.FieldType.int)) ∈ lw_all := lw_g (lw_at lw_m5 159 rfl) rfl
theorem q1254 : (Jvm.Cond.instanceMethod ({ cls := "Encores", name := "brides", desc := "()I" } : Jvm.MethodName)) ∈ lw_all := lw_g (lw_at lw_m5 161 rfl) rfl
theorem q1255 : (Jvm.Cond.selects "Encores" ({ cls := "Encores", name := "brides", desc := "()I" } : Jvm.MethodName) ({ cls := "Encores", name := "brides", desc := "()I" } : Jvm.MethodName)) ∈ lw_all := lw_g (lw_at lw_m5 162 rfl) rfl
theorem q1256 : (Jvm.Cond.code ({ cls := "Encores", name := "brides", desc := "()I" } : Jvm.MethodName) prog_1_method_94_code (7 : Nat) (Option.some Jvm.ClassFile.FieldType.int)) ∈ lw_all := lw_g (lw_at lw_m5 163 rfl) rfl
theorem q1257 : (Jvm.Cond.constantLong "Encores" (584 : Nat) (1000000007 : Int64)) ∈ lw_all := lw_g (lw_at lw_m5 164 rfl) rfl
theorem q1259 : (Jvm.Cond.instanceMethod ({ cls := "Encores", name := "game", desc := "(I)I" } : Jvm.MethodName)) ∈ lw_all := lw_g (lw_at lw_m5 166 rfl) rfl
theorem q1260 : (Jvm.Cond.selects "Encores" ({ cls := "Encores", name := "game", desc := "(I)I" } : Jvm.MethodName) ({ cls := "Encores", name := "game", desc := "(I)I" } : Jvm.MethodName)) ∈ lw_all := lw_g (lw_at lw_m5 167 rfl) rfl
theorem q1261 : (Jvm.Cond.code ({ cls := "Encores", name := "game", desc := "(I)I" } : Jvm.MethodName) prog_1_method_98_code (4 : Nat) (Option.some Jvm.ClassFile.FieldType.int)) ∈ lw_all := lw_g (lw_at lw_m5 168 rfl) rfl
theorem q1262 : (Jvm.Cond.methodLink "Encores" (589 : Nat) ({ cls := "Encores", name := "findsGrundy", desc := "()V" } : Jvm.MethodName)) ∈ lw_all := lw_g (lw_at lw_m5 169 rfl) rfl
theorem q1263 : (Jvm.Cond.privateMethod ({ cls := "Encores", name := "findsGrundy", desc := "()V" } : Jvm.MethodName)) ∈ lw_tbl := lw_at lw_m5 170 rfl
theorem q1264 : (Jvm.Cond.instanceMethod ({ cls := "Encores", name := "findsGrundy", desc := "()V" } : Jvm.MethodName)) ∈ lw_all := lw_g (lw_at lw_m5 171 rfl) rfl
theorem q1265 : (Jvm.Cond.code ({ cls := "Encores", name := "findsGrundy", desc := "()V" } : Jvm.MethodName) prog_1_method_95_code (3 : Nat) (Option.none : Option Jvm.ClassFile.FieldType)) ∈ lw_all := lw_g (lw_at lw_m5 172 rfl) rfl
theorem q1266 : (Jvm.Cond.methodLink "Encores" (592 : Nat) ({ cls := "Encores", name := "takenFrom", desc := "(II)I" } : Jvm.MethodName)) ∈ lw_all := lw_g (lw_at lw_m5 173 rfl) rfl
theorem q1267 : (Jvm.Cond.privateMethod ({ cls := "Encores", name := "takenFrom", desc := "(II)I" } : Jvm.MethodName)) ∈ lw_tbl := lw_at lw_m5 174 rfl
theorem q1268 : (Jvm.Cond.instanceMethod ({ cls := "Encores", name := "takenFrom", desc := "(II)I" } : Jvm.MethodName)) ∈ lw_all := lw_g (lw_at lw_m5 175 rfl) rfl
theorem q1269 : (Jvm.Cond.code ({ cls := "Encores", name := "takenFrom", desc := "(II)I" } : Jvm.MethodName) prog_1_method_97_code (4 : Nat) (Option.some Jvm.ClassFile.FieldType.int)) ∈ lw_all := lw_g (lw_at lw_m5 176 rfl) rfl
theorem q1270 : (Jvm.Cond.methodLink "Encores" (586 : Nat) ({ cls := "Encores", name := "canTake", desc := "(I)Z" } : Jvm.MethodName)) ∈ lw_all := lw_g (lw_at lw_m5 177 rfl) rfl
theorem q1271 : (Jvm.Cond.static ({ cls := "Encores", name := "canTake", desc := "(I)Z" } : Jvm.MethodName)) ∈ lw_all := lw_g (lw_at lw_m5 178 rfl) rfl
theorem q1272 : (Jvm.Cond.code ({ cls := "Encores", name := "canTake", desc := "(I)Z" } : Jvm.MethodName) prog_1_method_96_code (1 : Nat) (Option.some Jvm.ClassFile.FieldType.boolean)) ∈ lw_all := lw_g (lw_at lw_m5 179 rfl) rfl
theorem q1274 : (Jvm.Cond.instanceMethod ({ cls := "Encores", name := "image", desc := "(Z)Z" } : Jvm.MethodName)) ∈ lw_all := lw_g (lw_at lw_m5 181 rfl) rfl
theorem q1275 : (Jvm.Cond.selects "Encores" ({ cls := "Encores", name := "image", desc := "(Z)Z" } : Jvm.MethodName) ({ cls := "Encores", name := "image", desc := "(Z)Z" } : Jvm.MethodName)) ∈ lw_all := lw_g (lw_at lw_m5 182 rfl) rfl
theorem q1276 : (Jvm.Cond.code ({ cls := "Encores", name := "image", desc := "(Z)Z" } : Jvm.MethodName) prog_1_method_101_code (2 : Nat) (Option.some Jvm.ClassFile.FieldType.boolean)) ∈ lw_all := lw_g (lw_at lw_m5 183 rfl) rfl
theorem q1277 : (Jvm.Cond.methodLink "Encores" (626 : Nat) ({ cls := "Encores", name := "takesAll", desc := "()V" } : Jvm.MethodName)) ∈ lw_all := lw_g (lw_at lw_m5 184 rfl) rfl
theorem q1278 : (Jvm.Cond.privateMethod ({ cls := "Encores", name := "takesAll", desc := "()V" } : Jvm.MethodName)) ∈ lw_tbl := lw_at lw_m5 185 rfl
theorem q1279 : (Jvm.Cond.instanceMethod ({ cls := "Encores", name := "takesAll", desc := "()V" } : Jvm.MethodName)) ∈ lw_all := lw_g (lw_at lw_m5 186 rfl) rfl
theorem q1280 : (Jvm.Cond.code ({ cls := "Encores", name := "takesAll", desc := "()V" } : Jvm.MethodName) prog_1_method_99_code (2 : Nat) (Option.none : Option Jvm.ClassFile.FieldType)) ∈ lw_all := lw_g (lw_at lw_m5 187 rfl) rfl
theorem q1281 : (Jvm.Cond.methodLink "Encores" (595 : Nat) ({ cls := "Encores", name := "copies", desc := "([I[I)V" } : Jvm.MethodName)) ∈ lw_all := lw_g (lw_at lw_m5 188 rfl) rfl
theorem q1282 : (Jvm.Cond.methodLink "Encores" (629 : Nat) ({ cls := "Encores", name := "goesBack", desc := "()V" } : Jvm.MethodName)) ∈ lw_all := lw_g (lw_at lw_m5 189 rfl) rfl
theorem q1283 : (Jvm.Cond.privateMethod ({ cls := "Encores", name := "goesBack", desc := "()V" } : Jvm.MethodName)) ∈ lw_tbl := lw_at lw_m5 190 rfl
theorem q1284 : (Jvm.Cond.instanceMethod ({ cls := "Encores", name := "goesBack", desc := "()V" } : Jvm.MethodName)) ∈ lw_all := lw_g (lw_at lw_m5 191 rfl) rfl
theorem q1285 : (Jvm.Cond.code ({ cls := "Encores", name := "goesBack", desc := "()V" } : Jvm.MethodName) prog_1_method_100_code (2 : Nat) (Option.none : Option Jvm.ClassFile.FieldType)) ∈ lw_all := lw_g (lw_at lw_m5 192 rfl) rfl
theorem q1287 : (Jvm.Cond.instanceMethod ({ cls := "Encores", name := "look", desc := "(I)I" } : Jvm.MethodName)) ∈ lw_all := lw_g (lw_at lw_m5 194 rfl) rfl
theorem q1288 : (Jvm.Cond.selects "Encores" ({ cls := "Encores", name := "look", desc := "(I)I" } : Jvm.MethodName) ({ cls := "Encores", name := "look", desc := "(I)I" } : Jvm.MethodName)) ∈ lw_all := lw_g (lw_at lw_m5 195 rfl) rfl
theorem q1289 : (Jvm.Cond.code ({ cls := "Encores", name := "look", desc := "(I)I" } : Jvm.MethodName) prog_1_method_102_code (2 : Nat) (Option.some Jvm.ClassFile.FieldType.int)) ∈ lw_all := lw_g (lw_at lw_m5 196 rfl) rfl
theorem in_X0 : ∀ w ∈ wsX00, w ∈ lw_all := lw_in wsX00 [370, 372, 374, 376, 378, 380, 382, 384, 386, 388, 390, 392, 394, 396, 398, 400, 402, 404, 406, 408, 410, 412, 414, 416, 418, 420, 422, 424, 426, 428, 430, 432, 434, 436, 438, 440, 442, 444, 446, 448, 450, 452, 454, 456, 458, 460, 462, 464, 466, 468, 470, 472] (by decide +kernel) (by decide +kernel)
