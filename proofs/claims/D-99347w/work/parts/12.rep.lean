/-! what the small machine's heap says of the machine's -/
set_option maxRecDepth 100000
/-- what is fixed: class ids, array classes, the first new address, constants, the strings' arrays, the script, the lambda's class -/
abbrev mD : Type := va_G × (Nat → ClassId) × Nat × mK × (Nat → Nat) × (Nat × Nat × (Nat → Int32)) × ClassId
def dG (D : mD) : va_G := D.1
def dA (D : mD) : Nat → ClassId := D.2.1
def dZ (D : mD) : Nat := D.2.2.1
def dC (D : mD) : mK := D.2.2.2.1
def dK (D : mD) (k : Nat) : Option Nat := D.2.2.2.1.1 k
def dV (D : mD) : Nat → Nat := D.2.2.2.2.1
def dS (D : mD) : Nat × Nat × (Nat → Int32) := D.2.2.2.2.2.1
def dL (D : mD) : ClassId := D.2.2.2.2.2.2
def dF (D : mD) : Nat → Prop := fun q => dZ D ≤ q
abbrev mcl : List vw_C := [(RX0, TX0, 52), (RX1, TX1, 4), (RX2, TX2, 18), (RX3, TX3, 35), (RX4, TX4, 8), (RX5, TX5, 3), (RX6, TX6, 2), (RX6, TX6, 2), (RX8, TX8, 1), (RX9, TX9, 1), (RX10, TX10, 3), (RX11, TX11, 1), (RX12, TX12, 2)]
def mty (t : Nat) : Nat → FieldType := match t with
  | 0 => tyX0 | 1 => tyX1 | 2 => tyX2 | 3 => tyX3 | 4 => tyX4 | 5 => tyX5 | 6 => tyX6 | 7 => tyX6 | 8 => tyX8 | 9 => tyX9 | 10 => tyX10 | 11 => tyX11 | _ => tyX12
def mN (t : Nat) : Nat := match t with
  | 0 => 52 | 1 => 4 | 2 => 18 | 3 => 35 | 4 => 8 | 5 => 3 | 6 => 2 | 7 => 2 | 8 => 1 | 9 => 1 | 10 => 3 | 11 => 1 | _ => 2
def isRt (ty : FieldType) : Bool := match ty with
  | .object _ => true
  | .array _ => true
  | _ => false
def fv (h : mH) (a t k : Nat) : Value := if isRt (mty t k) = true then va_rf (hP h a k) else .int (hI h a k)
def aty (t : Nat) : FieldType := match t with
  | 20 => .int | 21 => .byte | 22 => .object "java/lang/String" | 23 => .array (.object "java/lang/String") | 24 => .object "Encores$Term" | 25 => .object "Encores$Rule" | 26 => .object "Encores$Turn" | 27 => .object "Encores$Gallery" | 28 => .object "Encores$Claque" | _ => .array .int
def mtys (D : mD) : List (ClassId × FieldType) := [(dA D 20, aty 20), (dA D 21, aty 21), (dA D 22, aty 22), (dA D 23, aty 23), (dA D 24, aty 24), (dA D 25, aty 25), (dA D 26, aty 26), (dA D 27, aty 27), (dA D 28, aty 28), (dA D 29, aty 29)]
/-- the constant strings: class, entry, text, bytes -/
def mstr : List (String × Nat × String × List Nat) := [("Encores", 44, "loud", [108, 111, 117, 100]), ("Encores", 46, "clap", [99, 108, 97, 112]), ("Encores", 48, "wears", [119, 101, 97, 114, 115]), ("Encores", 50, "hands", [104, 97, 110, 100, 115]), ("Encores", 52, "most", [109, 111, 115, 116]), ("Encores", 54, "double", [100, 111, 117, 98, 108, 101]), ("Encores", 56, "end", [101, 110, 100]), ("Encores", 58, "from", [102, 114, 111, 109]), ("Encores", 60, "at", [97, 116]), ("Encores", 62, "deed", [100, 101, 101, 100]), ("Encores", 64, "hearer", [104, 101, 97, 114, 101, 114]), ("Encores", 66, "beside", [98, 101, 115, 105, 100, 101]), ("Encores", 72, "likes", [108, 105, 107, 101, 115]), ("Encores", 74, "manners", [109, 97, 110, 110, 101, 114, 115]), ("Encores", 76, "paid", [112, 97, 105, 100]), ("Encores", 78, "worth", [119, 111, 114, 116, 104]), ("Encores", 80, "wear", [119, 101, 97, 114]), ("Encores", 82, "agains", [97, 103, 97, 105, 110, 115]), ("Encores", 84, "late", [108, 97, 116, 101]), ("Encores", 89, "when", [119, 104, 101, 110]), ("Encores", 91, "or", [111, 114]), ("Encores", 93, "and", [97, 110, 100]), ("Encores", 95, "not", [110, 111, 116]), ("Encores", 266, ";+-*/()<=>", [59, 43, 45, 42, 47, 40, 41, 60, 61, 62]), ("EncoresModel", 97, "hearer", [104, 101, 97, 114, 101, 114]), ("EncoresModel", 103, "hands", [104, 97, 110, 100, 115]), ("EncoresModel", 105, "likes", [108, 105, 107, 101, 115]), ("EncoresModel", 107, "manners", [109, 97, 110, 110, 101, 114, 115]), ("EncoresModel", 109, "paid", [112, 97, 105, 100]), ("EncoresModel", 111, "worth", [119, 111, 114, 116, 104]), ("EncoresModel", 113, "wear", [119, 101, 97, 114]), ("EncoresModel", 115, "agains", [97, 103, 97, 105, 110, 115]), ("EncoresModel", 117, "beside", [98, 101, 115, 105, 100, 101]), ("EncoresModel", 119, "late", [108, 97, 116, 101]), ("EncoresModel", 121, "when", [119, 104, 101, 110]), ("EncoresModel", 123, "or", [111, 114]), ("EncoresModel", 125, "and", [97, 110, 100]), ("EncoresModel", 127, "not", [110, 111, 116]), ("EncoresModel", 129, "loud", [108, 111, 117, 100]), ("EncoresModel", 131, "clap", [99, 108, 97, 112]), ("EncoresModel", 133, "wears", [119, 101, 97, 114, 115]), ("EncoresModel", 138, "most", [109, 111, 115, 116]), ("EncoresModel", 140, "double", [100, 111, 117, 98, 108, 101]), ("EncoresModel", 142, "end", [101, 110, 100]), ("EncoresModel", 144, "from", [102, 114, 111, 109]), ("EncoresModel", 155, "at", [97, 116]), ("EncoresModel", 156, "deed", [100, 101, 101, 100])]
def sbyt (i : Nat) : List Nat := (mstr.getD i ("", 0, "", [])).2.2.2
def slen (i : Nat) : Nat := (sbyt i).length
/-- a cell of kind t and length n at a -/
def RC (D : mD) (h : mH) (H : Heap) (a t n : Nat) : Prop :=
  if t < 13 then dZ D ≤ a ∧ t_OB a ((dG D).1 t) (mN t) ((dG D).2 t) H (fv h a t)
  else if t = 14 then dZ D ≤ a ∧ H[a]? = some ({ cls := dL D, slots := #[va_rf (hP h a 0), .int (hI h a 1)], vm := .none } : Cell)
  else if t < 20 then False
  else if t < 22 then dZ D ≤ a ∧ n < 2 ^ 31 ∧ H[a]? = some (vp_cell (dA D t) (n, .inl (hI h a)))
  else if t < 30 then dZ D ≤ a ∧ n < 2 ^ 31 ∧ H[a]? = some (vp_cell (dA D t) (n, .inr (.inr (.inr (.inr (hP h a))))))
  else if t = 40 then a = (dS D).1 ∧ n = (dS D).2.1 ∧ ∀ j, j < n → hI h a j = (dS D).2.2 j
  else False
def Rep (D : mD) (h : mH) (H : Heap) : Prop := H.size = hN h ∧ hC h = dC D ∧ ∀ a t n, hT h a = some (t, n) → RC D h H a t n
/-- words that don't ride in the lists -/
def mnw : List Cond := [(Jvm.Cond.methodLinkNest "Encores" (118 : Nat) ({ cls := "Encores$Text", name := "<init>", desc := "()V" } : Jvm.MethodName) "Encores"), (Jvm.Cond.methodLinkNest "Encores" (157 : Nat) ({ cls := "Encores$Gallery", name := "<init>", desc := "(LEncores;)V" } : Jvm.MethodName) "Encores"), (Jvm.Cond.methodLinkNest "Encores" (366 : Nat) ({ cls := "Encores$Rule", name := "<init>", desc := "(III)V" } : Jvm.MethodName) "Encores"), (Jvm.Cond.methodLinkNest "Encores" (379 : Nat) ({ cls := "Encores$Turn", name := "<init>", desc := "(II)V" } : Jvm.MethodName) "Encores"), (Jvm.Cond.methodLinkNest "Encores" (541 : Nat) ({ cls := "Encores$Claque", name := "<init>", desc := "(II)V" } : Jvm.MethodName) "Encores"), (Jvm.Cond.methodLinkNest "Encores$Two" (1 : Nat) ({ cls := "Encores$Term", name := "<init>", desc := "()V" } : Jvm.MethodName) "Encores"), (Jvm.Cond.castable "Encores$Two" "Encores$Term"), (Jvm.Cond.methodLinkNest "Encores$Not" (1 : Nat) ({ cls := "Encores$Term", name := "<init>", desc := "()V" } : Jvm.MethodName) "Encores"), (Jvm.Cond.castable "Encores$Not" "Encores$Term"), (Jvm.Cond.fieldLinkNest "Encores$Gallery" (70 : Nat) "Encores" "lawHas" "[I" "Encores"), (Jvm.Cond.fieldLinkNest "Encores$Gallery" (177 : Nat) "Encores" "turns" "[LEncores$Turn;" "Encores"), (Jvm.Cond.fieldLinkNest "Encores$Gallery" (99 : Nat) "Encores" "beside" "[I" "Encores"), (Jvm.Cond.fieldLinkNest "Encores$Gallery" (111 : Nat) "Encores" "hearers" "I" "Encores"), (Jvm.Cond.fieldLinkNest "Encores$Gallery" (152 : Nat) "Encores" "coughs" "I" "Encores"), (Jvm.Cond.fieldLinkNest "Encores$Gallery" (90 : Nat) "Encores" "hands" "[I" "Encores"), (Jvm.Cond.fieldLinkNest "Encores$Gallery" (93 : Nat) "Encores" "likes" "[I" "Encores"), (Jvm.Cond.fieldLinkNest "Encores$Gallery" (96 : Nat) "Encores" "manners" "[I" "Encores"), (Jvm.Cond.fieldLinkNest "Encores$Gallery" (79 : Nat) "Encores" "worth" "[I" "Encores"), (Jvm.Cond.fieldLinkNest "Encores$Gallery" (137 : Nat) "Encores" "lasting" "[I" "Encores"), (Jvm.Cond.fieldLinkNest "Encores$Gallery" (140 : Nat) "Encores" "cost" "[I" "Encores"), (Jvm.Cond.methodLinkNest "Encores$Gallery" (32 : Nat) ({ cls := "Encores", name := "copies", desc := "([I[I)V" } : Jvm.MethodName) "Encores"), (Jvm.Cond.methodLinkNest "Encores$Gallery" (86 : Nat) ({ cls := "Encores", name := "tells", desc := "(III)I" } : Jvm.MethodName) "Encores"), (Jvm.Cond.methodLinkNest "Encores$Gallery" (114 : Nat) ({ cls := "Encores", name := "has", desc := "(II)Z" } : Jvm.MethodName) "Encores"), (Jvm.Cond.methodLinkNest "Encores$Gallery" (131 : Nat) ({ cls := "Encores", name := "countOf", desc := "(I)I" } : Jvm.MethodName) "Encores"), (Jvm.Cond.methodLinkNest "Encores$Gallery" (195 : Nat) ({ cls := "Encores", name := "writes", desc := "(III)V" } : Jvm.MethodName) "Encores"), (Jvm.Cond.methodLinkNest "Encores$Gallery" (169 : Nat) ({ cls := "Encores", name := "handsFrom", desc := "(I)I" } : Jvm.MethodName) "Encores"), (Jvm.Cond.methodLinkNest "Encores$Gallery" (172 : Nat) ({ cls := "Encores", name := "latest", desc := "(II)I" } : Jvm.MethodName) "Encores"), (Jvm.Cond.castable "Encores$Fault" "Encores$Fault"), (Jvm.Cond.declares ({ cls := "Encores$Term", name := "of", desc := "([I)I" } : Jvm.MethodName)), (Jvm.Cond.methodLinkNest "Encores$Number" (1 : Nat) ({ cls := "Encores$Term", name := "<init>", desc := "()V" } : Jvm.MethodName) "Encores"), (Jvm.Cond.castable "Encores$Number" "Encores$Term"), (Jvm.Cond.methodLinkNest "Encores$Word" (1 : Nat) ({ cls := "Encores$Term", name := "<init>", desc := "()V" } : Jvm.MethodName) "Encores"), (Jvm.Cond.castable "Encores$Word" "Encores$Term"), (Jvm.Cond.declares ({ cls := "java/lang/Throwable", name := "<init>", desc := "()V" } : Jvm.MethodName)), (Jvm.Cond.declares ({ cls := "java/lang/Throwable", name := "<init>", desc := "(Ljava/lang/String;)V" } : Jvm.MethodName)), (Jvm.Cond.declares ({ cls := "java/lang/Exception", name := "<init>", desc := "()V" } : Jvm.MethodName)), (Jvm.Cond.declares ({ cls := "java/lang/Exception", name := "<init>", desc := "(Ljava/lang/String;)V" } : Jvm.MethodName)), (Jvm.Cond.declares ({ cls := "Encores$Measure", name := "of", desc := "(I)I" } : Jvm.MethodName)), (Jvm.Cond.arrayOver (Jvm.ClassFile.FieldType.array (Jvm.ClassFile.FieldType.object "java/lang/String"))), (Jvm.Cond.arrayOver (Jvm.ClassFile.FieldType.object "java/lang/String")), (Jvm.Cond.arrayOver (Jvm.ClassFile.FieldType.object "Encores$Term")), (Jvm.Cond.arrayOver (Jvm.ClassFile.FieldType.object "Encores$Rule")), (Jvm.Cond.arrayOver (Jvm.ClassFile.FieldType.object "Encores$Turn")), (Jvm.Cond.arrayOver (Jvm.ClassFile.FieldType.object "Encores$Gallery")), (Jvm.Cond.arrayOver (Jvm.ClassFile.FieldType.object "Encores$Claque")), (Jvm.Cond.arrayOver (Jvm.ClassFile.FieldType.array Jvm.ClassFile.FieldType.int))]
/-- statics that hold a reference or null -/
def mst : List (Nat × String × String × String) := [(50, "Encores$Token", "END", "LEncores$Token;"), (51, "Encores$Token", "NONE", "LEncores$Token;"), (52, "Encores$Token", "WORD", "LEncores$Token;"), (53, "Encores$Token", "NUMBER", "LEncores$Token;"), (54, "Encores$Token", "SIGN", "LEncores$Token;"), (60, "jdk/internal/util/Preconditions", "SIOOBE_FORMATTER", "Ljava/util/function/BiFunction;"), (61, "java/lang/Throwable", "UNASSIGNED_STACK", "[Ljava/lang/StackTraceElement;"), (62, "java/lang/Throwable", "SUPPRESSED_SENTINEL", "Ljava/util/List;")]
/-- a constant string, at a with its bytes at v -/
def KS (own tx : String) (ix : Nat) (bs : List Nat) (q : Option Nat) (v : Nat) (A : Nat → Prop) (s : State) : Prop := ∃ a : Nat, q = some a ∧ vk_R own ix tx a s ∧ va_O "java/lang/String" a A s s.heap ∧ va_OF "java/lang/String" "coder" "B" (.int 0) a A s s.heap ∧ va_OF "java/lang/String" "value" "[B" (.ref v) a A s s.heap ∧ va_T .byte v bs.length (fun j => .int (nI (bs.getD j 0))) A s s.heap
def lamN : MethodName := ⟨"Encores", "fits", "(I)I"⟩
def ofN : MethodName := ⟨"Encores$Measure", "of", "(I)I"⟩
/-- the lambda's shape, as the statement's word has it -/
def lamS : Jvm.Lambda.Shape := ({ iface := "Encores$Measure", name := "of", sam := ({ parameters := [Jvm.ClassFile.FieldType.int], returnType := (Option.some Jvm.ClassFile.FieldType.int) } : Jvm.ClassFile.MethodDescriptor), captured := [(Jvm.ClassFile.FieldType.object "Encores"), Jvm.ClassFile.FieldType.int], kind := 5, implClass := "Encores", implName := "lambda$fits$0", implDesc := ({ parameters := [Jvm.ClassFile.FieldType.int, Jvm.ClassFile.FieldType.int], returnType := (Option.some Jvm.ClassFile.FieldType.int) } : Jvm.ClassFile.MethodDescriptor), implItf := false, inst := ({ parameters := [Jvm.ClassFile.FieldType.int], returnType := (Option.some Jvm.ClassFile.FieldType.int) } : Jvm.ClassFile.MethodDescriptor) } : Jvm.Lambda.Shape)
/-- the lambda's site and class -/
def KL (D : mD) (s : State) : Prop := s.lambdaAt? lamN 164 556 lamS = some (dL D, none) ∧ va_Nw (.declares ofN) s ∧ va_Nw (.interfaceMethod "Encores$Measure" "Encores$Measure" "of" "(I)I") s
/-- the constants are the strings -/
def KC (D : mD) : Prop := (∀ a v, (dC D).2.1 a = some v → ∃ i, i < 47 ∧ dK D i = some a ∧ v = dV D i) ∧ ∀ a bs, (dC D).2.2 a = some bs → ∃ i, i < 47 ∧ a = dV D i ∧ bs = (sbyt i).map nI
/-- what is known of the tables and of the cells that nobody writes -/
def KT (D : mD) (s : State) : Prop := dZ D ≤ s.heap.size ∧ va_K (dG D) mcl (mtys D) s ∧ (∀ w ∈ mnw, va_Nw w s) ∧ (∀ z ∈ mst, va_Z z.2.1 z.2.2.1 z.2.2.2 (va_rf (dK D z.1)) (dF D) s s.heap) ∧ va_Z "java/lang/String" "COMPACT_STRINGS" "Z" (.int 1) (dF D) s s.heap ∧ (∀ i o, mstr[i]? = some o → KS o.1 o.2.2.1 o.2.1 o.2.2.2 (dK D i) (dV D i) (dF D) s) ∧ ((dS D).1 < dZ D ∧ va_X (dS D).1 (dS D).2.1 (dS D).2.2 s s.heap) ∧ KL D s ∧ KC D
def wok (w : Cond) : Bool := match w with
  | .fieldLinkNest _ _ _ _ _ _ => true
  | .methodLinkNest _ _ _ _ => true
  | .castable _ _ => true
  | .declares _ => true
  | .arrayOver (.object _) => true
  | .arrayOver (.array _) => true
  | _ => false
theorem mnw_ok : mnw.all wok = true := by decide +kernel
theorem aoA_moved {t : FieldType} {u U : State} (hvm : u.vm.Alike U.vm) (h : va_Nw (.arrayOver (.array t)) u) : va_Nw (.arrayOver (.array t)) U := by
  obtain ⟨comp, c, k, h1, h2, h3, h4, h5⟩ := arrayOverA_spec h
  obtain ⟨k', hk', he⟩ := hvm.2.2 _ _ h3
  have hi : (U.vm.classes.findIdx? fun (x : Class) => match x.kind with | .array component _ => component == comp | _ => false) = some c := by
    rw [hvm.findIdx?_eq _ (fun _ => rfl)]; exact h2
  have hkind : k'.kind = .array comp (.array t) := by rw [he]; exact h4
  have f1 : U.vm.findClass (FieldType.array t).toString = some comp := by rw [hvm.findClass]; exact h1
  have f2 : U.vm.findClass ("[" ++ (FieldType.array t).toString) = some c := by rw [hvm.findClass]; exact h5
  unfold va_Nw Cond.before Cond.holds
  simp only [Cond.value]
  rw [f1, Option.bind_some]
  refine (congrArg (fun o : Option Nat => (o.bind (fun c => (U.vm.classes[c]?).map fun (k : Class) => match k.kind with | .array _ ty => decide (ty = FieldType.array t) && decide (U.vm.findClass ("[" ++ (FieldType.array t).toString) = some c) | _ => false) == some true)) hi).trans ?_
  simp [hk', hkind, f2]
theorem wok_warm {w : Cond} {s U : State} (hw : wok w = true) (hW : s.WarmedH U.vm) (h : va_Nw w s) : va_Nw w U := by
  cases w with
  | fieldLinkNest a i b n d x => exact va_Nw.warmF hW h
  | methodLinkNest a i x y => exact va_Nw.warmM hW h
  | castable a b => exact va_Nw.warmC hW h
  | declares x => exact va_Nw.warmD hW h
  | arrayOver ty =>
    cases ty with
    | object c => exact va_AO.moved hW.alike h
    | array t => exact aoA_moved hW.alike h
    | _ => exact absurd hw (by decide)
  | _ => exact absurd hw (by simp [wok])
theorem lamAt_warm {s t : State} (hW : s.WarmedH t.vm) {x : MethodName} {pc index : Nat} {σ : Jvm.Lambda.Shape} {c : ClassId} (h : s.lambdaAt? x pc index σ = some (c, none)) : t.lambdaAt? x pc index σ = some (c, none) := by
  obtain ⟨m, kc, cf, i0, p0, l, hm, hk, hcf, hsh, hin, hfind, hmade, hcall, hl⟩ := State.lambdaAt?_spec h
  have hcall' : t.lambdaCallable σ c = true := by
    have hA := hW.alike
    simp only [State.lambdaCallable, hA.findClass, hA.assignable, hA.superclasses, hA.declaredIn] at hcall ⊢
    exact hcall
  obtain ⟨kc', hk', he⟩ := hW.alike.2.2 _ _ hk
  have hm' : t.methodNamed? x = some m := by
    have := State.methodNamed?_setVm (s := s) hW.alike x
    rw [hm] at this
    exact this
  have hcf' : kc'.cf = some cf := by rw [he]; exact hcf
  have hin' : (m.idx, pc, index, σ) ∈ Jvm.Lambda.sitesOf kc' := by rw [he]; exact hin
  have hfind' : (kc'.callSites.find? fun y => y.1 == m.idx && y.2.1 == pc) = some (i0, p0, l) := by rw [he]; exact hfind
  have hmade' := Jvm.Lambda.isMade_warmer hW hmade
  obtain ⟨m2, k2, hm2, hk2, hjdk, howes⟩ := State.lambdaAt?_road h
  cases hm.symm.trans hm2
  cases hk.symm.trans hk2
  have hjdk' : jdkName kc'.name = false := by rw [he]; exact hjdk
  have howes' : (t.vm.findClass σ.iface).bind (Jvm.Lambda.owesInit t.vm) = none := by
    rw [hW.alike.findClass]
    cases hfi : s.vm.findClass σ.iface with
    | none => rfl
    | some i => rw [hfi] at howes; simpa [Jvm.Lambda.owesInit_alike hW.alike] using howes
  have hany : ((Jvm.Lambda.sitesOf kc').any fun y => decide (y = (m.idx, pc, index, σ))) = true := by simpa using hin'
  rcases hl with ⟨a, cell, -, h0, -⟩ | ⟨rfl, -, hcap⟩
  · cases h0
  · simp [State.lambdaAt?, guard, hjdk', howes', hm', hk', hcf', hsh, hany, hfind', hcap, hmade', hcall']
theorem KL_warm {D : mD} {s U : State} (hW : s.WarmedH U.vm) (h : KL D s) : KL D U := by
  obtain ⟨h1, h2, h3⟩ := h
  obtain ⟨r, meth, hn, -⟩ := Cond.declares_spec h2
  have tr : ∀ {c : Cond}, c.onTables = true → c.before #[] (s.setVm U.vm) = true → c.before #[] U = true := by
    intro c hc h
    have e := Cond.onTables_vm (A := #[]) (A' := #[]) (U := s) (U' := U) U.vm c hc
    have hU : U.setVm U.vm = U := rfl
    rw [hU] at e
    rw [← e]
    exact h
  exact ⟨lamAt_warm hW h1, va_Nw.warmD hW h2, tr rfl (by rw [Cond.interfaceMethod_setVm hW.alike (r := r) hn (by decide)]; exact h3)⟩
/-- from a method's start to a state behind some of its steps, or below a call -/
theorem KT_warm {D : mD} {s U : State} (hW : s.WarmedH U.vm) (hz : s.heap.size ≤ U.heap.size) (hq : ∀ q : Nat, q < s.heap.size → ¬ dF D q → U.heap[q]? = s.heap[q]?) (h : KT D s) : KT D U := by
  obtain ⟨h1, h2, h3, h4, h5, h6, ⟨h7, h8⟩, h9, h10⟩ := h
  have hal := hW.alike
  refine ⟨Nat.le_trans h1 hz, va_K.moved hal h2, fun w hw => wok_warm (List.all_eq_true.mp mnw_ok w hw) hW (h3 w hw), fun z hz => ((h4 z hz).moved hal).kept hq, (h5.moved hal).kept hq, fun i o hi => ?_, ⟨h7, (h8.moved hal).kept (hq _ (Nat.lt_of_lt_of_le h7 h1) (Nat.not_le.mpr h7))⟩, KL_warm hW h9, h10⟩
  obtain ⟨a, e, k1, k2, k3, k4, k5⟩ := h6 i o hi
  exact ⟨a, e, k1.warm hW, (k2.moved hal).kept hq, (k3.moved hal).kept hq, (k4.moved hal).kept hq, (k5.moved hal).kept hq⟩
/-- the locals -/
def lvr (ls : Array Slot) (nL : Nat) (L : List (Option Value)) : Prop := ls.size = nL ∧ lv_wf ls ∧ ∀ i v, lget L i = some v → ls[i]? = some (.val v)
def asl : Nat → List (Option Value) → List (Nat × Value)
  | _, [] => []
  | i, none :: l => asl (i + 1) l
  | i, some v :: l => (i, v) :: asl (i + 1) l
theorem mem_asl : ∀ (L : List (Option Value)) (i j : Nat) (v : Value), (j, v) ∈ asl i L ↔ ∃ k, j = i + k ∧ lget L k = some v := by
  intro L
  induction L with
  | nil => intro i j v; simp [asl, lget]
  | cons o l ih =>
    intro i j v
    cases o with
    | none =>
      rw [asl, ih]
      constructor
      · rintro ⟨k, e, hk⟩
        exact ⟨k + 1, by omega, hk⟩
      · rintro ⟨k, e, hk⟩
        cases k with
        | zero => exact absurd hk (by simp [lget])
        | succ k => exact ⟨k, by omega, hk⟩
    | some w =>
      rw [asl, List.mem_cons, ih]
      constructor
      · rintro (h | ⟨k, e, hk⟩)
        · cases h; exact ⟨0, by omega, rfl⟩
        · exact ⟨k + 1, by omega, hk⟩
      · rintro ⟨k, e, hk⟩
        cases k with
        | zero => cases hk; exact Or.inl (by rw [e]; rfl)
        | succ k => exact Or.inr ⟨k, by omega, hk⟩
theorem lvr_has {ls : Array Slot} {nL : Nat} {L : List (Option Value)} (h : lvr ls nL L) : lv_has ls nL (asl 0 L) := by
  refine ⟨h.1, h.2.1, fun q hq => ?_⟩
  obtain ⟨j, v⟩ := q
  obtain ⟨k, e, hk⟩ := (mem_asl L 0 j v).mp hq
  have : j = k := by omega
  subst this
  exact h.2.2 j v hk
theorem kil2_some {a : Option Value} {w : Value} (h : kil2 a = some w) : a = some w ∧ w.category ≠ 2 := by
  cases a with
  | none => cases h
  | some v =>
    cases v with
    | long x => cases h
    | double x => cases h
    | _ => cases h; exact ⟨rfl, by simp [Value.category]⟩
theorem lget_lset : ∀ (L : List (Option Value)) (i : Nat) (v : Value) (j : Nat) (w : Value), lget (lset L i v) j = some w → (j = i ∧ w = v) ∨ (j ≠ i ∧ lget L j = some w ∧ (j + 1 = i → w.category ≠ 2)) := by
  intro L
  induction L with
  | nil => intro i v j w h; cases i <;> exact absurd h (by simp [lset, lget])
  | cons a l ih =>
    intro i v j w h
    cases i with
    | zero =>
      cases j with
      | zero => exact Or.inl ⟨rfl, by simpa [lset, lget] using h.symm⟩
      | succ j => exact Or.inr ⟨by omega, h, by omega⟩
    | succ i =>
      cases j with
      | zero =>
        refine Or.inr ⟨by omega, ?_⟩
        by_cases hi : i = 0
        · subst hi
          have h1 : kil2 a = some w := by simpa [lset, lget] using h
          exact ⟨(kil2_some h1).1, fun _ => (kil2_some h1).2⟩
        · have h1 : a = some w := by simpa [lset, lget, hi] using h
          exact ⟨h1, by omega⟩
      | succ j =>
        rcases ih i v j w h with ⟨h1, h2⟩ | ⟨h1, h2, h3⟩
        · exact Or.inl ⟨by omega, h2⟩
        · exact Or.inr ⟨by omega, h2, fun e => h3 (by omega)⟩
theorem lget_lsetL : ∀ (L : List (Option Value)) (i : Nat) (v : Value) (j : Nat) (w : Value), lget (lsetL L i v) j = some w → (j = i ∧ w = v) ∨ (j ≠ i ∧ j ≠ i + 1 ∧ lget L j = some w ∧ (j + 1 = i → w.category ≠ 2)) := by
  intro L
  induction L with
  | nil => intro i v j w h; cases i <;> exact absurd h (by simp [lsetL, lget])
  | cons a l ih =>
    intro i v j w h
    cases i with
    | zero =>
      cases j with
      | zero => exact Or.inl ⟨rfl, by simpa [lsetL, lget] using h.symm⟩
      | succ j =>
        cases l with
        | nil => exact absurd h (by simp [lsetL, lget])
        | cons b l =>
          cases j with
          | zero => exact absurd h (by simp [lsetL, lget])
          | succ j => exact Or.inr ⟨by omega, by omega, h, by omega⟩
    | succ i =>
      cases j with
      | zero =>
        refine Or.inr ⟨by omega, by omega, ?_⟩
        by_cases hi : i = 0
        · subst hi
          have h1 : kil2 a = some w := by simpa [lsetL, lget] using h
          exact ⟨(kil2_some h1).1, fun _ => (kil2_some h1).2⟩
        · have h1 : a = some w := by simpa [lsetL, lget, hi] using h
          exact ⟨h1, by omega⟩
      | succ j =>
        rcases ih i v j w h with ⟨h1, h2⟩ | ⟨h1, h2, h3, h4⟩
        · exact Or.inl ⟨by omega, h2⟩
        · exact Or.inr ⟨by omega, by omega, h3, fun e => h4 (by omega)⟩
theorem lvr_set {ls' : Array Slot} {nL : Nat} {L : List (Option Value)} {i : Nat} {v : Value} (h : lv_has ls' nL ((i, v) :: (asl 0 L).filter (fun q => !(q.1 == i) && !(q.1 + 1 == i && q.2.category == 2)))) : lvr ls' nL (lset L i v) := by
  refine ⟨h.1, h.2.1, fun j w hj => ?_⟩
  rcases lget_lset L i v j w hj with ⟨h1, h2⟩ | ⟨h1, h2, h3⟩
  · subst h1; subst h2
    exact h.2.2 _ List.mem_cons_self
  · refine h.2.2 (j, w) (List.mem_cons_of_mem _ (List.mem_filter.mpr ⟨(mem_asl L 0 j w).mpr ⟨j, by omega, h2⟩, ?_⟩))
    by_cases hj1 : j + 1 = i
    · simp [h1, h3 hj1]
    · simp [h1, hj1]
theorem lvr_setL {ls' : Array Slot} {nL : Nat} {L : List (Option Value)} {i : Nat} {v : Value} (h : lv_has ls' nL ((i, v) :: (asl 0 L).filter (fun q => !(q.1 == i) && (!(q.1 == i + 1) && !(q.1 + 1 == i && q.2.category == 2))))) : lvr ls' nL (lsetL L i v) := by
  refine ⟨h.1, h.2.1, fun j w hj => ?_⟩
  rcases lget_lsetL L i v j w hj with ⟨h1, h2⟩ | ⟨h1, h2, h3, h4⟩
  · subst h1; subst h2
    exact h.2.2 _ List.mem_cons_self
  · refine h.2.2 (j, w) (List.mem_cons_of_mem _ (List.mem_filter.mpr ⟨(mem_asl L 0 j w).mpr ⟨j, by omega, h3⟩, ?_⟩))
    by_cases hj1 : j + 1 = i
    · simp [h1, h2, h4 hj1]
    · simp [h1, h2, hj1]
