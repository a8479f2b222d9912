/-! each instruction of the small machine is one of the machine's -/
def CX (D : mD) (y : Nat) (p : Program) (l : Launch) (e : Env) (R : Room) (s : State) (m : MethodId) (args : Array Value) (meth : Method) (c : Code) : Prop :=
  p.tables.exec = Jvm.exec ∧ c.code = mbyt y ∧ c.maxLocals = mmax y ∧ meth.sig.returnType = mret y ∧ meth.locks = false ∧ (meth.name = (mname y).name ∧ s.methodNamed? (mname y) = some m) ∧ s.vm.findClass (mname y).cls = some m.cls ∧ (∀ w ∈ lw_all, w.before args s = true) ∧ KT D s ∧ (∀ pc, mhand y pc = none ∨ y = 220 ∨ ∀ x ∈ c.exceptionTable.toList, False) ∧ (y = 220 → c.exceptionTable.toList = tableOf [(10, 29, 36, 271), (10, 29, 62, 0), (36, 55, 62, 0), (62, 64, 62, 0)])
def RO (R : Room) : Prop := 1 ≤ R.frames ∧ 3200 ≤ R.locals
def RP (D : mD) (s : State) (N0 U0 : Nat) (h : mH) (H : Heap) (locs : List Loc) (cells slots : Nat) : Prop := Rep D h H ∧ va_S (dF D) s.heap H locs ∧ cells + N0 = hN h ∧ slots + U0 = hU h
def WW (D : mD) (y : Nat) (p : Program) (l : Launch) (e : Env) (R : Room) (s : State) (m : MethodId) (args : Array Value) (below : List Frame) (meth : Method) (c : Code) (Q : State → Prop) (N0 U0 : Nat) (k : mC) : Prop := ∀ (H : Heap) (locs : List Loc) (ls : Array Slot) (cells slots : Nat), RP D s N0 U0 k.2.2.2 H locs cells slots → lvr ls (mmax y) k.2.1 → W p l e R s m args below meth c H locs cells slots Q (F0 m k.1 ls k.2.2.1)
def SN (y pc : Nat) (f : mC → Option mC) : Prop := ∀ (L : List (Option Value)) (st : List Value) (h : mH) (c' : mC), f (pc, L, st, h) = some c' → (hN h ≤ hN c'.2.2.2 ∧ hU h ≤ hU c'.2.2.2) ∧ ∀ (D : mD) (p : Program) (l : Launch) (e : Env) (R : Room) (s : State) (m : MethodId) (args : Array Value) (below : List Frame) (meth : Method) (c : Code) (Q : State → Prop) (N0 U0 : Nat), CX D y p l e R s m args meth c → RO R → hN c'.2.2.2 ≤ N0 + R.cells → hU c'.2.2.2 ≤ U0 + R.slots → WW D y p l e R s m args below meth c Q N0 U0 c' → WW D y p l e R s m args below meth c Q N0 U0 (pc, L, st, h)
/-- the heap stays -/
def SP (y pc : Nat) (f : mC → Option mC) : Prop := ∀ (L : List (Option Value)) (st : List Value) (h : mH) (c' : mC), f (pc, L, st, h) = some c' → c'.2.2.2 = h ∧ ∀ (D : mD) (p : Program) (l : Launch) (e : Env) (R : Room) (s : State) (m : MethodId) (args : Array Value) (below : List Frame) (meth : Method) (c : Code) (Q : State → Prop), CX D y p l e R s m args meth c → RO R → ∀ (H : Heap) (locs : List Loc) (ls : Array Slot) (cells slots : Nat), Rep D h H → va_S (dF D) s.heap H locs → lvr ls (mmax y) L → (∀ ls' : Array Slot, lvr ls' (mmax y) c'.2.1 → W p l e R s m args below meth c H locs cells slots Q (F0 m c'.1 ls' c'.2.2.1)) → W p l e R s m args below meth c H locs cells slots Q (F0 m pc ls st)
theorem SP.sn {y pc : Nat} {f : mC → Option mC} (h : SP y pc f) : SN y pc f := by
  intro L st h0 c' hf
  obtain ⟨e, k⟩ := h L st h0 c' hf
  refine ⟨by rw [e]; exact ⟨Nat.le_refl _, Nat.le_refl _⟩, ?_⟩
  intro D p l e0 R s m args below meth c Q N0 U0 cx ro hn hu w H locs ls cells slots hRP hL
  refine k D p l e0 R s m args below meth c Q cx ro H locs ls cells slots hRP.1 hRP.2.1 hL (fun ls' hL' => w H locs ls' cells slots ?_ hL')
  rw [e]; exact hRP
theorem SN.none (y pc : Nat) : SN y pc (fun _ => none) := by
  intro L st h c' hf
  cases hf
section
variable {y pc : Nat}
theorem sp_iconst {n : Int} {v : Int32} (hd : decode (mbyt y) pc = .ok (.iconst n, 1)) (hv : Int32.ofInt n = v) : SP y pc (i_ic v 1) := by
  intro L st h c' hf
  obtain rfl := Option.some.inj hf
  exact ⟨rfl, fun D p l e R s m args below meth c Q cx ro H locs ls cells slots hR hS hL k => lv_iconst cx.1 cx.2.1 hd hv (k ls hL)⟩
theorem sp_bipush {n : Int} {v : Int32} (hd : decode (mbyt y) pc = .ok (.bipush n, 2)) (hv : (Int8.ofInt n).toInt32 = v) : SP y pc (i_ic v 2) := by
  intro L st h c' hf
  obtain rfl := Option.some.inj hf
  exact ⟨rfl, fun D p l e R s m args below meth c Q cx ro H locs ls cells slots hR hS hL k => lv_bipush cx.1 cx.2.1 hd hv (k ls hL)⟩
theorem sp_sipush {n : Int} {v : Int32} (hd : decode (mbyt y) pc = .ok (.sipush n, 3)) (hv : (Int16.ofInt n).toInt32 = v) : SP y pc (i_ic v 3) := by
  intro L st h c' hf
  obtain rfl := Option.some.inj hf
  exact ⟨rfl, fun D p l e R s m args below meth c Q cx ro H locs ls cells slots hR hS hL k => lv_sipush cx.1 cx.2.1 hd hv (k ls hL)⟩
theorem sp_iadd (hd : decode (mbyt y) pc = .ok (.iadd, 1)) : SP y pc (i_bin (fun x y => x + y)) := by
  intro L st h c' hf
  match st, hf with
  | .int x' :: .int x :: r, hf =>
    obtain rfl := Option.some.inj hf
    exact ⟨rfl, fun D p l e R s m args below meth c Q cx ro H locs ls cells slots hR hS hL k => lv_iadd cx.1 cx.2.1 hd (k ls hL)⟩
theorem sp_isub (hd : decode (mbyt y) pc = .ok (.isub, 1)) : SP y pc (i_bin (fun x y => x - y)) := by
  intro L st h c' hf
  match st, hf with
  | .int x' :: .int x :: r, hf =>
    obtain rfl := Option.some.inj hf
    exact ⟨rfl, fun D p l e R s m args below meth c Q cx ro H locs ls cells slots hR hS hL k => lv_isub cx.1 cx.2.1 hd (k ls hL)⟩
theorem sp_imul (hd : decode (mbyt y) pc = .ok (.imul, 1)) : SP y pc (i_bin (fun x y => x * y)) := by
  intro L st h c' hf
  match st, hf with
  | .int x' :: .int x :: r, hf =>
    obtain rfl := Option.some.inj hf
    exact ⟨rfl, fun D p l e R s m args below meth c Q cx ro H locs ls cells slots hR hS hL k => lv_imul cx.1 cx.2.1 hd (k ls hL)⟩
theorem sp_iand (hd : decode (mbyt y) pc = .ok (.iand, 1)) : SP y pc (i_bin (fun x y => x &&& y)) := by
  intro L st h c' hf
  match st, hf with
  | .int x' :: .int x :: r, hf =>
    obtain rfl := Option.some.inj hf
    exact ⟨rfl, fun D p l e R s m args below meth c Q cx ro H locs ls cells slots hR hS hL k => lv_iand cx.1 cx.2.1 hd (k ls hL)⟩
theorem sp_ior (hd : decode (mbyt y) pc = .ok (.ior, 1)) : SP y pc (i_bin (fun x y => x ||| y)) := by
  intro L st h c' hf
  match st, hf with
  | .int x' :: .int x :: r, hf =>
    obtain rfl := Option.some.inj hf
    exact ⟨rfl, fun D p l e R s m args below meth c Q cx ro H locs ls cells slots hR hS hL k => lv_ior cx.1 cx.2.1 hd (k ls hL)⟩
theorem sp_ixor (hd : decode (mbyt y) pc = .ok (.ixor, 1)) : SP y pc (i_bin (fun x y => x ^^^ y)) := by
  intro L st h c' hf
  match st, hf with
  | .int x' :: .int x :: r, hf =>
    obtain rfl := Option.some.inj hf
    exact ⟨rfl, fun D p l e R s m args below meth c Q cx ro H locs ls cells slots hR hS hL k => lv_ixor cx.1 cx.2.1 hd (k ls hL)⟩
theorem sp_ishl (hd : decode (mbyt y) pc = .ok (.ishl, 1)) : SP y pc (i_bin (fun x y => x <<< (y &&& 31))) := by
  intro L st h c' hf
  match st, hf with
  | .int x' :: .int x :: r, hf =>
    obtain rfl := Option.some.inj hf
    exact ⟨rfl, fun D p l e R s m args below meth c Q cx ro H locs ls cells slots hR hS hL k => lv_ishl cx.1 cx.2.1 hd (k ls hL)⟩
theorem sp_ishr (hd : decode (mbyt y) pc = .ok (.ishr, 1)) : SP y pc (i_bin (fun x y => x >>> (y &&& 31))) := by
  intro L st h c' hf
  match st, hf with
  | .int x' :: .int x :: r, hf =>
    obtain rfl := Option.some.inj hf
    exact ⟨rfl, fun D p l e R s m args below meth c Q cx ro H locs ls cells slots hR hS hL k => lv_ishr cx.1 cx.2.1 hd (k ls hL)⟩
theorem sp_iushr (hd : decode (mbyt y) pc = .ok (.iushr, 1)) : SP y pc (i_bin (fun x y => (x.toUInt32 >>> (y.toUInt32 &&& Int32.toUInt32 31)).toInt32)) := by
  intro L st h c' hf
  match st, hf with
  | .int x' :: .int x :: r, hf =>
    obtain rfl := Option.some.inj hf
    exact ⟨rfl, fun D p l e R s m args below meth c Q cx ro H locs ls cells slots hR hS hL k => lv_iushr cx.1 cx.2.1 hd rfl (k ls hL)⟩
theorem sp_i2c (hd : decode (mbyt y) pc = .ok (.i2c, 1)) : SP y pc (i_un (fun x => (x.toUInt32 % 65536).toInt32)) := by
  intro L st h c' hf
  match st, hf with
  | .int x :: r, hf =>
    obtain rfl := Option.some.inj hf
    exact ⟨rfl, fun D p l e R s m args below meth c Q cx ro H locs ls cells slots hR hS hL k => lv_i2c cx.1 cx.2.1 hd rfl (k ls hL)⟩
theorem sp_i2b (hd : decode (mbyt y) pc = .ok (.i2b, 1)) : SP y pc (i_un (fun x => x.toInt8.toInt32)) := by
  intro L st h c' hf
  match st, hf with
  | .int x :: r, hf =>
    obtain rfl := Option.some.inj hf
    exact ⟨rfl, fun D p l e R s m args below meth c Q cx ro H locs ls cells slots hR hS hL k => lv_i2b cx.1 cx.2.1 hd rfl (k ls hL)⟩
theorem sp_i2l (hd : decode (mbyt y) pc = .ok (.i2l, 1)) : SP y pc (i_i2l) := by
  intro L st h c' hf
  match st, hf with
  | .int x :: r, hf =>
    obtain rfl := Option.some.inj hf
    exact ⟨rfl, fun D p l e R s m args below meth c Q cx ro H locs ls cells slots hR hS hL k => lv_i2l cx.1 cx.2.1 hd rfl (k ls hL)⟩
theorem sp_l2i (hd : decode (mbyt y) pc = .ok (.l2i, 1)) : SP y pc (i_l2i) := by
  intro L st h c' hf
  match st, hf with
  | .long x :: r, hf =>
    obtain rfl := Option.some.inj hf
    exact ⟨rfl, fun D p l e R s m args below meth c Q cx ro H locs ls cells slots hR hS hL k => lv_l2i cx.1 cx.2.1 hd rfl (k ls hL)⟩
theorem sp_lmul (hd : decode (mbyt y) pc = .ok (.lmul, 1)) : SP y pc (i_lmul) := by
  intro L st h c' hf
  match st, hf with
  | .long x' :: .long x :: r, hf =>
    obtain rfl := Option.some.inj hf
    exact ⟨rfl, fun D p l e R s m args below meth c Q cx ro H locs ls cells slots hR hS hL k => lv_lmul cx.1 cx.2.1 hd (k ls hL)⟩
theorem opt_if {α : Type} {P : Prop} [Decidable P] {a b : α} (h : (if P then some a else none) = some b) : P ∧ a = b := by
  by_cases hp : P
  · rw [if_pos hp] at h; exact ⟨hp, Option.some.inj h⟩
  · rw [if_neg hp] at h; cases h
theorem opt_not {α : Type} {P : Prop} [Decidable P] {a b : α} (h : (if P then none else some a) = some b) : ¬ P ∧ a = b := by
  by_cases hp : P
  · rw [if_pos hp] at h; cases h
  · rw [if_neg hp] at h; exact ⟨hp, Option.some.inj h⟩
theorem isC1_cat {v : Value} (h : isC1 v = true) : v.category = 1 := by
  cases v <;> first | rfl | exact absurd h (by decide) | (simp [isC1] at h)
theorem isRv_cases {v : Value} (h : isRv v = true) : (∃ a, v = .ref a) ∨ v = .null := by
  cases v with
  | ref a => exact Or.inl ⟨a, rfl⟩
  | null => exact Or.inr rfl
  | _ => exact absurd h (by simp [isRv])
theorem sp_idiv (hd : decode (mbyt y) pc = .ok (.idiv, 1)) : SP y pc (i_div) := by
  intro L st h c' hf
  match st, hf with
  | .int x' :: .int x :: r, hf =>
    obtain ⟨hg, rfl⟩ := opt_not hf
    exact ⟨rfl, fun D p l e R s m args below meth c Q cx ro H locs ls cells slots hR hS hL k => lv_idiv cx.1 cx.2.1 hd hg (k ls hL)⟩
theorem sp_irem (hd : decode (mbyt y) pc = .ok (.irem, 1)) : SP y pc (i_rem) := by
  intro L st h c' hf
  match st, hf with
  | .int x' :: .int x :: r, hf =>
    obtain ⟨hg, rfl⟩ := opt_not hf
    exact ⟨rfl, fun D p l e R s m args below meth c Q cx ro H locs ls cells slots hR hS hL k => lv_irem cx.1 cx.2.1 hd hg (k ls hL)⟩
theorem sp_lrem (hd : decode (mbyt y) pc = .ok (.lrem, 1)) : SP y pc (i_lrem) := by
  intro L st h c' hf
  match st, hf with
  | .long x' :: .long x :: r, hf =>
    obtain ⟨hg, rfl⟩ := opt_not hf
    exact ⟨rfl, fun D p l e R s m args below meth c Q cx ro H locs ls cells slots hR hS hL k => lv_lrem cx.1 cx.2.1 hd hg (k ls hL)⟩
theorem sp_dup (hd : decode (mbyt y) pc = .ok (.dup, 1)) : SP y pc (i_dup) := by
  intro L st h c' hf
  match st, hf with
  | v :: r, hf =>
    obtain ⟨hg, rfl⟩ := opt_if hf
    exact ⟨rfl, fun D p l e R s m args below meth c Q cx ro H locs ls cells slots hR hS hL k => lv_dup cx.1 cx.2.1 hd (isC1_cat hg) (k ls hL)⟩
theorem sp_pop (hd : decode (mbyt y) pc = .ok (.pop, 1)) : SP y pc (i_pop) := by
  intro L st h c' hf
  match st, hf with
  | v :: r, hf =>
    obtain ⟨hg, rfl⟩ := opt_if hf
    exact ⟨rfl, fun D p l e R s m args below meth c Q cx ro H locs ls cells slots hR hS hL k => lv_pop cx.1 cx.2.1 hd (isC1_cat hg) (k ls hL)⟩
theorem sp_dup2 (hd : decode (mbyt y) pc = .ok (.dup2, 1)) : SP y pc (i_dup2) := by
  intro L st h c' hf
  match st, hf with
  | v :: u :: r, hf =>
    obtain ⟨hg, rfl⟩ := opt_if hf
    exact ⟨rfl, fun D p l e R s m args below meth c Q cx ro H locs ls cells slots hR hS hL k => lv_dup2_11 cx.1 cx.2.1 hd (isC1_cat hg.1) (isC1_cat hg.2) (k ls hL)⟩
theorem sp_null (hd : decode (mbyt y) pc = .ok (.aconst_null, 1)) : SP y pc (i_null) := by
  intro L st h c' hf
  obtain rfl := Option.some.inj hf
  exact ⟨rfl, fun D p l e R s m args below meth c Q cx ro H locs ls cells slots hR hS hL k => lv_null cx.1 cx.2.1 hd (k ls hL)⟩
theorem sp_lconst {n : Fin 2} {v : Int64} (hd : decode (mbyt y) pc = .ok (.lconst n, 1)) (hv : Int64.ofNat (n : Nat) = v) : SP y pc (i_lc v 1) := by
  intro L st h c' hf
  obtain rfl := Option.some.inj hf
  exact ⟨rfl, fun D p l e R s m args below meth c Q cx ro H locs ls cells slots hR hS hL k => lv_lconst cx.1 cx.2.1 hd hv (k ls hL)⟩
theorem sp_goto {off : Int} {t : Nat} (hd : decode (mbyt y) pc = .ok (.goto off, 3)) (ht : (pc : Int) + off = (t : Int)) : SP y pc (i_goto t) := by
  intro L st h c' hf
  obtain rfl := Option.some.inj hf
  exact ⟨rfl, fun D p l e R s m args below meth c Q cx ro H locs ls cells slots hR hS hL k => lv_goto cx.1 cx.2.1 hd ht (k ls hL)⟩
theorem sp_ldc {ix : Nat} {v : Int32} (hd : decode (mbyt y) pc = .ok (.ldc ix, 2)) (hq : Cond.constant (mname y).cls ix v ∈ lw_all) : SP y pc (i_ic v 2) := by
  intro L st h c' hf
  obtain rfl := Option.some.inj hf
  exact ⟨rfl, fun D p l e R s m args below meth c Q cx ro H locs ls cells slots hR hS hL k => lv_ldc cx.1 cx.2.1 cx.2.2.2.2.2.2.1 (cx.2.2.2.2.2.2.2.1 _ hq) hd (k ls hL)⟩
theorem sp_ldcw {ix : Nat} {v : Int32} (hd : decode (mbyt y) pc = .ok (.ldc_w ix, 3)) (hq : Cond.constant (mname y).cls ix v ∈ lw_all) : SP y pc (i_ic v 3) := by
  intro L st h c' hf
  obtain rfl := Option.some.inj hf
  exact ⟨rfl, fun D p l e R s m args below meth c Q cx ro H locs ls cells slots hR hS hL k => lv_ldcw cx.1 cx.2.1 cx.2.2.2.2.2.2.1 (cx.2.2.2.2.2.2.2.1 _ hq) hd (k ls hL)⟩
theorem sp_ldc2 {ix : Nat} {v : Int64} (hd : decode (mbyt y) pc = .ok (.ldc2_w ix, 3)) (hq : Cond.constantLong (mname y).cls ix v ∈ lw_all) : SP y pc (i_lc v 3) := by
  intro L st h c' hf
  obtain rfl := Option.some.inj hf
  exact ⟨rfl, fun D p l e R s m args below meth c Q cx ro H locs ls cells slots hR hS hL k => lv_ldc2 cx.1 cx.2.1 cx.2.2.2.2.2.2.1 (cx.2.2.2.2.2.2.2.1 _ hq) hd (k ls hL)⟩
theorem sp_ldcS {ix i : Nat} {tx : String} {bs : List Nat} (hd : decode (mbyt y) pc = .ok (.ldc ix, 2)) (hi : mstr[i]? = some ((mname y).cls, ix, tx, bs)) : SP y pc (i_gc i 2) := by
  intro L st h c' hf
  obtain rfl := Option.some.inj hf
  refine ⟨rfl, fun D p l e R s m args below meth c Q cx ro H locs ls cells slots hR hS hL k => ?_⟩
  obtain ⟨a, ea, hr, -⟩ := cx.2.2.2.2.2.2.2.2.1.2.2.2.2.2.1 i _ hi
  have e1 : hG h i = some a := (congrArg (fun z : mK => z.1 i) hR.2.1).trans ea
  refine va_ldcS cx.1 cx.2.1 cx.2.2.2.2.2.2.1 hr hd ?_
  have k := k ls hL
  dsimp only at k
  rw [e1] at k
  exact k
theorem sp_gets {ix i : Nat} {C n d : String} (hd : decode (mbyt y) pc = .ok (.getstatic ix, 3)) (hi : (i, C, n, d) ∈ mst) (hq : Cond.fieldLink (mname y).cls ix C n d ∈ lw_all) : SP y pc (i_gc i 3) := by
  intro L st h c' hf
  obtain rfl := Option.some.inj hf
  refine ⟨rfl, fun D p l e R s m args below meth c Q cx ro H locs ls cells slots hR hS hL k => ?_⟩
  have hz := cx.2.2.2.2.2.2.2.2.1.2.2.2.1 _ hi
  have k := k ls hL
  dsimp only at k
  rw [show hG h i = dK D i from congrArg (fun z : mK => z.1 i) hR.2.1] at k
  exact va_gets cx.1 cx.2.1 hz hS cx.2.2.2.2.2.2.1 (cx.2.2.2.2.2.2.2.1 _ hq) (fun _ h => h) hd k
theorem sp_getsC {ix : Nat} (hd : decode (mbyt y) pc = .ok (.getstatic ix, 3)) (hq : Cond.fieldLink (mname y).cls ix "java/lang/String" "COMPACT_STRINGS" "Z" ∈ lw_all) : SP y pc (i_ic (nI 1) 3) := by
  intro L st h c' hf
  obtain rfl := Option.some.inj hf
  refine ⟨rfl, fun D p l e R s m args below meth c Q cx ro H locs ls cells slots hR hS hL k => ?_⟩
  exact va_gets cx.1 cx.2.1 cx.2.2.2.2.2.2.2.2.1.2.2.2.2.1 hS cx.2.2.2.2.2.2.1 (cx.2.2.2.2.2.2.2.1 _ hq) (fun _ h => h) hd (k ls hL)
theorem sp_iload_n {i : Fin 4} (hd : decode (mbyt y) pc = .ok (.iload_n i, 1)) : SP y pc (i_iload (i : Nat) 1) := by
  intro L st h c' hf
  unfold i_iload at hf
  dsimp only at hf
  generalize hg : lget L (i : Nat) = o at hf
  match o, hf with
  | some (.int x), hf =>
    obtain rfl := Option.some.inj hf
    exact ⟨rfl, fun D p l e R s m args below meth c Q cx ro H locs ls cells slots hR hS hL k => lv_iload_n cx.1 cx.2.1 hd rfl (hL.2.2 _ _ hg) (k ls hL)⟩
theorem sp_iload {i : Nat} (hd : decode (mbyt y) pc = .ok (.iload i, 2)) : SP y pc (i_iload i 2) := by
  intro L st h c' hf
  unfold i_iload at hf
  dsimp only at hf
  generalize hg : lget L i = o at hf
  match o, hf with
  | some (.int x), hf =>
    obtain rfl := Option.some.inj hf
    exact ⟨rfl, fun D p l e R s m args below meth c Q cx ro H locs ls cells slots hR hS hL k => lv_iload cx.1 cx.2.1 hd (hL.2.2 _ _ hg) (k ls hL)⟩
theorem sp_lload_n {i : Fin 4} (hd : decode (mbyt y) pc = .ok (.lload_n i, 1)) : SP y pc (i_lload (i : Nat) 1) := by
  intro L st h c' hf
  unfold i_lload at hf
  dsimp only at hf
  generalize hg : lget L (i : Nat) = o at hf
  match o, hf with
  | some (.long x), hf =>
    obtain rfl := Option.some.inj hf
    exact ⟨rfl, fun D p l e R s m args below meth c Q cx ro H locs ls cells slots hR hS hL k => lv_lload_n cx.1 cx.2.1 hd rfl (hL.2.2 _ _ hg) (k ls hL)⟩
theorem sp_lload {i : Nat} (hd : decode (mbyt y) pc = .ok (.lload i, 2)) : SP y pc (i_lload i 2) := by
  intro L st h c' hf
  unfold i_lload at hf
  dsimp only at hf
  generalize hg : lget L i = o at hf
  match o, hf with
  | some (.long x), hf =>
    obtain rfl := Option.some.inj hf
    exact ⟨rfl, fun D p l e R s m args below meth c Q cx ro H locs ls cells slots hR hS hL k => lv_lload cx.1 cx.2.1 hd (hL.2.2 _ _ hg) (k ls hL)⟩
theorem sp_aload_n {i : Fin 4} (hd : decode (mbyt y) pc = .ok (.aload_n i, 1)) : SP y pc (i_aload (i : Nat) 1) := by
  intro L st h c' hf
  unfold i_aload at hf
  dsimp only at hf
  generalize hg : lget L (i : Nat) = o at hf
  match o, hf with
  | some v, hf =>
    obtain ⟨hv, rfl⟩ := opt_if hf
    refine ⟨rfl, fun D p l e R s m args below meth c Q cx ro H locs ls cells slots hR hS hL k => ?_⟩
    rcases isRv_cases hv with ⟨a, rfl⟩ | rfl
    · exact lv_aload_n cx.1 cx.2.1 hd rfl (hL.2.2 _ _ hg) (k ls hL)
    · exact lv_aload_nN cx.1 cx.2.1 hd rfl (hL.2.2 _ _ hg) (k ls hL)
theorem sp_aload {i : Nat} (hd : decode (mbyt y) pc = .ok (.aload i, 2)) : SP y pc (i_aload i 2) := by
  intro L st h c' hf
  unfold i_aload at hf
  dsimp only at hf
  generalize hg : lget L i = o at hf
  match o, hf with
  | some v, hf =>
    obtain ⟨hv, rfl⟩ := opt_if hf
    refine ⟨rfl, fun D p l e R s m args below meth c Q cx ro H locs ls cells slots hR hS hL k => ?_⟩
    rcases isRv_cases hv with ⟨a, rfl⟩ | rfl
    · exact lv_aload cx.1 cx.2.1 hd (hL.2.2 _ _ hg) (k ls hL)
    · exact lv_aloadN cx.1 cx.2.1 hd (hL.2.2 _ _ hg) (k ls hL)
theorem sp_istore_n {i : Fin 4} (hd : decode (mbyt y) pc = .ok (.istore_n i, 1)) (hn : (i : Nat) < mmax y) : SP y pc (i_istore (i : Nat) 1) := by
  intro L st h c' hf
  match st, hf with
  | .int x :: r, hf =>
    obtain rfl := Option.some.inj hf
    exact ⟨rfl, fun D p l e R s m args below meth c Q cx ro H locs ls cells slots hR hS hL k => lv_istore_n cx.1 cx.2.1 hd rfl (lvr_has hL) hn rfl (fun ls' h' => k ls' (lvr_set h'))⟩
theorem sp_istore {i : Nat} (hd : decode (mbyt y) pc = .ok (.istore i, 2)) (hn : i < mmax y) : SP y pc (i_istore i 2) := by
  intro L st h c' hf
  match st, hf with
  | .int x :: r, hf =>
    obtain rfl := Option.some.inj hf
    exact ⟨rfl, fun D p l e R s m args below meth c Q cx ro H locs ls cells slots hR hS hL k => lv_istore cx.1 cx.2.1 hd (lvr_has hL) hn rfl (fun ls' h' => k ls' (lvr_set h'))⟩
theorem sp_lstore_n {i : Fin 4} (hd : decode (mbyt y) pc = .ok (.lstore_n i, 1)) (hn : (i : Nat) + 1 < mmax y) : SP y pc (i_lstore (i : Nat) 1) := by
  intro L st h c' hf
  match st, hf with
  | .long x :: r, hf =>
    obtain rfl := Option.some.inj hf
    exact ⟨rfl, fun D p l e R s m args below meth c Q cx ro H locs ls cells slots hR hS hL k => lv_lstore_n cx.1 cx.2.1 hd rfl (lvr_has hL) hn rfl (fun ls' h' => k ls' (lvr_setL h'))⟩
theorem sp_lstore {i : Nat} (hd : decode (mbyt y) pc = .ok (.lstore i, 2)) (hn : i + 1 < mmax y) : SP y pc (i_lstore i 2) := by
  intro L st h c' hf
  match st, hf with
  | .long x :: r, hf =>
    obtain rfl := Option.some.inj hf
    exact ⟨rfl, fun D p l e R s m args below meth c Q cx ro H locs ls cells slots hR hS hL k => lv_lstore cx.1 cx.2.1 hd (lvr_has hL) hn rfl (fun ls' h' => k ls' (lvr_setL h'))⟩
theorem sp_astore_n {i : Fin 4} (hd : decode (mbyt y) pc = .ok (.astore_n i, 1)) (hn : (i : Nat) < mmax y) : SP y pc (i_astore (i : Nat) 1) := by
  intro L st h c' hf
  match st, hf with
  | v :: r, hf =>
    obtain ⟨hv, rfl⟩ := opt_if hf
    refine ⟨rfl, fun D p l e R s m args below meth c Q cx ro H locs ls cells slots hR hS hL k => ?_⟩
    rcases isRv_cases hv with ⟨a, rfl⟩ | rfl
    · exact lv_astore_n cx.1 cx.2.1 hd rfl (lvr_has hL) hn rfl (fun ls' h' => k ls' (lvr_set h'))
    · exact lv_astore_nN cx.1 cx.2.1 hd rfl (lvr_has hL) hn rfl (fun ls' h' => k ls' (lvr_set h'))
theorem sp_astore {i : Nat} (hd : decode (mbyt y) pc = .ok (.astore i, 2)) (hn : i < mmax y) : SP y pc (i_astore i 2) := by
  intro L st h c' hf
  match st, hf with
  | v :: r, hf =>
    obtain ⟨hv, rfl⟩ := opt_if hf
    refine ⟨rfl, fun D p l e R s m args below meth c Q cx ro H locs ls cells slots hR hS hL k => ?_⟩
    rcases isRv_cases hv with ⟨a, rfl⟩ | rfl
    · exact lv_astore cx.1 cx.2.1 hd (lvr_has hL) hn rfl (fun ls' h' => k ls' (lvr_set h'))
    · exact lv_astoreN cx.1 cx.2.1 hd (lvr_has hL) hn rfl (fun ls' h' => k ls' (lvr_set h'))
theorem sp_iinc {i : Nat} {n : Int} (hd : decode (mbyt y) pc = .ok (.iinc i n, 3)) (hn : i < mmax y) : SP y pc (i_iinc i n) := by
  intro L st h c' hf
  unfold i_iinc at hf
  dsimp only at hf
  generalize hg : lget L i = o at hf
  match o, hf with
  | some (.int x), hf =>
    obtain rfl := Option.some.inj hf
    refine ⟨rfl, fun D p l e R s m args below meth c Q cx ro H locs ls cells slots hR hS hL k => ?_⟩
    obtain ⟨q, hq⟩ := List.getElem?_of_mem ((mem_asl L 0 i (.int x)).mpr ⟨i, by omega, hg⟩)
    exact lv_iinc cx.1 cx.2.1 hd (lvr_has hL) hq rfl hn rfl (fun ls' h' => k ls' (lvr_set h'))
theorem i32_nlt {a b : Int32} (h : b ≤ a) : ¬ a < b := by
  rw [Int32.le_iff_toInt_le] at h
  rw [Int32.lt_iff_toInt_lt]
  omega
theorem i32_ge {a b : Int32} (h : ¬ a < b) : b ≤ a := by
  rw [Int32.lt_iff_toInt_lt] at h
  rw [Int32.le_iff_toInt_le]
  omega
theorem sp_ifeq {off : Int} {t : Nat} (hd : decode (mbyt y) pc = .ok (.ifCond .eq off, 3)) (ht : (pc : Int) + off = (t : Int)) : SP y pc (i_ifeq t) := by
  intro L st h c' hf
  match st, hf with
  | .int x :: r, hf =>
    unfold i_ifeq at hf
    dsimp only at hf
    by_cases hg : x = 0
    · rw [if_pos hg] at hf
      obtain rfl := Option.some.inj hf
      exact ⟨rfl, fun D p l e R s m args below meth c Q cx ro H locs ls cells slots hR hS hL k => lv_if_eq cx.1 cx.2.1 hd ht (fun _ => k ls hL) (fun q => (q hg).elim)⟩
    · rw [if_neg hg] at hf
      obtain rfl := Option.some.inj hf
      exact ⟨rfl, fun D p l e R s m args below meth c Q cx ro H locs ls cells slots hR hS hL k => lv_if_eq cx.1 cx.2.1 hd ht (fun q => (hg q).elim) (fun _ => k ls hL)⟩
theorem sp_ifne {off : Int} {t : Nat} (hd : decode (mbyt y) pc = .ok (.ifCond .ne off, 3)) (ht : (pc : Int) + off = (t : Int)) : SP y pc (i_ifne t) := by
  intro L st h c' hf
  match st, hf with
  | .int x :: r, hf =>
    unfold i_ifne at hf
    dsimp only at hf
    by_cases hg : x = 0
    · rw [if_pos hg] at hf
      obtain rfl := Option.some.inj hf
      exact ⟨rfl, fun D p l e R s m args below meth c Q cx ro H locs ls cells slots hR hS hL k => lv_if_ne cx.1 cx.2.1 hd ht (fun q => (q hg).elim) (fun _ => k ls hL)⟩
    · rw [if_neg hg] at hf
      obtain rfl := Option.some.inj hf
      exact ⟨rfl, fun D p l e R s m args below meth c Q cx ro H locs ls cells slots hR hS hL k => lv_if_ne cx.1 cx.2.1 hd ht (fun _ => k ls hL) (fun q => (hg q).elim)⟩
theorem sp_iflt {off : Int} {t : Nat} (hd : decode (mbyt y) pc = .ok (.ifCond .lt off, 3)) (ht : (pc : Int) + off = (t : Int)) : SP y pc (i_iflt t) := by
  intro L st h c' hf
  match st, hf with
  | .int x :: r, hf =>
    unfold i_iflt at hf
    dsimp only at hf
    by_cases hg : x < 0
    · rw [if_pos hg] at hf
      obtain rfl := Option.some.inj hf
      exact ⟨rfl, fun D p l e R s m args below meth c Q cx ro H locs ls cells slots hR hS hL k => lv_if_lt cx.1 cx.2.1 hd ht (fun _ => k ls hL) (fun q => (q hg).elim)⟩
    · rw [if_neg hg] at hf
      obtain rfl := Option.some.inj hf
      exact ⟨rfl, fun D p l e R s m args below meth c Q cx ro H locs ls cells slots hR hS hL k => lv_if_lt cx.1 cx.2.1 hd ht (fun q => (hg q).elim) (fun _ => k ls hL)⟩
theorem sp_ifge {off : Int} {t : Nat} (hd : decode (mbyt y) pc = .ok (.ifCond .ge off, 3)) (ht : (pc : Int) + off = (t : Int)) : SP y pc (i_ifge t) := by
  intro L st h c' hf
  match st, hf with
  | .int x :: r, hf =>
    unfold i_ifge at hf
    dsimp only at hf
    by_cases hg : x < 0
    · rw [if_pos hg] at hf
      obtain rfl := Option.some.inj hf
      exact ⟨rfl, fun D p l e R s m args below meth c Q cx ro H locs ls cells slots hR hS hL k => lv_if_ge cx.1 cx.2.1 hd ht (fun q => (i32_nlt q hg).elim) (fun _ => k ls hL)⟩
    · rw [if_neg hg] at hf
      obtain rfl := Option.some.inj hf
      exact ⟨rfl, fun D p l e R s m args below meth c Q cx ro H locs ls cells slots hR hS hL k => lv_if_ge cx.1 cx.2.1 hd ht (fun _ => k ls hL) (fun q => (q (i32_ge hg)).elim)⟩
theorem sp_ifgt {off : Int} {t : Nat} (hd : decode (mbyt y) pc = .ok (.ifCond .gt off, 3)) (ht : (pc : Int) + off = (t : Int)) : SP y pc (i_ifgt t) := by
  intro L st h c' hf
  match st, hf with
  | .int x :: r, hf =>
    unfold i_ifgt at hf
    dsimp only at hf
    by_cases hg : 0 < x
    · rw [if_pos hg] at hf
      obtain rfl := Option.some.inj hf
      exact ⟨rfl, fun D p l e R s m args below meth c Q cx ro H locs ls cells slots hR hS hL k => lv_if_gt cx.1 cx.2.1 hd ht (fun _ => k ls hL) (fun q => (q hg).elim)⟩
    · rw [if_neg hg] at hf
      obtain rfl := Option.some.inj hf
      exact ⟨rfl, fun D p l e R s m args below meth c Q cx ro H locs ls cells slots hR hS hL k => lv_if_gt cx.1 cx.2.1 hd ht (fun q => (hg q).elim) (fun _ => k ls hL)⟩
theorem sp_ifle {off : Int} {t : Nat} (hd : decode (mbyt y) pc = .ok (.ifCond .le off, 3)) (ht : (pc : Int) + off = (t : Int)) : SP y pc (i_ifle t) := by
  intro L st h c' hf
  match st, hf with
  | .int x :: r, hf =>
    unfold i_ifle at hf
    dsimp only at hf
    by_cases hg : 0 < x
    · rw [if_pos hg] at hf
      obtain rfl := Option.some.inj hf
      exact ⟨rfl, fun D p l e R s m args below meth c Q cx ro H locs ls cells slots hR hS hL k => lv_if_le cx.1 cx.2.1 hd ht (fun q => (i32_nlt q hg).elim) (fun _ => k ls hL)⟩
    · rw [if_neg hg] at hf
      obtain rfl := Option.some.inj hf
      exact ⟨rfl, fun D p l e R s m args below meth c Q cx ro H locs ls cells slots hR hS hL k => lv_if_le cx.1 cx.2.1 hd ht (fun _ => k ls hL) (fun q => (q (i32_ge hg)).elim)⟩
theorem sp_ceq {off : Int} {t : Nat} (hd : decode (mbyt y) pc = .ok (.if_icmp .eq off, 3)) (ht : (pc : Int) + off = (t : Int)) : SP y pc (i_ceq t) := by
  intro L st h c' hf
  match st, hf with
  | .int x' :: .int x :: r, hf =>
    unfold i_ceq at hf
    dsimp only at hf
    by_cases hg : x = x'
    · rw [if_pos hg] at hf
      obtain rfl := Option.some.inj hf
      exact ⟨rfl, fun D p l e R s m args below meth c Q cx ro H locs ls cells slots hR hS hL k => lv_icmp_eq cx.1 cx.2.1 hd ht (fun _ => k ls hL) (fun q => (q hg).elim)⟩
    · rw [if_neg hg] at hf
      obtain rfl := Option.some.inj hf
      exact ⟨rfl, fun D p l e R s m args below meth c Q cx ro H locs ls cells slots hR hS hL k => lv_icmp_eq cx.1 cx.2.1 hd ht (fun q => (hg q).elim) (fun _ => k ls hL)⟩
theorem sp_cne {off : Int} {t : Nat} (hd : decode (mbyt y) pc = .ok (.if_icmp .ne off, 3)) (ht : (pc : Int) + off = (t : Int)) : SP y pc (i_cne t) := by
  intro L st h c' hf
  match st, hf with
  | .int x' :: .int x :: r, hf =>
    unfold i_cne at hf
    dsimp only at hf
    by_cases hg : x = x'
    · rw [if_pos hg] at hf
      obtain rfl := Option.some.inj hf
      exact ⟨rfl, fun D p l e R s m args below meth c Q cx ro H locs ls cells slots hR hS hL k => lv_icmp_ne cx.1 cx.2.1 hd ht (fun q => (q hg).elim) (fun _ => k ls hL)⟩
    · rw [if_neg hg] at hf
      obtain rfl := Option.some.inj hf
      exact ⟨rfl, fun D p l e R s m args below meth c Q cx ro H locs ls cells slots hR hS hL k => lv_icmp_ne cx.1 cx.2.1 hd ht (fun _ => k ls hL) (fun q => (hg q).elim)⟩
theorem sp_clt {off : Int} {t : Nat} (hd : decode (mbyt y) pc = .ok (.if_icmp .lt off, 3)) (ht : (pc : Int) + off = (t : Int)) : SP y pc (i_clt t) := by
  intro L st h c' hf
  match st, hf with
  | .int x' :: .int x :: r, hf =>
    unfold i_clt at hf
    dsimp only at hf
    by_cases hg : x < x'
    · rw [if_pos hg] at hf
      obtain rfl := Option.some.inj hf
      exact ⟨rfl, fun D p l e R s m args below meth c Q cx ro H locs ls cells slots hR hS hL k => lv_icmp_lt cx.1 cx.2.1 hd ht (fun _ => k ls hL) (fun q => (q hg).elim)⟩
    · rw [if_neg hg] at hf
      obtain rfl := Option.some.inj hf
      exact ⟨rfl, fun D p l e R s m args below meth c Q cx ro H locs ls cells slots hR hS hL k => lv_icmp_lt cx.1 cx.2.1 hd ht (fun q => (hg q).elim) (fun _ => k ls hL)⟩
theorem sp_cge {off : Int} {t : Nat} (hd : decode (mbyt y) pc = .ok (.if_icmp .ge off, 3)) (ht : (pc : Int) + off = (t : Int)) : SP y pc (i_cge t) := by
  intro L st h c' hf
  match st, hf with
  | .int x' :: .int x :: r, hf =>
    unfold i_cge at hf
    dsimp only at hf
    by_cases hg : x < x'
    · rw [if_pos hg] at hf
      obtain rfl := Option.some.inj hf
      exact ⟨rfl, fun D p l e R s m args below meth c Q cx ro H locs ls cells slots hR hS hL k => lv_icmp_ge cx.1 cx.2.1 hd ht (fun q => (i32_nlt q hg).elim) (fun _ => k ls hL)⟩
    · rw [if_neg hg] at hf
      obtain rfl := Option.some.inj hf
      exact ⟨rfl, fun D p l e R s m args below meth c Q cx ro H locs ls cells slots hR hS hL k => lv_icmp_ge cx.1 cx.2.1 hd ht (fun _ => k ls hL) (fun q => (q (i32_ge hg)).elim)⟩
theorem sp_cgt {off : Int} {t : Nat} (hd : decode (mbyt y) pc = .ok (.if_icmp .gt off, 3)) (ht : (pc : Int) + off = (t : Int)) : SP y pc (i_cgt t) := by
  intro L st h c' hf
  match st, hf with
  | .int x' :: .int x :: r, hf =>
    unfold i_cgt at hf
    dsimp only at hf
    by_cases hg : x' < x
    · rw [if_pos hg] at hf
      obtain rfl := Option.some.inj hf
      exact ⟨rfl, fun D p l e R s m args below meth c Q cx ro H locs ls cells slots hR hS hL k => lv_icmp_gt cx.1 cx.2.1 hd ht (fun _ => k ls hL) (fun q => (q hg).elim)⟩
    · rw [if_neg hg] at hf
      obtain rfl := Option.some.inj hf
      exact ⟨rfl, fun D p l e R s m args below meth c Q cx ro H locs ls cells slots hR hS hL k => lv_icmp_gt cx.1 cx.2.1 hd ht (fun q => (hg q).elim) (fun _ => k ls hL)⟩
theorem sp_cle {off : Int} {t : Nat} (hd : decode (mbyt y) pc = .ok (.if_icmp .le off, 3)) (ht : (pc : Int) + off = (t : Int)) : SP y pc (i_cle t) := by
  intro L st h c' hf
  match st, hf with
  | .int x' :: .int x :: r, hf =>
    unfold i_cle at hf
    dsimp only at hf
    by_cases hg : x' < x
    · rw [if_pos hg] at hf
      obtain rfl := Option.some.inj hf
      exact ⟨rfl, fun D p l e R s m args below meth c Q cx ro H locs ls cells slots hR hS hL k => lv_icmp_le cx.1 cx.2.1 hd ht (fun q => (i32_nlt q hg).elim) (fun _ => k ls hL)⟩
    · rw [if_neg hg] at hf
      obtain rfl := Option.some.inj hf
      exact ⟨rfl, fun D p l e R s m args below meth c Q cx ro H locs ls cells slots hR hS hL k => lv_icmp_le cx.1 cx.2.1 hd ht (fun _ => k ls hL) (fun q => (q (i32_ge hg)).elim)⟩
theorem sp_aeq {off : Int} {t : Nat} (hd : decode (mbyt y) pc = .ok (.if_acmp .eq off, 3)) (ht : (pc : Int) + off = (t : Int)) : SP y pc (i_aeq t) := by
  intro L st h c' hf
  match st, hf with
  | .ref b :: .ref a :: r, hf =>
    unfold i_aeq at hf
    dsimp only at hf
    by_cases hg : a = b
    · rw [if_pos hg] at hf
      obtain rfl := Option.some.inj hf
      exact ⟨rfl, fun D p l e R s m args below meth c Q cx ro H locs ls cells slots hR hS hL k => lv_acmp_eq (rx := some a) (ry := some b) cx.1 cx.2.1 hd ht (fun _ => k ls hL) (fun q => (q (congrArg some hg)).elim)⟩
    · rw [if_neg hg] at hf
      obtain rfl := Option.some.inj hf
      exact ⟨rfl, fun D p l e R s m args below meth c Q cx ro H locs ls cells slots hR hS hL k => lv_acmp_eq (rx := some a) (ry := some b) cx.1 cx.2.1 hd ht (fun q => (hg (Option.some.inj q)).elim) (fun _ => k ls hL)⟩
theorem sp_ane {off : Int} {t : Nat} (hd : decode (mbyt y) pc = .ok (.if_acmp .ne off, 3)) (ht : (pc : Int) + off = (t : Int)) : SP y pc (i_ane t) := by
  intro L st h c' hf
  match st, hf with
  | .ref b :: .ref a :: r, hf =>
    unfold i_ane at hf
    dsimp only at hf
    by_cases hg : a = b
    · rw [if_pos hg] at hf
      obtain rfl := Option.some.inj hf
      exact ⟨rfl, fun D p l e R s m args below meth c Q cx ro H locs ls cells slots hR hS hL k => lv_acmp_ne (rx := some a) (ry := some b) cx.1 cx.2.1 hd ht (fun q => (q (congrArg some hg)).elim) (fun _ => k ls hL)⟩
    · rw [if_neg hg] at hf
      obtain rfl := Option.some.inj hf
      exact ⟨rfl, fun D p l e R s m args below meth c Q cx ro H locs ls cells slots hR hS hL k => lv_acmp_ne (rx := some a) (ry := some b) cx.1 cx.2.1 hd ht (fun _ => k ls hL) (fun q => (hg (Option.some.inj q)).elim)⟩
theorem sp_ifnull {off : Int} {t : Nat} (hd : decode (mbyt y) pc = .ok (.ifnull off, 3)) (ht : (pc : Int) + off = (t : Int)) : SP y pc (i_ifnull t) := by
  intro L st h c' hf
  match st, hf with
  | .ref a :: r, hf =>
    obtain rfl := Option.some.inj hf
    exact ⟨rfl, fun D p l e R s m args below meth c Q cx ro H locs ls cells slots hR hS hL k => lv_ifnull cx.1 cx.2.1 hd (k ls hL)⟩
  | .null :: r, hf =>
    obtain rfl := Option.some.inj hf
    exact ⟨rfl, fun D p l e R s m args below meth c Q cx ro H locs ls cells slots hR hS hL k => lv_ifnullN cx.1 cx.2.1 hd ht (k ls hL)⟩
theorem sp_ifnn {off : Int} {t : Nat} (hd : decode (mbyt y) pc = .ok (.ifnonnull off, 3)) (ht : (pc : Int) + off = (t : Int)) : SP y pc (i_ifnonnull t) := by
  intro L st h c' hf
  match st, hf with
  | .ref a :: r, hf =>
    obtain rfl := Option.some.inj hf
    exact ⟨rfl, fun D p l e R s m args below meth c Q cx ro H locs ls cells slots hR hS hL k => lv_ifnonnull cx.1 cx.2.1 hd ht (k ls hL)⟩
  | .null :: r, hf =>
    obtain rfl := Option.some.inj hf
    exact ⟨rfl, fun D p l e R s m args below meth c Q cx ro H locs ls cells slots hR hS hL k => lv_ifnonnullN cx.1 cx.2.1 hd (k ls hL)⟩
theorem swc_spec {L : List (Option Value)} {r : List Value} {h : mH} {x : Int32} {d : Nat} {c' : mC} : ∀ (l : List (Int32 × Nat)), swc L r h x d l = some c' → (∃ (i t : Nat), l[i]? = some (x, t) ∧ c' = (t, L, r, h)) ∨ ((∀ q ∈ l, q.1 ≠ x) ∧ c' = (d, L, r, h)) := by
  intro l
  induction l with
  | nil => intro e; exact Or.inr ⟨fun q hq => absurd hq List.not_mem_nil, (Option.some.inj e).symm⟩
  | cons q l ih =>
    obtain ⟨v, t⟩ := q
    intro e
    unfold swc at e
    by_cases hx : x = v
    · rw [if_pos hx] at e
      exact Or.inl ⟨0, t, by rw [hx]; rfl, (Option.some.inj e).symm⟩
    · rw [if_neg hx] at e
      rcases ih e with ⟨i, t, h1, h2⟩ | ⟨h1, h2⟩
      · exact Or.inl ⟨i + 1, t, by simpa using h1, h2⟩
      · refine Or.inr ⟨fun q hq => ?_, h2⟩
        rcases List.mem_cons.mp hq with z | z
        · rw [z]; exact fun w => hx w.symm
        · exact h1 q z
def tsw (pc : Nat) (lo : Int) : List (Int32 × Nat) → List Int → Bool
  | [], [] => true
  | (v, t) :: l, o :: os => decide (v.toInt = lo) && decide ((pc : Int) + o = (t : Int)) && tsw pc (lo + 1) l os
  | _, _ => false
theorem tsw_spec {pc : Nat} : ∀ (l : List (Int32 × Nat)) (os : List Int) (lo : Int), tsw pc lo l os = true → l.length = os.length ∧ ∀ (i : Nat) (v : Int32) (t : Nat), l[i]? = some (v, t) → v.toInt = lo + (i : Int) ∧ ∃ o : Int, os[i]? = some o ∧ (pc : Int) + o = (t : Int) := by
  intro l
  induction l with
  | nil =>
    intro os lo h
    cases os with
    | nil => exact ⟨rfl, fun i v t e => by simp at e⟩
    | cons o os => cases h
  | cons q l ih =>
    obtain ⟨v, t⟩ := q
    intro os lo h
    cases os with
    | nil => cases h
    | cons o os =>
      unfold tsw at h
      simp only [Bool.and_eq_true, decide_eq_true_eq] at h
      obtain ⟨⟨h1, h2⟩, h3⟩ := h
      obtain ⟨i1, i2⟩ := ih os (lo + 1) h3
      refine ⟨by simp [i1], fun i v' t' e => ?_⟩
      cases i with
      | zero =>
        simp only [List.getElem?_cons_zero, Option.some.injEq, Prod.mk.injEq] at e
        obtain ⟨rfl, rfl⟩ := e
        exact ⟨by simpa using h1, o, rfl, h2⟩
      | succ i =>
        simp only [List.getElem?_cons_succ] at e
        obtain ⟨j1, o', j2, j3⟩ := i2 i v' t' e
        exact ⟨by rw [j1]; omega, o', by simpa using j2, j3⟩
theorem sp_tsw {dflt lo hi : Int} {offs : Array Int} {len d : Nat} {tl : List (Int32 × Nat)} (hd : decode (mbyt y) pc = .ok (.tableswitch dflt lo hi offs, len)) (hl : tsw pc lo tl offs.toList = true) (hh : hi = lo + (tl.length : Int) - 1) (ht : (pc : Int) + dflt = (d : Int)) : SP y pc (i_sw tl d) := by
  intro L st h c' hf
  obtain ⟨e1, e2⟩ := tsw_spec tl _ lo hl
  match st, hf with
  | .int x :: r, hf =>
    rcases swc_spec tl hf with ⟨i, t, h1, rfl⟩ | ⟨h1, rfl⟩
    · obtain ⟨j1, o, j2, j3⟩ := e2 i x t h1
      have hi2 : i < tl.length := (List.getElem?_eq_some_iff.mp h1).1
      refine ⟨rfl, fun D p l e R s m args below meth c Q cx ro H locs ls cells slots hR hS hL k => lv_tableIn cx.1 cx.2.1 hd (by omega) (by omega) (off := o) ?_ j3 (k ls hL)⟩
      rw [show (x.toInt - lo).toNat = i by omega, ← Array.getElem?_toList]
      exact j2
    · refine ⟨rfl, fun D p l e R s m args below meth c Q cx ro H locs ls cells slots hR hS hL k => lv_tableOut cx.1 cx.2.1 hd ?_ ht (k ls hL)⟩
      rcases Int.lt_or_le x.toInt lo with q | q
      · exact Or.inl q
      · refine Or.inr (Int.not_le.mp fun q2 => ?_)
        have hb : (x.toInt - lo).toNat < tl.length := by omega
        have hm := List.getElem?_eq_getElem hb
        have j := (e2 _ _ _ (hm.trans (by rfl))).1
        exact h1 _ (List.getElem_mem hb) (Int32.toInt_inj.mp (Eq.trans j (by omega)))
end
