/-! every row of code is the machine's (printed by gen/valid.py) -/
set_option maxRecDepth 100000
def MK (y : Nat) (Y : MethodName) (B : ByteArray) (L : Nat) (Rt : Option FieldType) : Prop := mname y = Y ∧ mbyt y = B ∧ mmax y = L ∧ mret y = Rt
section
variable {y pc : Nat} {Y : MethodName} {B : ByteArray} {L : Nat} {Rt : Option FieldType}
theorem kd {r : Except DecodeError (Instr × Nat)} (k : MK y Y B L Rt) (h : decode B pc = r) : decode (mbyt y) pc = r := by rw [k.2.1]; exact h
theorem kl {i : Nat} (k : MK y Y B L Rt) (h : i < L) : i < mmax y := by rw [k.2.2.1]; exact h
theorem kc {ix : Nat} {v : Int32} (k : MK y Y B L Rt) (h : Cond.constant Y.cls ix v ∈ lw_all) : Cond.constant (mname y).cls ix v ∈ lw_all := by rw [k.1]; exact h
theorem kc2 {ix : Nat} {v : Int64} (k : MK y Y B L Rt) (h : Cond.constantLong Y.cls ix v ∈ lw_all) : Cond.constantLong (mname y).cls ix v ∈ lw_all := by rw [k.1]; exact h
theorem kst {i ix : Nat} {tx : String} {bs : List Nat} (k : MK y Y B L Rt) (h : mstr[i]? = some (Y.cls, ix, tx, bs)) : mstr[i]? = some ((mname y).cls, ix, tx, bs) := by rw [k.1]; exact h
theorem kf {ix : Nat} {a b c : String} (k : MK y Y B L Rt) (h : Cond.fieldLink Y.cls ix a b c ∈ lw_all) : Cond.fieldLink (mname y).cls ix a b c ∈ lw_all := by rw [k.1]; exact h
theorem kfN {ix : Nat} {a b c d : String} (k : MK y Y B L Rt) (h : Cond.fieldLinkNest Y.cls ix a b c d ∈ mnw) : Cond.fieldLinkNest (mname y).cls ix a b c d ∈ mnw := by rw [k.1]; exact h
theorem km {ix : Nat} {x : MethodName} (k : MK y Y B L Rt) (h : Cond.methodLink Y.cls ix x ∈ lw_all) : Cond.methodLink (mname y).cls ix x ∈ lw_all := by rw [k.1]; exact h
theorem kcl {ix : Nat} {x : String} (k : MK y Y B L Rt) (h : Cond.classLink Y.cls ix x ∈ lw_all) : Cond.classLink (mname y).cls ix x ∈ lw_all := by rw [k.1]; exact h
theorem sp_ldcSw {ix i : Nat} {tx : String} {bs : List Nat} (hd : decode (mbyt y) pc = .ok (.ldc_w ix, 3)) (hi : mstr[i]? = some ((mname y).cls, ix, tx, bs)) : SP y pc (i_gc i 3) := by
  intro L st h c' hf
  obtain rfl := Option.some.inj hf
  refine ⟨rfl, fun D p l e R s m args below meth c Q cx ro H locs ls cells slots hR hS hL k => ?_⟩
  obtain ⟨a, ea, hr, -⟩ := cx.2.2.2.2.2.2.2.2.1.2.2.2.2.2.1 i _ hi
  have e1 : hG h i = some a := (congrArg (fun z : mK => z.1 i) hR.2.1).trans ea
  have k := k ls hL
  dsimp only at k
  rw [e1] at k
  intro T hT' X
  obtain ⟨t, a1, b1⟩ := k T hT' X
  exact ⟨t, X.ldcStringW cx.1 cx.2.2.2.2.2.2.1 (text := tx) (a := a) hr.1 hr.2 (g := F0 m pc ls st) rfl (by rw [cx.2.1]; exact hd) t a1, b1⟩
variable {y' : Nat} {Y' : MethodName} {B' : ByteArray} {L' : Nat} {Rt' : Option FieldType}
theorem km2 {ix : Nat} (k : MK y Y B L Rt) (k' : MK y' Y' B' L' Rt') (h : Cond.methodLink Y.cls ix Y' ∈ lw_all) : Cond.methodLink (mname y).cls ix (mname y') ∈ lw_all := by rw [k.1, k'.1]; exact h
theorem km2N {ix : Nat} {host : String} (k : MK y Y B L Rt) (k' : MK y' Y' B' L' Rt') (h : Cond.methodLinkNest Y.cls ix Y' host ∈ mnw) : Cond.methodLinkNest (mname y).cls ix (mname y') host ∈ mnw := by rw [k.1, k'.1]; exact h
/-- what a callee's words say -/
def CKn (y n : Nat) : Prop := ((mname y).cls ≠ "java/lang/invoke/MethodHandle" ∧ (mname y).cls ≠ "java/lang/invoke/VarHandle") ∧ (parseMethodDescriptor (mname y).desc).map (fun d => d.parameters.length) = some n
def CK (y n k : Nat) : Prop := y ≠ 220 ∧ Cond.initialized (mname y).cls ∈ lw_all ∧ Cond.code (mname y) (mbyt y) (mmax y) (mret y) ∈ lw_all ∧ CKn y n ∧ mmax y ≤ 45 ∧ k ≤ mmax y
theorem CK.of {n k : Nat} (h : MK y Y B L Rt) (h0 : y ≠ 220) (h1 : Cond.initialized Y.cls ∈ lw_all) (h2 : Cond.code Y B L Rt ∈ lw_all) (h3 : (Y.cls ≠ "java/lang/invoke/MethodHandle" ∧ Y.cls ≠ "java/lang/invoke/VarHandle") ∧ (parseMethodDescriptor Y.desc).map (fun d => d.parameters.length) = some n) (h4 : L ≤ 45) (h5 : k ≤ L) : CK y n k := by
  refine ⟨h0, ?_, ?_, ?_, ?_, ?_⟩
  · rw [h.1]; exact h1
  · rw [h.1, h.2.1, h.2.2.1, h.2.2.2]; exact h2
  · unfold CKn; rw [h.1]; exact h3
  · rw [h.2.2.1]; exact h4
  · rw [h.2.2.1]; exact h5
theorem kws {w : MethodName → Cond} (k : MK y Y B L Rt) (h : w Y ∈ lw_all) : w (mname y) ∈ lw_all := by rw [k.1]; exact h
theorem ksel (k : MK y Y B L Rt) (h : Cond.selects Y.cls Y Y ∈ lw_all) : Cond.selects (mname y).cls (mname y) (mname y) ∈ lw_all := by rw [k.1]; exact h
theorem krc {t : Nat} (k : MK y Y B L Rt) (h : rcOK t Y.cls) : rcOK t (mname y).cls := by rw [k.1]; exact h
theorem kin (k : MK y Y B L Rt) (h : Y.name = "<init>") : (mname y).name = "<init>" := by rw [k.1]; exact h
theorem kcN (k : MK y Y B L none) (h : Cond.code (mname y) (mbyt y) (mmax y) (mret y) ∈ lw_all) : Cond.code (mname y) (mbyt y) (mmax y) none ∈ lw_all := by rw [k.2.2.2] at h; exact h
theorem v_S {ix n : Nat} (k : MK y Y B L Rt) (k' : MK y' Y' B' L' Rt') (c : CK y' n n) (s : Cond.static (mname y') ∈ lw_all) (hd : decode B pc = .ok (.invokestatic ix, 3)) (hq : Cond.methodLink Y.cls ix Y' ∈ lw_all) : SC y pc (i_inS y' n) := sc_S (kd k hd) c.1 (km2 k k' hq) s c.2.1 c.2.2.1 c.2.2.2.1 c.2.2.2.2.1 c.2.2.2.2.2
theorem v_SN {ix n : Nat} {host : String} (k : MK y Y B L Rt) (k' : MK y' Y' B' L' Rt') (c : CK y' n n) (s : Cond.static (mname y') ∈ lw_all) (hd : decode B pc = .ok (.invokestatic ix, 3)) (hq : Cond.methodLinkNest Y.cls ix Y' host ∈ mnw) : SC y pc (i_inS y' n) := sc_SN (kd k hd) c.1 (km2N k k' hq) s c.2.1 c.2.2.1 c.2.2.2.1 c.2.2.2.2.1 c.2.2.2.2.2
def CKi (y t : Nat) : Prop := Cond.instanceMethod (mname y) ∈ lw_all ∧ Cond.selects (mname y).cls (mname y) (mname y) ∈ lw_all ∧ rcOK t (mname y).cls
theorem v_V {ix n t : Nat} (k : MK y Y B L Rt) (k' : MK y' Y' B' L' Rt') (c : CK y' n (n + 1)) (s : CKi y' t) (hd : decode B pc = .ok (.invokevirtual ix, 3)) (hq : Cond.methodLink Y.cls ix Y' ∈ lw_all) : SC y pc (i_inV y' n t) := sc_V (kd k hd) c.1 s.2.2 (km2 k k' hq) s.1 s.2.1 c.2.1 c.2.2.1 c.2.2.2.1 c.2.2.2.2.1 c.2.2.2.2.2
def CKt (y : Nat) : Prop := Cond.instanceMethod (mname y) ∈ lw_all ∧ Cond.selects (mname y).cls (mname y) (mname y) ∈ lw_all ∧ (mname y).cls = "java/lang/String"
theorem v_T {ix n : Nat} (k : MK y Y B L Rt) (k' : MK y' Y' B' L' Rt') (c : CK y' n (n + 1)) (s : CKt y') (hd : decode B pc = .ok (.invokevirtual ix, 3)) (hq : Cond.methodLink Y.cls ix Y' ∈ lw_all) : SC y pc (i_inT y' n) := sc_T (kd k hd) c.1 s.2.2 (km2 k k' hq) s.1 s.2.1 c.2.1 c.2.2.1 c.2.2.2.1 c.2.2.2.2.1 c.2.2.2.2.2
theorem v_VN {ix n t : Nat} {host : String} (k : MK y Y B L Rt) (k' : MK y' Y' B' L' Rt') (c : CK y' n (n + 1)) (s : CKi y' t) (hd : decode B pc = .ok (.invokevirtual ix, 3)) (hq : Cond.methodLinkNest Y.cls ix Y' host ∈ mnw) : SC y pc (i_inV y' n t) := sc_VN (kd k hd) c.1 s.2.2 (km2N k k' hq) s.1 s.2.1 c.2.1 c.2.2.1 c.2.2.2.1 c.2.2.2.2.1 c.2.2.2.2.2
def CKc (y : Nat) : Prop := Cond.instanceMethod (mname y) ∈ lw_all ∧ (mname y).name = "<init>"
theorem v_I {ix n : Nat} (k : MK y Y B L Rt) (k' : MK y' Y' B' L' none) (c : CK y' n (n + 1)) (s : CKc y') (hd : decode B pc = .ok (.invokespecial ix, 3)) (hq : Cond.methodLink Y.cls ix Y' ∈ lw_all) : SC y pc (i_inI y' n) := sc_I (kd k hd) c.1 (km2 k k' hq) s.1 s.2 c.2.1 (kcN k' c.2.2.1) k'.2.2.2 c.2.2.2.1 c.2.2.2.2.1 c.2.2.2.2.2
theorem v_IN {ix n : Nat} {host : String} (k : MK y Y B L Rt) (k' : MK y' Y' B' L' none) (c : CK y' n (n + 1)) (s : CKc y') (hd : decode B pc = .ok (.invokespecial ix, 3)) (hq : Cond.methodLinkNest Y.cls ix Y' host ∈ mnw) : SC y pc (i_inI y' n) := sc_IN (kd k hd) c.1 (km2N k k' hq) s.1 s.2 c.2.1 (kcN k' c.2.2.1) k'.2.2.2 c.2.2.2.1 c.2.2.2.2.1 c.2.2.2.2.2

theorem v_getI_0 {ix i : Nat} (k : MK y Y B L Rt) (hk : i < 52) (hd : decode B pc = .ok (.getfield ix, 3)) (hty : isRt (mty 0 i) = false) (hq : Cond.fieldLink Y.cls ix (TX0 i).1 (TX0 i).2.1 (TX0 i).2.2.1 ∈ lw_all) : SN y pc (i_getI 0 i) := (sp_getI (kd k hd) (by decide) rfl hk hty in_X0 (Or.inl (kf k hq))).sn
theorem v_getIN_0 {ix i : Nat} (k : MK y Y B L Rt) (hk : i < 52) (hd : decode B pc = .ok (.getfield ix, 3)) (hty : isRt (mty 0 i) = false) {host : String} (hq : Cond.fieldLinkNest Y.cls ix (TX0 i).1 (TX0 i).2.1 (TX0 i).2.2.1 host ∈ mnw) : SN y pc (i_getI 0 i) := (sp_getI (kd k hd) (by decide) rfl hk hty in_X0 (Or.inr ⟨_, kfN k hq⟩)).sn
theorem v_getP_0 {ix i : Nat} (k : MK y Y B L Rt) (hk : i < 52) (hd : decode B pc = .ok (.getfield ix, 3)) (hty : isRt (mty 0 i) = true) (hq : Cond.fieldLink Y.cls ix (TX0 i).1 (TX0 i).2.1 (TX0 i).2.2.1 ∈ lw_all) : SN y pc (i_getP 0 i) := (sp_getP (kd k hd) (by decide) rfl hk hty in_X0 (Or.inl (kf k hq))).sn
theorem v_getPN_0 {ix i : Nat} (k : MK y Y B L Rt) (hk : i < 52) (hd : decode B pc = .ok (.getfield ix, 3)) (hty : isRt (mty 0 i) = true) {host : String} (hq : Cond.fieldLinkNest Y.cls ix (TX0 i).1 (TX0 i).2.1 (TX0 i).2.2.1 host ∈ mnw) : SN y pc (i_getP 0 i) := (sp_getP (kd k hd) (by decide) rfl hk hty in_X0 (Or.inr ⟨_, kfN k hq⟩)).sn
theorem v_putI_0 {ix i : Nat} (k : MK y Y B L Rt) (hk : i < 52) (hd : decode B pc = .ok (.putfield ix, 3)) (hty : isRt (mty 0 i) = false) (hi : tyX0 i = .int) (hfin : (TX0 i).2.2.2 = false ∨ ((TX0 i).2.2.2 = true ∧ Y.name = "<init>" ∧ (TX0 i).1 = Y.cls)) (hq : Cond.fieldLink Y.cls ix (TX0 i).1 (TX0 i).2.1 (TX0 i).2.2.1 ∈ lw_all) : SN y pc (i_putI 0 i) := sn_putI (kd k hd) (by decide) rfl hk hty hi in_X0 tyX0_ok nmX0 (by rw [k.1]; exact hfin) (kf k hq)
theorem v_putZ_0 {ix i : Nat} (k : MK y Y B L Rt) (hk : i < 52) (hd : decode B pc = .ok (.putfield ix, 3)) (hty : isRt (mty 0 i) = false) (hi : tyX0 i = .boolean) (hfin : (TX0 i).2.2.2 = false ∨ ((TX0 i).2.2.2 = true ∧ Y.name = "<init>" ∧ (TX0 i).1 = Y.cls)) (hq : Cond.fieldLink Y.cls ix (TX0 i).1 (TX0 i).2.1 (TX0 i).2.2.1 ∈ lw_all) : SN y pc (i_putZ 0 i) := sn_putZ (kd k hd) (by decide) rfl hk hty hi in_X0 tyX0_ok nmX0 (by rw [k.1]; exact hfin) (kf k hq)
theorem v_putC_0 {ix i : Nat} (k : MK y Y B L Rt) (hk : i < 52) (hd : decode B pc = .ok (.putfield ix, 3)) (hty : isRt (mty 0 i) = false) (hi : tyX0 i = .char) (hfin : (TX0 i).2.2.2 = false ∨ ((TX0 i).2.2.2 = true ∧ Y.name = "<init>" ∧ (TX0 i).1 = Y.cls)) (hq : Cond.fieldLink Y.cls ix (TX0 i).1 (TX0 i).2.1 (TX0 i).2.2.1 ∈ lw_all) : SN y pc (i_putC 0 i) := sn_putC (kd k hd) (by decide) rfl hk hty hi in_X0 tyX0_ok nmX0 (by rw [k.1]; exact hfin) (kf k hq)
theorem v_putP_0 {ix i : Nat} (k : MK y Y B L Rt) (hk : i < 52) (hd : decode B pc = .ok (.putfield ix, 3)) (hty : isRt (mty 0 i) = true) (hi : isRt (tyX0 i) = true) (hfin : (TX0 i).2.2.2 = false ∨ ((TX0 i).2.2.2 = true ∧ Y.name = "<init>" ∧ (TX0 i).1 = Y.cls)) (hq : Cond.fieldLink Y.cls ix (TX0 i).1 (TX0 i).2.1 (TX0 i).2.2.1 ∈ lw_all) : SN y pc (i_putP 0 i) := sn_putP (kd k hd) (by decide) rfl hk hty hi in_X0 tyX0_ok nmX0 (by rw [k.1]; exact hfin) (kf k hq)
theorem dv_0 : ∀ j, j < 52 → tyX0 j = mty 0 j ∧ (isRt (mty 0 j) = true → defaultValue (mty 0 j) = .null) ∧ (isRt (mty 0 j) = false → defaultValue (mty 0 j) = .int 0) := by
  intro j hj
  refine ⟨rfl, ?_⟩
  have h : (List.range 52).all (fun j => (isRt (mty 0 j) && decide (defaultValue (mty 0 j) = .null)) || (!isRt (mty 0 j) && decide (defaultValue (mty 0 j) = .int 0))) = true := by decide +kernel
  have h1 := List.all_eq_true.mp h j (List.mem_range.mpr hj)
  cases hr : isRt (mty 0 j) with
  | true => simp only [hr] at h1; exact ⟨(fun _ => by simpa using h1), (fun z => by cases z)⟩
  | false => simp only [hr] at h1; exact ⟨(fun z => by cases z), (fun _ => by simpa using h1)⟩
theorem v_getI_1 {ix i : Nat} (k : MK y Y B L Rt) (hk : i < 4) (hd : decode B pc = .ok (.getfield ix, 3)) (hty : isRt (mty 1 i) = false) (hq : Cond.fieldLink Y.cls ix (TX1 i).1 (TX1 i).2.1 (TX1 i).2.2.1 ∈ lw_all) : SN y pc (i_getI 1 i) := (sp_getI (kd k hd) (by decide) rfl hk hty in_X1 (Or.inl (kf k hq))).sn
theorem v_getP_1 {ix i : Nat} (k : MK y Y B L Rt) (hk : i < 4) (hd : decode B pc = .ok (.getfield ix, 3)) (hty : isRt (mty 1 i) = true) (hq : Cond.fieldLink Y.cls ix (TX1 i).1 (TX1 i).2.1 (TX1 i).2.2.1 ∈ lw_all) : SN y pc (i_getP 1 i) := (sp_getP (kd k hd) (by decide) rfl hk hty in_X1 (Or.inl (kf k hq))).sn
theorem v_putI_1 {ix i : Nat} (k : MK y Y B L Rt) (hk : i < 4) (hd : decode B pc = .ok (.putfield ix, 3)) (hty : isRt (mty 1 i) = false) (hi : tyX1 i = .int) (hfin : (TX1 i).2.2.2 = false ∨ ((TX1 i).2.2.2 = true ∧ Y.name = "<init>" ∧ (TX1 i).1 = Y.cls)) (hq : Cond.fieldLink Y.cls ix (TX1 i).1 (TX1 i).2.1 (TX1 i).2.2.1 ∈ lw_all) : SN y pc (i_putI 1 i) := sn_putI (kd k hd) (by decide) rfl hk hty hi in_X1 tyX1_ok nmX1 (by rw [k.1]; exact hfin) (kf k hq)
theorem v_putZ_1 {ix i : Nat} (k : MK y Y B L Rt) (hk : i < 4) (hd : decode B pc = .ok (.putfield ix, 3)) (hty : isRt (mty 1 i) = false) (hi : tyX1 i = .boolean) (hfin : (TX1 i).2.2.2 = false ∨ ((TX1 i).2.2.2 = true ∧ Y.name = "<init>" ∧ (TX1 i).1 = Y.cls)) (hq : Cond.fieldLink Y.cls ix (TX1 i).1 (TX1 i).2.1 (TX1 i).2.2.1 ∈ lw_all) : SN y pc (i_putZ 1 i) := sn_putZ (kd k hd) (by decide) rfl hk hty hi in_X1 tyX1_ok nmX1 (by rw [k.1]; exact hfin) (kf k hq)
theorem v_putC_1 {ix i : Nat} (k : MK y Y B L Rt) (hk : i < 4) (hd : decode B pc = .ok (.putfield ix, 3)) (hty : isRt (mty 1 i) = false) (hi : tyX1 i = .char) (hfin : (TX1 i).2.2.2 = false ∨ ((TX1 i).2.2.2 = true ∧ Y.name = "<init>" ∧ (TX1 i).1 = Y.cls)) (hq : Cond.fieldLink Y.cls ix (TX1 i).1 (TX1 i).2.1 (TX1 i).2.2.1 ∈ lw_all) : SN y pc (i_putC 1 i) := sn_putC (kd k hd) (by decide) rfl hk hty hi in_X1 tyX1_ok nmX1 (by rw [k.1]; exact hfin) (kf k hq)
theorem v_putP_1 {ix i : Nat} (k : MK y Y B L Rt) (hk : i < 4) (hd : decode B pc = .ok (.putfield ix, 3)) (hty : isRt (mty 1 i) = true) (hi : isRt (tyX1 i) = true) (hfin : (TX1 i).2.2.2 = false ∨ ((TX1 i).2.2.2 = true ∧ Y.name = "<init>" ∧ (TX1 i).1 = Y.cls)) (hq : Cond.fieldLink Y.cls ix (TX1 i).1 (TX1 i).2.1 (TX1 i).2.2.1 ∈ lw_all) : SN y pc (i_putP 1 i) := sn_putP (kd k hd) (by decide) rfl hk hty hi in_X1 tyX1_ok nmX1 (by rw [k.1]; exact hfin) (kf k hq)
theorem dv_1 : ∀ j, j < 4 → tyX1 j = mty 1 j ∧ (isRt (mty 1 j) = true → defaultValue (mty 1 j) = .null) ∧ (isRt (mty 1 j) = false → defaultValue (mty 1 j) = .int 0) := by
  intro j hj
  refine ⟨rfl, ?_⟩
  have h : (List.range 4).all (fun j => (isRt (mty 1 j) && decide (defaultValue (mty 1 j) = .null)) || (!isRt (mty 1 j) && decide (defaultValue (mty 1 j) = .int 0))) = true := by decide +kernel
  have h1 := List.all_eq_true.mp h j (List.mem_range.mpr hj)
  cases hr : isRt (mty 1 j) with
  | true => simp only [hr] at h1; exact ⟨(fun _ => by simpa using h1), (fun z => by cases z)⟩
  | false => simp only [hr] at h1; exact ⟨(fun z => by cases z), (fun _ => by simpa using h1)⟩
theorem v_getI_2 {ix i : Nat} (k : MK y Y B L Rt) (hk : i < 18) (hd : decode B pc = .ok (.getfield ix, 3)) (hty : isRt (mty 2 i) = false) (hq : Cond.fieldLink Y.cls ix (TX2 i).1 (TX2 i).2.1 (TX2 i).2.2.1 ∈ lw_all) : SN y pc (i_getI 2 i) := (sp_getI (kd k hd) (by decide) rfl hk hty in_X2 (Or.inl (kf k hq))).sn
theorem v_getP_2 {ix i : Nat} (k : MK y Y B L Rt) (hk : i < 18) (hd : decode B pc = .ok (.getfield ix, 3)) (hty : isRt (mty 2 i) = true) (hq : Cond.fieldLink Y.cls ix (TX2 i).1 (TX2 i).2.1 (TX2 i).2.2.1 ∈ lw_all) : SN y pc (i_getP 2 i) := (sp_getP (kd k hd) (by decide) rfl hk hty in_X2 (Or.inl (kf k hq))).sn
theorem v_putI_2 {ix i : Nat} (k : MK y Y B L Rt) (hk : i < 18) (hd : decode B pc = .ok (.putfield ix, 3)) (hty : isRt (mty 2 i) = false) (hi : tyX2 i = .int) (hfin : (TX2 i).2.2.2 = false ∨ ((TX2 i).2.2.2 = true ∧ Y.name = "<init>" ∧ (TX2 i).1 = Y.cls)) (hq : Cond.fieldLink Y.cls ix (TX2 i).1 (TX2 i).2.1 (TX2 i).2.2.1 ∈ lw_all) : SN y pc (i_putI 2 i) := sn_putI (kd k hd) (by decide) rfl hk hty hi in_X2 tyX2_ok nmX2 (by rw [k.1]; exact hfin) (kf k hq)
theorem v_putZ_2 {ix i : Nat} (k : MK y Y B L Rt) (hk : i < 18) (hd : decode B pc = .ok (.putfield ix, 3)) (hty : isRt (mty 2 i) = false) (hi : tyX2 i = .boolean) (hfin : (TX2 i).2.2.2 = false ∨ ((TX2 i).2.2.2 = true ∧ Y.name = "<init>" ∧ (TX2 i).1 = Y.cls)) (hq : Cond.fieldLink Y.cls ix (TX2 i).1 (TX2 i).2.1 (TX2 i).2.2.1 ∈ lw_all) : SN y pc (i_putZ 2 i) := sn_putZ (kd k hd) (by decide) rfl hk hty hi in_X2 tyX2_ok nmX2 (by rw [k.1]; exact hfin) (kf k hq)
theorem v_putC_2 {ix i : Nat} (k : MK y Y B L Rt) (hk : i < 18) (hd : decode B pc = .ok (.putfield ix, 3)) (hty : isRt (mty 2 i) = false) (hi : tyX2 i = .char) (hfin : (TX2 i).2.2.2 = false ∨ ((TX2 i).2.2.2 = true ∧ Y.name = "<init>" ∧ (TX2 i).1 = Y.cls)) (hq : Cond.fieldLink Y.cls ix (TX2 i).1 (TX2 i).2.1 (TX2 i).2.2.1 ∈ lw_all) : SN y pc (i_putC 2 i) := sn_putC (kd k hd) (by decide) rfl hk hty hi in_X2 tyX2_ok nmX2 (by rw [k.1]; exact hfin) (kf k hq)
theorem v_putP_2 {ix i : Nat} (k : MK y Y B L Rt) (hk : i < 18) (hd : decode B pc = .ok (.putfield ix, 3)) (hty : isRt (mty 2 i) = true) (hi : isRt (tyX2 i) = true) (hfin : (TX2 i).2.2.2 = false ∨ ((TX2 i).2.2.2 = true ∧ Y.name = "<init>" ∧ (TX2 i).1 = Y.cls)) (hq : Cond.fieldLink Y.cls ix (TX2 i).1 (TX2 i).2.1 (TX2 i).2.2.1 ∈ lw_all) : SN y pc (i_putP 2 i) := sn_putP (kd k hd) (by decide) rfl hk hty hi in_X2 tyX2_ok nmX2 (by rw [k.1]; exact hfin) (kf k hq)
theorem dv_2 : ∀ j, j < 18 → tyX2 j = mty 2 j ∧ (isRt (mty 2 j) = true → defaultValue (mty 2 j) = .null) ∧ (isRt (mty 2 j) = false → defaultValue (mty 2 j) = .int 0) := by
  intro j hj
  refine ⟨rfl, ?_⟩
  have h : (List.range 18).all (fun j => (isRt (mty 2 j) && decide (defaultValue (mty 2 j) = .null)) || (!isRt (mty 2 j) && decide (defaultValue (mty 2 j) = .int 0))) = true := by decide +kernel
  have h1 := List.all_eq_true.mp h j (List.mem_range.mpr hj)
  cases hr : isRt (mty 2 j) with
  | true => simp only [hr] at h1; exact ⟨(fun _ => by simpa using h1), (fun z => by cases z)⟩
  | false => simp only [hr] at h1; exact ⟨(fun z => by cases z), (fun _ => by simpa using h1)⟩
theorem v_getI_3 {ix i : Nat} (k : MK y Y B L Rt) (hk : i < 35) (hd : decode B pc = .ok (.getfield ix, 3)) (hty : isRt (mty 3 i) = false) (hq : Cond.fieldLink Y.cls ix (TX3 i).1 (TX3 i).2.1 (TX3 i).2.2.1 ∈ lw_all) : SN y pc (i_getI 3 i) := (sp_getI (kd k hd) (by decide) rfl hk hty in_X3 (Or.inl (kf k hq))).sn
theorem v_getP_3 {ix i : Nat} (k : MK y Y B L Rt) (hk : i < 35) (hd : decode B pc = .ok (.getfield ix, 3)) (hty : isRt (mty 3 i) = true) (hq : Cond.fieldLink Y.cls ix (TX3 i).1 (TX3 i).2.1 (TX3 i).2.2.1 ∈ lw_all) : SN y pc (i_getP 3 i) := (sp_getP (kd k hd) (by decide) rfl hk hty in_X3 (Or.inl (kf k hq))).sn
theorem v_putI_3 {ix i : Nat} (k : MK y Y B L Rt) (hk : i < 35) (hd : decode B pc = .ok (.putfield ix, 3)) (hty : isRt (mty 3 i) = false) (hi : tyX3 i = .int) (hfin : (TX3 i).2.2.2 = false ∨ ((TX3 i).2.2.2 = true ∧ Y.name = "<init>" ∧ (TX3 i).1 = Y.cls)) (hq : Cond.fieldLink Y.cls ix (TX3 i).1 (TX3 i).2.1 (TX3 i).2.2.1 ∈ lw_all) : SN y pc (i_putI 3 i) := sn_putI (kd k hd) (by decide) rfl hk hty hi in_X3 tyX3_ok nmX3 (by rw [k.1]; exact hfin) (kf k hq)
theorem v_putZ_3 {ix i : Nat} (k : MK y Y B L Rt) (hk : i < 35) (hd : decode B pc = .ok (.putfield ix, 3)) (hty : isRt (mty 3 i) = false) (hi : tyX3 i = .boolean) (hfin : (TX3 i).2.2.2 = false ∨ ((TX3 i).2.2.2 = true ∧ Y.name = "<init>" ∧ (TX3 i).1 = Y.cls)) (hq : Cond.fieldLink Y.cls ix (TX3 i).1 (TX3 i).2.1 (TX3 i).2.2.1 ∈ lw_all) : SN y pc (i_putZ 3 i) := sn_putZ (kd k hd) (by decide) rfl hk hty hi in_X3 tyX3_ok nmX3 (by rw [k.1]; exact hfin) (kf k hq)
theorem v_putC_3 {ix i : Nat} (k : MK y Y B L Rt) (hk : i < 35) (hd : decode B pc = .ok (.putfield ix, 3)) (hty : isRt (mty 3 i) = false) (hi : tyX3 i = .char) (hfin : (TX3 i).2.2.2 = false ∨ ((TX3 i).2.2.2 = true ∧ Y.name = "<init>" ∧ (TX3 i).1 = Y.cls)) (hq : Cond.fieldLink Y.cls ix (TX3 i).1 (TX3 i).2.1 (TX3 i).2.2.1 ∈ lw_all) : SN y pc (i_putC 3 i) := sn_putC (kd k hd) (by decide) rfl hk hty hi in_X3 tyX3_ok nmX3 (by rw [k.1]; exact hfin) (kf k hq)
theorem v_putP_3 {ix i : Nat} (k : MK y Y B L Rt) (hk : i < 35) (hd : decode B pc = .ok (.putfield ix, 3)) (hty : isRt (mty 3 i) = true) (hi : isRt (tyX3 i) = true) (hfin : (TX3 i).2.2.2 = false ∨ ((TX3 i).2.2.2 = true ∧ Y.name = "<init>" ∧ (TX3 i).1 = Y.cls)) (hq : Cond.fieldLink Y.cls ix (TX3 i).1 (TX3 i).2.1 (TX3 i).2.2.1 ∈ lw_all) : SN y pc (i_putP 3 i) := sn_putP (kd k hd) (by decide) rfl hk hty hi in_X3 tyX3_ok nmX3 (by rw [k.1]; exact hfin) (kf k hq)
theorem dv_3 : ∀ j, j < 35 → tyX3 j = mty 3 j ∧ (isRt (mty 3 j) = true → defaultValue (mty 3 j) = .null) ∧ (isRt (mty 3 j) = false → defaultValue (mty 3 j) = .int 0) := by
  intro j hj
  refine ⟨rfl, ?_⟩
  have h : (List.range 35).all (fun j => (isRt (mty 3 j) && decide (defaultValue (mty 3 j) = .null)) || (!isRt (mty 3 j) && decide (defaultValue (mty 3 j) = .int 0))) = true := by decide +kernel
  have h1 := List.all_eq_true.mp h j (List.mem_range.mpr hj)
  cases hr : isRt (mty 3 j) with
  | true => simp only [hr] at h1; exact ⟨(fun _ => by simpa using h1), (fun z => by cases z)⟩
  | false => simp only [hr] at h1; exact ⟨(fun z => by cases z), (fun _ => by simpa using h1)⟩
theorem v_getI_4 {ix i : Nat} (k : MK y Y B L Rt) (hk : i < 8) (hd : decode B pc = .ok (.getfield ix, 3)) (hty : isRt (mty 4 i) = false) (hq : Cond.fieldLink Y.cls ix (TX4 i).1 (TX4 i).2.1 (TX4 i).2.2.1 ∈ lw_all) : SN y pc (i_getI 4 i) := (sp_getI (kd k hd) (by decide) rfl hk hty in_X4 (Or.inl (kf k hq))).sn
theorem v_getP_4 {ix i : Nat} (k : MK y Y B L Rt) (hk : i < 8) (hd : decode B pc = .ok (.getfield ix, 3)) (hty : isRt (mty 4 i) = true) (hq : Cond.fieldLink Y.cls ix (TX4 i).1 (TX4 i).2.1 (TX4 i).2.2.1 ∈ lw_all) : SN y pc (i_getP 4 i) := (sp_getP (kd k hd) (by decide) rfl hk hty in_X4 (Or.inl (kf k hq))).sn
theorem v_putI_4 {ix i : Nat} (k : MK y Y B L Rt) (hk : i < 8) (hd : decode B pc = .ok (.putfield ix, 3)) (hty : isRt (mty 4 i) = false) (hi : tyX4 i = .int) (hfin : (TX4 i).2.2.2 = false ∨ ((TX4 i).2.2.2 = true ∧ Y.name = "<init>" ∧ (TX4 i).1 = Y.cls)) (hq : Cond.fieldLink Y.cls ix (TX4 i).1 (TX4 i).2.1 (TX4 i).2.2.1 ∈ lw_all) : SN y pc (i_putI 4 i) := sn_putI (kd k hd) (by decide) rfl hk hty hi in_X4 tyX4_ok nmX4 (by rw [k.1]; exact hfin) (kf k hq)
theorem v_putZ_4 {ix i : Nat} (k : MK y Y B L Rt) (hk : i < 8) (hd : decode B pc = .ok (.putfield ix, 3)) (hty : isRt (mty 4 i) = false) (hi : tyX4 i = .boolean) (hfin : (TX4 i).2.2.2 = false ∨ ((TX4 i).2.2.2 = true ∧ Y.name = "<init>" ∧ (TX4 i).1 = Y.cls)) (hq : Cond.fieldLink Y.cls ix (TX4 i).1 (TX4 i).2.1 (TX4 i).2.2.1 ∈ lw_all) : SN y pc (i_putZ 4 i) := sn_putZ (kd k hd) (by decide) rfl hk hty hi in_X4 tyX4_ok nmX4 (by rw [k.1]; exact hfin) (kf k hq)
theorem v_putC_4 {ix i : Nat} (k : MK y Y B L Rt) (hk : i < 8) (hd : decode B pc = .ok (.putfield ix, 3)) (hty : isRt (mty 4 i) = false) (hi : tyX4 i = .char) (hfin : (TX4 i).2.2.2 = false ∨ ((TX4 i).2.2.2 = true ∧ Y.name = "<init>" ∧ (TX4 i).1 = Y.cls)) (hq : Cond.fieldLink Y.cls ix (TX4 i).1 (TX4 i).2.1 (TX4 i).2.2.1 ∈ lw_all) : SN y pc (i_putC 4 i) := sn_putC (kd k hd) (by decide) rfl hk hty hi in_X4 tyX4_ok nmX4 (by rw [k.1]; exact hfin) (kf k hq)
theorem v_putP_4 {ix i : Nat} (k : MK y Y B L Rt) (hk : i < 8) (hd : decode B pc = .ok (.putfield ix, 3)) (hty : isRt (mty 4 i) = true) (hi : isRt (tyX4 i) = true) (hfin : (TX4 i).2.2.2 = false ∨ ((TX4 i).2.2.2 = true ∧ Y.name = "<init>" ∧ (TX4 i).1 = Y.cls)) (hq : Cond.fieldLink Y.cls ix (TX4 i).1 (TX4 i).2.1 (TX4 i).2.2.1 ∈ lw_all) : SN y pc (i_putP 4 i) := sn_putP (kd k hd) (by decide) rfl hk hty hi in_X4 tyX4_ok nmX4 (by rw [k.1]; exact hfin) (kf k hq)
theorem dv_4 : ∀ j, j < 8 → tyX4 j = mty 4 j ∧ (isRt (mty 4 j) = true → defaultValue (mty 4 j) = .null) ∧ (isRt (mty 4 j) = false → defaultValue (mty 4 j) = .int 0) := by
  intro j hj
  refine ⟨rfl, ?_⟩
  have h : (List.range 8).all (fun j => (isRt (mty 4 j) && decide (defaultValue (mty 4 j) = .null)) || (!isRt (mty 4 j) && decide (defaultValue (mty 4 j) = .int 0))) = true := by decide +kernel
  have h1 := List.all_eq_true.mp h j (List.mem_range.mpr hj)
  cases hr : isRt (mty 4 j) with
  | true => simp only [hr] at h1; exact ⟨(fun _ => by simpa using h1), (fun z => by cases z)⟩
  | false => simp only [hr] at h1; exact ⟨(fun z => by cases z), (fun _ => by simpa using h1)⟩
theorem v_getI_5 {ix i : Nat} (k : MK y Y B L Rt) (hk : i < 3) (hd : decode B pc = .ok (.getfield ix, 3)) (hty : isRt (mty 5 i) = false) (hq : Cond.fieldLink Y.cls ix (TX5 i).1 (TX5 i).2.1 (TX5 i).2.2.1 ∈ lw_all) : SN y pc (i_getI 5 i) := (sp_getI (kd k hd) (by decide) rfl hk hty in_X5 (Or.inl (kf k hq))).sn
theorem v_getP_5 {ix i : Nat} (k : MK y Y B L Rt) (hk : i < 3) (hd : decode B pc = .ok (.getfield ix, 3)) (hty : isRt (mty 5 i) = true) (hq : Cond.fieldLink Y.cls ix (TX5 i).1 (TX5 i).2.1 (TX5 i).2.2.1 ∈ lw_all) : SN y pc (i_getP 5 i) := (sp_getP (kd k hd) (by decide) rfl hk hty in_X5 (Or.inl (kf k hq))).sn
theorem v_putI_5 {ix i : Nat} (k : MK y Y B L Rt) (hk : i < 3) (hd : decode B pc = .ok (.putfield ix, 3)) (hty : isRt (mty 5 i) = false) (hi : tyX5 i = .int) (hfin : (TX5 i).2.2.2 = false ∨ ((TX5 i).2.2.2 = true ∧ Y.name = "<init>" ∧ (TX5 i).1 = Y.cls)) (hq : Cond.fieldLink Y.cls ix (TX5 i).1 (TX5 i).2.1 (TX5 i).2.2.1 ∈ lw_all) : SN y pc (i_putI 5 i) := sn_putI (kd k hd) (by decide) rfl hk hty hi in_X5 tyX5_ok nmX5 (by rw [k.1]; exact hfin) (kf k hq)
theorem v_putZ_5 {ix i : Nat} (k : MK y Y B L Rt) (hk : i < 3) (hd : decode B pc = .ok (.putfield ix, 3)) (hty : isRt (mty 5 i) = false) (hi : tyX5 i = .boolean) (hfin : (TX5 i).2.2.2 = false ∨ ((TX5 i).2.2.2 = true ∧ Y.name = "<init>" ∧ (TX5 i).1 = Y.cls)) (hq : Cond.fieldLink Y.cls ix (TX5 i).1 (TX5 i).2.1 (TX5 i).2.2.1 ∈ lw_all) : SN y pc (i_putZ 5 i) := sn_putZ (kd k hd) (by decide) rfl hk hty hi in_X5 tyX5_ok nmX5 (by rw [k.1]; exact hfin) (kf k hq)
theorem v_putC_5 {ix i : Nat} (k : MK y Y B L Rt) (hk : i < 3) (hd : decode B pc = .ok (.putfield ix, 3)) (hty : isRt (mty 5 i) = false) (hi : tyX5 i = .char) (hfin : (TX5 i).2.2.2 = false ∨ ((TX5 i).2.2.2 = true ∧ Y.name = "<init>" ∧ (TX5 i).1 = Y.cls)) (hq : Cond.fieldLink Y.cls ix (TX5 i).1 (TX5 i).2.1 (TX5 i).2.2.1 ∈ lw_all) : SN y pc (i_putC 5 i) := sn_putC (kd k hd) (by decide) rfl hk hty hi in_X5 tyX5_ok nmX5 (by rw [k.1]; exact hfin) (kf k hq)
theorem v_putP_5 {ix i : Nat} (k : MK y Y B L Rt) (hk : i < 3) (hd : decode B pc = .ok (.putfield ix, 3)) (hty : isRt (mty 5 i) = true) (hi : isRt (tyX5 i) = true) (hfin : (TX5 i).2.2.2 = false ∨ ((TX5 i).2.2.2 = true ∧ Y.name = "<init>" ∧ (TX5 i).1 = Y.cls)) (hq : Cond.fieldLink Y.cls ix (TX5 i).1 (TX5 i).2.1 (TX5 i).2.2.1 ∈ lw_all) : SN y pc (i_putP 5 i) := sn_putP (kd k hd) (by decide) rfl hk hty hi in_X5 tyX5_ok nmX5 (by rw [k.1]; exact hfin) (kf k hq)
theorem dv_5 : ∀ j, j < 3 → tyX5 j = mty 5 j ∧ (isRt (mty 5 j) = true → defaultValue (mty 5 j) = .null) ∧ (isRt (mty 5 j) = false → defaultValue (mty 5 j) = .int 0) := by
  intro j hj
  refine ⟨rfl, ?_⟩
  have h : (List.range 3).all (fun j => (isRt (mty 5 j) && decide (defaultValue (mty 5 j) = .null)) || (!isRt (mty 5 j) && decide (defaultValue (mty 5 j) = .int 0))) = true := by decide +kernel
  have h1 := List.all_eq_true.mp h j (List.mem_range.mpr hj)
  cases hr : isRt (mty 5 j) with
  | true => simp only [hr] at h1; exact ⟨(fun _ => by simpa using h1), (fun z => by cases z)⟩
  | false => simp only [hr] at h1; exact ⟨(fun z => by cases z), (fun _ => by simpa using h1)⟩
theorem v_getI_6 {ix i : Nat} (k : MK y Y B L Rt) (hk : i < 2) (hd : decode B pc = .ok (.getfield ix, 3)) (hty : isRt (mty 6 i) = false) (hq : Cond.fieldLink Y.cls ix (TX6 i).1 (TX6 i).2.1 (TX6 i).2.2.1 ∈ lw_all) : SN y pc (i_getI 6 i) := (sp_getI (kd k hd) (by decide) rfl hk hty in_X6 (Or.inl (kf k hq))).sn
theorem v_getP_6 {ix i : Nat} (k : MK y Y B L Rt) (hk : i < 2) (hd : decode B pc = .ok (.getfield ix, 3)) (hty : isRt (mty 6 i) = true) (hq : Cond.fieldLink Y.cls ix (TX6 i).1 (TX6 i).2.1 (TX6 i).2.2.1 ∈ lw_all) : SN y pc (i_getP 6 i) := (sp_getP (kd k hd) (by decide) rfl hk hty in_X6 (Or.inl (kf k hq))).sn
theorem v_putI_6 {ix i : Nat} (k : MK y Y B L Rt) (hk : i < 2) (hd : decode B pc = .ok (.putfield ix, 3)) (hty : isRt (mty 6 i) = false) (hi : tyX6 i = .int) (hfin : (TX6 i).2.2.2 = false ∨ ((TX6 i).2.2.2 = true ∧ Y.name = "<init>" ∧ (TX6 i).1 = Y.cls)) (hq : Cond.fieldLink Y.cls ix (TX6 i).1 (TX6 i).2.1 (TX6 i).2.2.1 ∈ lw_all) : SN y pc (i_putI 6 i) := sn_putI (kd k hd) (by decide) rfl hk hty hi in_X6 tyX6_ok nmX6 (by rw [k.1]; exact hfin) (kf k hq)
theorem v_putZ_6 {ix i : Nat} (k : MK y Y B L Rt) (hk : i < 2) (hd : decode B pc = .ok (.putfield ix, 3)) (hty : isRt (mty 6 i) = false) (hi : tyX6 i = .boolean) (hfin : (TX6 i).2.2.2 = false ∨ ((TX6 i).2.2.2 = true ∧ Y.name = "<init>" ∧ (TX6 i).1 = Y.cls)) (hq : Cond.fieldLink Y.cls ix (TX6 i).1 (TX6 i).2.1 (TX6 i).2.2.1 ∈ lw_all) : SN y pc (i_putZ 6 i) := sn_putZ (kd k hd) (by decide) rfl hk hty hi in_X6 tyX6_ok nmX6 (by rw [k.1]; exact hfin) (kf k hq)
theorem v_putC_6 {ix i : Nat} (k : MK y Y B L Rt) (hk : i < 2) (hd : decode B pc = .ok (.putfield ix, 3)) (hty : isRt (mty 6 i) = false) (hi : tyX6 i = .char) (hfin : (TX6 i).2.2.2 = false ∨ ((TX6 i).2.2.2 = true ∧ Y.name = "<init>" ∧ (TX6 i).1 = Y.cls)) (hq : Cond.fieldLink Y.cls ix (TX6 i).1 (TX6 i).2.1 (TX6 i).2.2.1 ∈ lw_all) : SN y pc (i_putC 6 i) := sn_putC (kd k hd) (by decide) rfl hk hty hi in_X6 tyX6_ok nmX6 (by rw [k.1]; exact hfin) (kf k hq)
theorem v_putP_6 {ix i : Nat} (k : MK y Y B L Rt) (hk : i < 2) (hd : decode B pc = .ok (.putfield ix, 3)) (hty : isRt (mty 6 i) = true) (hi : isRt (tyX6 i) = true) (hfin : (TX6 i).2.2.2 = false ∨ ((TX6 i).2.2.2 = true ∧ Y.name = "<init>" ∧ (TX6 i).1 = Y.cls)) (hq : Cond.fieldLink Y.cls ix (TX6 i).1 (TX6 i).2.1 (TX6 i).2.2.1 ∈ lw_all) : SN y pc (i_putP 6 i) := sn_putP (kd k hd) (by decide) rfl hk hty hi in_X6 tyX6_ok nmX6 (by rw [k.1]; exact hfin) (kf k hq)
theorem dv_6 : ∀ j, j < 2 → tyX6 j = mty 6 j ∧ (isRt (mty 6 j) = true → defaultValue (mty 6 j) = .null) ∧ (isRt (mty 6 j) = false → defaultValue (mty 6 j) = .int 0) := by
  intro j hj
  refine ⟨rfl, ?_⟩
  have h : (List.range 2).all (fun j => (isRt (mty 6 j) && decide (defaultValue (mty 6 j) = .null)) || (!isRt (mty 6 j) && decide (defaultValue (mty 6 j) = .int 0))) = true := by decide +kernel
  have h1 := List.all_eq_true.mp h j (List.mem_range.mpr hj)
  cases hr : isRt (mty 6 j) with
  | true => simp only [hr] at h1; exact ⟨(fun _ => by simpa using h1), (fun z => by cases z)⟩
  | false => simp only [hr] at h1; exact ⟨(fun z => by cases z), (fun _ => by simpa using h1)⟩
theorem v_getI_8 {ix i : Nat} (k : MK y Y B L Rt) (hk : i < 1) (hd : decode B pc = .ok (.getfield ix, 3)) (hty : isRt (mty 8 i) = false) (hq : Cond.fieldLink Y.cls ix (TX8 i).1 (TX8 i).2.1 (TX8 i).2.2.1 ∈ lw_all) : SN y pc (i_getI 8 i) := (sp_getI (kd k hd) (by decide) rfl hk hty in_X8 (Or.inl (kf k hq))).sn
theorem v_getP_8 {ix i : Nat} (k : MK y Y B L Rt) (hk : i < 1) (hd : decode B pc = .ok (.getfield ix, 3)) (hty : isRt (mty 8 i) = true) (hq : Cond.fieldLink Y.cls ix (TX8 i).1 (TX8 i).2.1 (TX8 i).2.2.1 ∈ lw_all) : SN y pc (i_getP 8 i) := (sp_getP (kd k hd) (by decide) rfl hk hty in_X8 (Or.inl (kf k hq))).sn
theorem v_putI_8 {ix i : Nat} (k : MK y Y B L Rt) (hk : i < 1) (hd : decode B pc = .ok (.putfield ix, 3)) (hty : isRt (mty 8 i) = false) (hi : tyX8 i = .int) (hfin : (TX8 i).2.2.2 = false ∨ ((TX8 i).2.2.2 = true ∧ Y.name = "<init>" ∧ (TX8 i).1 = Y.cls)) (hq : Cond.fieldLink Y.cls ix (TX8 i).1 (TX8 i).2.1 (TX8 i).2.2.1 ∈ lw_all) : SN y pc (i_putI 8 i) := sn_putI (kd k hd) (by decide) rfl hk hty hi in_X8 tyX8_ok nmX8 (by rw [k.1]; exact hfin) (kf k hq)
theorem v_putZ_8 {ix i : Nat} (k : MK y Y B L Rt) (hk : i < 1) (hd : decode B pc = .ok (.putfield ix, 3)) (hty : isRt (mty 8 i) = false) (hi : tyX8 i = .boolean) (hfin : (TX8 i).2.2.2 = false ∨ ((TX8 i).2.2.2 = true ∧ Y.name = "<init>" ∧ (TX8 i).1 = Y.cls)) (hq : Cond.fieldLink Y.cls ix (TX8 i).1 (TX8 i).2.1 (TX8 i).2.2.1 ∈ lw_all) : SN y pc (i_putZ 8 i) := sn_putZ (kd k hd) (by decide) rfl hk hty hi in_X8 tyX8_ok nmX8 (by rw [k.1]; exact hfin) (kf k hq)
theorem v_putC_8 {ix i : Nat} (k : MK y Y B L Rt) (hk : i < 1) (hd : decode B pc = .ok (.putfield ix, 3)) (hty : isRt (mty 8 i) = false) (hi : tyX8 i = .char) (hfin : (TX8 i).2.2.2 = false ∨ ((TX8 i).2.2.2 = true ∧ Y.name = "<init>" ∧ (TX8 i).1 = Y.cls)) (hq : Cond.fieldLink Y.cls ix (TX8 i).1 (TX8 i).2.1 (TX8 i).2.2.1 ∈ lw_all) : SN y pc (i_putC 8 i) := sn_putC (kd k hd) (by decide) rfl hk hty hi in_X8 tyX8_ok nmX8 (by rw [k.1]; exact hfin) (kf k hq)
theorem v_putP_8 {ix i : Nat} (k : MK y Y B L Rt) (hk : i < 1) (hd : decode B pc = .ok (.putfield ix, 3)) (hty : isRt (mty 8 i) = true) (hi : isRt (tyX8 i) = true) (hfin : (TX8 i).2.2.2 = false ∨ ((TX8 i).2.2.2 = true ∧ Y.name = "<init>" ∧ (TX8 i).1 = Y.cls)) (hq : Cond.fieldLink Y.cls ix (TX8 i).1 (TX8 i).2.1 (TX8 i).2.2.1 ∈ lw_all) : SN y pc (i_putP 8 i) := sn_putP (kd k hd) (by decide) rfl hk hty hi in_X8 tyX8_ok nmX8 (by rw [k.1]; exact hfin) (kf k hq)
theorem dv_8 : ∀ j, j < 1 → tyX8 j = mty 8 j ∧ (isRt (mty 8 j) = true → defaultValue (mty 8 j) = .null) ∧ (isRt (mty 8 j) = false → defaultValue (mty 8 j) = .int 0) := by
  intro j hj
  refine ⟨rfl, ?_⟩
  have h : (List.range 1).all (fun j => (isRt (mty 8 j) && decide (defaultValue (mty 8 j) = .null)) || (!isRt (mty 8 j) && decide (defaultValue (mty 8 j) = .int 0))) = true := by decide +kernel
  have h1 := List.all_eq_true.mp h j (List.mem_range.mpr hj)
  cases hr : isRt (mty 8 j) with
  | true => simp only [hr] at h1; exact ⟨(fun _ => by simpa using h1), (fun z => by cases z)⟩
  | false => simp only [hr] at h1; exact ⟨(fun z => by cases z), (fun _ => by simpa using h1)⟩
theorem v_getI_9 {ix i : Nat} (k : MK y Y B L Rt) (hk : i < 1) (hd : decode B pc = .ok (.getfield ix, 3)) (hty : isRt (mty 9 i) = false) (hq : Cond.fieldLink Y.cls ix (TX9 i).1 (TX9 i).2.1 (TX9 i).2.2.1 ∈ lw_all) : SN y pc (i_getI 9 i) := (sp_getI (kd k hd) (by decide) rfl hk hty in_X9 (Or.inl (kf k hq))).sn
theorem v_getP_9 {ix i : Nat} (k : MK y Y B L Rt) (hk : i < 1) (hd : decode B pc = .ok (.getfield ix, 3)) (hty : isRt (mty 9 i) = true) (hq : Cond.fieldLink Y.cls ix (TX9 i).1 (TX9 i).2.1 (TX9 i).2.2.1 ∈ lw_all) : SN y pc (i_getP 9 i) := (sp_getP (kd k hd) (by decide) rfl hk hty in_X9 (Or.inl (kf k hq))).sn
theorem v_putI_9 {ix i : Nat} (k : MK y Y B L Rt) (hk : i < 1) (hd : decode B pc = .ok (.putfield ix, 3)) (hty : isRt (mty 9 i) = false) (hi : tyX9 i = .int) (hfin : (TX9 i).2.2.2 = false ∨ ((TX9 i).2.2.2 = true ∧ Y.name = "<init>" ∧ (TX9 i).1 = Y.cls)) (hq : Cond.fieldLink Y.cls ix (TX9 i).1 (TX9 i).2.1 (TX9 i).2.2.1 ∈ lw_all) : SN y pc (i_putI 9 i) := sn_putI (kd k hd) (by decide) rfl hk hty hi in_X9 tyX9_ok nmX9 (by rw [k.1]; exact hfin) (kf k hq)
theorem v_putZ_9 {ix i : Nat} (k : MK y Y B L Rt) (hk : i < 1) (hd : decode B pc = .ok (.putfield ix, 3)) (hty : isRt (mty 9 i) = false) (hi : tyX9 i = .boolean) (hfin : (TX9 i).2.2.2 = false ∨ ((TX9 i).2.2.2 = true ∧ Y.name = "<init>" ∧ (TX9 i).1 = Y.cls)) (hq : Cond.fieldLink Y.cls ix (TX9 i).1 (TX9 i).2.1 (TX9 i).2.2.1 ∈ lw_all) : SN y pc (i_putZ 9 i) := sn_putZ (kd k hd) (by decide) rfl hk hty hi in_X9 tyX9_ok nmX9 (by rw [k.1]; exact hfin) (kf k hq)
theorem v_putC_9 {ix i : Nat} (k : MK y Y B L Rt) (hk : i < 1) (hd : decode B pc = .ok (.putfield ix, 3)) (hty : isRt (mty 9 i) = false) (hi : tyX9 i = .char) (hfin : (TX9 i).2.2.2 = false ∨ ((TX9 i).2.2.2 = true ∧ Y.name = "<init>" ∧ (TX9 i).1 = Y.cls)) (hq : Cond.fieldLink Y.cls ix (TX9 i).1 (TX9 i).2.1 (TX9 i).2.2.1 ∈ lw_all) : SN y pc (i_putC 9 i) := sn_putC (kd k hd) (by decide) rfl hk hty hi in_X9 tyX9_ok nmX9 (by rw [k.1]; exact hfin) (kf k hq)
theorem v_putP_9 {ix i : Nat} (k : MK y Y B L Rt) (hk : i < 1) (hd : decode B pc = .ok (.putfield ix, 3)) (hty : isRt (mty 9 i) = true) (hi : isRt (tyX9 i) = true) (hfin : (TX9 i).2.2.2 = false ∨ ((TX9 i).2.2.2 = true ∧ Y.name = "<init>" ∧ (TX9 i).1 = Y.cls)) (hq : Cond.fieldLink Y.cls ix (TX9 i).1 (TX9 i).2.1 (TX9 i).2.2.1 ∈ lw_all) : SN y pc (i_putP 9 i) := sn_putP (kd k hd) (by decide) rfl hk hty hi in_X9 tyX9_ok nmX9 (by rw [k.1]; exact hfin) (kf k hq)
theorem dv_9 : ∀ j, j < 1 → tyX9 j = mty 9 j ∧ (isRt (mty 9 j) = true → defaultValue (mty 9 j) = .null) ∧ (isRt (mty 9 j) = false → defaultValue (mty 9 j) = .int 0) := by
  intro j hj
  refine ⟨rfl, ?_⟩
  have h : (List.range 1).all (fun j => (isRt (mty 9 j) && decide (defaultValue (mty 9 j) = .null)) || (!isRt (mty 9 j) && decide (defaultValue (mty 9 j) = .int 0))) = true := by decide +kernel
  have h1 := List.all_eq_true.mp h j (List.mem_range.mpr hj)
  cases hr : isRt (mty 9 j) with
  | true => simp only [hr] at h1; exact ⟨(fun _ => by simpa using h1), (fun z => by cases z)⟩
  | false => simp only [hr] at h1; exact ⟨(fun z => by cases z), (fun _ => by simpa using h1)⟩
theorem v_getI_10 {ix i : Nat} (k : MK y Y B L Rt) (hk : i < 3) (hd : decode B pc = .ok (.getfield ix, 3)) (hty : isRt (mty 10 i) = false) (hq : Cond.fieldLink Y.cls ix (TX10 i).1 (TX10 i).2.1 (TX10 i).2.2.1 ∈ lw_all) : SN y pc (i_getI 10 i) := (sp_getI (kd k hd) (by decide) rfl hk hty in_X10 (Or.inl (kf k hq))).sn
theorem v_getP_10 {ix i : Nat} (k : MK y Y B L Rt) (hk : i < 3) (hd : decode B pc = .ok (.getfield ix, 3)) (hty : isRt (mty 10 i) = true) (hq : Cond.fieldLink Y.cls ix (TX10 i).1 (TX10 i).2.1 (TX10 i).2.2.1 ∈ lw_all) : SN y pc (i_getP 10 i) := (sp_getP (kd k hd) (by decide) rfl hk hty in_X10 (Or.inl (kf k hq))).sn
theorem v_putI_10 {ix i : Nat} (k : MK y Y B L Rt) (hk : i < 3) (hd : decode B pc = .ok (.putfield ix, 3)) (hty : isRt (mty 10 i) = false) (hi : tyX10 i = .int) (hfin : (TX10 i).2.2.2 = false ∨ ((TX10 i).2.2.2 = true ∧ Y.name = "<init>" ∧ (TX10 i).1 = Y.cls)) (hq : Cond.fieldLink Y.cls ix (TX10 i).1 (TX10 i).2.1 (TX10 i).2.2.1 ∈ lw_all) : SN y pc (i_putI 10 i) := sn_putI (kd k hd) (by decide) rfl hk hty hi in_X10 tyX10_ok nmX10 (by rw [k.1]; exact hfin) (kf k hq)
theorem v_putZ_10 {ix i : Nat} (k : MK y Y B L Rt) (hk : i < 3) (hd : decode B pc = .ok (.putfield ix, 3)) (hty : isRt (mty 10 i) = false) (hi : tyX10 i = .boolean) (hfin : (TX10 i).2.2.2 = false ∨ ((TX10 i).2.2.2 = true ∧ Y.name = "<init>" ∧ (TX10 i).1 = Y.cls)) (hq : Cond.fieldLink Y.cls ix (TX10 i).1 (TX10 i).2.1 (TX10 i).2.2.1 ∈ lw_all) : SN y pc (i_putZ 10 i) := sn_putZ (kd k hd) (by decide) rfl hk hty hi in_X10 tyX10_ok nmX10 (by rw [k.1]; exact hfin) (kf k hq)
theorem v_putC_10 {ix i : Nat} (k : MK y Y B L Rt) (hk : i < 3) (hd : decode B pc = .ok (.putfield ix, 3)) (hty : isRt (mty 10 i) = false) (hi : tyX10 i = .char) (hfin : (TX10 i).2.2.2 = false ∨ ((TX10 i).2.2.2 = true ∧ Y.name = "<init>" ∧ (TX10 i).1 = Y.cls)) (hq : Cond.fieldLink Y.cls ix (TX10 i).1 (TX10 i).2.1 (TX10 i).2.2.1 ∈ lw_all) : SN y pc (i_putC 10 i) := sn_putC (kd k hd) (by decide) rfl hk hty hi in_X10 tyX10_ok nmX10 (by rw [k.1]; exact hfin) (kf k hq)
theorem v_putP_10 {ix i : Nat} (k : MK y Y B L Rt) (hk : i < 3) (hd : decode B pc = .ok (.putfield ix, 3)) (hty : isRt (mty 10 i) = true) (hi : isRt (tyX10 i) = true) (hfin : (TX10 i).2.2.2 = false ∨ ((TX10 i).2.2.2 = true ∧ Y.name = "<init>" ∧ (TX10 i).1 = Y.cls)) (hq : Cond.fieldLink Y.cls ix (TX10 i).1 (TX10 i).2.1 (TX10 i).2.2.1 ∈ lw_all) : SN y pc (i_putP 10 i) := sn_putP (kd k hd) (by decide) rfl hk hty hi in_X10 tyX10_ok nmX10 (by rw [k.1]; exact hfin) (kf k hq)
theorem dv_10 : ∀ j, j < 3 → tyX10 j = mty 10 j ∧ (isRt (mty 10 j) = true → defaultValue (mty 10 j) = .null) ∧ (isRt (mty 10 j) = false → defaultValue (mty 10 j) = .int 0) := by
  intro j hj
  refine ⟨rfl, ?_⟩
  have h : (List.range 3).all (fun j => (isRt (mty 10 j) && decide (defaultValue (mty 10 j) = .null)) || (!isRt (mty 10 j) && decide (defaultValue (mty 10 j) = .int 0))) = true := by decide +kernel
  have h1 := List.all_eq_true.mp h j (List.mem_range.mpr hj)
  cases hr : isRt (mty 10 j) with
  | true => simp only [hr] at h1; exact ⟨(fun _ => by simpa using h1), (fun z => by cases z)⟩
  | false => simp only [hr] at h1; exact ⟨(fun z => by cases z), (fun _ => by simpa using h1)⟩
theorem v_getI_11 {ix i : Nat} (k : MK y Y B L Rt) (hk : i < 1) (hd : decode B pc = .ok (.getfield ix, 3)) (hty : isRt (mty 11 i) = false) (hq : Cond.fieldLink Y.cls ix (TX11 i).1 (TX11 i).2.1 (TX11 i).2.2.1 ∈ lw_all) : SN y pc (i_getI 11 i) := (sp_getI (kd k hd) (by decide) rfl hk hty in_X11 (Or.inl (kf k hq))).sn
theorem v_getP_11 {ix i : Nat} (k : MK y Y B L Rt) (hk : i < 1) (hd : decode B pc = .ok (.getfield ix, 3)) (hty : isRt (mty 11 i) = true) (hq : Cond.fieldLink Y.cls ix (TX11 i).1 (TX11 i).2.1 (TX11 i).2.2.1 ∈ lw_all) : SN y pc (i_getP 11 i) := (sp_getP (kd k hd) (by decide) rfl hk hty in_X11 (Or.inl (kf k hq))).sn
theorem v_putI_11 {ix i : Nat} (k : MK y Y B L Rt) (hk : i < 1) (hd : decode B pc = .ok (.putfield ix, 3)) (hty : isRt (mty 11 i) = false) (hi : tyX11 i = .int) (hfin : (TX11 i).2.2.2 = false ∨ ((TX11 i).2.2.2 = true ∧ Y.name = "<init>" ∧ (TX11 i).1 = Y.cls)) (hq : Cond.fieldLink Y.cls ix (TX11 i).1 (TX11 i).2.1 (TX11 i).2.2.1 ∈ lw_all) : SN y pc (i_putI 11 i) := sn_putI (kd k hd) (by decide) rfl hk hty hi in_X11 tyX11_ok nmX11 (by rw [k.1]; exact hfin) (kf k hq)
theorem v_putZ_11 {ix i : Nat} (k : MK y Y B L Rt) (hk : i < 1) (hd : decode B pc = .ok (.putfield ix, 3)) (hty : isRt (mty 11 i) = false) (hi : tyX11 i = .boolean) (hfin : (TX11 i).2.2.2 = false ∨ ((TX11 i).2.2.2 = true ∧ Y.name = "<init>" ∧ (TX11 i).1 = Y.cls)) (hq : Cond.fieldLink Y.cls ix (TX11 i).1 (TX11 i).2.1 (TX11 i).2.2.1 ∈ lw_all) : SN y pc (i_putZ 11 i) := sn_putZ (kd k hd) (by decide) rfl hk hty hi in_X11 tyX11_ok nmX11 (by rw [k.1]; exact hfin) (kf k hq)
theorem v_putC_11 {ix i : Nat} (k : MK y Y B L Rt) (hk : i < 1) (hd : decode B pc = .ok (.putfield ix, 3)) (hty : isRt (mty 11 i) = false) (hi : tyX11 i = .char) (hfin : (TX11 i).2.2.2 = false ∨ ((TX11 i).2.2.2 = true ∧ Y.name = "<init>" ∧ (TX11 i).1 = Y.cls)) (hq : Cond.fieldLink Y.cls ix (TX11 i).1 (TX11 i).2.1 (TX11 i).2.2.1 ∈ lw_all) : SN y pc (i_putC 11 i) := sn_putC (kd k hd) (by decide) rfl hk hty hi in_X11 tyX11_ok nmX11 (by rw [k.1]; exact hfin) (kf k hq)
theorem v_putP_11 {ix i : Nat} (k : MK y Y B L Rt) (hk : i < 1) (hd : decode B pc = .ok (.putfield ix, 3)) (hty : isRt (mty 11 i) = true) (hi : isRt (tyX11 i) = true) (hfin : (TX11 i).2.2.2 = false ∨ ((TX11 i).2.2.2 = true ∧ Y.name = "<init>" ∧ (TX11 i).1 = Y.cls)) (hq : Cond.fieldLink Y.cls ix (TX11 i).1 (TX11 i).2.1 (TX11 i).2.2.1 ∈ lw_all) : SN y pc (i_putP 11 i) := sn_putP (kd k hd) (by decide) rfl hk hty hi in_X11 tyX11_ok nmX11 (by rw [k.1]; exact hfin) (kf k hq)
theorem dv_11 : ∀ j, j < 1 → tyX11 j = mty 11 j ∧ (isRt (mty 11 j) = true → defaultValue (mty 11 j) = .null) ∧ (isRt (mty 11 j) = false → defaultValue (mty 11 j) = .int 0) := by
  intro j hj
  refine ⟨rfl, ?_⟩
  have h : (List.range 1).all (fun j => (isRt (mty 11 j) && decide (defaultValue (mty 11 j) = .null)) || (!isRt (mty 11 j) && decide (defaultValue (mty 11 j) = .int 0))) = true := by decide +kernel
  have h1 := List.all_eq_true.mp h j (List.mem_range.mpr hj)
  cases hr : isRt (mty 11 j) with
  | true => simp only [hr] at h1; exact ⟨(fun _ => by simpa using h1), (fun z => by cases z)⟩
  | false => simp only [hr] at h1; exact ⟨(fun z => by cases z), (fun _ => by simpa using h1)⟩
theorem v_getI_12 {ix i : Nat} (k : MK y Y B L Rt) (hk : i < 2) (hd : decode B pc = .ok (.getfield ix, 3)) (hty : isRt (mty 12 i) = false) (hq : Cond.fieldLink Y.cls ix (TX12 i).1 (TX12 i).2.1 (TX12 i).2.2.1 ∈ lw_all) : SN y pc (i_getI 12 i) := (sp_getI (kd k hd) (by decide) rfl hk hty in_X12 (Or.inl (kf k hq))).sn
theorem v_getP_12 {ix i : Nat} (k : MK y Y B L Rt) (hk : i < 2) (hd : decode B pc = .ok (.getfield ix, 3)) (hty : isRt (mty 12 i) = true) (hq : Cond.fieldLink Y.cls ix (TX12 i).1 (TX12 i).2.1 (TX12 i).2.2.1 ∈ lw_all) : SN y pc (i_getP 12 i) := (sp_getP (kd k hd) (by decide) rfl hk hty in_X12 (Or.inl (kf k hq))).sn
theorem v_putI_12 {ix i : Nat} (k : MK y Y B L Rt) (hk : i < 2) (hd : decode B pc = .ok (.putfield ix, 3)) (hty : isRt (mty 12 i) = false) (hi : tyX12 i = .int) (hfin : (TX12 i).2.2.2 = false ∨ ((TX12 i).2.2.2 = true ∧ Y.name = "<init>" ∧ (TX12 i).1 = Y.cls)) (hq : Cond.fieldLink Y.cls ix (TX12 i).1 (TX12 i).2.1 (TX12 i).2.2.1 ∈ lw_all) : SN y pc (i_putI 12 i) := sn_putI (kd k hd) (by decide) rfl hk hty hi in_X12 tyX12_ok nmX12 (by rw [k.1]; exact hfin) (kf k hq)
theorem v_putZ_12 {ix i : Nat} (k : MK y Y B L Rt) (hk : i < 2) (hd : decode B pc = .ok (.putfield ix, 3)) (hty : isRt (mty 12 i) = false) (hi : tyX12 i = .boolean) (hfin : (TX12 i).2.2.2 = false ∨ ((TX12 i).2.2.2 = true ∧ Y.name = "<init>" ∧ (TX12 i).1 = Y.cls)) (hq : Cond.fieldLink Y.cls ix (TX12 i).1 (TX12 i).2.1 (TX12 i).2.2.1 ∈ lw_all) : SN y pc (i_putZ 12 i) := sn_putZ (kd k hd) (by decide) rfl hk hty hi in_X12 tyX12_ok nmX12 (by rw [k.1]; exact hfin) (kf k hq)
theorem v_putC_12 {ix i : Nat} (k : MK y Y B L Rt) (hk : i < 2) (hd : decode B pc = .ok (.putfield ix, 3)) (hty : isRt (mty 12 i) = false) (hi : tyX12 i = .char) (hfin : (TX12 i).2.2.2 = false ∨ ((TX12 i).2.2.2 = true ∧ Y.name = "<init>" ∧ (TX12 i).1 = Y.cls)) (hq : Cond.fieldLink Y.cls ix (TX12 i).1 (TX12 i).2.1 (TX12 i).2.2.1 ∈ lw_all) : SN y pc (i_putC 12 i) := sn_putC (kd k hd) (by decide) rfl hk hty hi in_X12 tyX12_ok nmX12 (by rw [k.1]; exact hfin) (kf k hq)
theorem v_putP_12 {ix i : Nat} (k : MK y Y B L Rt) (hk : i < 2) (hd : decode B pc = .ok (.putfield ix, 3)) (hty : isRt (mty 12 i) = true) (hi : isRt (tyX12 i) = true) (hfin : (TX12 i).2.2.2 = false ∨ ((TX12 i).2.2.2 = true ∧ Y.name = "<init>" ∧ (TX12 i).1 = Y.cls)) (hq : Cond.fieldLink Y.cls ix (TX12 i).1 (TX12 i).2.1 (TX12 i).2.2.1 ∈ lw_all) : SN y pc (i_putP 12 i) := sn_putP (kd k hd) (by decide) rfl hk hty hi in_X12 tyX12_ok nmX12 (by rw [k.1]; exact hfin) (kf k hq)
theorem dv_12 : ∀ j, j < 2 → tyX12 j = mty 12 j ∧ (isRt (mty 12 j) = true → defaultValue (mty 12 j) = .null) ∧ (isRt (mty 12 j) = false → defaultValue (mty 12 j) = .int 0) := by
  intro j hj
  refine ⟨rfl, ?_⟩
  have h : (List.range 2).all (fun j => (isRt (mty 12 j) && decide (defaultValue (mty 12 j) = .null)) || (!isRt (mty 12 j) && decide (defaultValue (mty 12 j) = .int 0))) = true := by decide +kernel
  have h1 := List.all_eq_true.mp h j (List.mem_range.mpr hj)
  cases hr : isRt (mty 12 j) with
  | true => simp only [hr] at h1; exact ⟨(fun _ => by simpa using h1), (fun z => by cases z)⟩
  | false => simp only [hr] at h1; exact ⟨(fun z => by cases z), (fun _ => by simpa using h1)⟩
end
theorem mk_2 : MK 2 yJ2_numberOfTrailingZeros cJ2_numberOfTrailingZeros 2 (some Jvm.ClassFile.FieldType.int) := ⟨rfl, rfl, rfl, rfl⟩
theorem mk_3 : MK 3 yJ2_bitCount cJ2_bitCount 1 (some Jvm.ClassFile.FieldType.int) := ⟨rfl, rfl, rfl, rfl⟩
theorem mk_4 : MK 4 yJ0_fill cJ0_fill 4 none := ⟨rfl, rfl, rfl, rfl⟩
theorem mk_5 : MK 5 yJ3_length cJ3_length 1 (some Jvm.ClassFile.FieldType.int) := ⟨rfl, rfl, rfl, rfl⟩
theorem mk_6 : MK 6 yJ3_charAt cJ3_charAt 2 (some Jvm.ClassFile.FieldType.char) := ⟨rfl, rfl, rfl, rfl⟩
theorem mk_7 : MK 7 yJ3_indexOf cJ3_indexOf 2 (some Jvm.ClassFile.FieldType.int) := ⟨rfl, rfl, rfl, rfl⟩
theorem mk_8 : MK 8 yJ3_indexOf_2 cJ3_indexOf_2 3 (some Jvm.ClassFile.FieldType.int) := ⟨rfl, rfl, rfl, rfl⟩
theorem mk_9 : MK 9 yJ3_coder cJ3_coder 1 (some Jvm.ClassFile.FieldType.byte) := ⟨rfl, rfl, rfl, rfl⟩
theorem mk_10 : MK 10 yJ3_isLatin1 cJ3_isLatin1 1 (some Jvm.ClassFile.FieldType.boolean) := ⟨rfl, rfl, rfl, rfl⟩
theorem mk_11 : MK 11 yJ3_checkIndex cJ3_checkIndex 2 none := ⟨rfl, rfl, rfl, rfl⟩
theorem mk_12 : MK 12 yJ4_charAt cJ4_charAt 2 (some Jvm.ClassFile.FieldType.char) := ⟨rfl, rfl, rfl, rfl⟩
theorem mk_13 : MK 13 yJ4_canEncode cJ4_canEncode 1 (some Jvm.ClassFile.FieldType.boolean) := ⟨rfl, rfl, rfl, rfl⟩
theorem mk_14 : MK 14 yJ4_indexOf cJ4_indexOf 4 (some Jvm.ClassFile.FieldType.int) := ⟨rfl, rfl, rfl, rfl⟩
theorem mk_15 : MK 15 yJ4_indexOfChar cJ4_indexOfChar 6 (some Jvm.ClassFile.FieldType.int) := ⟨rfl, rfl, rfl, rfl⟩
theorem mk_16 : MK 16 yJ5_checkIndex cJ5_checkIndex 3 (some Jvm.ClassFile.FieldType.int) := ⟨rfl, rfl, rfl, rfl⟩
theorem mk_17 : MK 17 yJ10_init cJ10_init 1 none := ⟨rfl, rfl, rfl, rfl⟩
theorem mk_18 : MK 18 yJ8_init_2 cJ8_init_2 5 none := ⟨rfl, rfl, rfl, rfl⟩
theorem mk_19 : MK 19 yJ9_init cJ9_init 5 none := ⟨rfl, rfl, rfl, rfl⟩
theorem mk_20 : MK 20 yX4_init cX4_init 3 none := ⟨rfl, rfl, rfl, rfl⟩
theorem mk_21 : MK 21 yX5_init cX5_init 4 none := ⟨rfl, rfl, rfl, rfl⟩
theorem mk_22 : MK 22 yX5_what cX5_what 1 (some Jvm.ClassFile.FieldType.int) := ⟨rfl, rfl, rfl, rfl⟩
theorem mk_23 : MK 23 yX5_n cX5_n 1 (some Jvm.ClassFile.FieldType.int) := ⟨rfl, rfl, rfl, rfl⟩
theorem mk_24 : MK 24 yX5_from cX5_from 1 (some Jvm.ClassFile.FieldType.int) := ⟨rfl, rfl, rfl, rfl⟩
theorem mk_25 : MK 25 yX6_init cX6_init 3 none := ⟨rfl, rfl, rfl, rfl⟩
theorem mk_26 : MK 26 yX6_at cX6_at 1 (some Jvm.ClassFile.FieldType.int) := ⟨rfl, rfl, rfl, rfl⟩
theorem mk_27 : MK 27 yX6_deed cX6_deed 1 (some Jvm.ClassFile.FieldType.int) := ⟨rfl, rfl, rfl, rfl⟩
theorem mk_28 : MK 28 yX12_init cX12_init 3 none := ⟨rfl, rfl, rfl, rfl⟩
theorem mk_29 : MK 29 yX12_set cX12_set 1 (some Jvm.ClassFile.FieldType.int) := ⟨rfl, rfl, rfl, rfl⟩
theorem mk_30 : MK 30 yX12_many cX12_many 1 (some Jvm.ClassFile.FieldType.int) := ⟨rfl, rfl, rfl, rfl⟩
theorem mk_31 : MK 31 yX1_init cX1_init 1 none := ⟨rfl, rfl, rfl, rfl⟩
theorem mk_32 : MK 32 yX7_init cX7_init 1 none := ⟨rfl, rfl, rfl, rfl⟩
theorem mk_33 : MK 33 yX8_init cX8_init 2 none := ⟨rfl, rfl, rfl, rfl⟩
theorem mk_34 : MK 34 yX8_of cX8_of 2 (some Jvm.ClassFile.FieldType.int) := ⟨rfl, rfl, rfl, rfl⟩
theorem mk_35 : MK 35 yX9_init cX9_init 2 none := ⟨rfl, rfl, rfl, rfl⟩
theorem mk_36 : MK 36 yX9_of cX9_of 2 (some Jvm.ClassFile.FieldType.int) := ⟨rfl, rfl, rfl, rfl⟩
theorem mk_37 : MK 37 yX10_init cX10_init 4 none := ⟨rfl, rfl, rfl, rfl⟩
theorem mk_38 : MK 38 yX10_of cX10_of 4 (some Jvm.ClassFile.FieldType.int) := ⟨rfl, rfl, rfl, rfl⟩
theorem mk_39 : MK 39 yX11_init cX11_init 2 none := ⟨rfl, rfl, rfl, rfl⟩
theorem mk_40 : MK 40 yX11_of cX11_of 2 (some Jvm.ClassFile.FieldType.int) := ⟨rfl, rfl, rfl, rfl⟩
theorem mk_41 : MK 41 yX3_init cX3_init 2 none := ⟨rfl, rfl, rfl, rfl⟩
theorem mk_42 : MK 42 yX3_isIn cX3_isIn 3 (some Jvm.ClassFile.FieldType.boolean) := ⟨rfl, rfl, rfl, rfl⟩
theorem mk_43 : MK 43 yX3_lesser cX3_lesser 2 (some Jvm.ClassFile.FieldType.int) := ⟨rfl, rfl, rfl, rfl⟩
theorem mk_44 : MK 44 yX3_greater cX3_greater 2 (some Jvm.ClassFile.FieldType.int) := ⟨rfl, rfl, rfl, rfl⟩
theorem mk_45 : MK 45 yX3_isHearer cX3_isHearer 2 (some Jvm.ClassFile.FieldType.boolean) := ⟨rfl, rfl, rfl, rfl⟩
theorem mk_46 : MK 46 yX3_isDeed cX3_isDeed 2 (some Jvm.ClassFile.FieldType.boolean) := ⟨rfl, rfl, rfl, rfl⟩
theorem mk_47 : MK 47 yX3_isThere cX3_isThere 2 (some Jvm.ClassFile.FieldType.boolean) := ⟨rfl, rfl, rfl, rfl⟩
theorem mk_48 : MK 48 yX3_isGloved cX3_isGloved 2 (some Jvm.ClassFile.FieldType.boolean) := ⟨rfl, rfl, rfl, rfl⟩
theorem mk_49 : MK 49 yX3_allHearers cX3_allHearers 1 (some Jvm.ClassFile.FieldType.int) := ⟨rfl, rfl, rfl, rfl⟩
theorem mk_50 : MK 50 yX3_count cX3_count 3 (some Jvm.ClassFile.FieldType.int) := ⟨rfl, rfl, rfl, rfl⟩
theorem mk_51 : MK 51 yX3_forgets cX3_forgets 1 none := ⟨rfl, rfl, rfl, rfl⟩
theorem mk_52 : MK 52 yX3_state cX3_state 3 (some Jvm.ClassFile.FieldType.int) := ⟨rfl, rfl, rfl, rfl⟩
theorem mk_53 : MK 53 yX3_draw cX3_draw 2 (some Jvm.ClassFile.FieldType.int) := ⟨rfl, rfl, rfl, rfl⟩
theorem mk_54 : MK 54 yX3_hearer cX3_hearer 5 (some Jvm.ClassFile.FieldType.int) := ⟨rfl, rfl, rfl, rfl⟩
theorem mk_55 : MK 55 yX3_deed cX3_deed 5 (some Jvm.ClassFile.FieldType.int) := ⟨rfl, rfl, rfl, rfl⟩
theorem mk_56 : MK 56 yX3_canSet cX3_canSet 4 (some Jvm.ClassFile.FieldType.boolean) := ⟨rfl, rfl, rfl, rfl⟩
theorem mk_57 : MK 57 yX3_set cX3_set 4 (some Jvm.ClassFile.FieldType.boolean) := ⟨rfl, rfl, rfl, rfl⟩
theorem mk_58 : MK 58 yX3_feed cX3_feed 8 (some Jvm.ClassFile.FieldType.int) := ⟨rfl, rfl, rfl, rfl⟩
theorem mk_59 : MK 59 yX3_end cX3_end 2 (some Jvm.ClassFile.FieldType.boolean) := ⟨rfl, rfl, rfl, rfl⟩
theorem mk_60 : MK 60 yX3_see cX3_see 2 (some Jvm.ClassFile.FieldType.int) := ⟨rfl, rfl, rfl, rfl⟩
theorem mk_61 : MK 61 yX3_isLetter cX3_isLetter 1 (some Jvm.ClassFile.FieldType.boolean) := ⟨rfl, rfl, rfl, rfl⟩
theorem mk_62 : MK 62 yX3_isDigit cX3_isDigit 1 (some Jvm.ClassFile.FieldType.boolean) := ⟨rfl, rfl, rfl, rfl⟩
theorem mk_63 : MK 63 yX3_is cX3_is 4 (some Jvm.ClassFile.FieldType.boolean) := ⟨rfl, rfl, rfl, rfl⟩
theorem mk_64 : MK 64 yX3_asked cX3_asked 1 (some Jvm.ClassFile.FieldType.int) := ⟨rfl, rfl, rfl, rfl⟩
theorem mk_65 : MK 65 yX3_lawWord cX3_lawWord 1 (some Jvm.ClassFile.FieldType.int) := ⟨rfl, rfl, rfl, rfl⟩
theorem mk_66 : MK 66 yX3_statuteWord cX3_statuteWord 1 (some Jvm.ClassFile.FieldType.int) := ⟨rfl, rfl, rfl, rfl⟩
theorem mk_67 : MK 67 yX3_word cX3_word 1 (some Jvm.ClassFile.FieldType.int) := ⟨rfl, rfl, rfl, rfl⟩
theorem mk_68 : MK 68 yX3_next0 cX3_next0 3 none := ⟨rfl, rfl, rfl, rfl⟩
theorem mk_69 : MK 69 yX3_bad cX3_bad 2 (some Jvm.ClassFile.FieldType.boolean) := ⟨rfl, rfl, rfl, rfl⟩
theorem mk_70 : MK 70 yX3_need cX3_need 2 (some Jvm.ClassFile.FieldType.boolean) := ⟨rfl, rfl, rfl, rfl⟩
theorem mk_71 : MK 71 yX3_lay cX3_lay 3 none := ⟨rfl, rfl, rfl, rfl⟩
theorem mk_72 : MK 72 yX3_opens cX3_opens 1 (some Jvm.ClassFile.FieldType.boolean) := ⟨rfl, rfl, rfl, rfl⟩
theorem mk_73 : MK 73 yX3_sumUp cX3_sumUp 2 (some Jvm.ClassFile.FieldType.boolean) := ⟨rfl, rfl, rfl, rfl⟩
theorem mk_74 : MK 74 yX3_product cX3_product 3 (some Jvm.ClassFile.FieldType.boolean) := ⟨rfl, rfl, rfl, rfl⟩
theorem mk_75 : MK 75 yX3_unit cX3_unit 2 (some Jvm.ClassFile.FieldType.boolean) := ⟨rfl, rfl, rfl, rfl⟩
theorem mk_76 : MK 76 yX3_any cX3_any 1 (some Jvm.ClassFile.FieldType.boolean) := ⟨rfl, rfl, rfl, rfl⟩
theorem mk_77 : MK 77 yX3_every cX3_every 1 (some Jvm.ClassFile.FieldType.boolean) := ⟨rfl, rfl, rfl, rfl⟩
theorem mk_78 : MK 78 yX3_oneTest cX3_oneTest 2 (some Jvm.ClassFile.FieldType.boolean) := ⟨rfl, rfl, rfl, rfl⟩
theorem mk_79 : MK 79 yX3_aLine cX3_aLine 1 (some Jvm.ClassFile.FieldType.boolean) := ⟨rfl, rfl, rfl, rfl⟩
theorem mk_80 : MK 80 yX3_readsLaw cX3_readsLaw 2 (some Jvm.ClassFile.FieldType.boolean) := ⟨rfl, rfl, rfl, rfl⟩
theorem mk_81 : MK 81 yX3_number cX3_number 4 (some Jvm.ClassFile.FieldType.boolean) := ⟨rfl, rfl, rfl, rfl⟩
theorem mk_82 : MK 82 yX3_told cX3_told 5 (some Jvm.ClassFile.FieldType.boolean) := ⟨rfl, rfl, rfl, rfl⟩
theorem mk_83 : MK 83 yX3_aRule cX3_aRule 3 (some Jvm.ClassFile.FieldType.boolean) := ⟨rfl, rfl, rfl, rfl⟩
theorem mk_84 : MK 84 yX3_aPiece cX3_aPiece 1 (some Jvm.ClassFile.FieldType.boolean) := ⟨rfl, rfl, rfl, rfl⟩
theorem mk_85 : MK 85 yX3_aSeat cX3_aSeat 2 (some Jvm.ClassFile.FieldType.boolean) := ⟨rfl, rfl, rfl, rfl⟩
theorem mk_86 : MK 86 yX3_aRow cX3_aRow 1 (some Jvm.ClassFile.FieldType.boolean) := ⟨rfl, rfl, rfl, rfl⟩
theorem mk_87 : MK 87 yX3_begins cX3_begins 1 (some Jvm.ClassFile.FieldType.boolean) := ⟨rfl, rfl, rfl, rfl⟩
theorem mk_88 : MK 88 yX3_readsRows cX3_readsRows 2 (some Jvm.ClassFile.FieldType.boolean) := ⟨rfl, rfl, rfl, rfl⟩
theorem mk_89 : MK 89 yX3_putsLaw cX3_putsLaw 2 (some Jvm.ClassFile.FieldType.int) := ⟨rfl, rfl, rfl, rfl⟩
theorem mk_90 : MK 90 yX3_puts cX3_puts 5 (some Jvm.ClassFile.FieldType.int) := ⟨rfl, rfl, rfl, rfl⟩
theorem mk_91 : MK 91 yX3_putsGallery cX3_putsGallery 2 (some Jvm.ClassFile.FieldType.int) := ⟨rfl, rfl, rfl, rfl⟩
theorem mk_92 : MK 92 yX3_putsText cX3_putsText 2 (some Jvm.ClassFile.FieldType.int) := ⟨rfl, rfl, rfl, rfl⟩
theorem mk_93 : MK 93 yX3_text cX3_text 3 (some Jvm.ClassFile.FieldType.int) := ⟨rfl, rfl, rfl, rfl⟩
theorem mk_94 : MK 94 yX3_fault cX3_fault 2 (some Jvm.ClassFile.FieldType.int) := ⟨rfl, rfl, rfl, rfl⟩
theorem mk_95 : MK 95 yX3_both cX3_both 3 (some Jvm.ClassFile.FieldType.int) := ⟨rfl, rfl, rfl, rfl⟩
theorem mk_96 : MK 96 yX3_comesTo cX3_comesTo 8 (some Jvm.ClassFile.FieldType.int) := ⟨rfl, rfl, rfl, rfl⟩
theorem mk_97 : MK 97 yX3_isSo cX3_isSo 2 (some Jvm.ClassFile.FieldType.boolean) := ⟨rfl, rfl, rfl, rfl⟩
theorem mk_98 : MK 98 yX3_says cX3_says 5 (some Jvm.ClassFile.FieldType.int) := ⟨rfl, rfl, rfl, rfl⟩
theorem mk_99 : MK 99 yX3_laysDeed cX3_laysDeed 3 none := ⟨rfl, rfl, rfl, rfl⟩
theorem mk_100 : MK 100 yX3_loudOf cX3_loudOf 2 (some Jvm.ClassFile.FieldType.int) := ⟨rfl, rfl, rfl, rfl⟩
theorem mk_101 : MK 101 yX3_wearsOf cX3_wearsOf 2 (some Jvm.ClassFile.FieldType.int) := ⟨rfl, rfl, rfl, rfl⟩
theorem mk_102 : MK 102 yX3_clapOf cX3_clapOf 4 (some Jvm.ClassFile.FieldType.int) := ⟨rfl, rfl, rfl, rfl⟩
theorem mk_103 : MK 103 yX3_handsAsked cX3_handsAsked 4 (some Jvm.ClassFile.FieldType.int) := ⟨rfl, rfl, rfl, rfl⟩
theorem mk_104 : MK 104 yX3_lastRule cX3_lastRule 5 (some Jvm.ClassFile.FieldType.int) := ⟨rfl, rfl, rfl, rfl⟩
theorem mk_105 : MK 105 yX3_mostAgains cX3_mostAgains 1 (some Jvm.ClassFile.FieldType.int) := ⟨rfl, rfl, rfl, rfl⟩
theorem mk_106 : MK 106 yX3_endsAt cX3_endsAt 1 (some Jvm.ClassFile.FieldType.int) := ⟨rfl, rfl, rfl, rfl⟩
theorem mk_107 : MK 107 yX3_countsAs cX3_countsAs 3 (some Jvm.ClassFile.FieldType.int) := ⟨rfl, rfl, rfl, rfl⟩
theorem mk_108 : MK 108 yX3_keeps cX3_keeps 2 none := ⟨rfl, rfl, rfl, rfl⟩
theorem mk_109 : MK 109 yX3_undo cX3_undo 2 (some Jvm.ClassFile.FieldType.boolean) := ⟨rfl, rfl, rfl, rfl⟩
theorem mk_110 : MK 110 yX3_notes cX3_notes 5 none := ⟨rfl, rfl, rfl, rfl⟩
theorem mk_111 : MK 111 yX3_begins0 cX3_begins0 3 none := ⟨rfl, rfl, rfl, rfl⟩
theorem mk_112 : MK 112 yX3_aRound cX3_aRound 4 (some Jvm.ClassFile.FieldType.boolean) := ⟨rfl, rfl, rfl, rfl⟩
theorem mk_113 : MK 113 yX3_handsClapping cX3_handsClapping 3 (some Jvm.ClassFile.FieldType.int) := ⟨rfl, rfl, rfl, rfl⟩
theorem mk_114 : MK 114 yX3_claps cX3_claps 3 none := ⟨rfl, rfl, rfl, rfl⟩
theorem mk_115 : MK 115 yX3_does cX3_does 3 (some Jvm.ClassFile.FieldType.int) := ⟨rfl, rfl, rfl, rfl⟩
theorem mk_116 : MK 116 yX3_perform cX3_perform 2 (some Jvm.ClassFile.FieldType.int) := ⟨rfl, rfl, rfl, rfl⟩
theorem mk_117 : MK 117 yX3_pay cX3_pay 3 (some Jvm.ClassFile.FieldType.boolean) := ⟨rfl, rfl, rfl, rfl⟩
theorem mk_118 : MK 118 yX3_glove cX3_glove 3 (some Jvm.ClassFile.FieldType.boolean) := ⟨rfl, rfl, rfl, rfl⟩
theorem mk_119 : MK 119 yX3_let cX3_let 3 (some Jvm.ClassFile.FieldType.boolean) := ⟨rfl, rfl, rfl, rfl⟩
theorem mk_120 : MK 120 yX3_anEvening cX3_anEvening 3 (some Jvm.ClassFile.FieldType.int) := ⟨rfl, rfl, rfl, rfl⟩
theorem mk_121 : MK 121 yX3_evenings cX3_evenings 4 (some Jvm.ClassFile.FieldType.int) := ⟨rfl, rfl, rfl, rfl⟩
theorem mk_122 : MK 122 yX3_of cX3_of 3 (some Jvm.ClassFile.FieldType.int) := ⟨rfl, rfl, rfl, rfl⟩
theorem mk_123 : MK 123 yX3_deedOf cX3_deedOf 3 (some Jvm.ClassFile.FieldType.int) := ⟨rfl, rfl, rfl, rfl⟩
theorem mk_124 : MK 124 yX3_statute cX3_statute 2 (some Jvm.ClassFile.FieldType.int) := ⟨rfl, rfl, rfl, rfl⟩
theorem mk_125 : MK 125 yX3_book cX3_book 3 (some Jvm.ClassFile.FieldType.int) := ⟨rfl, rfl, rfl, rfl⟩
theorem mk_126 : MK 126 yX3_lays cX3_lays 2 none := ⟨rfl, rfl, rfl, rfl⟩
theorem mk_127 : MK 127 yX3_putsBack cX3_putsBack 2 none := ⟨rfl, rfl, rfl, rfl⟩
theorem mk_128 : MK 128 yX3_goes cX3_goes 3 (some Jvm.ClassFile.FieldType.int) := ⟨rfl, rfl, rfl, rfl⟩
theorem mk_129 : MK 129 yX3_settles cX3_settles 3 (some Jvm.ClassFile.FieldType.int) := ⟨rfl, rfl, rfl, rfl⟩
theorem mk_130 : MK 130 yX3_doneWithout cX3_doneWithout 4 (some Jvm.ClassFile.FieldType.int) := ⟨rfl, rfl, rfl, rfl⟩
theorem mk_131 : MK 131 yX3_makes cX3_makes 6 (some Jvm.ClassFile.FieldType.int) := ⟨rfl, rfl, rfl, rfl⟩
theorem mk_132 : MK 132 yX3_doneWithGloves cX3_doneWithGloves 4 (some Jvm.ClassFile.FieldType.int) := ⟨rfl, rfl, rfl, rfl⟩
theorem mk_133 : MK 133 yX3_brakes cX3_brakes 6 (some Jvm.ClassFile.FieldType.int) := ⟨rfl, rfl, rfl, rfl⟩
theorem mk_134 : MK 134 yX3_eager cX3_eager 5 (some Jvm.ClassFile.FieldType.int) := ⟨rfl, rfl, rfl, rfl⟩
theorem mk_135 : MK 135 yX3_price cX3_price 6 (some Jvm.ClassFile.FieldType.int) := ⟨rfl, rfl, rfl, rfl⟩
theorem mk_136 : MK 136 yX3_gain cX3_gain 5 (some Jvm.ClassFile.FieldType.int) := ⟨rfl, rfl, rfl, rfl⟩
theorem mk_137 : MK 137 yX3_tires cX3_tires 3 (some Jvm.ClassFile.FieldType.int) := ⟨rfl, rfl, rfl, rfl⟩
theorem mk_138 : MK 138 yX3_longOf cX3_longOf 4 (some Jvm.ClassFile.FieldType.int) := ⟨rfl, rfl, rfl, rfl⟩
theorem mk_139 : MK 139 yX3_worthOf cX3_worthOf 4 (some Jvm.ClassFile.FieldType.int) := ⟨rfl, rfl, rfl, rfl⟩
theorem mk_140 : MK 140 yX3_fills cX3_fills 5 (some Jvm.ClassFile.FieldType.int) := ⟨rfl, rfl, rfl, rfl⟩
theorem mk_141 : MK 141 yX3_bargain cX3_bargain 4 (some Jvm.ClassFile.FieldType.int) := ⟨rfl, rfl, rfl, rfl⟩
theorem mk_142 : MK 142 yX3_calm cX3_calm 5 (some Jvm.ClassFile.FieldType.int) := ⟨rfl, rfl, rfl, rfl⟩
theorem mk_143 : MK 143 yX3_laysLines cX3_laysLines 3 none := ⟨rfl, rfl, rfl, rfl⟩
theorem mk_144 : MK 144 yX3_leastWith cX3_leastWith 3 (some Jvm.ClassFile.FieldType.int) := ⟨rfl, rfl, rfl, rfl⟩
theorem mk_145 : MK 145 yX3_lines cX3_lines 4 (some Jvm.ClassFile.FieldType.int) := ⟨rfl, rfl, rfl, rfl⟩
theorem mk_146 : MK 146 yX3_claque cX3_claque 3 (some Jvm.ClassFile.FieldType.int) := ⟨rfl, rfl, rfl, rfl⟩
theorem mk_147 : MK 147 yX3_couldBe cX3_couldBe 3 (some Jvm.ClassFile.FieldType.boolean) := ⟨rfl, rfl, rfl, rfl⟩
theorem mk_148 : MK 148 yX3_bestAsked cX3_bestAsked 4 (some Jvm.ClassFile.FieldType.int) := ⟨rfl, rfl, rfl, rfl⟩
theorem mk_149 : MK 149 yX3_fits cX3_fits 7 (some Jvm.ClassFile.FieldType.int) := ⟨rfl, rfl, rfl, rfl⟩
theorem mk_150 : MK 150 yX3_nearTo cX3_nearTo 8 (some Jvm.ClassFile.FieldType.int) := ⟨rfl, rfl, rfl, rfl⟩
theorem mk_151 : MK 151 yX3_near cX3_near 3 (some Jvm.ClassFile.FieldType.int) := ⟨rfl, rfl, rfl, rfl⟩
theorem mk_152 : MK 152 yX3_cuts cX3_cuts 7 (some Jvm.ClassFile.FieldType.int) := ⟨rfl, rfl, rfl, rfl⟩
theorem mk_153 : MK 153 yX3_groups cX3_groups 7 (some Jvm.ClassFile.FieldType.int) := ⟨rfl, rfl, rfl, rfl⟩
theorem mk_154 : MK 154 yX3_means cX3_means 3 (some Jvm.ClassFile.FieldType.boolean) := ⟨rfl, rfl, rfl, rfl⟩
theorem mk_155 : MK 155 yX3_passedBy cX3_passedBy 5 (some Jvm.ClassFile.FieldType.int) := ⟨rfl, rfl, rfl, rfl⟩
theorem mk_156 : MK 156 yX3_wasThere cX3_wasThere 4 (some Jvm.ClassFile.FieldType.int) := ⟨rfl, rfl, rfl, rfl⟩
theorem mk_157 : MK 157 yX3_passed cX3_passed 5 (some Jvm.ClassFile.FieldType.int) := ⟨rfl, rfl, rfl, rfl⟩
theorem mk_158 : MK 158 yX3_weightOf cX3_weightOf 2 (some Jvm.ClassFile.FieldType.int) := ⟨rfl, rfl, rfl, rfl⟩
theorem mk_159 : MK 159 yX3_allWeights cX3_allWeights 3 (some Jvm.ClassFile.FieldType.int) := ⟨rfl, rfl, rfl, rfl⟩
theorem mk_160 : MK 160 yX3_share cX3_share 8 (some Jvm.ClassFile.FieldType.int) := ⟨rfl, rfl, rfl, rfl⟩
theorem mk_161 : MK 161 yX3_paidOnes cX3_paidOnes 3 (some Jvm.ClassFile.FieldType.int) := ⟨rfl, rfl, rfl, rfl⟩
theorem mk_162 : MK 162 yX3_brides cX3_brides 6 (some Jvm.ClassFile.FieldType.int) := ⟨rfl, rfl, rfl, rfl⟩
theorem mk_163 : MK 163 yX3_laysNims cX3_laysNims 3 none := ⟨rfl, rfl, rfl, rfl⟩
theorem mk_164 : MK 164 yX3_game cX3_game 6 (some Jvm.ClassFile.FieldType.int) := ⟨rfl, rfl, rfl, rfl⟩
theorem mk_165 : MK 165 yX3_image cX3_image 3 (some Jvm.ClassFile.FieldType.boolean) := ⟨rfl, rfl, rfl, rfl⟩
theorem mk_166 : MK 166 yX3_look cX3_look 2 (some Jvm.ClassFile.FieldType.int) := ⟨rfl, rfl, rfl, rfl⟩
theorem mk_167 : MK 167 yX2_init cX2_init 2 none := ⟨rfl, rfl, rfl, rfl⟩
theorem mk_168 : MK 168 yX2_become cX2_become 2 none := ⟨rfl, rfl, rfl, rfl⟩
theorem mk_169 : MK 169 yX2_thinks cX2_thinks 2 (some (Jvm.ClassFile.FieldType.object "Encores$Gallery")) := ⟨rfl, rfl, rfl, rfl⟩
theorem mk_170 : MK 170 yX2_draw cX2_draw 2 (some Jvm.ClassFile.FieldType.int) := ⟨rfl, rfl, rfl, rfl⟩
theorem mk_171 : MK 171 yX2_asksDeed cX2_asksDeed 2 none := ⟨rfl, rfl, rfl, rfl⟩
theorem mk_172 : MK 172 yX2_loudOf cX2_loudOf 2 (some Jvm.ClassFile.FieldType.int) := ⟨rfl, rfl, rfl, rfl⟩
theorem mk_173 : MK 173 yX2_wearsOf cX2_wearsOf 2 (some Jvm.ClassFile.FieldType.int) := ⟨rfl, rfl, rfl, rfl⟩
theorem mk_174 : MK 174 yX2_clapOf cX2_clapOf 4 (some Jvm.ClassFile.FieldType.int) := ⟨rfl, rfl, rfl, rfl⟩
theorem mk_175 : MK 175 yX2_doBegin cX2_doBegin 4 (some Jvm.ClassFile.FieldType.boolean) := ⟨rfl, rfl, rfl, rfl⟩
theorem mk_176 : MK 176 yX2_isClapped cX2_isClapped 3 none := ⟨rfl, rfl, rfl, rfl⟩
theorem mk_177 : MK 177 yX2_handsOf cX2_handsOf 3 (some Jvm.ClassFile.FieldType.int) := ⟨rfl, rfl, rfl, rfl⟩
theorem mk_178 : MK 178 yX2_doesOnce cX2_doesOnce 4 (some Jvm.ClassFile.FieldType.boolean) := ⟨rfl, rfl, rfl, rfl⟩
theorem mk_179 : MK 179 yX2_does cX2_does 3 (some Jvm.ClassFile.FieldType.int) := ⟨rfl, rfl, rfl, rfl⟩
theorem mk_180 : MK 180 yX2_goesBy cX2_goesBy 3 (some Jvm.ClassFile.FieldType.int) := ⟨rfl, rfl, rfl, rfl⟩
theorem mk_181 : MK 181 yX2_notes cX2_notes 4 none := ⟨rfl, rfl, rfl, rfl⟩
theorem mk_182 : MK 182 yX0_isIn cX0_isIn 3 (some Jvm.ClassFile.FieldType.boolean) := ⟨rfl, rfl, rfl, rfl⟩
theorem mk_183 : MK 183 yX0_held cX0_held 3 (some Jvm.ClassFile.FieldType.int) := ⟨rfl, rfl, rfl, rfl⟩
theorem mk_184 : MK 184 yX0_has cX0_has 2 (some Jvm.ClassFile.FieldType.boolean) := ⟨rfl, rfl, rfl, rfl⟩
theorem mk_185 : MK 185 yX0_copies cX0_copies 2 none := ⟨rfl, rfl, rfl, rfl⟩
theorem mk_186 : MK 186 yX0_leastBy cX0_leastBy 4 (some Jvm.ClassFile.FieldType.int) := ⟨rfl, rfl, rfl, rfl⟩
theorem mk_187 : MK 187 yX0_init cX0_init 2 none := ⟨rfl, rfl, rfl, rfl⟩
theorem mk_188 : MK 188 yX0_puts cX0_puts 3 none := ⟨rfl, rfl, rfl, rfl⟩
theorem mk_189 : MK 189 yX0_feed cX0_feed 6 (some Jvm.ClassFile.FieldType.int) := ⟨rfl, rfl, rfl, rfl⟩
theorem mk_190 : MK 190 yX0_end cX0_end 2 (some Jvm.ClassFile.FieldType.boolean) := ⟨rfl, rfl, rfl, rfl⟩
theorem mk_191 : MK 191 yX0_raw cX0_raw 2 (some Jvm.ClassFile.FieldType.int) := ⟨rfl, rfl, rfl, rfl⟩
theorem mk_192 : MK 192 yX0_isLetter cX0_isLetter 1 (some Jvm.ClassFile.FieldType.boolean) := ⟨rfl, rfl, rfl, rfl⟩
theorem mk_193 : MK 193 yX0_isDigit cX0_isDigit 1 (some Jvm.ClassFile.FieldType.boolean) := ⟨rfl, rfl, rfl, rfl⟩
theorem mk_194 : MK 194 yX0_spells cX0_spells 3 (some Jvm.ClassFile.FieldType.boolean) := ⟨rfl, rfl, rfl, rfl⟩
theorem mk_195 : MK 195 yX0_wordOf cX0_wordOf 3 (some Jvm.ClassFile.FieldType.int) := ⟨rfl, rfl, rfl, rfl⟩
theorem mk_196 : MK 196 yX0_isWord cX0_isWord 2 (some Jvm.ClassFile.FieldType.boolean) := ⟨rfl, rfl, rfl, rfl⟩
theorem mk_197 : MK 197 yX0_isSign cX0_isSign 2 (some Jvm.ClassFile.FieldType.boolean) := ⟨rfl, rfl, rfl, rfl⟩
theorem mk_198 : MK 198 yX0_readNext cX0_readNext 2 none := ⟨rfl, rfl, rfl, rfl⟩
theorem mk_199 : MK 199 yX0_must cX0_must 2 none := ⟨rfl, rfl, rfl, rfl⟩
theorem mk_200 : MK 200 yX0_takesSign cX0_takesSign 2 none := ⟨rfl, rfl, rfl, rfl⟩
theorem mk_201 : MK 201 yX0_unit cX0_unit 2 (some (Jvm.ClassFile.FieldType.object "Encores$Term")) := ⟨rfl, rfl, rfl, rfl⟩
theorem mk_202 : MK 202 yX0_product cX0_product 3 (some (Jvm.ClassFile.FieldType.object "Encores$Term")) := ⟨rfl, rfl, rfl, rfl⟩
theorem mk_203 : MK 203 yX0_sum cX0_sum 3 (some (Jvm.ClassFile.FieldType.object "Encores$Term")) := ⟨rfl, rfl, rfl, rfl⟩
theorem mk_204 : MK 204 yX0_opens cX0_opens 1 none := ⟨rfl, rfl, rfl, rfl⟩
theorem mk_205 : MK 205 yX0_oneOf cX0_oneOf 3 (some (Jvm.ClassFile.FieldType.object "Encores$Term")) := ⟨rfl, rfl, rfl, rfl⟩
theorem mk_206 : MK 206 yX0_both cX0_both 2 (some (Jvm.ClassFile.FieldType.object "Encores$Term")) := ⟨rfl, rfl, rfl, rfl⟩
theorem mk_207 : MK 207 yX0_any cX0_any 2 (some (Jvm.ClassFile.FieldType.object "Encores$Term")) := ⟨rfl, rfl, rfl, rfl⟩
theorem mk_208 : MK 208 yX0_readsLaw cX0_readsLaw 3 (some (Jvm.ClassFile.FieldType.object "Encores$Text")) := ⟨rfl, rfl, rfl, rfl⟩
theorem mk_209 : MK 209 yX0_tells cX0_tells 5 (some Jvm.ClassFile.FieldType.int) := ⟨rfl, rfl, rfl, rfl⟩
theorem mk_210 : MK 210 yX0_isRoom cX0_isRoom 2 none := ⟨rfl, rfl, rfl, rfl⟩
theorem mk_211 : MK 211 yX0_number cX0_number 4 (some Jvm.ClassFile.FieldType.int) := ⟨rfl, rfl, rfl, rfl⟩
theorem mk_212 : MK 212 yX0_told cX0_told 4 (some Jvm.ClassFile.FieldType.int) := ⟨rfl, rfl, rfl, rfl⟩
theorem mk_213 : MK 213 yX0_rule cX0_rule 3 (some (Jvm.ClassFile.FieldType.object "Encores$Rule")) := ⟨rfl, rfl, rfl, rfl⟩
theorem mk_214 : MK 214 yX0_readsStatute cX0_readsStatute 5 (some (Jvm.ClassFile.FieldType.array (Jvm.ClassFile.FieldType.object "Encores$Rule"))) := ⟨rfl, rfl, rfl, rfl⟩
theorem mk_215 : MK 215 yX0_readsProgramme cX0_readsProgramme 5 (some (Jvm.ClassFile.FieldType.array (Jvm.ClassFile.FieldType.object "Encores$Turn"))) := ⟨rfl, rfl, rfl, rfl⟩
theorem mk_216 : MK 216 yX0_readsGallery cX0_readsGallery 6 (some (Jvm.ClassFile.FieldType.array Jvm.ClassFile.FieldType.int)) := ⟨rfl, rfl, rfl, rfl⟩
theorem mk_217 : MK 217 yX0_openText cX0_openText 2 none := ⟨rfl, rfl, rfl, rfl⟩
theorem mk_218 : MK 218 yX0_readsOther cX0_readsOther 3 (some Jvm.ClassFile.FieldType.int) := ⟨rfl, rfl, rfl, rfl⟩
theorem mk_219 : MK 219 yX0_readsText cX0_readsText 2 (some Jvm.ClassFile.FieldType.int) := ⟨rfl, rfl, rfl, rfl⟩
theorem mk_220 : MK 220 yX0_text cX0_text 5 (some Jvm.ClassFile.FieldType.int) := ⟨rfl, rfl, rfl, rfl⟩
theorem mk_221 : MK 221 yX0_fault cX0_fault 2 (some Jvm.ClassFile.FieldType.int) := ⟨rfl, rfl, rfl, rfl⟩
theorem mk_222 : MK 222 yX0_latest cX0_latest 5 (some Jvm.ClassFile.FieldType.int) := ⟨rfl, rfl, rfl, rfl⟩
theorem mk_223 : MK 223 yX0_handsFrom cX0_handsFrom 6 (some Jvm.ClassFile.FieldType.int) := ⟨rfl, rfl, rfl, rfl⟩
theorem mk_224 : MK 224 yX0_countOf cX0_countOf 3 (some Jvm.ClassFile.FieldType.int) := ⟨rfl, rfl, rfl, rfl⟩
theorem mk_225 : MK 225 yX0_writes cX0_writes 5 none := ⟨rfl, rfl, rfl, rfl⟩
theorem mk_226 : MK 226 yX0_keepsAhead cX0_keepsAhead 2 none := ⟨rfl, rfl, rfl, rfl⟩
theorem mk_227 : MK 227 yX0_undo cX0_undo 1 (some Jvm.ClassFile.FieldType.boolean) := ⟨rfl, rfl, rfl, rfl⟩
theorem mk_228 : MK 228 yX0_isHearer cX0_isHearer 2 (some Jvm.ClassFile.FieldType.boolean) := ⟨rfl, rfl, rfl, rfl⟩
theorem mk_229 : MK 229 yX0_isDeed cX0_isDeed 2 (some Jvm.ClassFile.FieldType.boolean) := ⟨rfl, rfl, rfl, rfl⟩
theorem mk_230 : MK 230 yX0_state cX0_state 3 (some Jvm.ClassFile.FieldType.int) := ⟨rfl, rfl, rfl, rfl⟩
theorem mk_231 : MK 231 yX0_hearer cX0_hearer 5 (some Jvm.ClassFile.FieldType.int) := ⟨rfl, rfl, rfl, rfl⟩
theorem mk_232 : MK 232 yX0_deed cX0_deed 5 (some Jvm.ClassFile.FieldType.int) := ⟨rfl, rfl, rfl, rfl⟩
theorem mk_233 : MK 233 yX0_canSet cX0_canSet 4 (some Jvm.ClassFile.FieldType.boolean) := ⟨rfl, rfl, rfl, rfl⟩
theorem mk_234 : MK 234 yX0_set cX0_set 4 (some Jvm.ClassFile.FieldType.boolean) := ⟨rfl, rfl, rfl, rfl⟩
theorem mk_235 : MK 235 yX0_perform cX0_perform 2 (some Jvm.ClassFile.FieldType.int) := ⟨rfl, rfl, rfl, rfl⟩
theorem mk_236 : MK 236 yX0_pay cX0_pay 3 (some Jvm.ClassFile.FieldType.boolean) := ⟨rfl, rfl, rfl, rfl⟩
theorem mk_237 : MK 237 yX0_glove cX0_glove 3 (some Jvm.ClassFile.FieldType.boolean) := ⟨rfl, rfl, rfl, rfl⟩
theorem mk_238 : MK 238 yX0_let cX0_let 3 (some Jvm.ClassFile.FieldType.boolean) := ⟨rfl, rfl, rfl, rfl⟩
theorem mk_239 : MK 239 yX0_evenings cX0_evenings 4 (some Jvm.ClassFile.FieldType.int) := ⟨rfl, rfl, rfl, rfl⟩
theorem mk_240 : MK 240 yX0_of cX0_of 3 (some Jvm.ClassFile.FieldType.int) := ⟨rfl, rfl, rfl, rfl⟩
theorem mk_241 : MK 241 yX0_deedOf cX0_deedOf 3 (some Jvm.ClassFile.FieldType.int) := ⟨rfl, rfl, rfl, rfl⟩
theorem mk_242 : MK 242 yX0_statute cX0_statute 2 (some Jvm.ClassFile.FieldType.int) := ⟨rfl, rfl, rfl, rfl⟩
theorem mk_243 : MK 243 yX0_book cX0_book 3 (some Jvm.ClassFile.FieldType.int) := ⟨rfl, rfl, rfl, rfl⟩
theorem mk_244 : MK 244 yX0_goes cX0_goes 3 (some Jvm.ClassFile.FieldType.int) := ⟨rfl, rfl, rfl, rfl⟩
theorem mk_245 : MK 245 yX0_settles cX0_settles 4 (some Jvm.ClassFile.FieldType.int) := ⟨rfl, rfl, rfl, rfl⟩
theorem mk_246 : MK 246 yX0_isDoneBy cX0_isDoneBy 6 (some Jvm.ClassFile.FieldType.boolean) := ⟨rfl, rfl, rfl, rfl⟩
theorem mk_247 : MK 247 yX0_makes cX0_makes 6 (some Jvm.ClassFile.FieldType.int) := ⟨rfl, rfl, rfl, rfl⟩
theorem mk_248 : MK 248 yX0_isOnceWith cX0_isOnceWith 4 (some Jvm.ClassFile.FieldType.boolean) := ⟨rfl, rfl, rfl, rfl⟩
theorem mk_249 : MK 249 yX0_brakes cX0_brakes 6 (some Jvm.ClassFile.FieldType.int) := ⟨rfl, rfl, rfl, rfl⟩
theorem mk_250 : MK 250 yX0_eager cX0_eager 5 (some Jvm.ClassFile.FieldType.int) := ⟨rfl, rfl, rfl, rfl⟩
theorem mk_251 : MK 251 yX0_tires cX0_tires 4 (some Jvm.ClassFile.FieldType.int) := ⟨rfl, rfl, rfl, rfl⟩
theorem mk_252 : MK 252 yX0_sumOf cX0_sumOf 4 (some Jvm.ClassFile.FieldType.int) := ⟨rfl, rfl, rfl, rfl⟩
theorem mk_253 : MK 253 yX0_fills cX0_fills 5 (some Jvm.ClassFile.FieldType.int) := ⟨rfl, rfl, rfl, rfl⟩
theorem mk_254 : MK 254 yX0_isAhead cX0_isAhead 3 (some Jvm.ClassFile.FieldType.boolean) := ⟨rfl, rfl, rfl, rfl⟩
theorem mk_255 : MK 255 yX0_lines cX0_lines 8 (some Jvm.ClassFile.FieldType.int) := ⟨rfl, rfl, rfl, rfl⟩
theorem mk_256 : MK 256 yX0_claque cX0_claque 5 (some Jvm.ClassFile.FieldType.int) := ⟨rfl, rfl, rfl, rfl⟩
theorem mk_257 : MK 257 yX0_fitsAll cX0_fitsAll 3 (some Jvm.ClassFile.FieldType.boolean) := ⟨rfl, rfl, rfl, rfl⟩
theorem mk_258 : MK 258 yX0_fits cX0_fits 7 (some Jvm.ClassFile.FieldType.int) := ⟨rfl, rfl, rfl, rfl⟩
theorem mk_259 : MK 259 yX0_besideAll cX0_besideAll 4 (some Jvm.ClassFile.FieldType.int) := ⟨rfl, rfl, rfl, rfl⟩
theorem mk_260 : MK 260 yX0_within cX0_within 6 (some Jvm.ClassFile.FieldType.int) := ⟨rfl, rfl, rfl, rfl⟩
theorem mk_261 : MK 261 yX0_cuts cX0_cuts 8 (some Jvm.ClassFile.FieldType.int) := ⟨rfl, rfl, rfl, rfl⟩
theorem mk_262 : MK 262 yX0_near cX0_near 3 (some Jvm.ClassFile.FieldType.int) := ⟨rfl, rfl, rfl, rfl⟩
theorem mk_263 : MK 263 yX0_groups cX0_groups 6 (some Jvm.ClassFile.FieldType.int) := ⟨rfl, rfl, rfl, rfl⟩
theorem mk_264 : MK 264 yX0_price cX0_price 5 (some Jvm.ClassFile.FieldType.int) := ⟨rfl, rfl, rfl, rfl⟩
theorem mk_265 : MK 265 yX0_gain cX0_gain 6 (some Jvm.ClassFile.FieldType.int) := ⟨rfl, rfl, rfl, rfl⟩
theorem mk_266 : MK 266 yX0_bargain cX0_bargain 4 (some Jvm.ClassFile.FieldType.int) := ⟨rfl, rfl, rfl, rfl⟩
theorem mk_267 : MK 267 yX0_calm cX0_calm 5 (some Jvm.ClassFile.FieldType.int) := ⟨rfl, rfl, rfl, rfl⟩
theorem mk_268 : MK 268 yX0_means cX0_means 3 (some Jvm.ClassFile.FieldType.boolean) := ⟨rfl, rfl, rfl, rfl⟩
theorem mk_269 : MK 269 yX0_passedBy cX0_passedBy 5 (some Jvm.ClassFile.FieldType.int) := ⟨rfl, rfl, rfl, rfl⟩
theorem mk_270 : MK 270 yX0_passed cX0_passed 7 (some Jvm.ClassFile.FieldType.int) := ⟨rfl, rfl, rfl, rfl⟩
theorem mk_271 : MK 271 yX0_weightOf cX0_weightOf 2 (some Jvm.ClassFile.FieldType.int) := ⟨rfl, rfl, rfl, rfl⟩
theorem mk_272 : MK 272 yX0_aheadOf cX0_aheadOf 7 (some Jvm.ClassFile.FieldType.int) := ⟨rfl, rfl, rfl, rfl⟩
theorem mk_273 : MK 273 yX0_share cX0_share 6 (some Jvm.ClassFile.FieldType.int) := ⟨rfl, rfl, rfl, rfl⟩
theorem mk_274 : MK 274 yX0_brides cX0_brides 7 (some Jvm.ClassFile.FieldType.int) := ⟨rfl, rfl, rfl, rfl⟩
theorem mk_275 : MK 275 yX0_findsGrundy cX0_findsGrundy 3 none := ⟨rfl, rfl, rfl, rfl⟩
theorem mk_276 : MK 276 yX0_canTake cX0_canTake 1 (some Jvm.ClassFile.FieldType.boolean) := ⟨rfl, rfl, rfl, rfl⟩
theorem mk_277 : MK 277 yX0_takenFrom cX0_takenFrom 4 (some Jvm.ClassFile.FieldType.int) := ⟨rfl, rfl, rfl, rfl⟩
theorem mk_278 : MK 278 yX0_game cX0_game 4 (some Jvm.ClassFile.FieldType.int) := ⟨rfl, rfl, rfl, rfl⟩
theorem mk_279 : MK 279 yX0_takesAll cX0_takesAll 2 none := ⟨rfl, rfl, rfl, rfl⟩
theorem mk_280 : MK 280 yX0_goesBack cX0_goesBack 2 none := ⟨rfl, rfl, rfl, rfl⟩
theorem mk_281 : MK 281 yX0_image cX0_image 2 (some Jvm.ClassFile.FieldType.boolean) := ⟨rfl, rfl, rfl, rfl⟩
theorem mk_282 : MK 282 yX0_look cX0_look 2 (some Jvm.ClassFile.FieldType.int) := ⟨rfl, rfl, rfl, rfl⟩
theorem mk_283 : MK 283 yX0_lambda_fits_0 cX0_lambda_fits_0 3 (some Jvm.ClassFile.FieldType.int) := ⟨rfl, rfl, rfl, rfl⟩
theorem mk_284 : MK 284 x cL_law 4 (some Jvm.ClassFile.FieldType.boolean) := ⟨rfl, rfl, rfl, rfl⟩
theorem ck_2 : CK 2 1 1 := CK.of mk_2 (by decide) q141 q1210 ⟨⟨by decide +kernel, by decide +kernel⟩, by decide +kernel⟩ (by decide) (by decide)
theorem cs_2 : Cond.static (mname 2) ∈ lw_all := kws (w := Cond.static) mk_2 q1209
theorem ck_3 : CK 3 1 1 := CK.of mk_3 (by decide) q141 q992 ⟨⟨by decide +kernel, by decide +kernel⟩, by decide +kernel⟩ (by decide) (by decide)
theorem cs_3 : Cond.static (mname 3) ∈ lw_all := kws (w := Cond.static) mk_3 q991
theorem ck_4 : CK 4 2 2 := CK.of mk_4 (by decide) q139 q942 ⟨⟨by decide +kernel, by decide +kernel⟩, by decide +kernel⟩ (by decide) (by decide)
theorem cs_4 : Cond.static (mname 4) ∈ lw_all := kws (w := Cond.static) mk_4 q941
theorem ck_5 : CK 5 0 1 := CK.of mk_5 (by decide) q144 q531 ⟨⟨by decide +kernel, by decide +kernel⟩, by decide +kernel⟩ (by decide) (by decide)
theorem ci_5 : CKt 5 := ⟨kws (w := Cond.instanceMethod) mk_5 q529, ksel mk_5 q530, by rw [mk_5.1]; rfl⟩
theorem ck_6 : CK 6 1 2 := CK.of mk_6 (by decide) q144 q541 ⟨⟨by decide +kernel, by decide +kernel⟩, by decide +kernel⟩ (by decide) (by decide)
theorem ci_6 : CKt 6 := ⟨kws (w := Cond.instanceMethod) mk_6 q539, ksel mk_6 q540, by rw [mk_6.1]; rfl⟩
theorem ck_7 : CK 7 1 2 := CK.of mk_7 (by decide) q144 q589 ⟨⟨by decide +kernel, by decide +kernel⟩, by decide +kernel⟩ (by decide) (by decide)
theorem ci_7 : CKt 7 := ⟨kws (w := Cond.instanceMethod) mk_7 q587, ksel mk_7 q588, by rw [mk_7.1]; rfl⟩
theorem ck_8 : CK 8 2 3 := CK.of mk_8 (by decide) q144 q593 ⟨⟨by decide +kernel, by decide +kernel⟩, by decide +kernel⟩ (by decide) (by decide)
theorem ci_8 : CKt 8 := ⟨kws (w := Cond.instanceMethod) mk_8 q591, ksel mk_8 q592, by rw [mk_8.1]; rfl⟩
theorem ck_9 : CK 9 0 1 := CK.of mk_9 (by decide) q144 q535 ⟨⟨by decide +kernel, by decide +kernel⟩, by decide +kernel⟩ (by decide) (by decide)
theorem ci_9 : CKt 9 := ⟨kws (w := Cond.instanceMethod) mk_9 q533, ksel mk_9 q534, by rw [mk_9.1]; rfl⟩
theorem ck_10 : CK 10 0 1 := CK.of mk_10 (by decide) q144 q545 ⟨⟨by decide +kernel, by decide +kernel⟩, by decide +kernel⟩ (by decide) (by decide)
theorem ci_10 : CKt 10 := ⟨kws (w := Cond.instanceMethod) mk_10 q543, ksel mk_10 q544, by rw [mk_10.1]; rfl⟩
theorem ck_11 : CK 11 2 2 := CK.of mk_11 (by decide) q144 q551 ⟨⟨by decide +kernel, by decide +kernel⟩, by decide +kernel⟩ (by decide) (by decide)
theorem cs_11 : Cond.static (mname 11) ∈ lw_all := kws (w := Cond.static) mk_11 q550
theorem ck_12 : CK 12 2 2 := CK.of mk_12 (by decide) q145 q548 ⟨⟨by decide +kernel, by decide +kernel⟩, by decide +kernel⟩ (by decide) (by decide)
theorem cs_12 : Cond.static (mname 12) ∈ lw_all := kws (w := Cond.static) mk_12 q547
theorem ck_13 : CK 13 1 1 := CK.of mk_13 (by decide) q145 q600 ⟨⟨by decide +kernel, by decide +kernel⟩, by decide +kernel⟩ (by decide) (by decide)
theorem cs_13 : Cond.static (mname 13) ∈ lw_all := kws (w := Cond.static) mk_13 q599
theorem ck_14 : CK 14 4 4 := CK.of mk_14 (by decide) q145 q597 ⟨⟨by decide +kernel, by decide +kernel⟩, by decide +kernel⟩ (by decide) (by decide)
theorem cs_14 : Cond.static (mname 14) ∈ lw_all := kws (w := Cond.static) mk_14 q596
theorem ck_15 : CK 15 4 4 := CK.of mk_15 (by decide) q145 q607 ⟨⟨by decide +kernel, by decide +kernel⟩, by decide +kernel⟩ (by decide) (by decide)
theorem cs_15 : Cond.static (mname 15) ∈ lw_all := kws (w := Cond.static) mk_15 q606
theorem ck_16 : CK 16 3 3 := CK.of mk_16 (by decide) q146 q556 ⟨⟨by decide +kernel, by decide +kernel⟩, by decide +kernel⟩ (by decide) (by decide)
theorem cs_16 : Cond.static (mname 16) ∈ lw_all := kws (w := Cond.static) mk_16 q555
theorem ck_17 : CK 17 0 1 := CK.of mk_17 (by decide) q152 q749 ⟨⟨by decide +kernel, by decide +kernel⟩, by decide +kernel⟩ (by decide) (by decide)
theorem cc_17 : CKc 17 := ⟨kws (w := Cond.instanceMethod) mk_17 q748, kin mk_17 rfl⟩
theorem ck_18 : CK 18 4 5 := CK.of mk_18 (by decide) q149 q701 ⟨⟨by decide +kernel, by decide +kernel⟩, by decide +kernel⟩ (by decide) (by decide)
theorem cc_18 : CKc 18 := ⟨kws (w := Cond.instanceMethod) mk_18 q700, kin mk_18 rfl⟩
theorem ck_19 : CK 19 4 5 := CK.of mk_19 (by decide) q150 q698 ⟨⟨by decide +kernel, by decide +kernel⟩, by decide +kernel⟩ (by decide) (by decide)
theorem cc_19 : CKc 19 := ⟨kws (w := Cond.instanceMethod) mk_19 q697, kin mk_19 rfl⟩
theorem ck_20 : CK 20 2 3 := CK.of mk_20 (by decide) q151 q695 ⟨⟨by decide +kernel, by decide +kernel⟩, by decide +kernel⟩ (by decide) (by decide)
theorem cc_20 : CKc 20 := ⟨kws (w := Cond.instanceMethod) mk_20 q694, kin mk_20 rfl⟩
theorem ck_21 : CK 21 3 4 := CK.of mk_21 (by decide) q153 q746 ⟨⟨by decide +kernel, by decide +kernel⟩, by decide +kernel⟩ (by decide) (by decide)
theorem cc_21 : CKc 21 := ⟨kws (w := Cond.instanceMethod) mk_21 q745, kin mk_21 rfl⟩
theorem ck_22 : CK 22 0 1 := CK.of mk_22 (by decide) q153 q1007 ⟨⟨by decide +kernel, by decide +kernel⟩, by decide +kernel⟩ (by decide) (by decide)
theorem ci_22 : CKi 22 5 := ⟨kws (w := Cond.instanceMethod) mk_22 q1005, ksel mk_22 q1006, krc mk_22 (⟨by decide, _, rfl, rfl⟩)⟩
theorem ck_23 : CK 23 0 1 := CK.of mk_23 (by decide) q153 q1011 ⟨⟨by decide +kernel, by decide +kernel⟩, by decide +kernel⟩ (by decide) (by decide)
theorem ci_23 : CKi 23 5 := ⟨kws (w := Cond.instanceMethod) mk_23 q1009, ksel mk_23 q1010, krc mk_23 (⟨by decide, _, rfl, rfl⟩)⟩
theorem ck_24 : CK 24 0 1 := CK.of mk_24 (by decide) q153 q1031 ⟨⟨by decide +kernel, by decide +kernel⟩, by decide +kernel⟩ (by decide) (by decide)
theorem ci_24 : CKi 24 5 := ⟨kws (w := Cond.instanceMethod) mk_24 q1029, ksel mk_24 q1030, krc mk_24 (⟨by decide, _, rfl, rfl⟩)⟩
theorem ck_25 : CK 25 2 3 := CK.of mk_25 (by decide) q154 q776 ⟨⟨by decide +kernel, by decide +kernel⟩, by decide +kernel⟩ (by decide) (by decide)
theorem cc_25 : CKc 25 := ⟨kws (w := Cond.instanceMethod) mk_25 q775, kin mk_25 rfl⟩
theorem ck_26 : CK 26 0 1 := CK.of mk_26 (by decide) q154 q1061 ⟨⟨by decide +kernel, by decide +kernel⟩, by decide +kernel⟩ (by decide) (by decide)
theorem ci_26 : CKi 26 6 := ⟨kws (w := Cond.instanceMethod) mk_26 q1059, ksel mk_26 q1060, krc mk_26 (⟨by decide, _, rfl, rfl⟩)⟩
theorem ck_27 : CK 27 0 1 := CK.of mk_27 (by decide) q154 q1066 ⟨⟨by decide +kernel, by decide +kernel⟩, by decide +kernel⟩ (by decide) (by decide)
theorem ci_27 : CKi 27 6 := ⟨kws (w := Cond.instanceMethod) mk_27 q1064, ksel mk_27 q1065, krc mk_27 (⟨by decide, _, rfl, rfl⟩)⟩
theorem ck_28 : CK 28 2 3 := CK.of mk_28 (by decide) q160 q1152 ⟨⟨by decide +kernel, by decide +kernel⟩, by decide +kernel⟩ (by decide) (by decide)
theorem cc_28 : CKc 28 := ⟨kws (w := Cond.instanceMethod) mk_28 q1151, kin mk_28 rfl⟩
theorem ck_29 : CK 29 0 1 := CK.of mk_29 (by decide) q160 q1173 ⟨⟨by decide +kernel, by decide +kernel⟩, by decide +kernel⟩ (by decide) (by decide)
theorem ci_29 : CKi 29 12 := ⟨kws (w := Cond.instanceMethod) mk_29 q1171, ksel mk_29 q1172, krc mk_29 (⟨by decide, _, rfl, rfl⟩)⟩
theorem ck_30 : CK 30 0 1 := CK.of mk_30 (by decide) q160 q1177 ⟨⟨by decide +kernel, by decide +kernel⟩, by decide +kernel⟩ (by decide) (by decide)
theorem ci_30 : CKi 30 12 := ⟨kws (w := Cond.instanceMethod) mk_30 q1175, ksel mk_30 q1176, krc mk_30 (⟨by decide, _, rfl, rfl⟩)⟩
theorem ck_31 : CK 31 0 1 := CK.of mk_31 (by decide) q135 q200 ⟨⟨by decide +kernel, by decide +kernel⟩, by decide +kernel⟩ (by decide) (by decide)
theorem cc_31 : CKc 31 := ⟨kws (w := Cond.instanceMethod) mk_31 q199, kin mk_31 rfl⟩
theorem ck_32 : CK 32 0 1 := CK.of mk_32 (by decide) q155 q812 ⟨⟨by decide +kernel, by decide +kernel⟩, by decide +kernel⟩ (by decide) (by decide)
theorem cc_32 : CKc 32 := ⟨kws (w := Cond.instanceMethod) mk_32 q811, kin mk_32 rfl⟩
theorem ck_33 : CK 33 1 2 := CK.of mk_33 (by decide) q156 q809 ⟨⟨by decide +kernel, by decide +kernel⟩, by decide +kernel⟩ (by decide) (by decide)
theorem cc_33 : CKc 33 := ⟨kws (w := Cond.instanceMethod) mk_33 q808, kin mk_33 rfl⟩
theorem ck_35 : CK 35 1 2 := CK.of mk_35 (by decide) q157 q822 ⟨⟨by decide +kernel, by decide +kernel⟩, by decide +kernel⟩ (by decide) (by decide)
theorem cc_35 : CKc 35 := ⟨kws (w := Cond.instanceMethod) mk_35 q821, kin mk_35 rfl⟩
theorem ck_37 : CK 37 3 4 := CK.of mk_37 (by decide) q158 q832 ⟨⟨by decide +kernel, by decide +kernel⟩, by decide +kernel⟩ (by decide) (by decide)
theorem cc_37 : CKc 37 := ⟨kws (w := Cond.instanceMethod) mk_37 q831, kin mk_37 rfl⟩
theorem ck_39 : CK 39 1 2 := CK.of mk_39 (by decide) q159 q864 ⟨⟨by decide +kernel, by decide +kernel⟩, by decide +kernel⟩ (by decide) (by decide)
theorem cc_39 : CKc 39 := ⟨kws (w := Cond.instanceMethod) mk_39 q863, kin mk_39 rfl⟩
theorem ck_41 : CK 41 0 1 := CK.of mk_41 (by decide) q137 q1294 ⟨⟨by decide +kernel, by decide +kernel⟩, by decide +kernel⟩ (by decide) (by decide)
theorem cc_41 : CKc 41 := ⟨kws (w := Cond.instanceMethod) mk_41 q1293, kin mk_41 rfl⟩
theorem ck_42 : CK 42 3 3 := CK.of mk_42 (by decide) q137 q1416 ⟨⟨by decide +kernel, by decide +kernel⟩, by decide +kernel⟩ (by decide) (by decide)
theorem cs_42 : Cond.static (mname 42) ∈ lw_all := kws (w := Cond.static) mk_42 q1415
theorem ck_43 : CK 43 2 2 := CK.of mk_43 (by decide) q137 q1653 ⟨⟨by decide +kernel, by decide +kernel⟩, by decide +kernel⟩ (by decide) (by decide)
theorem cs_43 : Cond.static (mname 43) ∈ lw_all := kws (w := Cond.static) mk_43 q1652
theorem ck_44 : CK 44 2 2 := CK.of mk_44 (by decide) q137 q1656 ⟨⟨by decide +kernel, by decide +kernel⟩, by decide +kernel⟩ (by decide) (by decide)
theorem cs_44 : Cond.static (mname 44) ∈ lw_all := kws (w := Cond.static) mk_44 q1655
theorem ck_45 : CK 45 1 2 := CK.of mk_45 (by decide) q137 q1432 ⟨⟨by decide +kernel, by decide +kernel⟩, by decide +kernel⟩ (by decide) (by decide)
theorem ci_45 : CKi 45 3 := ⟨kws (w := Cond.instanceMethod) mk_45 q1431, ksel mk_45 qs59, krc mk_45 (⟨by decide, _, rfl, rfl⟩)⟩
theorem ck_46 : CK 46 1 2 := CK.of mk_46 (by decide) q137 q1436 ⟨⟨by decide +kernel, by decide +kernel⟩, by decide +kernel⟩ (by decide) (by decide)
theorem ci_46 : CKi 46 3 := ⟨kws (w := Cond.instanceMethod) mk_46 q1435, ksel mk_46 qs60, krc mk_46 (⟨by decide, _, rfl, rfl⟩)⟩
theorem ck_47 : CK 47 1 2 := CK.of mk_47 (by decide) q137 q1664 ⟨⟨by decide +kernel, by decide +kernel⟩, by decide +kernel⟩ (by decide) (by decide)
theorem ci_47 : CKi 47 3 := ⟨kws (w := Cond.instanceMethod) mk_47 q1663, ksel mk_47 qs101, krc mk_47 (⟨by decide, _, rfl, rfl⟩)⟩
theorem ck_48 : CK 48 1 2 := CK.of mk_48 (by decide) q137 q1678 ⟨⟨by decide +kernel, by decide +kernel⟩, by decide +kernel⟩ (by decide) (by decide)
theorem ci_48 : CKi 48 3 := ⟨kws (w := Cond.instanceMethod) mk_48 q1677, ksel mk_48 qs104, krc mk_48 (⟨by decide, _, rfl, rfl⟩)⟩
theorem ck_49 : CK 49 0 1 := CK.of mk_49 (by decide) q137 q1844 ⟨⟨by decide +kernel, by decide +kernel⟩, by decide +kernel⟩ (by decide) (by decide)
theorem ci_49 : CKi 49 3 := ⟨kws (w := Cond.instanceMethod) mk_49 q1843, ksel mk_49 qs123, krc mk_49 (⟨by decide, _, rfl, rfl⟩)⟩
theorem ck_50 : CK 50 1 1 := CK.of mk_50 (by decide) q137 q1681 ⟨⟨by decide +kernel, by decide +kernel⟩, by decide +kernel⟩ (by decide) (by decide)
theorem cs_50 : Cond.static (mname 50) ∈ lw_all := kws (w := Cond.static) mk_50 q1680
theorem ck_51 : CK 51 0 1 := CK.of mk_51 (by decide) q137 q1409 ⟨⟨by decide +kernel, by decide +kernel⟩, by decide +kernel⟩ (by decide) (by decide)
theorem ci_51 : CKi 51 3 := ⟨kws (w := Cond.instanceMethod) mk_51 q1408, ksel mk_51 qs57, krc mk_51 (⟨by decide, _, rfl, rfl⟩)⟩
theorem ck_52 : CK 52 1 2 := CK.of mk_52 (by decide) q137 q1405 ⟨⟨by decide +kernel, by decide +kernel⟩, by decide +kernel⟩ (by decide) (by decide)
theorem ci_52 : CKi 52 3 := ⟨kws (w := Cond.instanceMethod) mk_52 q1403, ksel mk_52 q1404, krc mk_52 (⟨by decide, _, rfl, rfl⟩)⟩
theorem ck_53 : CK 53 1 2 := CK.of mk_53 (by decide) q137 q1668 ⟨⟨by decide +kernel, by decide +kernel⟩, by decide +kernel⟩ (by decide) (by decide)
theorem ci_53 : CKi 53 3 := ⟨kws (w := Cond.instanceMethod) mk_53 q1667, ksel mk_53 qs102, krc mk_53 (⟨by decide, _, rfl, rfl⟩)⟩
theorem ck_54 : CK 54 3 4 := CK.of mk_54 (by decide) q137 q1413 ⟨⟨by decide +kernel, by decide +kernel⟩, by decide +kernel⟩ (by decide) (by decide)
theorem ci_54 : CKi 54 3 := ⟨kws (w := Cond.instanceMethod) mk_54 q1411, ksel mk_54 q1412, krc mk_54 (⟨by decide, _, rfl, rfl⟩)⟩
theorem ck_55 : CK 55 3 4 := CK.of mk_55 (by decide) q137 q1420 ⟨⟨by decide +kernel, by decide +kernel⟩, by decide +kernel⟩ (by decide) (by decide)
theorem ci_55 : CKi 55 3 := ⟨kws (w := Cond.instanceMethod) mk_55 q1418, ksel mk_55 q1419, krc mk_55 (⟨by decide, _, rfl, rfl⟩)⟩
theorem ck_56 : CK 56 3 4 := CK.of mk_56 (by decide) q137 q1428 ⟨⟨by decide +kernel, by decide +kernel⟩, by decide +kernel⟩ (by decide) (by decide)
theorem ci_56 : CKi 56 3 := ⟨kws (w := Cond.instanceMethod) mk_56 q1427, ksel mk_56 qs58, krc mk_56 (⟨by decide, _, rfl, rfl⟩)⟩
theorem ck_57 : CK 57 3 4 := CK.of mk_57 (by decide) q137 q1424 ⟨⟨by decide +kernel, by decide +kernel⟩, by decide +kernel⟩ (by decide) (by decide)
theorem ci_57 : CKi 57 3 := ⟨kws (w := Cond.instanceMethod) mk_57 q1422, ksel mk_57 q1423, krc mk_57 (⟨by decide, _, rfl, rfl⟩)⟩
theorem ck_58 : CK 58 5 6 := CK.of mk_58 (by decide) q137 q1440 ⟨⟨by decide +kernel, by decide +kernel⟩, by decide +kernel⟩ (by decide) (by decide)
theorem ci_58 : CKi 58 3 := ⟨kws (w := Cond.instanceMethod) mk_58 q1438, ksel mk_58 q1439, krc mk_58 (⟨by decide, _, rfl, rfl⟩)⟩
theorem ck_59 : CK 59 1 2 := CK.of mk_59 (by decide) q137 q1444 ⟨⟨by decide +kernel, by decide +kernel⟩, by decide +kernel⟩ (by decide) (by decide)
theorem ci_59 : CKi 59 3 := ⟨kws (w := Cond.instanceMethod) mk_59 q1442, ksel mk_59 q1443, krc mk_59 (⟨by decide, _, rfl, rfl⟩)⟩
theorem ck_60 : CK 60 1 2 := CK.of mk_60 (by decide) q137 q1456 ⟨⟨by decide +kernel, by decide +kernel⟩, by decide +kernel⟩ (by decide) (by decide)
theorem ci_60 : CKi 60 3 := ⟨kws (w := Cond.instanceMethod) mk_60 q1455, ksel mk_60 qs62, krc mk_60 (⟨by decide, _, rfl, rfl⟩)⟩
theorem ck_61 : CK 61 1 1 := CK.of mk_61 (by decide) q137 q1459 ⟨⟨by decide +kernel, by decide +kernel⟩, by decide +kernel⟩ (by decide) (by decide)
theorem cs_61 : Cond.static (mname 61) ∈ lw_all := kws (w := Cond.static) mk_61 q1458
theorem ck_62 : CK 62 1 1 := CK.of mk_62 (by decide) q137 q1507 ⟨⟨by decide +kernel, by decide +kernel⟩, by decide +kernel⟩ (by decide) (by decide)
theorem cs_62 : Cond.static (mname 62) ∈ lw_all := kws (w := Cond.static) mk_62 q1506
theorem ck_63 : CK 63 1 2 := CK.of mk_63 (by decide) q137 q1472 ⟨⟨by decide +kernel, by decide +kernel⟩, by decide +kernel⟩ (by decide) (by decide)
theorem ci_63 : CKi 63 3 := ⟨kws (w := Cond.instanceMethod) mk_63 q1471, ksel mk_63 qs65, krc mk_63 (⟨by decide, _, rfl, rfl⟩)⟩
theorem ck_64 : CK 64 0 1 := CK.of mk_64 (by decide) q137 q1484 ⟨⟨by decide +kernel, by decide +kernel⟩, by decide +kernel⟩ (by decide) (by decide)
theorem ci_64 : CKi 64 3 := ⟨kws (w := Cond.instanceMethod) mk_64 q1483, ksel mk_64 qs66, krc mk_64 (⟨by decide, _, rfl, rfl⟩)⟩
theorem ck_65 : CK 65 0 1 := CK.of mk_65 (by decide) q137 q1467 ⟨⟨by decide +kernel, by decide +kernel⟩, by decide +kernel⟩ (by decide) (by decide)
theorem ci_65 : CKi 65 3 := ⟨kws (w := Cond.instanceMethod) mk_65 q1466, ksel mk_65 qs64, krc mk_65 (⟨by decide, _, rfl, rfl⟩)⟩
theorem ck_66 : CK 66 0 1 := CK.of mk_66 (by decide) q137 q1498 ⟨⟨by decide +kernel, by decide +kernel⟩, by decide +kernel⟩ (by decide) (by decide)
theorem ci_66 : CKi 66 3 := ⟨kws (w := Cond.instanceMethod) mk_66 q1497, ksel mk_66 qs67, krc mk_66 (⟨by decide, _, rfl, rfl⟩)⟩
theorem ck_67 : CK 67 0 1 := CK.of mk_67 (by decide) q137 q1463 ⟨⟨by decide +kernel, by decide +kernel⟩, by decide +kernel⟩ (by decide) (by decide)
theorem ci_67 : CKi 67 3 := ⟨kws (w := Cond.instanceMethod) mk_67 q1462, ksel mk_67 qs63, krc mk_67 (⟨by decide, _, rfl, rfl⟩)⟩
theorem ck_68 : CK 68 0 1 := CK.of mk_68 (by decide) q137 q1452 ⟨⟨by decide +kernel, by decide +kernel⟩, by decide +kernel⟩ (by decide) (by decide)
theorem ci_68 : CKi 68 3 := ⟨kws (w := Cond.instanceMethod) mk_68 q1451, ksel mk_68 qs61, krc mk_68 (⟨by decide, _, rfl, rfl⟩)⟩
theorem ck_69 : CK 69 1 2 := CK.of mk_69 (by decide) q137 q1519 ⟨⟨by decide +kernel, by decide +kernel⟩, by decide +kernel⟩ (by decide) (by decide)
theorem ci_69 : CKi 69 3 := ⟨kws (w := Cond.instanceMethod) mk_69 q1518, ksel mk_69 qs70, krc mk_69 (⟨by decide, _, rfl, rfl⟩)⟩
theorem ck_70 : CK 70 1 2 := CK.of mk_70 (by decide) q137 q1555 ⟨⟨by decide +kernel, by decide +kernel⟩, by decide +kernel⟩ (by decide) (by decide)
theorem ci_70 : CKi 70 3 := ⟨kws (w := Cond.instanceMethod) mk_70 q1554, ksel mk_70 qs79, krc mk_70 (⟨by decide, _, rfl, rfl⟩)⟩
theorem ck_71 : CK 71 2 3 := CK.of mk_71 (by decide) q137 q1535 ⟨⟨by decide +kernel, by decide +kernel⟩, by decide +kernel⟩ (by decide) (by decide)
theorem ci_71 : CKi 71 3 := ⟨kws (w := Cond.instanceMethod) mk_71 q1534, ksel mk_71 qs74, krc mk_71 (⟨by decide, _, rfl, rfl⟩)⟩
theorem ck_72 : CK 72 0 1 := CK.of mk_72 (by decide) q137 q1551 ⟨⟨by decide +kernel, by decide +kernel⟩, by decide +kernel⟩ (by decide) (by decide)
theorem ci_72 : CKi 72 3 := ⟨kws (w := Cond.instanceMethod) mk_72 q1550, ksel mk_72 qs78, krc mk_72 (⟨by decide, _, rfl, rfl⟩)⟩
theorem ck_73 : CK 73 0 1 := CK.of mk_73 (by decide) q137 q1523 ⟨⟨by decide +kernel, by decide +kernel⟩, by decide +kernel⟩ (by decide) (by decide)
theorem ci_73 : CKi 73 3 := ⟨kws (w := Cond.instanceMethod) mk_73 q1522, ksel mk_73 qs71, krc mk_73 (⟨by decide, _, rfl, rfl⟩)⟩
theorem ck_74 : CK 74 0 1 := CK.of mk_74 (by decide) q137 q1527 ⟨⟨by decide +kernel, by decide +kernel⟩, by decide +kernel⟩ (by decide) (by decide)
theorem ci_74 : CKi 74 3 := ⟨kws (w := Cond.instanceMethod) mk_74 q1526, ksel mk_74 qs72, krc mk_74 (⟨by decide, _, rfl, rfl⟩)⟩
theorem ck_75 : CK 75 0 1 := CK.of mk_75 (by decide) q137 q1531 ⟨⟨by decide +kernel, by decide +kernel⟩, by decide +kernel⟩ (by decide) (by decide)
theorem ci_75 : CKi 75 3 := ⟨kws (w := Cond.instanceMethod) mk_75 q1530, ksel mk_75 qs73, krc mk_75 (⟨by decide, _, rfl, rfl⟩)⟩
theorem ck_76 : CK 76 0 1 := CK.of mk_76 (by decide) q137 q1539 ⟨⟨by decide +kernel, by decide +kernel⟩, by decide +kernel⟩ (by decide) (by decide)
theorem ci_76 : CKi 76 3 := ⟨kws (w := Cond.instanceMethod) mk_76 q1538, ksel mk_76 qs75, krc mk_76 (⟨by decide, _, rfl, rfl⟩)⟩
theorem ck_77 : CK 77 0 1 := CK.of mk_77 (by decide) q137 q1543 ⟨⟨by decide +kernel, by decide +kernel⟩, by decide +kernel⟩ (by decide) (by decide)
theorem ci_77 : CKi 77 3 := ⟨kws (w := Cond.instanceMethod) mk_77 q1542, ksel mk_77 qs76, krc mk_77 (⟨by decide, _, rfl, rfl⟩)⟩
theorem ck_78 : CK 78 0 1 := CK.of mk_78 (by decide) q137 q1547 ⟨⟨by decide +kernel, by decide +kernel⟩, by decide +kernel⟩ (by decide) (by decide)
theorem ci_78 : CKi 78 3 := ⟨kws (w := Cond.instanceMethod) mk_78 q1546, ksel mk_78 qs77, krc mk_78 (⟨by decide, _, rfl, rfl⟩)⟩
theorem ck_79 : CK 79 0 1 := CK.of mk_79 (by decide) q137 q1515 ⟨⟨by decide +kernel, by decide +kernel⟩, by decide +kernel⟩ (by decide) (by decide)
theorem ci_79 : CKi 79 3 := ⟨kws (w := Cond.instanceMethod) mk_79 q1514, ksel mk_79 qs69, krc mk_79 (⟨by decide, _, rfl, rfl⟩)⟩
theorem ck_80 : CK 80 0 1 := CK.of mk_80 (by decide) q137 q1511 ⟨⟨by decide +kernel, by decide +kernel⟩, by decide +kernel⟩ (by decide) (by decide)
theorem ci_80 : CKi 80 3 := ⟨kws (w := Cond.instanceMethod) mk_80 q1510, ksel mk_80 qs68, krc mk_80 (⟨by decide, _, rfl, rfl⟩)⟩
theorem ck_81 : CK 81 3 4 := CK.of mk_81 (by decide) q137 q1575 ⟨⟨by decide +kernel, by decide +kernel⟩, by decide +kernel⟩ (by decide) (by decide)
theorem ci_81 : CKi 81 3 := ⟨kws (w := Cond.instanceMethod) mk_81 q1574, ksel mk_81 qs84, krc mk_81 (⟨by decide, _, rfl, rfl⟩)⟩
theorem ck_82 : CK 82 4 5 := CK.of mk_82 (by decide) q137 q1579 ⟨⟨by decide +kernel, by decide +kernel⟩, by decide +kernel⟩ (by decide) (by decide)
theorem ci_82 : CKi 82 3 := ⟨kws (w := Cond.instanceMethod) mk_82 q1578, ksel mk_82 qs85, krc mk_82 (⟨by decide, _, rfl, rfl⟩)⟩
theorem ck_83 : CK 83 0 1 := CK.of mk_83 (by decide) q137 q1571 ⟨⟨by decide +kernel, by decide +kernel⟩, by decide +kernel⟩ (by decide) (by decide)
theorem ci_83 : CKi 83 3 := ⟨kws (w := Cond.instanceMethod) mk_83 q1570, ksel mk_83 qs83, krc mk_83 (⟨by decide, _, rfl, rfl⟩)⟩
theorem ck_84 : CK 84 0 1 := CK.of mk_84 (by decide) q137 q1583 ⟨⟨by decide +kernel, by decide +kernel⟩, by decide +kernel⟩ (by decide) (by decide)
theorem ci_84 : CKi 84 3 := ⟨kws (w := Cond.instanceMethod) mk_84 q1582, ksel mk_84 qs86, krc mk_84 (⟨by decide, _, rfl, rfl⟩)⟩
theorem ck_85 : CK 85 0 1 := CK.of mk_85 (by decide) q137 q1587 ⟨⟨by decide +kernel, by decide +kernel⟩, by decide +kernel⟩ (by decide) (by decide)
theorem ci_85 : CKi 85 3 := ⟨kws (w := Cond.instanceMethod) mk_85 q1586, ksel mk_85 qs87, krc mk_85 (⟨by decide, _, rfl, rfl⟩)⟩
theorem ck_86 : CK 86 0 1 := CK.of mk_86 (by decide) q137 q1567 ⟨⟨by decide +kernel, by decide +kernel⟩, by decide +kernel⟩ (by decide) (by decide)
theorem ci_86 : CKi 86 3 := ⟨kws (w := Cond.instanceMethod) mk_86 q1566, ksel mk_86 qs82, krc mk_86 (⟨by decide, _, rfl, rfl⟩)⟩
theorem ck_87 : CK 87 0 1 := CK.of mk_87 (by decide) q137 q1563 ⟨⟨by decide +kernel, by decide +kernel⟩, by decide +kernel⟩ (by decide) (by decide)
theorem ci_87 : CKi 87 3 := ⟨kws (w := Cond.instanceMethod) mk_87 q1562, ksel mk_87 qs81, krc mk_87 (⟨by decide, _, rfl, rfl⟩)⟩
theorem ck_88 : CK 88 0 1 := CK.of mk_88 (by decide) q137 q1559 ⟨⟨by decide +kernel, by decide +kernel⟩, by decide +kernel⟩ (by decide) (by decide)
theorem ci_88 : CKi 88 3 := ⟨kws (w := Cond.instanceMethod) mk_88 q1558, ksel mk_88 qs80, krc mk_88 (⟨by decide, _, rfl, rfl⟩)⟩
theorem ck_89 : CK 89 0 1 := CK.of mk_89 (by decide) q137 q1595 ⟨⟨by decide +kernel, by decide +kernel⟩, by decide +kernel⟩ (by decide) (by decide)
theorem ci_89 : CKi 89 3 := ⟨kws (w := Cond.instanceMethod) mk_89 q1594, ksel mk_89 qs89, krc mk_89 (⟨by decide, _, rfl, rfl⟩)⟩
theorem ck_90 : CK 90 3 4 := CK.of mk_90 (by decide) q137 q1599 ⟨⟨by decide +kernel, by decide +kernel⟩, by decide +kernel⟩ (by decide) (by decide)
theorem ci_90 : CKi 90 3 := ⟨kws (w := Cond.instanceMethod) mk_90 q1598, ksel mk_90 qs90, krc mk_90 (⟨by decide, _, rfl, rfl⟩)⟩
theorem ck_91 : CK 91 0 1 := CK.of mk_91 (by decide) q137 q1603 ⟨⟨by decide +kernel, by decide +kernel⟩, by decide +kernel⟩ (by decide) (by decide)
theorem ci_91 : CKi 91 3 := ⟨kws (w := Cond.instanceMethod) mk_91 q1602, ksel mk_91 qs91, krc mk_91 (⟨by decide, _, rfl, rfl⟩)⟩
theorem ck_92 : CK 92 1 2 := CK.of mk_92 (by decide) q137 q1591 ⟨⟨by decide +kernel, by decide +kernel⟩, by decide +kernel⟩ (by decide) (by decide)
theorem ci_92 : CKi 92 3 := ⟨kws (w := Cond.instanceMethod) mk_92 q1590, ksel mk_92 qs88, krc mk_92 (⟨by decide, _, rfl, rfl⟩)⟩
theorem ck_93 : CK 93 1 2 := CK.of mk_93 (by decide) q137 q1448 ⟨⟨by decide +kernel, by decide +kernel⟩, by decide +kernel⟩ (by decide) (by decide)
theorem ci_93 : CKi 93 3 := ⟨kws (w := Cond.instanceMethod) mk_93 q1446, ksel mk_93 q1447, krc mk_93 (⟨by decide, _, rfl, rfl⟩)⟩
theorem ck_94 : CK 94 1 2 := CK.of mk_94 (by decide) q137 q1607 ⟨⟨by decide +kernel, by decide +kernel⟩, by decide +kernel⟩ (by decide) (by decide)
theorem ci_94 : CKi 94 3 := ⟨kws (w := Cond.instanceMethod) mk_94 q1605, ksel mk_94 q1606, krc mk_94 (⟨by decide, _, rfl, rfl⟩)⟩
theorem ck_95 : CK 95 3 3 := CK.of mk_95 (by decide) q137 q1650 ⟨⟨by decide +kernel, by decide +kernel⟩, by decide +kernel⟩ (by decide) (by decide)
theorem cs_95 : Cond.static (mname 95) ∈ lw_all := kws (w := Cond.static) mk_95 q1649
theorem ck_96 : CK 96 3 4 := CK.of mk_96 (by decide) q137 q1647 ⟨⟨by decide +kernel, by decide +kernel⟩, by decide +kernel⟩ (by decide) (by decide)
theorem ci_96 : CKi 96 3 := ⟨kws (w := Cond.instanceMethod) mk_96 q1646, ksel mk_96 qs99, krc mk_96 (⟨by decide, _, rfl, rfl⟩)⟩
theorem ck_97 : CK 97 1 2 := CK.of mk_97 (by decide) q137 q1643 ⟨⟨by decide +kernel, by decide +kernel⟩, by decide +kernel⟩ (by decide) (by decide)
theorem ci_97 : CKi 97 3 := ⟨kws (w := Cond.instanceMethod) mk_97 q1642, ksel mk_97 qs98, krc mk_97 (⟨by decide, _, rfl, rfl⟩)⟩
theorem ck_98 : CK 98 3 4 := CK.of mk_98 (by decide) q137 q1639 ⟨⟨by decide +kernel, by decide +kernel⟩, by decide +kernel⟩ (by decide) (by decide)
theorem ci_98 : CKi 98 3 := ⟨kws (w := Cond.instanceMethod) mk_98 q1638, ksel mk_98 qs97, krc mk_98 (⟨by decide, _, rfl, rfl⟩)⟩
theorem ck_99 : CK 99 1 2 := CK.of mk_99 (by decide) q137 q1635 ⟨⟨by decide +kernel, by decide +kernel⟩, by decide +kernel⟩ (by decide) (by decide)
theorem ci_99 : CKi 99 3 := ⟨kws (w := Cond.instanceMethod) mk_99 q1634, ksel mk_99 qs96, krc mk_99 (⟨by decide, _, rfl, rfl⟩)⟩
theorem ck_100 : CK 100 1 2 := CK.of mk_100 (by decide) q137 q1693 ⟨⟨by decide +kernel, by decide +kernel⟩, by decide +kernel⟩ (by decide) (by decide)
theorem ci_100 : CKi 100 3 := ⟨kws (w := Cond.instanceMethod) mk_100 q1692, ksel mk_100 qs107, krc mk_100 (⟨by decide, _, rfl, rfl⟩)⟩
theorem ck_101 : CK 101 1 2 := CK.of mk_101 (by decide) q137 q1631 ⟨⟨by decide +kernel, by decide +kernel⟩, by decide +kernel⟩ (by decide) (by decide)
theorem ci_101 : CKi 101 3 := ⟨kws (w := Cond.instanceMethod) mk_101 q1630, ksel mk_101 qs95, krc mk_101 (⟨by decide, _, rfl, rfl⟩)⟩
theorem ck_102 : CK 102 3 4 := CK.of mk_102 (by decide) q137 q1685 ⟨⟨by decide +kernel, by decide +kernel⟩, by decide +kernel⟩ (by decide) (by decide)
theorem ci_102 : CKi 102 3 := ⟨kws (w := Cond.instanceMethod) mk_102 q1684, ksel mk_102 qs105, krc mk_102 (⟨by decide, _, rfl, rfl⟩)⟩
theorem ck_103 : CK 103 0 1 := CK.of mk_103 (by decide) q137 q1705 ⟨⟨by decide +kernel, by decide +kernel⟩, by decide +kernel⟩ (by decide) (by decide)
theorem ci_103 : CKi 103 3 := ⟨kws (w := Cond.instanceMethod) mk_103 q1704, ksel mk_103 qs110, krc mk_103 (⟨by decide, _, rfl, rfl⟩)⟩
theorem ck_104 : CK 104 2 3 := CK.of mk_104 (by decide) q137 q1713 ⟨⟨by decide +kernel, by decide +kernel⟩, by decide +kernel⟩ (by decide) (by decide)
theorem ci_104 : CKi 104 3 := ⟨kws (w := Cond.instanceMethod) mk_104 q1712, ksel mk_104 qs112, krc mk_104 (⟨by decide, _, rfl, rfl⟩)⟩
theorem ck_105 : CK 105 0 1 := CK.of mk_105 (by decide) q137 q1709 ⟨⟨by decide +kernel, by decide +kernel⟩, by decide +kernel⟩ (by decide) (by decide)
theorem ci_105 : CKi 105 3 := ⟨kws (w := Cond.instanceMethod) mk_105 q1708, ksel mk_105 qs111, krc mk_105 (⟨by decide, _, rfl, rfl⟩)⟩
theorem ck_106 : CK 106 0 1 := CK.of mk_106 (by decide) q137 q1717 ⟨⟨by decide +kernel, by decide +kernel⟩, by decide +kernel⟩ (by decide) (by decide)
theorem ci_106 : CKi 106 3 := ⟨kws (w := Cond.instanceMethod) mk_106 q1716, ksel mk_106 qs113, krc mk_106 (⟨by decide, _, rfl, rfl⟩)⟩
theorem ck_107 : CK 107 1 2 := CK.of mk_107 (by decide) q137 q1701 ⟨⟨by decide +kernel, by decide +kernel⟩, by decide +kernel⟩ (by decide) (by decide)
theorem ci_107 : CKi 107 3 := ⟨kws (w := Cond.instanceMethod) mk_107 q1700, ksel mk_107 qs109, krc mk_107 (⟨by decide, _, rfl, rfl⟩)⟩
theorem ck_108 : CK 108 0 1 := CK.of mk_108 (by decide) q137 q1619 ⟨⟨by decide +kernel, by decide +kernel⟩, by decide +kernel⟩ (by decide) (by decide)
theorem ci_108 : CKi 108 3 := ⟨kws (w := Cond.instanceMethod) mk_108 q1618, ksel mk_108 qs92, krc mk_108 (⟨by decide, _, rfl, rfl⟩)⟩
theorem ck_109 : CK 109 0 1 := CK.of mk_109 (by decide) q137 q1611 ⟨⟨by decide +kernel, by decide +kernel⟩, by decide +kernel⟩ (by decide) (by decide)
theorem ci_109 : CKi 109 3 := ⟨kws (w := Cond.instanceMethod) mk_109 q1609, ksel mk_109 q1610, krc mk_109 (⟨by decide, _, rfl, rfl⟩)⟩
theorem ck_110 : CK 110 3 4 := CK.of mk_110 (by decide) q137 q1689 ⟨⟨by decide +kernel, by decide +kernel⟩, by decide +kernel⟩ (by decide) (by decide)
theorem ci_110 : CKi 110 3 := ⟨kws (w := Cond.instanceMethod) mk_110 q1688, ksel mk_110 qs106, krc mk_110 (⟨by decide, _, rfl, rfl⟩)⟩
theorem ck_111 : CK 111 1 2 := CK.of mk_111 (by decide) q137 q1627 ⟨⟨by decide +kernel, by decide +kernel⟩, by decide +kernel⟩ (by decide) (by decide)
theorem ci_111 : CKi 111 3 := ⟨kws (w := Cond.instanceMethod) mk_111 q1626, ksel mk_111 qs94, krc mk_111 (⟨by decide, _, rfl, rfl⟩)⟩
theorem ck_112 : CK 112 1 2 := CK.of mk_112 (by decide) q137 q1674 ⟨⟨by decide +kernel, by decide +kernel⟩, by decide +kernel⟩ (by decide) (by decide)
theorem ci_112 : CKi 112 3 := ⟨kws (w := Cond.instanceMethod) mk_112 q1673, ksel mk_112 qs103, krc mk_112 (⟨by decide, _, rfl, rfl⟩)⟩
theorem ck_113 : CK 113 0 1 := CK.of mk_113 (by decide) q137 q1697 ⟨⟨by decide +kernel, by decide +kernel⟩, by decide +kernel⟩ (by decide) (by decide)
theorem ci_113 : CKi 113 3 := ⟨kws (w := Cond.instanceMethod) mk_113 q1696, ksel mk_113 qs108, krc mk_113 (⟨by decide, _, rfl, rfl⟩)⟩
theorem ck_114 : CK 114 1 2 := CK.of mk_114 (by decide) q137 q1660 ⟨⟨by decide +kernel, by decide +kernel⟩, by decide +kernel⟩ (by decide) (by decide)
theorem ci_114 : CKi 114 3 := ⟨kws (w := Cond.instanceMethod) mk_114 q1659, ksel mk_114 qs100, krc mk_114 (⟨by decide, _, rfl, rfl⟩)⟩
theorem ck_115 : CK 115 1 2 := CK.of mk_115 (by decide) q137 q1623 ⟨⟨by decide +kernel, by decide +kernel⟩, by decide +kernel⟩ (by decide) (by decide)
theorem ci_115 : CKi 115 3 := ⟨kws (w := Cond.instanceMethod) mk_115 q1622, ksel mk_115 qs93, krc mk_115 (⟨by decide, _, rfl, rfl⟩)⟩
theorem ck_116 : CK 116 1 2 := CK.of mk_116 (by decide) q137 q1615 ⟨⟨by decide +kernel, by decide +kernel⟩, by decide +kernel⟩ (by decide) (by decide)
theorem ci_116 : CKi 116 3 := ⟨kws (w := Cond.instanceMethod) mk_116 q1613, ksel mk_116 q1614, krc mk_116 (⟨by decide, _, rfl, rfl⟩)⟩
theorem ck_117 : CK 117 2 3 := CK.of mk_117 (by decide) q137 q1721 ⟨⟨by decide +kernel, by decide +kernel⟩, by decide +kernel⟩ (by decide) (by decide)
theorem ci_117 : CKi 117 3 := ⟨kws (w := Cond.instanceMethod) mk_117 q1719, ksel mk_117 q1720, krc mk_117 (⟨by decide, _, rfl, rfl⟩)⟩
theorem ck_118 : CK 118 2 3 := CK.of mk_118 (by decide) q137 q1725 ⟨⟨by decide +kernel, by decide +kernel⟩, by decide +kernel⟩ (by decide) (by decide)
theorem ci_118 : CKi 118 3 := ⟨kws (w := Cond.instanceMethod) mk_118 q1723, ksel mk_118 q1724, krc mk_118 (⟨by decide, _, rfl, rfl⟩)⟩
theorem ck_119 : CK 119 2 3 := CK.of mk_119 (by decide) q137 q1729 ⟨⟨by decide +kernel, by decide +kernel⟩, by decide +kernel⟩ (by decide) (by decide)
theorem ci_119 : CKi 119 3 := ⟨kws (w := Cond.instanceMethod) mk_119 q1727, ksel mk_119 q1728, krc mk_119 (⟨by decide, _, rfl, rfl⟩)⟩
theorem ck_120 : CK 120 0 1 := CK.of mk_120 (by decide) q137 q1737 ⟨⟨by decide +kernel, by decide +kernel⟩, by decide +kernel⟩ (by decide) (by decide)
theorem ci_120 : CKi 120 3 := ⟨kws (w := Cond.instanceMethod) mk_120 q1736, ksel mk_120 qs114, krc mk_120 (⟨by decide, _, rfl, rfl⟩)⟩
theorem ck_121 : CK 121 1 2 := CK.of mk_121 (by decide) q137 q1733 ⟨⟨by decide +kernel, by decide +kernel⟩, by decide +kernel⟩ (by decide) (by decide)
theorem ci_121 : CKi 121 3 := ⟨kws (w := Cond.instanceMethod) mk_121 q1731, ksel mk_121 q1732, krc mk_121 (⟨by decide, _, rfl, rfl⟩)⟩
theorem ck_122 : CK 122 2 3 := CK.of mk_122 (by decide) q137 q1741 ⟨⟨by decide +kernel, by decide +kernel⟩, by decide +kernel⟩ (by decide) (by decide)
theorem ci_122 : CKi 122 3 := ⟨kws (w := Cond.instanceMethod) mk_122 q1739, ksel mk_122 q1740, krc mk_122 (⟨by decide, _, rfl, rfl⟩)⟩
theorem ck_123 : CK 123 2 3 := CK.of mk_123 (by decide) q137 q1745 ⟨⟨by decide +kernel, by decide +kernel⟩, by decide +kernel⟩ (by decide) (by decide)
theorem ci_123 : CKi 123 3 := ⟨kws (w := Cond.instanceMethod) mk_123 q1743, ksel mk_123 q1744, krc mk_123 (⟨by decide, _, rfl, rfl⟩)⟩
theorem ck_124 : CK 124 1 2 := CK.of mk_124 (by decide) q137 q1749 ⟨⟨by decide +kernel, by decide +kernel⟩, by decide +kernel⟩ (by decide) (by decide)
theorem ci_124 : CKi 124 3 := ⟨kws (w := Cond.instanceMethod) mk_124 q1747, ksel mk_124 q1748, krc mk_124 (⟨by decide, _, rfl, rfl⟩)⟩
theorem ck_125 : CK 125 2 3 := CK.of mk_125 (by decide) q137 q1753 ⟨⟨by decide +kernel, by decide +kernel⟩, by decide +kernel⟩ (by decide) (by decide)
theorem ci_125 : CKi 125 3 := ⟨kws (w := Cond.instanceMethod) mk_125 q1751, ksel mk_125 q1752, krc mk_125 (⟨by decide, _, rfl, rfl⟩)⟩
theorem ck_126 : CK 126 0 1 := CK.of mk_126 (by decide) q137 q1762 ⟨⟨by decide +kernel, by decide +kernel⟩, by decide +kernel⟩ (by decide) (by decide)
theorem ci_126 : CKi 126 3 := ⟨kws (w := Cond.instanceMethod) mk_126 q1761, ksel mk_126 qs115, krc mk_126 (⟨by decide, _, rfl, rfl⟩)⟩
theorem ck_127 : CK 127 0 1 := CK.of mk_127 (by decide) q137 q1766 ⟨⟨by decide +kernel, by decide +kernel⟩, by decide +kernel⟩ (by decide) (by decide)
theorem ci_127 : CKi 127 3 := ⟨kws (w := Cond.instanceMethod) mk_127 q1765, ksel mk_127 qs116, krc mk_127 (⟨by decide, _, rfl, rfl⟩)⟩
theorem ck_128 : CK 128 1 2 := CK.of mk_128 (by decide) q137 q1757 ⟨⟨by decide +kernel, by decide +kernel⟩, by decide +kernel⟩ (by decide) (by decide)
theorem ci_128 : CKi 128 3 := ⟨kws (w := Cond.instanceMethod) mk_128 q1755, ksel mk_128 q1756, krc mk_128 (⟨by decide, _, rfl, rfl⟩)⟩
theorem ck_129 : CK 129 2 3 := CK.of mk_129 (by decide) q137 q1770 ⟨⟨by decide +kernel, by decide +kernel⟩, by decide +kernel⟩ (by decide) (by decide)
theorem ci_129 : CKi 129 3 := ⟨kws (w := Cond.instanceMethod) mk_129 q1768, ksel mk_129 q1769, krc mk_129 (⟨by decide, _, rfl, rfl⟩)⟩
theorem ck_130 : CK 130 2 3 := CK.of mk_130 (by decide) q137 q1778 ⟨⟨by decide +kernel, by decide +kernel⟩, by decide +kernel⟩ (by decide) (by decide)
theorem ci_130 : CKi 130 3 := ⟨kws (w := Cond.instanceMethod) mk_130 q1777, ksel mk_130 qs117, krc mk_130 (⟨by decide, _, rfl, rfl⟩)⟩
theorem ck_131 : CK 131 3 4 := CK.of mk_131 (by decide) q137 q1774 ⟨⟨by decide +kernel, by decide +kernel⟩, by decide +kernel⟩ (by decide) (by decide)
theorem ci_131 : CKi 131 3 := ⟨kws (w := Cond.instanceMethod) mk_131 q1772, ksel mk_131 q1773, krc mk_131 (⟨by decide, _, rfl, rfl⟩)⟩
theorem ck_132 : CK 132 2 3 := CK.of mk_132 (by decide) q137 q1786 ⟨⟨by decide +kernel, by decide +kernel⟩, by decide +kernel⟩ (by decide) (by decide)
theorem ci_132 : CKi 132 3 := ⟨kws (w := Cond.instanceMethod) mk_132 q1785, ksel mk_132 qs118, krc mk_132 (⟨by decide, _, rfl, rfl⟩)⟩
theorem ck_133 : CK 133 2 3 := CK.of mk_133 (by decide) q137 q1782 ⟨⟨by decide +kernel, by decide +kernel⟩, by decide +kernel⟩ (by decide) (by decide)
theorem ci_133 : CKi 133 3 := ⟨kws (w := Cond.instanceMethod) mk_133 q1780, ksel mk_133 q1781, krc mk_133 (⟨by decide, _, rfl, rfl⟩)⟩
theorem ck_134 : CK 134 2 3 := CK.of mk_134 (by decide) q137 q1790 ⟨⟨by decide +kernel, by decide +kernel⟩, by decide +kernel⟩ (by decide) (by decide)
theorem ci_134 : CKi 134 3 := ⟨kws (w := Cond.instanceMethod) mk_134 q1788, ksel mk_134 q1789, krc mk_134 (⟨by decide, _, rfl, rfl⟩)⟩
theorem ck_135 : CK 135 2 3 := CK.of mk_135 (by decide) q137 q1794 ⟨⟨by decide +kernel, by decide +kernel⟩, by decide +kernel⟩ (by decide) (by decide)
theorem ci_135 : CKi 135 3 := ⟨kws (w := Cond.instanceMethod) mk_135 q1792, ksel mk_135 q1793, krc mk_135 (⟨by decide, _, rfl, rfl⟩)⟩
theorem ck_136 : CK 136 1 2 := CK.of mk_136 (by decide) q137 q1798 ⟨⟨by decide +kernel, by decide +kernel⟩, by decide +kernel⟩ (by decide) (by decide)
theorem ci_136 : CKi 136 3 := ⟨kws (w := Cond.instanceMethod) mk_136 q1796, ksel mk_136 q1797, krc mk_136 (⟨by decide, _, rfl, rfl⟩)⟩
theorem ck_137 : CK 137 1 2 := CK.of mk_137 (by decide) q137 q1803 ⟨⟨by decide +kernel, by decide +kernel⟩, by decide +kernel⟩ (by decide) (by decide)
theorem ci_137 : CKi 137 3 := ⟨kws (w := Cond.instanceMethod) mk_137 q1801, ksel mk_137 q1802, krc mk_137 (⟨by decide, _, rfl, rfl⟩)⟩
theorem ck_138 : CK 138 1 2 := CK.of mk_138 (by decide) q137 q1811 ⟨⟨by decide +kernel, by decide +kernel⟩, by decide +kernel⟩ (by decide) (by decide)
theorem ci_138 : CKi 138 3 := ⟨kws (w := Cond.instanceMethod) mk_138 q1810, ksel mk_138 qs119, krc mk_138 (⟨by decide, _, rfl, rfl⟩)⟩
theorem ck_139 : CK 139 1 2 := CK.of mk_139 (by decide) q137 q1815 ⟨⟨by decide +kernel, by decide +kernel⟩, by decide +kernel⟩ (by decide) (by decide)
theorem ci_139 : CKi 139 3 := ⟨kws (w := Cond.instanceMethod) mk_139 q1814, ksel mk_139 qs120, krc mk_139 (⟨by decide, _, rfl, rfl⟩)⟩
theorem ck_140 : CK 140 2 3 := CK.of mk_140 (by decide) q137 q1807 ⟨⟨by decide +kernel, by decide +kernel⟩, by decide +kernel⟩ (by decide) (by decide)
theorem ci_140 : CKi 140 3 := ⟨kws (w := Cond.instanceMethod) mk_140 q1805, ksel mk_140 q1806, krc mk_140 (⟨by decide, _, rfl, rfl⟩)⟩
theorem ck_141 : CK 141 1 2 := CK.of mk_141 (by decide) q137 q1819 ⟨⟨by decide +kernel, by decide +kernel⟩, by decide +kernel⟩ (by decide) (by decide)
theorem ci_141 : CKi 141 3 := ⟨kws (w := Cond.instanceMethod) mk_141 q1817, ksel mk_141 q1818, krc mk_141 (⟨by decide, _, rfl, rfl⟩)⟩
theorem ck_142 : CK 142 1 2 := CK.of mk_142 (by decide) q137 q1823 ⟨⟨by decide +kernel, by decide +kernel⟩, by decide +kernel⟩ (by decide) (by decide)
theorem ci_142 : CKi 142 3 := ⟨kws (w := Cond.instanceMethod) mk_142 q1821, ksel mk_142 q1822, krc mk_142 (⟨by decide, _, rfl, rfl⟩)⟩
theorem ck_143 : CK 143 0 1 := CK.of mk_143 (by decide) q137 q1831 ⟨⟨by decide +kernel, by decide +kernel⟩, by decide +kernel⟩ (by decide) (by decide)
theorem ci_143 : CKi 143 3 := ⟨kws (w := Cond.instanceMethod) mk_143 q1830, ksel mk_143 qs121, krc mk_143 (⟨by decide, _, rfl, rfl⟩)⟩
theorem ck_144 : CK 144 2 3 := CK.of mk_144 (by decide) q137 q1836 ⟨⟨by decide +kernel, by decide +kernel⟩, by decide +kernel⟩ (by decide) (by decide)
theorem ci_144 : CKi 144 3 := ⟨kws (w := Cond.instanceMethod) mk_144 q1835, ksel mk_144 qs122, krc mk_144 (⟨by decide, _, rfl, rfl⟩)⟩
theorem ck_145 : CK 145 2 3 := CK.of mk_145 (by decide) q137 q1827 ⟨⟨by decide +kernel, by decide +kernel⟩, by decide +kernel⟩ (by decide) (by decide)
theorem ci_145 : CKi 145 3 := ⟨kws (w := Cond.instanceMethod) mk_145 q1825, ksel mk_145 q1826, krc mk_145 (⟨by decide, _, rfl, rfl⟩)⟩
theorem ck_146 : CK 146 2 3 := CK.of mk_146 (by decide) q137 q1840 ⟨⟨by decide +kernel, by decide +kernel⟩, by decide +kernel⟩ (by decide) (by decide)
theorem ci_146 : CKi 146 3 := ⟨kws (w := Cond.instanceMethod) mk_146 q1838, ksel mk_146 q1839, krc mk_146 (⟨by decide, _, rfl, rfl⟩)⟩
theorem ck_147 : CK 147 1 2 := CK.of mk_147 (by decide) q137 q1852 ⟨⟨by decide +kernel, by decide +kernel⟩, by decide +kernel⟩ (by decide) (by decide)
theorem ci_147 : CKi 147 3 := ⟨kws (w := Cond.instanceMethod) mk_147 q1851, ksel mk_147 qs124, krc mk_147 (⟨by decide, _, rfl, rfl⟩)⟩
theorem ck_148 : CK 148 1 2 := CK.of mk_148 (by decide) q137 q1856 ⟨⟨by decide +kernel, by decide +kernel⟩, by decide +kernel⟩ (by decide) (by decide)
theorem ci_148 : CKi 148 3 := ⟨kws (w := Cond.instanceMethod) mk_148 q1855, ksel mk_148 qs125, krc mk_148 (⟨by decide, _, rfl, rfl⟩)⟩
theorem ck_149 : CK 149 1 2 := CK.of mk_149 (by decide) q137 q1848 ⟨⟨by decide +kernel, by decide +kernel⟩, by decide +kernel⟩ (by decide) (by decide)
theorem ci_149 : CKi 149 3 := ⟨kws (w := Cond.instanceMethod) mk_149 q1846, ksel mk_149 q1847, krc mk_149 (⟨by decide, _, rfl, rfl⟩)⟩
theorem ck_150 : CK 150 3 4 := CK.of mk_150 (by decide) q137 q1864 ⟨⟨by decide +kernel, by decide +kernel⟩, by decide +kernel⟩ (by decide) (by decide)
theorem ci_150 : CKi 150 3 := ⟨kws (w := Cond.instanceMethod) mk_150 q1863, ksel mk_150 qs126, krc mk_150 (⟨by decide, _, rfl, rfl⟩)⟩
theorem ck_151 : CK 151 2 3 := CK.of mk_151 (by decide) q137 q1860 ⟨⟨by decide +kernel, by decide +kernel⟩, by decide +kernel⟩ (by decide) (by decide)
theorem ci_151 : CKi 151 3 := ⟨kws (w := Cond.instanceMethod) mk_151 q1858, ksel mk_151 q1859, krc mk_151 (⟨by decide, _, rfl, rfl⟩)⟩
theorem ck_152 : CK 152 3 4 := CK.of mk_152 (by decide) q137 q1868 ⟨⟨by decide +kernel, by decide +kernel⟩, by decide +kernel⟩ (by decide) (by decide)
theorem ci_152 : CKi 152 3 := ⟨kws (w := Cond.instanceMethod) mk_152 q1866, ksel mk_152 q1867, krc mk_152 (⟨by decide, _, rfl, rfl⟩)⟩
theorem ck_153 : CK 153 1 2 := CK.of mk_153 (by decide) q137 q1872 ⟨⟨by decide +kernel, by decide +kernel⟩, by decide +kernel⟩ (by decide) (by decide)
theorem ci_153 : CKi 153 3 := ⟨kws (w := Cond.instanceMethod) mk_153 q1870, ksel mk_153 q1871, krc mk_153 (⟨by decide, _, rfl, rfl⟩)⟩
theorem ck_154 : CK 154 2 3 := CK.of mk_154 (by decide) q137 q1876 ⟨⟨by decide +kernel, by decide +kernel⟩, by decide +kernel⟩ (by decide) (by decide)
theorem ci_154 : CKi 154 3 := ⟨kws (w := Cond.instanceMethod) mk_154 q1874, ksel mk_154 q1875, krc mk_154 (⟨by decide, _, rfl, rfl⟩)⟩
theorem ck_155 : CK 155 2 3 := CK.of mk_155 (by decide) q137 q1884 ⟨⟨by decide +kernel, by decide +kernel⟩, by decide +kernel⟩ (by decide) (by decide)
theorem ci_155 : CKi 155 3 := ⟨kws (w := Cond.instanceMethod) mk_155 q1883, ksel mk_155 qs127, krc mk_155 (⟨by decide, _, rfl, rfl⟩)⟩
theorem ck_156 : CK 156 2 3 := CK.of mk_156 (by decide) q137 q1888 ⟨⟨by decide +kernel, by decide +kernel⟩, by decide +kernel⟩ (by decide) (by decide)
theorem ci_156 : CKi 156 3 := ⟨kws (w := Cond.instanceMethod) mk_156 q1887, ksel mk_156 qs128, krc mk_156 (⟨by decide, _, rfl, rfl⟩)⟩
theorem ck_157 : CK 157 3 4 := CK.of mk_157 (by decide) q137 q1880 ⟨⟨by decide +kernel, by decide +kernel⟩, by decide +kernel⟩ (by decide) (by decide)
theorem ci_157 : CKi 157 3 := ⟨kws (w := Cond.instanceMethod) mk_157 q1878, ksel mk_157 q1879, krc mk_157 (⟨by decide, _, rfl, rfl⟩)⟩
theorem ck_158 : CK 158 1 2 := CK.of mk_158 (by decide) q137 q1900 ⟨⟨by decide +kernel, by decide +kernel⟩, by decide +kernel⟩ (by decide) (by decide)
theorem ci_158 : CKi 158 3 := ⟨kws (w := Cond.instanceMethod) mk_158 q1899, ksel mk_158 qs130, krc mk_158 (⟨by decide, _, rfl, rfl⟩)⟩
theorem ck_159 : CK 159 0 1 := CK.of mk_159 (by decide) q137 q1896 ⟨⟨by decide +kernel, by decide +kernel⟩, by decide +kernel⟩ (by decide) (by decide)
theorem ci_159 : CKi 159 3 := ⟨kws (w := Cond.instanceMethod) mk_159 q1895, ksel mk_159 qs129, krc mk_159 (⟨by decide, _, rfl, rfl⟩)⟩
theorem ck_160 : CK 160 2 3 := CK.of mk_160 (by decide) q137 q1892 ⟨⟨by decide +kernel, by decide +kernel⟩, by decide +kernel⟩ (by decide) (by decide)
theorem ci_160 : CKi 160 3 := ⟨kws (w := Cond.instanceMethod) mk_160 q1890, ksel mk_160 q1891, krc mk_160 (⟨by decide, _, rfl, rfl⟩)⟩
theorem ck_161 : CK 161 0 1 := CK.of mk_161 (by decide) q137 q1908 ⟨⟨by decide +kernel, by decide +kernel⟩, by decide +kernel⟩ (by decide) (by decide)
theorem ci_161 : CKi 161 3 := ⟨kws (w := Cond.instanceMethod) mk_161 q1907, ksel mk_161 qs131, krc mk_161 (⟨by decide, _, rfl, rfl⟩)⟩
theorem ck_162 : CK 162 0 1 := CK.of mk_162 (by decide) q137 q1904 ⟨⟨by decide +kernel, by decide +kernel⟩, by decide +kernel⟩ (by decide) (by decide)
theorem ci_162 : CKi 162 3 := ⟨kws (w := Cond.instanceMethod) mk_162 q1902, ksel mk_162 q1903, krc mk_162 (⟨by decide, _, rfl, rfl⟩)⟩
theorem ck_163 : CK 163 0 1 := CK.of mk_163 (by decide) q137 q1917 ⟨⟨by decide +kernel, by decide +kernel⟩, by decide +kernel⟩ (by decide) (by decide)
theorem ci_163 : CKi 163 3 := ⟨kws (w := Cond.instanceMethod) mk_163 q1916, ksel mk_163 qs132, krc mk_163 (⟨by decide, _, rfl, rfl⟩)⟩
theorem ck_164 : CK 164 1 2 := CK.of mk_164 (by decide) q137 q1913 ⟨⟨by decide +kernel, by decide +kernel⟩, by decide +kernel⟩ (by decide) (by decide)
theorem ci_164 : CKi 164 3 := ⟨kws (w := Cond.instanceMethod) mk_164 q1911, ksel mk_164 q1912, krc mk_164 (⟨by decide, _, rfl, rfl⟩)⟩
theorem ck_165 : CK 165 1 2 := CK.of mk_165 (by decide) q137 q1921 ⟨⟨by decide +kernel, by decide +kernel⟩, by decide +kernel⟩ (by decide) (by decide)
theorem ci_165 : CKi 165 3 := ⟨kws (w := Cond.instanceMethod) mk_165 q1919, ksel mk_165 q1920, krc mk_165 (⟨by decide, _, rfl, rfl⟩)⟩
theorem ck_166 : CK 166 1 2 := CK.of mk_166 (by decide) q137 q1925 ⟨⟨by decide +kernel, by decide +kernel⟩, by decide +kernel⟩ (by decide) (by decide)
theorem ci_166 : CKi 166 3 := ⟨kws (w := Cond.instanceMethod) mk_166 q1923, ksel mk_166 q1924, krc mk_166 (⟨by decide, _, rfl, rfl⟩)⟩
theorem ck_167 : CK 167 1 2 := CK.of mk_167 (by decide) q136 q230 ⟨⟨by decide +kernel, by decide +kernel⟩, by decide +kernel⟩ (by decide) (by decide)
theorem cc_167 : CKc 167 := ⟨kws (w := Cond.instanceMethod) mk_167 q229, kin mk_167 rfl⟩
theorem ck_168 : CK 168 1 2 := CK.of mk_168 (by decide) q136 q881 ⟨⟨by decide +kernel, by decide +kernel⟩, by decide +kernel⟩ (by decide) (by decide)
theorem ci_168 : CKi 168 2 := ⟨kws (w := Cond.instanceMethod) mk_168 q879, ksel mk_168 q880, krc mk_168 (⟨by decide, _, rfl, rfl⟩)⟩
theorem ck_169 : CK 169 1 2 := CK.of mk_169 (by decide) q136 q1098 ⟨⟨by decide +kernel, by decide +kernel⟩, by decide +kernel⟩ (by decide) (by decide)
theorem ci_169 : CKi 169 2 := ⟨kws (w := Cond.instanceMethod) mk_169 q1096, ksel mk_169 q1097, krc mk_169 (⟨by decide, _, rfl, rfl⟩)⟩
theorem ck_170 : CK 170 1 2 := CK.of mk_170 (by decide) q136 q979 ⟨⟨by decide +kernel, by decide +kernel⟩, by decide +kernel⟩ (by decide) (by decide)
theorem ci_170 : CKi 170 2 := ⟨kws (w := Cond.instanceMethod) mk_170 q978, ksel mk_170 qs35, krc mk_170 (⟨by decide, _, rfl, rfl⟩)⟩
theorem ck_171 : CK 171 1 2 := CK.of mk_171 (by decide) q136 q939 ⟨⟨by decide +kernel, by decide +kernel⟩, by decide +kernel⟩ (by decide) (by decide)
theorem ci_171 : CKi 171 2 := ⟨kws (w := Cond.instanceMethod) mk_171 q938, ksel mk_171 qs32, krc mk_171 (⟨by decide, _, rfl, rfl⟩)⟩
theorem ck_172 : CK 172 1 2 := CK.of mk_172 (by decide) q136 q1015 ⟨⟨by decide +kernel, by decide +kernel⟩, by decide +kernel⟩ (by decide) (by decide)
theorem ci_172 : CKi 172 2 := ⟨kws (w := Cond.instanceMethod) mk_172 q1013, ksel mk_172 q1014, krc mk_172 (⟨by decide, _, rfl, rfl⟩)⟩
theorem ck_173 : CK 173 1 2 := CK.of mk_173 (by decide) q136 q935 ⟨⟨by decide +kernel, by decide +kernel⟩, by decide +kernel⟩ (by decide) (by decide)
theorem ci_173 : CKi 173 2 := ⟨kws (w := Cond.instanceMethod) mk_173 q933, ksel mk_173 q934, krc mk_173 (⟨by decide, _, rfl, rfl⟩)⟩
theorem ck_174 : CK 174 3 4 := CK.of mk_174 (by decide) q136 q989 ⟨⟨by decide +kernel, by decide +kernel⟩, by decide +kernel⟩ (by decide) (by decide)
theorem ci_174 : CKi 174 2 := ⟨kws (w := Cond.instanceMethod) mk_174 q987, ksel mk_174 q988, krc mk_174 (⟨by decide, _, rfl, rfl⟩)⟩
theorem ck_175 : CK 175 1 2 := CK.of mk_175 (by decide) q136 q985 ⟨⟨by decide +kernel, by decide +kernel⟩, by decide +kernel⟩ (by decide) (by decide)
theorem ci_175 : CKi 175 2 := ⟨kws (w := Cond.instanceMethod) mk_175 q984, ksel mk_175 qs36, krc mk_175 (⟨by decide, _, rfl, rfl⟩)⟩
theorem ck_176 : CK 176 1 2 := CK.of mk_176 (by decide) q136 q972 ⟨⟨by decide +kernel, by decide +kernel⟩, by decide +kernel⟩ (by decide) (by decide)
theorem ci_176 : CKi 176 2 := ⟨kws (w := Cond.instanceMethod) mk_176 q971, ksel mk_176 qs34, krc mk_176 (⟨by decide, _, rfl, rfl⟩)⟩
theorem ck_177 : CK 177 0 1 := CK.of mk_177 (by decide) q136 q999 ⟨⟨by decide +kernel, by decide +kernel⟩, by decide +kernel⟩ (by decide) (by decide)
theorem ci_177 : CKi 177 2 := ⟨kws (w := Cond.instanceMethod) mk_177 q998, ksel mk_177 qs37, krc mk_177 (⟨by decide, _, rfl, rfl⟩)⟩
theorem ck_178 : CK 178 1 2 := CK.of mk_178 (by decide) q136 q931 ⟨⟨by decide +kernel, by decide +kernel⟩, by decide +kernel⟩ (by decide) (by decide)
theorem ci_178 : CKi 178 2 := ⟨kws (w := Cond.instanceMethod) mk_178 q929, ksel mk_178 q930, krc mk_178 (⟨by decide, _, rfl, rfl⟩)⟩
theorem ck_179 : CK 179 1 2 := CK.of mk_179 (by decide) q136 q927 ⟨⟨by decide +kernel, by decide +kernel⟩, by decide +kernel⟩ (by decide) (by decide)
theorem ci_179 : CKi 179 2 := ⟨kws (w := Cond.instanceMethod) mk_179 q925, ksel mk_179 q926, krc mk_179 (⟨by decide, _, rfl, rfl⟩)⟩
theorem ck_180 : CK 180 0 1 := CK.of mk_180 (by decide) q136 q1057 ⟨⟨by decide +kernel, by decide +kernel⟩, by decide +kernel⟩ (by decide) (by decide)
theorem ci_180 : CKi 180 2 := ⟨kws (w := Cond.instanceMethod) mk_180 q1055, ksel mk_180 q1056, krc mk_180 (⟨by decide, _, rfl, rfl⟩)⟩
theorem ck_181 : CK 181 3 4 := CK.of mk_181 (by decide) q136 q1019 ⟨⟨by decide +kernel, by decide +kernel⟩, by decide +kernel⟩ (by decide) (by decide)
theorem ci_181 : CKi 181 2 := ⟨kws (w := Cond.instanceMethod) mk_181 q1018, ksel mk_181 qs39, krc mk_181 (⟨by decide, _, rfl, rfl⟩)⟩
theorem ck_182 : CK 182 3 3 := CK.of mk_182 (by decide) q134 q489 ⟨⟨by decide +kernel, by decide +kernel⟩, by decide +kernel⟩ (by decide) (by decide)
theorem cs_182 : Cond.static (mname 182) ∈ lw_all := kws (w := Cond.static) mk_182 q488
theorem ck_183 : CK 183 3 3 := CK.of mk_183 (by decide) q134 q966 ⟨⟨by decide +kernel, by decide +kernel⟩, by decide +kernel⟩ (by decide) (by decide)
theorem cs_183 : Cond.static (mname 183) ∈ lw_all := kws (w := Cond.static) mk_183 q965
theorem ck_184 : CK 184 2 2 := CK.of mk_184 (by decide) q134 q975 ⟨⟨by decide +kernel, by decide +kernel⟩, by decide +kernel⟩ (by decide) (by decide)
theorem cs_184 : Cond.static (mname 184) ∈ lw_all := kws (w := Cond.static) mk_184 q974
theorem ck_185 : CK 185 2 2 := CK.of mk_185 (by decide) q134 q884 ⟨⟨by decide +kernel, by decide +kernel⟩, by decide +kernel⟩ (by decide) (by decide)
theorem cs_185 : Cond.static (mname 185) ∈ lw_all := kws (w := Cond.static) mk_185 q883
theorem ck_186 : CK 186 2 2 := CK.of mk_186 (by decide) q134 q1183 ⟨⟨by decide +kernel, by decide +kernel⟩, by decide +kernel⟩ (by decide) (by decide)
theorem cs_186 : Cond.static (mname 186) ∈ lw_all := kws (w := Cond.static) mk_186 q1182
theorem ck_187 : CK 187 0 1 := CK.of mk_187 (by decide) q134 q165 ⟨⟨by decide +kernel, by decide +kernel⟩, by decide +kernel⟩ (by decide) (by decide)
theorem cc_187 : CKc 187 := ⟨kws (w := Cond.instanceMethod) mk_187 q164, kin mk_187 rfl⟩
theorem ck_188 : CK 188 1 2 := CK.of mk_188 (by decide) q134 q482 ⟨⟨by decide +kernel, by decide +kernel⟩, by decide +kernel⟩ (by decide) (by decide)
theorem ci_188 : CKi 188 0 := ⟨kws (w := Cond.instanceMethod) mk_188 q481, ksel mk_188 qs0, krc mk_188 (⟨by decide, _, rfl, rfl⟩)⟩
theorem ck_189 : CK 189 5 6 := CK.of mk_189 (by decide) q134 q478 ⟨⟨by decide +kernel, by decide +kernel⟩, by decide +kernel⟩ (by decide) (by decide)
theorem ci_189 : CKi 189 0 := ⟨kws (w := Cond.instanceMethod) mk_189 q476, ksel mk_189 q477, krc mk_189 (⟨by decide, _, rfl, rfl⟩)⟩
theorem ck_190 : CK 190 1 2 := CK.of mk_190 (by decide) q134 q486 ⟨⟨by decide +kernel, by decide +kernel⟩, by decide +kernel⟩ (by decide) (by decide)
theorem ci_190 : CKi 190 0 := ⟨kws (w := Cond.instanceMethod) mk_190 q484, ksel mk_190 q485, krc mk_190 (⟨by decide, _, rfl, rfl⟩)⟩
theorem ck_191 : CK 191 1 2 := CK.of mk_191 (by decide) q134 q510 ⟨⟨by decide +kernel, by decide +kernel⟩, by decide +kernel⟩ (by decide) (by decide)
theorem ci_191 : CKi 191 0 := ⟨kws (w := Cond.instanceMethod) mk_191 q509, ksel mk_191 qs4, krc mk_191 (⟨by decide, _, rfl, rfl⟩)⟩
theorem ck_192 : CK 192 1 1 := CK.of mk_192 (by decide) q134 q517 ⟨⟨by decide +kernel, by decide +kernel⟩, by decide +kernel⟩ (by decide) (by decide)
theorem cs_192 : Cond.static (mname 192) ∈ lw_all := kws (w := Cond.static) mk_192 q516
theorem ck_193 : CK 193 1 1 := CK.of mk_193 (by decide) q134 q578 ⟨⟨by decide +kernel, by decide +kernel⟩, by decide +kernel⟩ (by decide) (by decide)
theorem cs_193 : Cond.static (mname 193) ∈ lw_all := kws (w := Cond.static) mk_193 q577
theorem ck_194 : CK 194 1 2 := CK.of mk_194 (by decide) q134 q527 ⟨⟨by decide +kernel, by decide +kernel⟩, by decide +kernel⟩ (by decide) (by decide)
theorem ci_194 : CKi 194 0 := ⟨kws (w := Cond.instanceMethod) mk_194 q526, ksel mk_194 qs6, krc mk_194 (⟨by decide, _, rfl, rfl⟩)⟩
theorem ck_195 : CK 195 1 2 := CK.of mk_195 (by decide) q134 q523 ⟨⟨by decide +kernel, by decide +kernel⟩, by decide +kernel⟩ (by decide) (by decide)
theorem ci_195 : CKi 195 0 := ⟨kws (w := Cond.instanceMethod) mk_195 q522, ksel mk_195 qs5, krc mk_195 (⟨by decide, _, rfl, rfl⟩)⟩
theorem ck_196 : CK 196 1 2 := CK.of mk_196 (by decide) q134 q743 ⟨⟨by decide +kernel, by decide +kernel⟩, by decide +kernel⟩ (by decide) (by decide)
theorem ci_196 : CKi 196 0 := ⟨kws (w := Cond.instanceMethod) mk_196 q742, ksel mk_196 qs15, krc mk_196 (⟨by decide, _, rfl, rfl⟩)⟩
theorem ck_197 : CK 197 1 2 := CK.of mk_197 (by decide) q134 q768 ⟨⟨by decide +kernel, by decide +kernel⟩, by decide +kernel⟩ (by decide) (by decide)
theorem ci_197 : CKi 197 0 := ⟨kws (w := Cond.instanceMethod) mk_197 q767, ksel mk_197 qs17, krc mk_197 (⟨by decide, _, rfl, rfl⟩)⟩
theorem ck_198 : CK 198 0 1 := CK.of mk_198 (by decide) q134 q506 ⟨⟨by decide +kernel, by decide +kernel⟩, by decide +kernel⟩ (by decide) (by decide)
theorem ci_198 : CKi 198 0 := ⟨kws (w := Cond.instanceMethod) mk_198 q505, ksel mk_198 qs3, krc mk_198 (⟨by decide, _, rfl, rfl⟩)⟩
theorem ck_199 : CK 199 1 2 := CK.of mk_199 (by decide) q134 q656 ⟨⟨by decide +kernel, by decide +kernel⟩, by decide +kernel⟩ (by decide) (by decide)
theorem ci_199 : CKi 199 0 := ⟨kws (w := Cond.instanceMethod) mk_199 q655, ksel mk_199 qs9, krc mk_199 (⟨by decide, _, rfl, rfl⟩)⟩
theorem ck_200 : CK 200 1 2 := CK.of mk_200 (by decide) q134 q764 ⟨⟨by decide +kernel, by decide +kernel⟩, by decide +kernel⟩ (by decide) (by decide)
theorem ci_200 : CKi 200 0 := ⟨kws (w := Cond.instanceMethod) mk_200 q763, ksel mk_200 qs16, krc mk_200 (⟨by decide, _, rfl, rfl⟩)⟩
theorem ck_201 : CK 201 0 1 := CK.of mk_201 (by decide) q134 q804 ⟨⟨by decide +kernel, by decide +kernel⟩, by decide +kernel⟩ (by decide) (by decide)
theorem ci_201 : CKi 201 0 := ⟨kws (w := Cond.instanceMethod) mk_201 q803, ksel mk_201 qs23, krc mk_201 (⟨by decide, _, rfl, rfl⟩)⟩
theorem ck_202 : CK 202 0 1 := CK.of mk_202 (by decide) q134 q800 ⟨⟨by decide +kernel, by decide +kernel⟩, by decide +kernel⟩ (by decide) (by decide)
theorem ci_202 : CKi 202 0 := ⟨kws (w := Cond.instanceMethod) mk_202 q799, ksel mk_202 qs22, krc mk_202 (⟨by decide, _, rfl, rfl⟩)⟩
theorem ck_203 : CK 203 0 1 := CK.of mk_203 (by decide) q134 q796 ⟨⟨by decide +kernel, by decide +kernel⟩, by decide +kernel⟩ (by decide) (by decide)
theorem ci_203 : CKi 203 0 := ⟨kws (w := Cond.instanceMethod) mk_203 q795, ksel mk_203 qs21, krc mk_203 (⟨by decide, _, rfl, rfl⟩)⟩
theorem ck_204 : CK 204 0 1 := CK.of mk_204 (by decide) q134 q859 ⟨⟨by decide +kernel, by decide +kernel⟩, by decide +kernel⟩ (by decide) (by decide)
theorem ci_204 : CKi 204 0 := ⟨kws (w := Cond.instanceMethod) mk_204 q858, ksel mk_204 qs27, krc mk_204 (⟨by decide, _, rfl, rfl⟩)⟩
theorem ck_205 : CK 205 0 1 := CK.of mk_205 (by decide) q134 q855 ⟨⟨by decide +kernel, by decide +kernel⟩, by decide +kernel⟩ (by decide) (by decide)
theorem ci_205 : CKi 205 0 := ⟨kws (w := Cond.instanceMethod) mk_205 q854, ksel mk_205 qs26, krc mk_205 (⟨by decide, _, rfl, rfl⟩)⟩
theorem ck_206 : CK 206 0 1 := CK.of mk_206 (by decide) q134 q851 ⟨⟨by decide +kernel, by decide +kernel⟩, by decide +kernel⟩ (by decide) (by decide)
theorem ci_206 : CKi 206 0 := ⟨kws (w := Cond.instanceMethod) mk_206 q850, ksel mk_206 qs25, krc mk_206 (⟨by decide, _, rfl, rfl⟩)⟩
theorem ck_207 : CK 207 0 1 := CK.of mk_207 (by decide) q134 q847 ⟨⟨by decide +kernel, by decide +kernel⟩, by decide +kernel⟩ (by decide) (by decide)
theorem ci_207 : CKi 207 0 := ⟨kws (w := Cond.instanceMethod) mk_207 q846, ksel mk_207 qs24, krc mk_207 (⟨by decide, _, rfl, rfl⟩)⟩
theorem ck_208 : CK 208 0 1 := CK.of mk_208 (by decide) q134 q792 ⟨⟨by decide +kernel, by decide +kernel⟩, by decide +kernel⟩ (by decide) (by decide)
theorem ci_208 : CKi 208 0 := ⟨kws (w := Cond.instanceMethod) mk_208 q791, ksel mk_208 qs20, krc mk_208 (⟨by decide, _, rfl, rfl⟩)⟩
theorem ck_209 : CK 209 3 4 := CK.of mk_209 (by decide) q134 q946 ⟨⟨by decide +kernel, by decide +kernel⟩, by decide +kernel⟩ (by decide) (by decide)
theorem ci_209 : CKi 209 0 := ⟨kws (w := Cond.instanceMethod) mk_209 q945, ksel mk_209 qs33, krc mk_209 (⟨by decide, _, rfl, rfl⟩)⟩
theorem ck_210 : CK 210 1 2 := CK.of mk_210 (by decide) q134 q726 ⟨⟨by decide +kernel, by decide +kernel⟩, by decide +kernel⟩ (by decide) (by decide)
theorem ci_210 : CKi 210 0 := ⟨kws (w := Cond.instanceMethod) mk_210 q725, ksel mk_210 qs11, krc mk_210 (⟨by decide, _, rfl, rfl⟩)⟩
theorem ck_211 : CK 211 2 3 := CK.of mk_211 (by decide) q134 q734 ⟨⟨by decide +kernel, by decide +kernel⟩, by decide +kernel⟩ (by decide) (by decide)
theorem ci_211 : CKi 211 0 := ⟨kws (w := Cond.instanceMethod) mk_211 q733, ksel mk_211 qs13, krc mk_211 (⟨by decide, _, rfl, rfl⟩)⟩
theorem ck_212 : CK 212 3 4 := CK.of mk_212 (by decide) q134 q739 ⟨⟨by decide +kernel, by decide +kernel⟩, by decide +kernel⟩ (by decide) (by decide)
theorem ci_212 : CKi 212 0 := ⟨kws (w := Cond.instanceMethod) mk_212 q738, ksel mk_212 qs14, krc mk_212 (⟨by decide, _, rfl, rfl⟩)⟩
theorem ck_213 : CK 213 0 1 := CK.of mk_213 (by decide) q134 q730 ⟨⟨by decide +kernel, by decide +kernel⟩, by decide +kernel⟩ (by decide) (by decide)
theorem ci_213 : CKi 213 0 := ⟨kws (w := Cond.instanceMethod) mk_213 q729, ksel mk_213 qs12, krc mk_213 (⟨by decide, _, rfl, rfl⟩)⟩
theorem ck_214 : CK 214 0 1 := CK.of mk_214 (by decide) q134 q652 ⟨⟨by decide +kernel, by decide +kernel⟩, by decide +kernel⟩ (by decide) (by decide)
theorem ci_214 : CKi 214 0 := ⟨kws (w := Cond.instanceMethod) mk_214 q651, ksel mk_214 qs8, krc mk_214 (⟨by decide, _, rfl, rfl⟩)⟩
theorem ck_215 : CK 215 0 1 := CK.of mk_215 (by decide) q134 q772 ⟨⟨by decide +kernel, by decide +kernel⟩, by decide +kernel⟩ (by decide) (by decide)
theorem ci_215 : CKi 215 0 := ⟨kws (w := Cond.instanceMethod) mk_215 q771, ksel mk_215 qs18, krc mk_215 (⟨by decide, _, rfl, rfl⟩)⟩
theorem ck_216 : CK 216 0 1 := CK.of mk_216 (by decide) q134 q788 ⟨⟨by decide +kernel, by decide +kernel⟩, by decide +kernel⟩ (by decide) (by decide)
theorem ci_216 : CKi 216 0 := ⟨kws (w := Cond.instanceMethod) mk_216 q787, ksel mk_216 qs19, krc mk_216 (⟨by decide, _, rfl, rfl⟩)⟩
theorem ck_217 : CK 217 1 2 := CK.of mk_217 (by decide) q134 q502 ⟨⟨by decide +kernel, by decide +kernel⟩, by decide +kernel⟩ (by decide) (by decide)
theorem ci_217 : CKi 217 0 := ⟨kws (w := Cond.instanceMethod) mk_217 q501, ksel mk_217 qs2, krc mk_217 (⟨by decide, _, rfl, rfl⟩)⟩
theorem ck_218 : CK 218 1 2 := CK.of mk_218 (by decide) q134 q648 ⟨⟨by decide +kernel, by decide +kernel⟩, by decide +kernel⟩ (by decide) (by decide)
theorem ci_218 : CKi 218 0 := ⟨kws (w := Cond.instanceMethod) mk_218 q647, ksel mk_218 qs7, krc mk_218 (⟨by decide, _, rfl, rfl⟩)⟩
theorem ck_219 : CK 219 1 2 := CK.of mk_219 (by decide) q134 q498 ⟨⟨by decide +kernel, by decide +kernel⟩, by decide +kernel⟩ (by decide) (by decide)
theorem ci_219 : CKi 219 0 := ⟨kws (w := Cond.instanceMethod) mk_219 q497, ksel mk_219 qs1, krc mk_219 (⟨by decide, _, rfl, rfl⟩)⟩
theorem ck_221 : CK 221 1 2 := CK.of mk_221 (by decide) q134 q873 ⟨⟨by decide +kernel, by decide +kernel⟩, by decide +kernel⟩ (by decide) (by decide)
theorem ci_221 : CKi 221 0 := ⟨kws (w := Cond.instanceMethod) mk_221 q871, ksel mk_221 q872, krc mk_221 (⟨by decide, _, rfl, rfl⟩)⟩
theorem ck_222 : CK 222 2 3 := CK.of mk_222 (by decide) q134 q1035 ⟨⟨by decide +kernel, by decide +kernel⟩, by decide +kernel⟩ (by decide) (by decide)
theorem ci_222 : CKi 222 0 := ⟨kws (w := Cond.instanceMethod) mk_222 q1034, ksel mk_222 qs42, krc mk_222 (⟨by decide, _, rfl, rfl⟩)⟩
theorem ck_223 : CK 223 1 2 := CK.of mk_223 (by decide) q134 q1027 ⟨⟨by decide +kernel, by decide +kernel⟩, by decide +kernel⟩ (by decide) (by decide)
theorem ci_223 : CKi 223 0 := ⟨kws (w := Cond.instanceMethod) mk_223 q1026, ksel mk_223 qs41, krc mk_223 (⟨by decide, _, rfl, rfl⟩)⟩
theorem ck_224 : CK 224 1 2 := CK.of mk_224 (by decide) q134 q1003 ⟨⟨by decide +kernel, by decide +kernel⟩, by decide +kernel⟩ (by decide) (by decide)
theorem ci_224 : CKi 224 0 := ⟨kws (w := Cond.instanceMethod) mk_224 q1002, ksel mk_224 qs38, krc mk_224 (⟨by decide, _, rfl, rfl⟩)⟩
theorem ck_225 : CK 225 3 4 := CK.of mk_225 (by decide) q134 q1023 ⟨⟨by decide +kernel, by decide +kernel⟩, by decide +kernel⟩ (by decide) (by decide)
theorem ci_225 : CKi 225 0 := ⟨kws (w := Cond.instanceMethod) mk_225 q1022, ksel mk_225 qs40, krc mk_225 (⟨by decide, _, rfl, rfl⟩)⟩
theorem ck_226 : CK 226 0 1 := CK.of mk_226 (by decide) q134 q923 ⟨⟨by decide +kernel, by decide +kernel⟩, by decide +kernel⟩ (by decide) (by decide)
theorem ci_226 : CKi 226 0 := ⟨kws (w := Cond.instanceMethod) mk_226 q922, ksel mk_226 qs31, krc mk_226 (⟨by decide, _, rfl, rfl⟩)⟩
theorem ck_227 : CK 227 0 1 := CK.of mk_227 (by decide) q134 q877 ⟨⟨by decide +kernel, by decide +kernel⟩, by decide +kernel⟩ (by decide) (by decide)
theorem ci_227 : CKi 227 0 := ⟨kws (w := Cond.instanceMethod) mk_227 q875, ksel mk_227 q876, krc mk_227 (⟨by decide, _, rfl, rfl⟩)⟩
theorem ck_228 : CK 228 1 2 := CK.of mk_228 (by decide) q134 q911 ⟨⟨by decide +kernel, by decide +kernel⟩, by decide +kernel⟩ (by decide) (by decide)
theorem ci_228 : CKi 228 0 := ⟨kws (w := Cond.instanceMethod) mk_228 q910, ksel mk_228 qs29, krc mk_228 (⟨by decide, _, rfl, rfl⟩)⟩
theorem ck_229 : CK 229 1 2 := CK.of mk_229 (by decide) q134 q915 ⟨⟨by decide +kernel, by decide +kernel⟩, by decide +kernel⟩ (by decide) (by decide)
theorem ci_229 : CKi 229 0 := ⟨kws (w := Cond.instanceMethod) mk_229 q914, ksel mk_229 qs30, krc mk_229 (⟨by decide, _, rfl, rfl⟩)⟩
theorem ck_230 : CK 230 1 2 := CK.of mk_230 (by decide) q134 q891 ⟨⟨by decide +kernel, by decide +kernel⟩, by decide +kernel⟩ (by decide) (by decide)
theorem ci_230 : CKi 230 0 := ⟨kws (w := Cond.instanceMethod) mk_230 q889, ksel mk_230 q890, krc mk_230 (⟨by decide, _, rfl, rfl⟩)⟩
theorem ck_231 : CK 231 3 4 := CK.of mk_231 (by decide) q134 q895 ⟨⟨by decide +kernel, by decide +kernel⟩, by decide +kernel⟩ (by decide) (by decide)
theorem ci_231 : CKi 231 0 := ⟨kws (w := Cond.instanceMethod) mk_231 q893, ksel mk_231 q894, krc mk_231 (⟨by decide, _, rfl, rfl⟩)⟩
theorem ck_232 : CK 232 3 4 := CK.of mk_232 (by decide) q134 q899 ⟨⟨by decide +kernel, by decide +kernel⟩, by decide +kernel⟩ (by decide) (by decide)
theorem ci_232 : CKi 232 0 := ⟨kws (w := Cond.instanceMethod) mk_232 q897, ksel mk_232 q898, krc mk_232 (⟨by decide, _, rfl, rfl⟩)⟩
theorem ck_233 : CK 233 3 4 := CK.of mk_233 (by decide) q134 q907 ⟨⟨by decide +kernel, by decide +kernel⟩, by decide +kernel⟩ (by decide) (by decide)
theorem ci_233 : CKi 233 0 := ⟨kws (w := Cond.instanceMethod) mk_233 q906, ksel mk_233 qs28, krc mk_233 (⟨by decide, _, rfl, rfl⟩)⟩
theorem ck_234 : CK 234 3 4 := CK.of mk_234 (by decide) q134 q903 ⟨⟨by decide +kernel, by decide +kernel⟩, by decide +kernel⟩ (by decide) (by decide)
theorem ci_234 : CKi 234 0 := ⟨kws (w := Cond.instanceMethod) mk_234 q901, ksel mk_234 q902, krc mk_234 (⟨by decide, _, rfl, rfl⟩)⟩
theorem ck_235 : CK 235 1 2 := CK.of mk_235 (by decide) q134 q919 ⟨⟨by decide +kernel, by decide +kernel⟩, by decide +kernel⟩ (by decide) (by decide)
theorem ci_235 : CKi 235 0 := ⟨kws (w := Cond.instanceMethod) mk_235 q917, ksel mk_235 q918, krc mk_235 (⟨by decide, _, rfl, rfl⟩)⟩
theorem ck_236 : CK 236 2 3 := CK.of mk_236 (by decide) q134 q1039 ⟨⟨by decide +kernel, by decide +kernel⟩, by decide +kernel⟩ (by decide) (by decide)
theorem ci_236 : CKi 236 0 := ⟨kws (w := Cond.instanceMethod) mk_236 q1037, ksel mk_236 q1038, krc mk_236 (⟨by decide, _, rfl, rfl⟩)⟩
theorem ck_237 : CK 237 2 3 := CK.of mk_237 (by decide) q134 q1044 ⟨⟨by decide +kernel, by decide +kernel⟩, by decide +kernel⟩ (by decide) (by decide)
theorem ci_237 : CKi 237 0 := ⟨kws (w := Cond.instanceMethod) mk_237 q1042, ksel mk_237 q1043, krc mk_237 (⟨by decide, _, rfl, rfl⟩)⟩
theorem ck_238 : CK 238 2 3 := CK.of mk_238 (by decide) q134 q1049 ⟨⟨by decide +kernel, by decide +kernel⟩, by decide +kernel⟩ (by decide) (by decide)
theorem ci_238 : CKi 238 0 := ⟨kws (w := Cond.instanceMethod) mk_238 q1047, ksel mk_238 q1048, krc mk_238 (⟨by decide, _, rfl, rfl⟩)⟩
theorem ck_239 : CK 239 1 2 := CK.of mk_239 (by decide) q134 q1053 ⟨⟨by decide +kernel, by decide +kernel⟩, by decide +kernel⟩ (by decide) (by decide)
theorem ci_239 : CKi 239 0 := ⟨kws (w := Cond.instanceMethod) mk_239 q1051, ksel mk_239 q1052, krc mk_239 (⟨by decide, _, rfl, rfl⟩)⟩
theorem ck_240 : CK 240 2 3 := CK.of mk_240 (by decide) q134 q1071 ⟨⟨by decide +kernel, by decide +kernel⟩, by decide +kernel⟩ (by decide) (by decide)
theorem ci_240 : CKi 240 0 := ⟨kws (w := Cond.instanceMethod) mk_240 q1069, ksel mk_240 q1070, krc mk_240 (⟨by decide, _, rfl, rfl⟩)⟩
theorem ck_241 : CK 241 2 3 := CK.of mk_241 (by decide) q134 q1077 ⟨⟨by decide +kernel, by decide +kernel⟩, by decide +kernel⟩ (by decide) (by decide)
theorem ci_241 : CKi 241 0 := ⟨kws (w := Cond.instanceMethod) mk_241 q1075, ksel mk_241 q1076, krc mk_241 (⟨by decide, _, rfl, rfl⟩)⟩
theorem ck_242 : CK 242 1 2 := CK.of mk_242 (by decide) q134 q1083 ⟨⟨by decide +kernel, by decide +kernel⟩, by decide +kernel⟩ (by decide) (by decide)
theorem ci_242 : CKi 242 0 := ⟨kws (w := Cond.instanceMethod) mk_242 q1081, ksel mk_242 q1082, krc mk_242 (⟨by decide, _, rfl, rfl⟩)⟩
theorem ck_243 : CK 243 2 3 := CK.of mk_243 (by decide) q134 q1089 ⟨⟨by decide +kernel, by decide +kernel⟩, by decide +kernel⟩ (by decide) (by decide)
theorem ci_243 : CKi 243 0 := ⟨kws (w := Cond.instanceMethod) mk_243 q1087, ksel mk_243 q1088, krc mk_243 (⟨by decide, _, rfl, rfl⟩)⟩
theorem ck_244 : CK 244 1 2 := CK.of mk_244 (by decide) q134 q1093 ⟨⟨by decide +kernel, by decide +kernel⟩, by decide +kernel⟩ (by decide) (by decide)
theorem ci_244 : CKi 244 0 := ⟨kws (w := Cond.instanceMethod) mk_244 q1091, ksel mk_244 q1092, krc mk_244 (⟨by decide, _, rfl, rfl⟩)⟩
theorem ck_245 : CK 245 2 3 := CK.of mk_245 (by decide) q134 q1103 ⟨⟨by decide +kernel, by decide +kernel⟩, by decide +kernel⟩ (by decide) (by decide)
theorem ci_245 : CKi 245 0 := ⟨kws (w := Cond.instanceMethod) mk_245 q1101, ksel mk_245 q1102, krc mk_245 (⟨by decide, _, rfl, rfl⟩)⟩
theorem ck_246 : CK 246 3 4 := CK.of mk_246 (by decide) q134 q1113 ⟨⟨by decide +kernel, by decide +kernel⟩, by decide +kernel⟩ (by decide) (by decide)
theorem ci_246 : CKi 246 0 := ⟨kws (w := Cond.instanceMethod) mk_246 q1112, ksel mk_246 qs43, krc mk_246 (⟨by decide, _, rfl, rfl⟩)⟩
theorem ck_247 : CK 247 3 4 := CK.of mk_247 (by decide) q134 q1108 ⟨⟨by decide +kernel, by decide +kernel⟩, by decide +kernel⟩ (by decide) (by decide)
theorem ci_247 : CKi 247 0 := ⟨kws (w := Cond.instanceMethod) mk_247 q1106, ksel mk_247 q1107, krc mk_247 (⟨by decide, _, rfl, rfl⟩)⟩
theorem ck_248 : CK 248 2 3 := CK.of mk_248 (by decide) q134 q1121 ⟨⟨by decide +kernel, by decide +kernel⟩, by decide +kernel⟩ (by decide) (by decide)
theorem ci_248 : CKi 248 0 := ⟨kws (w := Cond.instanceMethod) mk_248 q1120, ksel mk_248 qs44, krc mk_248 (⟨by decide, _, rfl, rfl⟩)⟩
theorem ck_249 : CK 249 2 3 := CK.of mk_249 (by decide) q134 q1117 ⟨⟨by decide +kernel, by decide +kernel⟩, by decide +kernel⟩ (by decide) (by decide)
theorem ci_249 : CKi 249 0 := ⟨kws (w := Cond.instanceMethod) mk_249 q1115, ksel mk_249 q1116, krc mk_249 (⟨by decide, _, rfl, rfl⟩)⟩
theorem ck_250 : CK 250 2 3 := CK.of mk_250 (by decide) q134 q1125 ⟨⟨by decide +kernel, by decide +kernel⟩, by decide +kernel⟩ (by decide) (by decide)
theorem ci_250 : CKi 250 0 := ⟨kws (w := Cond.instanceMethod) mk_250 q1123, ksel mk_250 q1124, krc mk_250 (⟨by decide, _, rfl, rfl⟩)⟩
theorem ck_251 : CK 251 1 2 := CK.of mk_251 (by decide) q134 q1129 ⟨⟨by decide +kernel, by decide +kernel⟩, by decide +kernel⟩ (by decide) (by decide)
theorem ci_251 : CKi 251 0 := ⟨kws (w := Cond.instanceMethod) mk_251 q1127, ksel mk_251 q1128, krc mk_251 (⟨by decide, _, rfl, rfl⟩)⟩
theorem ck_252 : CK 252 2 2 := CK.of mk_252 (by decide) q134 q1136 ⟨⟨by decide +kernel, by decide +kernel⟩, by decide +kernel⟩ (by decide) (by decide)
theorem cs_252 : Cond.static (mname 252) ∈ lw_all := kws (w := Cond.static) mk_252 q1135
theorem ck_253 : CK 253 2 3 := CK.of mk_253 (by decide) q134 q1133 ⟨⟨by decide +kernel, by decide +kernel⟩, by decide +kernel⟩ (by decide) (by decide)
theorem ci_253 : CKi 253 0 := ⟨kws (w := Cond.instanceMethod) mk_253 q1131, ksel mk_253 q1132, krc mk_253 (⟨by decide, _, rfl, rfl⟩)⟩
theorem ck_254 : CK 254 2 3 := CK.of mk_254 (by decide) q134 q1144 ⟨⟨by decide +kernel, by decide +kernel⟩, by decide +kernel⟩ (by decide) (by decide)
theorem ci_254 : CKi 254 0 := ⟨kws (w := Cond.instanceMethod) mk_254 q1143, ksel mk_254 qs45, krc mk_254 (⟨by decide, _, rfl, rfl⟩)⟩
theorem ck_255 : CK 255 2 3 := CK.of mk_255 (by decide) q134 q1140 ⟨⟨by decide +kernel, by decide +kernel⟩, by decide +kernel⟩ (by decide) (by decide)
theorem ci_255 : CKi 255 0 := ⟨kws (w := Cond.instanceMethod) mk_255 q1138, ksel mk_255 q1139, krc mk_255 (⟨by decide, _, rfl, rfl⟩)⟩
theorem ck_256 : CK 256 2 3 := CK.of mk_256 (by decide) q134 q1148 ⟨⟨by decide +kernel, by decide +kernel⟩, by decide +kernel⟩ (by decide) (by decide)
theorem ci_256 : CKi 256 0 := ⟨kws (w := Cond.instanceMethod) mk_256 q1146, ksel mk_256 q1147, krc mk_256 (⟨by decide, _, rfl, rfl⟩)⟩
theorem ck_257 : CK 257 1 2 := CK.of mk_257 (by decide) q134 q1169 ⟨⟨by decide +kernel, by decide +kernel⟩, by decide +kernel⟩ (by decide) (by decide)
theorem ci_257 : CKi 257 0 := ⟨kws (w := Cond.instanceMethod) mk_257 q1168, ksel mk_257 qs46, krc mk_257 (⟨by decide, _, rfl, rfl⟩)⟩
theorem ck_258 : CK 258 1 2 := CK.of mk_258 (by decide) q134 q1164 ⟨⟨by decide +kernel, by decide +kernel⟩, by decide +kernel⟩ (by decide) (by decide)
theorem ci_258 : CKi 258 0 := ⟨kws (w := Cond.instanceMethod) mk_258 q1162, ksel mk_258 q1163, krc mk_258 (⟨by decide, _, rfl, rfl⟩)⟩
theorem ck_259 : CK 259 1 2 := CK.of mk_259 (by decide) q134 q1199 ⟨⟨by decide +kernel, by decide +kernel⟩, by decide +kernel⟩ (by decide) (by decide)
theorem ci_259 : CKi 259 0 := ⟨kws (w := Cond.instanceMethod) mk_259 q1198, ksel mk_259 qs49, krc mk_259 (⟨by decide, _, rfl, rfl⟩)⟩
theorem ck_260 : CK 260 3 4 := CK.of mk_260 (by decide) q134 q1195 ⟨⟨by decide +kernel, by decide +kernel⟩, by decide +kernel⟩ (by decide) (by decide)
theorem ci_260 : CKi 260 0 := ⟨kws (w := Cond.instanceMethod) mk_260 q1194, ksel mk_260 qs48, krc mk_260 (⟨by decide, _, rfl, rfl⟩)⟩
theorem ck_261 : CK 261 3 4 := CK.of mk_261 (by decide) q134 q1191 ⟨⟨by decide +kernel, by decide +kernel⟩, by decide +kernel⟩ (by decide) (by decide)
theorem ci_261 : CKi 261 0 := ⟨kws (w := Cond.instanceMethod) mk_261 q1189, ksel mk_261 q1190, krc mk_261 (⟨by decide, _, rfl, rfl⟩)⟩
theorem ck_262 : CK 262 2 3 := CK.of mk_262 (by decide) q134 q1203 ⟨⟨by decide +kernel, by decide +kernel⟩, by decide +kernel⟩ (by decide) (by decide)
theorem ci_262 : CKi 262 0 := ⟨kws (w := Cond.instanceMethod) mk_262 q1201, ksel mk_262 q1202, krc mk_262 (⟨by decide, _, rfl, rfl⟩)⟩
theorem ck_263 : CK 263 1 2 := CK.of mk_263 (by decide) q134 q1207 ⟨⟨by decide +kernel, by decide +kernel⟩, by decide +kernel⟩ (by decide) (by decide)
theorem ci_263 : CKi 263 0 := ⟨kws (w := Cond.instanceMethod) mk_263 q1205, ksel mk_263 q1206, krc mk_263 (⟨by decide, _, rfl, rfl⟩)⟩
theorem ck_264 : CK 264 2 3 := CK.of mk_264 (by decide) q134 q1215 ⟨⟨by decide +kernel, by decide +kernel⟩, by decide +kernel⟩ (by decide) (by decide)
theorem ci_264 : CKi 264 0 := ⟨kws (w := Cond.instanceMethod) mk_264 q1213, ksel mk_264 q1214, krc mk_264 (⟨by decide, _, rfl, rfl⟩)⟩
theorem ck_265 : CK 265 1 2 := CK.of mk_265 (by decide) q134 q1219 ⟨⟨by decide +kernel, by decide +kernel⟩, by decide +kernel⟩ (by decide) (by decide)
theorem ci_265 : CKi 265 0 := ⟨kws (w := Cond.instanceMethod) mk_265 q1217, ksel mk_265 q1218, krc mk_265 (⟨by decide, _, rfl, rfl⟩)⟩
theorem ck_266 : CK 266 1 2 := CK.of mk_266 (by decide) q134 q1224 ⟨⟨by decide +kernel, by decide +kernel⟩, by decide +kernel⟩ (by decide) (by decide)
theorem ci_266 : CKi 266 0 := ⟨kws (w := Cond.instanceMethod) mk_266 q1222, ksel mk_266 q1223, krc mk_266 (⟨by decide, _, rfl, rfl⟩)⟩
theorem ck_267 : CK 267 1 2 := CK.of mk_267 (by decide) q134 q1228 ⟨⟨by decide +kernel, by decide +kernel⟩, by decide +kernel⟩ (by decide) (by decide)
theorem ci_267 : CKi 267 0 := ⟨kws (w := Cond.instanceMethod) mk_267 q1226, ksel mk_267 q1227, krc mk_267 (⟨by decide, _, rfl, rfl⟩)⟩
theorem ck_268 : CK 268 2 3 := CK.of mk_268 (by decide) q134 q1232 ⟨⟨by decide +kernel, by decide +kernel⟩, by decide +kernel⟩ (by decide) (by decide)
theorem ci_268 : CKi 268 0 := ⟨kws (w := Cond.instanceMethod) mk_268 q1230, ksel mk_268 q1231, krc mk_268 (⟨by decide, _, rfl, rfl⟩)⟩
theorem ck_269 : CK 269 2 3 := CK.of mk_269 (by decide) q134 q1240 ⟨⟨by decide +kernel, by decide +kernel⟩, by decide +kernel⟩ (by decide) (by decide)
theorem ci_269 : CKi 269 0 := ⟨kws (w := Cond.instanceMethod) mk_269 q1239, ksel mk_269 qs50, krc mk_269 (⟨by decide, _, rfl, rfl⟩)⟩
theorem ck_270 : CK 270 3 4 := CK.of mk_270 (by decide) q134 q1236 ⟨⟨by decide +kernel, by decide +kernel⟩, by decide +kernel⟩ (by decide) (by decide)
theorem ci_270 : CKi 270 0 := ⟨kws (w := Cond.instanceMethod) mk_270 q1234, ksel mk_270 q1235, krc mk_270 (⟨by decide, _, rfl, rfl⟩)⟩
theorem ck_271 : CK 271 1 2 := CK.of mk_271 (by decide) q134 q1248 ⟨⟨by decide +kernel, by decide +kernel⟩, by decide +kernel⟩ (by decide) (by decide)
theorem ci_271 : CKi 271 0 := ⟨kws (w := Cond.instanceMethod) mk_271 q1247, ksel mk_271 qs51, krc mk_271 (⟨by decide, _, rfl, rfl⟩)⟩
theorem ck_272 : CK 272 3 4 := CK.of mk_272 (by decide) q134 q1252 ⟨⟨by decide +kernel, by decide +kernel⟩, by decide +kernel⟩ (by decide) (by decide)
theorem ci_272 : CKi 272 0 := ⟨kws (w := Cond.instanceMethod) mk_272 q1251, ksel mk_272 qs52, krc mk_272 (⟨by decide, _, rfl, rfl⟩)⟩
theorem ck_273 : CK 273 2 3 := CK.of mk_273 (by decide) q134 q1244 ⟨⟨by decide +kernel, by decide +kernel⟩, by decide +kernel⟩ (by decide) (by decide)
theorem ci_273 : CKi 273 0 := ⟨kws (w := Cond.instanceMethod) mk_273 q1242, ksel mk_273 q1243, krc mk_273 (⟨by decide, _, rfl, rfl⟩)⟩
theorem ck_274 : CK 274 0 1 := CK.of mk_274 (by decide) q134 q1256 ⟨⟨by decide +kernel, by decide +kernel⟩, by decide +kernel⟩ (by decide) (by decide)
theorem ci_274 : CKi 274 0 := ⟨kws (w := Cond.instanceMethod) mk_274 q1254, ksel mk_274 q1255, krc mk_274 (⟨by decide, _, rfl, rfl⟩)⟩
theorem ck_275 : CK 275 0 1 := CK.of mk_275 (by decide) q134 q1265 ⟨⟨by decide +kernel, by decide +kernel⟩, by decide +kernel⟩ (by decide) (by decide)
theorem ci_275 : CKi 275 0 := ⟨kws (w := Cond.instanceMethod) mk_275 q1264, ksel mk_275 qs53, krc mk_275 (⟨by decide, _, rfl, rfl⟩)⟩
theorem ck_276 : CK 276 1 1 := CK.of mk_276 (by decide) q134 q1272 ⟨⟨by decide +kernel, by decide +kernel⟩, by decide +kernel⟩ (by decide) (by decide)
theorem cs_276 : Cond.static (mname 276) ∈ lw_all := kws (w := Cond.static) mk_276 q1271
theorem ck_277 : CK 277 2 3 := CK.of mk_277 (by decide) q134 q1269 ⟨⟨by decide +kernel, by decide +kernel⟩, by decide +kernel⟩ (by decide) (by decide)
theorem ci_277 : CKi 277 0 := ⟨kws (w := Cond.instanceMethod) mk_277 q1268, ksel mk_277 qs54, krc mk_277 (⟨by decide, _, rfl, rfl⟩)⟩
theorem ck_278 : CK 278 1 2 := CK.of mk_278 (by decide) q134 q1261 ⟨⟨by decide +kernel, by decide +kernel⟩, by decide +kernel⟩ (by decide) (by decide)
theorem ci_278 : CKi 278 0 := ⟨kws (w := Cond.instanceMethod) mk_278 q1259, ksel mk_278 q1260, krc mk_278 (⟨by decide, _, rfl, rfl⟩)⟩
theorem ck_279 : CK 279 0 1 := CK.of mk_279 (by decide) q134 q1280 ⟨⟨by decide +kernel, by decide +kernel⟩, by decide +kernel⟩ (by decide) (by decide)
theorem ci_279 : CKi 279 0 := ⟨kws (w := Cond.instanceMethod) mk_279 q1279, ksel mk_279 qs55, krc mk_279 (⟨by decide, _, rfl, rfl⟩)⟩
theorem ck_280 : CK 280 0 1 := CK.of mk_280 (by decide) q134 q1285 ⟨⟨by decide +kernel, by decide +kernel⟩, by decide +kernel⟩ (by decide) (by decide)
theorem ci_280 : CKi 280 0 := ⟨kws (w := Cond.instanceMethod) mk_280 q1284, ksel mk_280 qs56, krc mk_280 (⟨by decide, _, rfl, rfl⟩)⟩
theorem ck_281 : CK 281 1 2 := CK.of mk_281 (by decide) q134 q1276 ⟨⟨by decide +kernel, by decide +kernel⟩, by decide +kernel⟩ (by decide) (by decide)
theorem ci_281 : CKi 281 0 := ⟨kws (w := Cond.instanceMethod) mk_281 q1274, ksel mk_281 q1275, krc mk_281 (⟨by decide, _, rfl, rfl⟩)⟩
theorem ck_282 : CK 282 1 2 := CK.of mk_282 (by decide) q134 q1289 ⟨⟨by decide +kernel, by decide +kernel⟩, by decide +kernel⟩ (by decide) (by decide)
theorem ci_282 : CKi 282 0 := ⟨kws (w := Cond.instanceMethod) mk_282 q1287, ksel mk_282 q1288, krc mk_282 (⟨by decide, _, rfl, rfl⟩)⟩
theorem do_34 : dOK 8 34 := ⟨by decide, by decide, ⟨_, rfl, by rw [mk_34.1]; rfl⟩, by rw [mk_34.1]; exact q961, by rw [mk_34.1]; exact q954, by rw [mk_34.1]; exact q156, by rw [mk_34.1, mk_34.2.1, mk_34.2.2.1, mk_34.2.2.2]; exact q955, by rw [mk_34.2.2.1]; decide, by rw [mk_34.2.2.1]; decide⟩
theorem do_36 : dOK 9 36 := ⟨by decide, by decide, ⟨_, rfl, by rw [mk_36.1]; rfl⟩, by rw [mk_36.1]; exact q963, by rw [mk_36.1]; exact q959, by rw [mk_36.1]; exact q157, by rw [mk_36.1, mk_36.2.1, mk_36.2.2.1, mk_36.2.2.2]; exact q960, by rw [mk_36.2.2.1]; decide, by rw [mk_36.2.2.1]; decide⟩
theorem do_38 : dOK 10 38 := ⟨by decide, by decide, ⟨_, rfl, by rw [mk_38.1]; rfl⟩, by rw [mk_38.1]; exact q962, by rw [mk_38.1]; exact q956, by rw [mk_38.1]; exact q158, by rw [mk_38.1, mk_38.2.1, mk_38.2.2.1, mk_38.2.2.2]; exact q957, by rw [mk_38.2.2.1]; decide, by rw [mk_38.2.2.1]; decide⟩
theorem do_40 : dOK 11 40 := ⟨by decide, by decide, ⟨_, rfl, by rw [mk_40.1]; rfl⟩, by rw [mk_40.1]; exact q950, by rw [mk_40.1]; exact q951, by rw [mk_40.1]; exact q159, by rw [mk_40.1, mk_40.2.1, mk_40.2.2.1, mk_40.2.2.2]; exact q952, by rw [mk_40.2.2.1]; decide, by rw [mk_40.2.2.1]; decide⟩
