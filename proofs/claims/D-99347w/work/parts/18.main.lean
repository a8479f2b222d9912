/-! a run of the small machine is a run of the machine -/
set_option maxRecDepth 10000
def SR (y pc : Nat) (f : mC → Option (Option Value)) : Prop := ∀ (L : List (Option Value)) (st : List Value) (h : mH) (v : Option Value), f (pc, L, st, h) = some v → ∀ (D : mD) (p : Program) (l : Launch) (e : Env) (R : Room) (s : State) (m : MethodId) (args : Array Value) (below : List Frame) (meth : Method) (c : Code), CX D y p l e R s m args meth c → ∀ (H : Heap) (locs : List Loc) (ls : Array Slot) (cells slots : Nat), Rep D h H → va_S (dF D) s.heap H locs → W p l e R s m args below meth c H locs cells slots (vx_MQ below (Qcl D (.inl v, h)) (Xcl D (.inl v, h)) args s cells slots (dF D)) (F0 m pc ls st)
section
variable {y pc : Nat}
theorem qcl_ret {D : mD} {h : mH} {H : Heap} {s : State} {locs : List Loc} {v : Option Value} (hR : Rep D h H) (hS : va_S (dF D) s.heap H locs) (args : Array Value) : ∀ t : State, t.heap = H → s.WarmedH t.vm → Qcl D (.inl v, h) args s (.returned v) t := fun t ht _ => ⟨⟨v, h, rfl, rfl, by rw [ht]; exact hR⟩, hS.F ht⟩
theorem sr_i (hd : decode (mbyt y) pc = .ok (.ireturn, 1)) (hr : mret y = some .int) : SR y pc i_iret := by
  intro L st h v hf
  match st, hf with
  | [.int x], hf =>
    cases hf
    intro D p l e R s m args below meth c cx H locs ls cells slots hR hS
    exact vx_ret (W.iret cx.1 cx.2.1 (cx.2.2.2.1.trans hr) (qcl_ret hR hS args) hS.2.2 hd (hlocks := cx.2.2.2.2.1))
theorem sr_z (hd : decode (mbyt y) pc = .ok (.ireturn, 1)) (hr : mret y = some .boolean) : SR y pc i_zret := by
  intro L st h v hf
  match st, hf with
  | [.int x], hf =>
    obtain ⟨hx, he⟩ := opt_if hf
    cases he
    intro D p l e R s m args below meth c cx H locs ls cells slots hR hS
    exact vx_ret (W.zret cx.1 cx.2.1 (cx.2.2.2.1.trans hr) (narZ hx).1 (qcl_ret hR hS args) hS.2.2 hd (hlocks := cx.2.2.2.2.1))
theorem sr_c (hd : decode (mbyt y) pc = .ok (.ireturn, 1)) (hr : mret y = some .char) : SR y pc i_cret := by
  intro L st h v hf
  match st, hf with
  | [.int x], hf =>
    obtain ⟨hx, he⟩ := opt_if hf
    cases he
    intro D p l e R s m args below meth c cx H locs ls cells slots hR hS
    exact vx_ret (W.zret cx.1 cx.2.1 (cx.2.2.2.1.trans hr) (narC hx).1 (qcl_ret hR hS args) hS.2.2 hd (hlocks := cx.2.2.2.2.1))
theorem narB {x : Int32} (h : 0 ≤ x ∧ x ≤ 127) : narrow .byte (.int x) = .int x := by
  obtain ⟨q, hq, rfl⟩ := nI_of2 (M := 127) (n := 127) (by decide) (i32_nlt h.1) h.2
  have : ∀ q, q < 128 → (nI q).toInt8.toInt32 = nI q := by decide +kernel
  show Value.int ((nI q).toInt8.toInt32) = _
  rw [this q (by omega)]
theorem sr_b (hd : decode (mbyt y) pc = .ok (.ireturn, 1)) (hr : mret y = some .byte) : SR y pc i_bret := by
  intro L st h v hf
  match st, hf with
  | [.int x], hf =>
    obtain ⟨hx, he⟩ := opt_if hf
    cases he
    intro D p l e R s m args below meth c cx H locs ls cells slots hR hS
    exact vx_ret (W.zret cx.1 cx.2.1 (cx.2.2.2.1.trans hr) (narB hx) (qcl_ret hR hS args) hS.2.2 hd (hlocks := cx.2.2.2.2.1))
theorem sr_a {rt : FieldType} (hd : decode (mbyt y) pc = .ok (.areturn, 1)) (hr : mret y = some rt) (hrt : (∃ n, rt = .object n) ∨ ∃ t, rt = .array t) : SR y pc i_aret := by
  intro L st h v hf
  match st, hf with
  | [x], hf =>
    obtain ⟨hx, he⟩ := opt_if hf
    cases he
    intro D p l e R s m args below meth c cx H locs ls cells slots hR hS
    exact vx_ret (W.aret cx.1 cx.2.1 (cx.2.2.2.1.trans hr) hrt (isRv_cases hx).symm (qcl_ret hR hS args) hS.2.2 hd (hlocks := cx.2.2.2.2.1))
theorem sr_v (hd : decode (mbyt y) pc = .ok (.return_, 1)) (hr : mret y = none) : SR y pc i_vret := by
  intro L st h v hf
  match st, hf with
  | [], hf =>
    cases hf
    intro D p l e R s m args below meth c cx H locs ls cells slots hR hS
    exact vx_ret (W.vret cx.1 cx.2.1 (cx.2.2.2.1.trans hr) (qcl_ret hR hS args) hS.2.2 hd (hlocks := cx.2.2.2.2.1))
theorem sn_mx {ix : Nat} (hd : decode (mbyt y) pc = .ok (.invokestatic ix, 3)) (hq1 : Cond.methodLink (mname y).cls ix Lib.Math.max.name ∈ lw_all) (hq2 : Cond.static Lib.Math.max.name ∈ lw_all) (hq3 : Cond.initialized "java/lang/Math" ∈ lw_all) (hq4 : Cond.code Lib.Math.max.name Lib.Math.max.code 2 (some .int) ∈ lw_all) : SN y pc i_mx := by
  intro L st h c' hf
  match st, hf with
  | .int b :: .int a :: r, hf =>
    obtain ⟨hr, rfl⟩ := opt_if hf
    refine ⟨⟨Nat.le_refl _, Nat.le_refl _⟩, fun D p l e R s m args below meth c Q N0 U0 cx ro hn hu w => ?_⟩
    intro H locs ls cells slots hRP hL
    have hts := cx.2.2.2.2.2.2.2.1
    have hs := cat_sum hr
    have h1 := hRP.2.2.1
    have h2 := hRP.2.2.2
    have hlo := ro.2
    dsimp only at h1 h2 hn hu
    exact va_mmax cx.1 cx.2.1 (cx.2.2.1.trans hL.1.symm) cx.2.2.2.2.2.2.1 (hts _ hq1) (hts _ hq2) (hts _ hq3) (hts _ hq4) ro.1 (by omega) (by omega) (by omega) hd (w H locs ls cells slots hRP hL)
theorem sn_mn {ix : Nat} (hd : decode (mbyt y) pc = .ok (.invokestatic ix, 3)) (hq1 : Cond.methodLink (mname y).cls ix Lib.Math.min.name ∈ lw_all) (hq2 : Cond.static Lib.Math.min.name ∈ lw_all) (hq3 : Cond.initialized "java/lang/Math" ∈ lw_all) (hq4 : Cond.code Lib.Math.min.name Lib.Math.min.code 2 (some .int) ∈ lw_all) : SN y pc i_mn := by
  intro L st h c' hf
  match st, hf with
  | .int b :: .int a :: r, hf =>
    obtain ⟨hr, rfl⟩ := opt_if hf
    refine ⟨⟨Nat.le_refl _, Nat.le_refl _⟩, fun D p l e R s m args below meth c Q N0 U0 cx ro hn hu w => ?_⟩
    intro H locs ls cells slots hRP hL
    have hts := cx.2.2.2.2.2.2.2.1
    have hs := cat_sum hr
    have h1 := hRP.2.2.1
    have h2 := hRP.2.2.2
    have hlo := ro.2
    dsimp only at h1 h2 hn hu
    exact va_mmin cx.1 cx.2.1 (cx.2.2.1.trans hL.1.symm) cx.2.2.2.2.2.2.1 (hts _ hq1) (hts _ hq2) (hts _ hq3) (hts _ hq4) ro.1 (by omega) (by omega) (by omega) hd (w H locs ls cells slots hRP hL)
end
def VI (y pc : Nat) : mI → Prop
  | .inl f => SN y pc f
  | .inr (.inl f) => SC y pc f
  | .inr (.inr (.inl f)) => SR y pc f
  | .inr (.inr (.inr _)) => decode (mbyt y) pc = .ok (.athrow, 1)
theorem alk_mem : ∀ (l : List (Nat × mI)) (pc : Nat), alk l pc = kN (fun _ => none) ∨ (pc, alk l pc) ∈ l := by
  intro l
  induction l with
  | nil => intro pc; exact Or.inl rfl
  | cons q l ih =>
    obtain ⟨a, i⟩ := q
    intro pc
    unfold alk
    by_cases h : a = pc
    · rw [if_pos h, h]
      exact Or.inr List.mem_cons_self
    · rw [if_neg h]
      rcases ih pc with z | z
      · exact Or.inl z
      · exact Or.inr (List.mem_cons_of_mem _ z)
/-- every row of code is the machine's -/
def ALL : Prop := ∀ (y : Nat) (z : Nat × mI), z ∈ mtab.getD y [] → VI y z.1 z.2
theorem VI_at (hA : ALL) (y pc : Nat) : VI y pc (mcode y pc) := by
  rcases alk_mem (mtab.getD y []) pc with h | h
  · unfold mcode
    rw [h]
    exact SN.none y pc
  · exact hA y _ h
/-- the names, as the machine wants them -/
def NOK (y : Nat) : Prop := Jvm.plainName (mname y).cls = true
theorem names_ok : ∀ y, y < 285 → NOK y := by
  intro y hy
  have : (List.range 285).all (fun y => Jvm.plainName (mname y).cls) = true := by decide +kernel
  exact List.all_eq_true.mp this y (List.mem_range.mpr hy)
theorem out_of {y : Nat} (h : 285 ≤ y) {n d : Nat} {c : mC} {r : mR} (e : run n d y c = some r) : False := by
  have h1 : mcode y c.1 = kN (fun _ => none) := by
    unfold mcode
    rw [List.getD_eq_getElem?_getD, List.getElem?_eq_none (show mtab.length ≤ y from h)]
    rfl
  cases n with
  | zero => cases e
  | succ n =>
    rw [run, h1] at e
    cases e
theorem lget_map {as : List Value} {k : Nat} {i : Nat} {v : Value} (h : lget (as.map some ++ List.replicate k none) i = some v) : as[i]? = some v := by
  induction as generalizing i with
  | nil =>
    simp only [List.map_nil, List.nil_append] at h
    induction k generalizing i with
    | zero => cases h
    | succ k ih =>
      rw [List.replicate_succ] at h
      cases i with
      | zero => cases h
      | succ i => exact absurd (ih h) (by simp)
  | cons a as ih =>
    cases i with
    | zero => exact h
    | succ i => exact ih h
theorem lv_args_mem : ∀ (as : List Value) (b : Nat), as.all isC1 = true → ∀ (i : Nat) (v : Value), as[i]? = some v → (b + i, v) ∈ lv_args b as := by
  intro as
  induction as with
  | nil => intro b _ i v h; simp at h
  | cons a as ih =>
    intro b hA i v h
    simp only [List.all_cons, Bool.and_eq_true] at hA
    have hc := isC1_cat hA.1
    unfold lv_args
    cases i with
    | zero =>
      simp only [List.getElem?_cons_zero, Option.some.injEq] at h
      rw [h]
      exact List.mem_cons_self
    | succ i =>
      simp only [List.getElem?_cons_succ] at h
      refine List.mem_cons_of_mem _ ?_
      rw [if_neg (by omega)]
      have := ih (b + 1) hA.2 i v h
      rw [show b + (i + 1) = b + 1 + i by omega]
      exact this
theorem lg_sl_len : ∀ (as : List Value), as.all isC1 = true → (lg_sl as).length = as.length := by
  intro as
  induction as with
  | nil => intro _; rfl
  | cons a as ih =>
    intro hA
    simp only [List.all_cons, Bool.and_eq_true] at hA
    have hc := isC1_cat hA.1
    have h1 : lg_sl (a :: as) = [.val a] ++ lg_sl as := by
      show (if a.category = 2 then [Slot.val a, .second] else [.val a]) ++ lg_sl as = _
      rw [if_neg (by omega)]
    rw [h1]
    simp [ih hA.2]
theorem entry_lvr {as : List Value} {n : Nat} (hA : as.all isC1 = true) (hl : as.length ≤ n) : lvr ((lg_sl as ++ List.replicate (n - (lg_sl as).length) Slot.unset).toArray) n (as.map some ++ List.replicate (n - as.length) none) := by
  have h := lv_entry as (n := n) (by rw [lg_sl_len as hA]; exact hl)
  refine ⟨h.1, h.2.1, fun i v hi => ?_⟩
  have := lv_args_mem as 0 hA i v (lget_map hi)
  rw [Nat.zero_add] at this
  exact h.2.2 _ this
section
variable {D : mD} {y : Nat} {p : Program} {l : Launch} {e : Env} {R : Room} {s : State} {m : MethodId} {args : Array Value} {below : List Frame} {meth : Method} {c : Code} {Q : State → Prop} {N0 U0 : Nat}
def FR (D : mD) (y : Nat) (p : Program) (l : Launch) (e : Env) (R : Room) (s : State) (m : MethodId) (args : Array Value) (below : List Frame) (meth : Method) (c : Code) (Q : State → Prop) (N0 U0 : Nat) (r : mR) : Prop := ∀ (v : Option Value) (h' : mH), r = (.inl v, h') → ∀ (pc : Nat) (L : List (Option Value)) (st : List Value) (f : mC → Option (Option Value)), mcode y pc = kR f → f (pc, L, st, h') = some v → WW D y p l e R s m args below meth c Q N0 U0 (pc, L, st, h')
def FT (D : mD) (y : Nat) (p : Program) (l : Launch) (e : Env) (R : Room) (s : State) (m : MethodId) (args : Array Value) (below : List Frame) (meth : Method) (c : Code) (Q : State → Prop) (N0 U0 : Nat) (r : mR) : Prop := ∀ (q : Nat) (h' : mH), r = (.inr q, h') → ∀ (pc : Nat) (L : List (Option Value)) (st : List Value), mhand y pc = none → WX D y p l e R s m args below meth c Q N0 U0 (pc, L, st, h') q
/-- what a run of n steps gives -/
def STEP (n : Nat) : Prop := ∀ (d y : Nat) (k : mC) (r : mR), run n d y k = some r → (hN k.2.2.2 ≤ hN r.2 ∧ hU k.2.2.2 ≤ hU r.2) ∧ ∀ (D : mD) (p : Program) (l : Launch) (e : Env) (R : Room) (s : State) (m : MethodId) (args : Array Value) (below : List Frame) (meth : Method) (c : Code) (Q : State → Prop) (N0 U0 : Nat), CX D y p l e R s m args meth c → 2 * d + 1 ≤ R.frames → 64 * d + 3200 ≤ R.locals → hN r.2 ≤ N0 + R.cells → hU r.2 ≤ U0 + R.slots → FR D y p l e R s m args below meth c Q N0 U0 r → FT D y p l e R s m args below meth c Q N0 U0 r → WW D y p l e R s m args below meth c Q N0 U0 k
theorem flt_cell {h : mH} {H : Heap} {q : Nat} (hR : Rep D h H) (hK : KT D s) (hf : isFl h q = true) : ∃ ce : Cell, H[q]? = some ce ∧ ce.vm = .none ∧ s.vm.findClass RX4 = some ce.cls := by
  unfold isFl at hf
  generalize hq : hT h q = o at hf
  match o, hf with
  | some (t, n), hf =>
    have ht := of_decide_eq_true hf
    subst ht
    obtain ⟨-, cell, g1, g2, g3, -⟩ := rep_obj hR hq (by omega)
    exact ⟨cell, g1, g3, by rw [g2]; exact (hK.2.1.1 4 _ rfl).2.1⟩
/-- a callee's contract, from its run -/
theorem MT_of {n d y : Nat} {as : List Value} {h : mH} {r : mR} (ih : STEP n) (hA : ALL) (hrun : run n d y (mentry y as h) = some r) (has : as.all isC1 = true) (hle : as.length ≤ mmax y) : MT D l d y as h r := by
  intro mc ms hmc hms
  have hy : y < 285 := Nat.not_le.mp fun z => out_of z hrun
  have hpn := names_ok y hy
  obtain ⟨hmono, hw⟩ := ih d y _ r hrun
  have body : ∀ p e s m args below meth c s₁, BodyLoose p l (mname y) (headSpec (mws y) (mrm d mc ms)) (mbyt y) (mmax y) (mret y) e s m args below meth c s₁ → c.maxLocals = mmax y → (∀ pc, mhand y pc = none ∨ y = 220 ∨ ∀ x ∈ c.exceptionTable.toList, False) → (y = 220 → c.exceptionTable.toList = tableOf [(10, 29, 36, 271), (10, 29, 62, 0), (36, 55, 62, 0), (62, 64, 62, 0)]) → (∀ w ∈ lw_all, w.before args s = true) → (y ≠ 220 → ∀ x ∈ c.exceptionTable.toList, False) → Pcl D as h args s → W p l e (headSpec (mws y) (mrm d mc ms)).room s m args below meth c s.heap [] 0 0 (vx_MQ below (Qcl D r) (Xcl D r) args s mc ms (dF D)) (entryFrame m args (mmax y)) := by
    intro p e s m args below meth c s₁ B hml hx1 hx2 hts hx3 hv
    obtain ⟨rfl, hR, hK⟩ := hv
    have hlocks := B.notSynchronized
    have hown : s.vm.findClass (mname y).cls = some m.cls := findClass_of_methodNamed B.named
    have cx : CX D y p l e (mrm d mc ms) s m as.toArray meth c := ⟨B.exec, B.bytes, hml, B.returns, hlocks, ⟨(name_of_methodNamed B.named B.method).1, B.named⟩, hown, hts, hK, hx1, hx2⟩
    rw [lg_entry_eq]
    refine hw D p l e (mrm d mc ms) s m as.toArray below meth c (vx_MQ below (Qcl D r) (Xcl D r) as.toArray s mc ms (dF D)) (hN h) (hU h) cx (Nat.le_refl _) (Nat.le_refl _) (by rw [hmc]; exact Nat.le_refl _) (by rw [hms]; exact Nat.le_refl _) ?_ ?_ s.heap [] _ 0 0 ⟨hR, va_S.rf, Nat.zero_add _, Nat.zero_add _⟩ (entry_lvr has hle)
    · intro v h' hr pc L st f hk hf H locs ls cells slots hRP hL
      obtain ⟨hR', hS', hcl, hsl⟩ := hRP
      subst hr
      have hcl : cells + hN h = hN h' := hcl
      have hsl : slots + hU h = hU h' := hsl
      have hmc : hN h' = hN h + mc := hmc
      have hms : hU h' = hU h + ms := hms
      have hv := VI_at hA y pc
      rw [hk] at hv
      have e1 : cells = mc := by omega
      have e2 : slots = ms := by omega
      subst e1; subst e2
      exact hv L st h' v hf D p l e _ s m as.toArray below meth c cx H locs ls cells slots hR' hS'
    · intro q h' hr pc L st hh H locs ls cells slots hRP hL hfl
      obtain ⟨hR', hS', hcl, hsl⟩ := hRP
      subst hr
      have hcl : cells + hN h = hN h' := hcl
      have hsl : slots + hU h = hU h' := hsl
      have hmc : hN h' = hN h + mc := hmc
      have hms : hU h' = hU h + ms := hms
      obtain ⟨ce, g1, g2, g3⟩ := flt_cell hR' hK hfl
      refine vx_out (E := RX4) ?_ hlocks g1 g2 g3 (fun t ht _ => ⟨⟨h', rfl, rfl, by rw [ht]; exact hR', hfl⟩, hS'.F ht⟩) hS'.2.2 (by omega) (by omega)
      intro x hx
      by_cases h220 : y = 220
      · subst h220
        rw [hx2 rfl] at hx
        unfold mhand at hh
        rw [if_pos rfl] at hh
        have hpc : ¬ (10 ≤ pc ∧ pc < 29) ∧ ¬ (36 ≤ pc ∧ pc < 64) := by
          by_cases z1 : 10 ≤ pc ∧ pc < 29
          · rw [if_pos z1] at hh; cases hh
          · rw [if_neg z1] at hh
            by_cases z2 : 36 ≤ pc ∧ pc < 64
            · rw [if_pos z2] at hh; cases hh
            · exact ⟨z1, z2⟩
        have hx' : x = ⟨10, 29, 36, 271⟩ ∨ x = ⟨10, 29, 62, 0⟩ ∨ x = ⟨36, 55, 62, 0⟩ ∨ x = ⟨62, 64, 62, 0⟩ := by simpa [tableOf] using hx
        rcases hx' with z | z | z | z <;> subst z <;> simp [covers] <;> omega
      · exact (hx3 h220 x hx).elim
  by_cases h220 : y = 220
  · refine vx_ofWH (cc := mbyt y) (maxL := mmax y) (ret := mret y) (hh := [(10, 29, 36, 271), (10, 29, 62, 0), (36, 55, 62, 0), (62, 64, 62, 0)]) (ws' := lw_all) hpn (if_pos h220) ?_
    intro p e s m args below meth c s₁ B hml hv
    have hts0 := atoms_spec (ws := mws y) B.pre
    have ew : mws y = Cond.codeWith (mname y) (mbyt y) (mmax y) (mret y) [(10, 29, 36, 271), (10, 29, 62, 0), (36, 55, 62, 0), (62, 64, 62, 0)] :: lw_all := if_pos h220
    rw [ew] at hts0
    exact body p e s m args below meth c s₁ B hml (fun _ => Or.inr (Or.inl h220)) (fun _ => vx_table (x := mname y) B (hts0 _ List.mem_cons_self)) (fun w hw => hts0 w (List.mem_cons_of_mem _ hw)) (fun z => absurd h220 z) hv
  · refine vx_ofW (cc := mbyt y) (maxL := mmax y) (ret := mret y) (ws' := lw_all) hpn (if_neg h220) ?_
    intro p e s m args below meth c s₁ B hml hET hv
    have hts0 := atoms_spec (ws := mws y) B.pre
    have ew : mws y = Cond.code (mname y) (mbyt y) (mmax y) (mret y) :: lw_all := if_neg h220
    rw [ew] at hts0
    exact body p e s m args below meth c s₁ B hml (fun _ => Or.inr (Or.inr hET)) (fun z => absurd z h220) (fun w hw => hts0 w (List.mem_cons_of_mem _ hw)) (fun _ => hET) hv
end
/-- text's handler -/
theorem catch_on {D : mD} {y pc t q : Nat} {p : Program} {l : Launch} {e : Env} {R : Room} {s : State} {m : MethodId} {args : Array Value} {below : List Frame} {meth : Method} {c : Code} {Q : State → Prop} {N0 U0 : Nat} {L : List (Option Value)} {st : List Value} {h : mH} (hh : mhand y pc = some (some t)) (cx : CX D y p l e R s m args meth c) (w : WW D y p l e R s m args below meth c Q N0 U0 (t, L, [.ref q], h)) : WX D y p l e R s m args below meth c Q N0 U0 (pc, L, st, h) q := by
  unfold mhand at hh
  by_cases hy : y = 220
  case neg => rw [if_neg hy] at hh; cases hh
  rw [if_pos hy] at hh
  by_cases hp : 10 ≤ pc ∧ pc < 29
  case neg =>
    rw [if_neg hp] at hh
    by_cases hp2 : 36 ≤ pc ∧ pc < 64
    · rw [if_pos hp2] at hh; cases hh
    · rw [if_neg hp2] at hh; cases hh
  rw [if_pos hp] at hh
  cases hh
  subst hy
  intro H locs ls cells slots hRP hL hfl
  have hK := kt_of cx
  obtain ⟨ce, g1, g2, g3⟩ := flt_cell hRP.1 hK hfl
  have htab := cx.2.2.2.2.2.2.2.2.2.2 rfl
  exact vx_catch (own := "Encores") (name := RX4) cx.2.2.2.2.2.2.1 [] ⟨10, 29, 36, 271⟩ [⟨10, 29, 62, 0⟩, ⟨36, 55, 62, 0⟩, ⟨62, 64, 62, 0⟩] (by rw [htab]; rfl) (fun z hz => absurd hz List.not_mem_nil) (by simp [covers]; omega) (by decide) (cx.2.2.2.2.2.2.2.1 _ q494) (va_Nw.use rfl (hK.2.2.1 _ (List.mem_of_getElem? (i := 27) rfl))) g1 g2 g3 (w H locs ls cells slots hRP hL)
theorem alk_all {P : mI → Prop} (h0 : P (kN (fun _ => none))) : ∀ (l : List (Nat × mI)) (pc : Nat), (∀ z ∈ l, P z.2) → P (alk l pc) := by
  intro l
  induction l with
  | nil => intro pc _; exact h0
  | cons q l ih =>
    obtain ⟨a, i⟩ := q
    intro pc h
    show P (if a = pc then i else alk l pc)
    split
    · exact h (a, i) List.mem_cons_self
    · exact ih pc fun z hz => h z (List.mem_cons_of_mem _ hz)
theorem row_283 (pc : Nat) : (∃ f, mcode 283 pc = kN f) ∨ mcode 283 pc = kR i_iret := by
  show (∃ f, alk cl_283 pc = kN f) ∨ alk cl_283 pc = kR i_iret
  refine alk_all (P := fun i => (∃ f, i = kN f) ∨ i = kR i_iret) (Or.inl ⟨_, rfl⟩) cl_283 pc ?_
  unfold cl_283
  repeat' refine List.forall_mem_cons.mpr ⟨?_, ?_⟩
  all_goals first | exact Or.inl ⟨_, rfl⟩ | exact Or.inr rfl | exact fun _ h => absurd h List.not_mem_nil
theorem int_283 : ∀ (n d : Nat) (c : mC) (r : mR), run n d 283 c = some r → ∃ (x : Int32) (h' : mH), r = (.inl (some (.int x)), h') := by
  intro n
  induction n with
  | zero => intro d c r e; cases e
  | succ n ih =>
    intro d c r e
    rw [run] at e
    rcases row_283 c.1 with ⟨f, hf⟩ | hf
    · rw [hf] at e
      dsimp only [kN] at e
      cases hc : f c with
      | none => rw [hc] at e; cases e
      | some c' => rw [hc] at e; exact ih _ _ _ e
    · rw [hf] at e
      dsimp only [kR] at e
      obtain ⟨pc, L, st, h⟩ := c
      match st, e with
      | [.int x], e => cases e; exact ⟨x, h, rfl⟩
theorem step_all (hA : ALL) : ∀ n, STEP n := by
  intro n
  induction n with
  | zero => intro d y k r e; cases e
  | succ n ih =>
    intro d y k r e
    obtain ⟨pc, L, st, h⟩ := k
    rw [run] at e
    dsimp only at e
    have hv := VI_at hA y pc
    cases hk : mcode y pc with
    | inl f =>
      rw [hk] at e hv
      dsimp only at e
      cases hf : f (pc, L, st, h) with
      | none => rw [hf] at e; cases e
      | some c' =>
        rw [hf] at e
        dsimp only at e
        obtain ⟨m1, w1⟩ := hv L st h c' hf
        obtain ⟨m2, w2⟩ := ih d y c' r e
        refine ⟨⟨Nat.le_trans m1.1 m2.1, Nat.le_trans m1.2 m2.2⟩, ?_⟩
        intro D p l e0 R s m args below meth c Q N0 U0 cx h1 h2 h3 h4 fr ft
        exact w1 D p l e0 R s m args below meth c Q N0 U0 cx ⟨by omega, by omega⟩ (by omega) (by omega) (w2 D p l e0 R s m args below meth c Q N0 U0 cx h1 h2 h3 h4 fr ft)
    | inr k =>
      cases k with
      | inl f =>
        rw [hk] at e hv
        dsimp only at e
        cases hf : f (pc, L, st, h) with
        | none => rw [hf] at e; cases e
        | some z =>
          obtain ⟨y', as, c'⟩ := z
          rw [hf] at e
          dsimp only at e
          cases d with
          | zero => cases e
          | succ d' =>
            dsimp only at e
            by_cases hAs : as.all isC1 = true
            case neg => rw [if_neg hAs] at e; cases e
            rw [if_pos hAs] at e
            obtain ⟨e1, e2, hlen, w1⟩ := hv L st h y' as c' hf
            rw [e1] at e
            cases hr : run n d' y' (mentry y' as h) with
            | none => rw [hr] at e; cases e
            | some w =>
              obtain ⟨o, h'⟩ := w
              rw [hr] at e
              have hMT : ∀ D l, MT D l d' y' as h (o, h') := fun D l => MT_of ih hA hr hAs hlen
              obtain ⟨m1, -⟩ := ih d' y' _ _ hr
              have m1 : hN h ≤ hN h' ∧ hU h ≤ hU h' := m1
              have h283 : y' = 283 → ∃ (x : Int32) (h2 : mH), ((o, h') : mR) = (.inl (some (.int x)), h2) := by
                intro z
                subst z
                exact int_283 _ _ _ _ hr
              cases o with
              | inl v =>
                dsimp only at e
                obtain ⟨m2, w2⟩ := ih (d' + 1) y _ r e
                have m2 : hN h' ≤ hN r.2 ∧ hU h' ≤ hU r.2 := m2
                refine ⟨⟨Nat.le_trans m1.1 m2.1, Nat.le_trans m1.2 m2.2⟩, ?_⟩
                intro D p l e0 R s m args below meth c Q N0 U0 cx h1 h2 h3 h4 fr ft
                refine w1 D p l e0 R s m args below meth c Q N0 U0 d' (.inl v, h') cx (by omega) h2 (hMT D l) h283 m1.1 m1.2 (by show hN h' ≤ _; omega) (by show hU h' ≤ _; omega) ?_ ?_
                · intro v' h2' he
                  cases he
                  have := w2 D p l e0 R s m args below meth c Q N0 U0 cx h1 h2 h3 h4 fr ft
                  rw [e2] at this
                  exact this
                · intro q h2' he
                  cases he
              | inr q =>
                dsimp only at e
                unfold mthr at e
                cases hh : mhand y pc with
                | none =>
                  rw [hh] at e
                  cases e
                  refine ⟨m1, ?_⟩
                  intro D p l e0 R s m args below meth c Q N0 U0 cx h1 h2 h3 h4 fr ft
                  refine w1 D p l e0 R s m args below meth c Q N0 U0 d' (.inr q, h') cx (by omega) h2 (hMT D l) h283 m1.1 m1.2 h3 h4 (fun v' h2' he => by cases he) ?_
                  intro q' h2' he
                  exact ft q' h2' he pc L c'.2.2.1 hh
                | some ot =>
                  rw [hh] at e
                  cases ot with
                  | none => cases e
                  | some t =>
                    dsimp only at e
                    obtain ⟨m2, w2⟩ := ih (d' + 1) y _ r e
                    have m2 : hN h' ≤ hN r.2 ∧ hU h' ≤ hU r.2 := m2
                    refine ⟨⟨Nat.le_trans m1.1 m2.1, Nat.le_trans m1.2 m2.2⟩, ?_⟩
                    intro D p l e0 R s m args below meth c Q N0 U0 cx h1 h2 h3 h4 fr ft
                    refine w1 D p l e0 R s m args below meth c Q N0 U0 d' (.inr q, h') cx (by omega) h2 (hMT D l) h283 m1.1 m1.2 (by show hN h' ≤ _; omega) (by show hU h' ≤ _; omega) (fun v' h2' he => by cases he) ?_
                    intro q' h2' he
                    cases he
                    exact catch_on hh cx (w2 D p l e0 R s m args below meth c Q N0 U0 cx h1 h2 h3 h4 fr ft)
      | inr k =>
        cases k with
        | inl f =>
          rw [hk] at e
          dsimp only at e
          cases hf : f (pc, L, st, h) with
          | none => rw [hf] at e; cases e
          | some v =>
            rw [hf] at e
            cases e
            refine ⟨⟨Nat.le_refl _, Nat.le_refl _⟩, ?_⟩
            intro D p l e0 R s m args below meth c Q N0 U0 cx h1 h2 h3 h4 fr ft
            exact fr v h rfl pc L st f hk hf
        | inr u =>
          rw [hk] at e hv
          dsimp only at e
          have hv : decode (mbyt y) pc = .ok (.athrow, 1) := hv
          match st, e with
          | .ref q :: rest, e =>
            dsimp only at e
            by_cases hq : isFl h q = true
            case neg => rw [if_neg hq] at e; cases e
            rw [if_pos hq] at e
            unfold mthr at e
            cases hh : mhand y pc with
            | none =>
              rw [hh] at e
              cases e
              refine ⟨⟨Nat.le_refl _, Nat.le_refl _⟩, ?_⟩
              intro D p l e0 R s m args below meth c Q N0 U0 cx h1 h2 h3 h4 fr ft H locs ls cells slots hRP hL
              exact vx_athrow cx.1 cx.2.1 hv (ft q h rfl pc L rest hh H locs ls cells slots hRP hL hq)
            | some ot =>
              rw [hh] at e
              cases ot with
              | none => cases e
              | some t =>
                dsimp only at e
                obtain ⟨m2, w2⟩ := ih d y _ r e
                refine ⟨m2, ?_⟩
                intro D p l e0 R s m args below meth c Q N0 U0 cx h1 h2 h3 h4 fr ft H locs ls cells slots hRP hL
                exact vx_athrow cx.1 cx.2.1 hv (catch_on (st := rest) hh cx (w2 D p l e0 R s m args below meth c Q N0 U0 cx h1 h2 h3 h4 fr ft) H locs ls cells slots hRP hL hq)
