/-! the lambda of fits: its making, its call -/
set_option maxRecDepth 100000
theorem ob_sp {α β : Type} {x : Option α} {f : α → Option β} {y : β} (h : x.bind f = some y) : ∃ a, x = some a ∧ f a = some y := Option.bind_eq_some_iff.mp h
theorem lam_pool {cf : ClassFile} {i : Nat} {σ : Jvm.Lambda.Shape} (h : Jvm.Lambda.shapeOf? cf i = some σ) : ∃ (b nt : Nat) (name desc : String) (sig : MethodDescriptor), cf.constantPool[i]? = some (.invokeDynamic b nt) ∧ cf.constantPool.nameAndType? nt = some (name, desc) ∧ parseLongMethodDescriptor desc = some sig ∧ sig.parameters.length = σ.captured.length := by
  unfold Jvm.Lambda.shapeOf? at h
  split at h
  case h_2 => cases h
  rename_i b nt hi
  obtain ⟨es, -, h⟩ := ob_sp h
  obtain ⟨bm, -, h⟩ := ob_sp h
  split at h
  case h_2 => cases h
  obtain ⟨-, -, h⟩ := ob_sp h
  rcases hb : bm.bootstrapArguments with ⟨l⟩
  rw [hb] at h
  have h3 : ∃ a0 a1 a2, l = [a0, a1, a2] := by
    match l, h with
    | [], h => exact absurd (show (none : Option Jvm.Lambda.Shape) = some σ from h) (by simp)
    | [_], h => exact absurd (show (none : Option Jvm.Lambda.Shape) = some σ from h) (by simp)
    | [_, _], h => exact absurd (show (none : Option Jvm.Lambda.Shape) = some σ from h) (by simp)
    | [a0, a1, a2], h => exact ⟨a0, a1, a2, rfl⟩
    | _ :: _ :: _ :: _ :: _, h => exact absurd (show (none : Option Jvm.Lambda.Shape) = some σ from h) (by simp)
  obtain ⟨a0, a1, a2, rfl⟩ := h3
  unfold Jvm.Lambda.shapeOf?.match_15 at h
  dsimp only at h
  rw [dif_pos (show ({ toList := [a0, a1, a2] } : Array Nat).size = 3 from rfl)] at h
  split at h
  case h_2 => cases h
  split at h
  case h_2 => cases h
  split at h
  case h_2 => cases h
  obtain ⟨⟨name, desc⟩, hnt, h⟩ := ob_sp h
  obtain ⟨site, hsite, h⟩ := ob_sp h
  split at h
  case h_2 => cases h
  obtain ⟨w, -, h⟩ := ob_sp h
  obtain ⟨d0, -, h⟩ := ob_sp h
  obtain ⟨d1, -, h⟩ := ob_sp h
  obtain ⟨d2, -, h⟩ := ob_sp h
  obtain ⟨d3, -, h⟩ := ob_sp h
  obtain ⟨d4, -, h⟩ := ob_sp h
  refine ⟨b, nt, name, desc, site, hi, hnt, parseLong_of_parse hsite, ?_⟩
  cases h
  rfl
theorem obj_types {s : State} {args : Array Value} (hts : ∀ w ∈ lw_all, w.before args s = true) : ∀ o ok, s.vm.findClass "java/lang/Object" = some o → s.vm.classes[o]? = some ok → ok.instanceTypes.size = 0 := by
  intro o ok h1 h2
  obtain ⟨c, k, g1, g2, -, -, -, g6⟩ := Cond.instantiable_spec (hts _ q1933)
  cases h1.symm.trans g1
  cases h2.symm.trans g2
  exact g6
theorem lam_ok : SN 258 164 i_lam := by
  have hd : decode (mbyt 258) 164 = .ok (.invokedynamic 556, 5) := by decide +kernel
  intro L st h c' hf
  match st, hf with
  | .int x :: .ref a :: r, hf =>
    obtain ⟨hl, rfl⟩ := opt_if hf
    refine ⟨⟨Nat.le_succ _, Nat.le_add_right _ _⟩, fun D p l e R s m args below meth c Q N0 U0 cx ro hn hu w => ?_⟩
    intro H locs ls cells slots hRP hL
    obtain ⟨hR, hS, hcl, hsl⟩ := hRP
    have hn : hN h + 1 ≤ N0 + R.cells := hn
    have hu : hU h + 2 ≤ U0 + R.slots := hu
    have hcl : cells + N0 = hN h := hcl
    have hsl : slots + U0 = hU h := hsl
    have hK := kt_of cx
    have hlam := hK.2.2.2.2.2.2.2.1.1
    obtain ⟨m', kS, cfS, i0, p0, lk, hm', hkS, hcfS, hsh, -, hfind, hmade, hcan, hlk⟩ := State.lambdaAt?_spec hlam
    have hnm : s.methodNamed? lamN = some m := cx.2.2.2.2.2.1.2
    cases hnm.symm.trans hm'
    obtain ⟨rfl, -, -⟩ : lk = .makes (dL D) ∧ (none : Option Addr) = none ∧ lamS.captured ≠ [] := by
      rcases hlk with ⟨a, cell, -, h0, -⟩ | h
      · cases h0
      · exact h
    obtain ⟨kS', hkS', hnameS⟩ := className_of_methodNamed hnm
    cases hkS.symm.trans hkS'
    obtain ⟨b, nt, name, desc, sig, g1, g2, g3, g4⟩ := lam_pool hsh
    obtain ⟨kK, tk, file, methk, ck, toy, t, f0, f1, ⟨hkK, -⟩, -, -, -, -, -, hkind, hty⟩ := lam_facts hkS hnameS hmade (obj_types cx.2.2.2.2.2.2.2.1)
    have hE : ((kK.instanceTypes.toList.zip [Value.ref a, Value.int x]).map fun (t, v) => narrow t v) = [Value.ref a, Value.int x] := by rw [hty]; rfl
    intro T hT X
    have hcat := cat_sum hl
    have hlo := ro.2
    obtain ⟨X', st'⟩ := X.lambdaMakes cx.1 (g := F0 m 164 ls (.int x :: .ref a :: r)) rfl (hL.1.trans cx.2.2.1.symm) (by rw [cx.2.1]; exact hd) (vals := [.ref a, .int x]) (rest := r) hkS hfind hcfS g1 g2 g3 (by rw [g4]; rfl) rfl hkK
      (by
        rw [X.admits.platform]
        show 2 * 0 + (1 + (1 + (r.map fun v => v.category).sum)) + 3072 ≤ R.locals
        omega) (by omega) (by rw [hE]; show slots + 2 ≤ R.slots; omega)
      (fun i v hv => by
        rw [hE] at hv
        match i, hv with
        | 0, hv => simp at hv; subst hv; simp [State.fitsSlot, State.slotType?, hkK, hkind, hty, fits]
        | 1, hv => simp at hv; subst hv; simp [State.fitsSlot, State.slotType?, hkK, hkind, hty, fits]
        | j + 2, hv => simp at hv)
    rw [hE] at X' st'
    have z1 : (T.pushCell { cls := dL D, slots := #[Value.ref a, Value.int x], vm := .none }).heap.size = H.size + 1 := by
      rw [← hT]; exact Array.size_push _
    have o1 : ∀ q : Nat, q < H.size → (T.pushCell { cls := dL D, slots := #[Value.ref a, Value.int x], vm := .none }).heap[q]? = H[q]? := fun q hq => by
      rw [← hT] at hq ⊢
      exact State.heap_pushCell_of_lt _ _ hq
    have e1 : (T.pushCell { cls := dL D, slots := #[Value.ref a, Value.int x], vm := .none }).heap[H.size]? = some { cls := dL D, slots := #[Value.ref a, Value.int x], vm := .none } := by
      rw [← hT]; exact State.heap_pushCell_size _ _
    have hz := dz_new hR hS hK
    obtain ⟨t2, a1, b1⟩ := w (T.pushCell { cls := dL D, slots := #[Value.ref a, Value.int x], vm := .none }).heap locs ls (cells + 1) (slots + 2)
      ⟨Rep_new (t := 14) (n := 2) hR (fun b hb => T_nwo h 14 2 b hb) (T_nwn h 14 2) rfl rfl (fun b hb j => by
          show (if b = hN h ∧ j = 1 then x else hI (sP (nw h 14 2) (hN h) 0 (some a)) b j) = _
          rw [if_neg (fun q => hb q.1)]; exact I_nwo h 14 2 b hb j) (fun b hb j => by
          show (if b = hN h ∧ j = 0 then some a else hP (nw h 14 2) b j) = _
          rw [if_neg (fun q => hb q.1)]; exact P_nwo h 14 2 b hb j) z1 o1 ⟨hz, by
            have e1' := e1
            rw [hR.1] at e1'
            refine e1'.trans ?_
            have q1 : hP (sI (sP (nw h 14 2) (hN h) 0 (some a)) (hN h) 1 x) (hN h) 0 = some a := if_pos ⟨rfl, rfl⟩
            have q2 : hI (sI (sP (nw h 14 2) (hN h) 0 (some a)) (hN h) 1 x) (hN h) 1 = x := if_pos ⟨rfl, rfl⟩
            show _ = some ({ cls := dL D, slots := #[va_rf (hP (sI (sP (nw h 14 2) (hN h) 0 (some a)) (hN h) 1 x) (hN h) 0), .int (hI (sI (sP (nw h 14 2) (hN h) 0 (some a)) (hN h) 1 x) (hN h) 1)], vm := .none } : Cell)
            rw [q1, q2]; rfl⟩, S_new hS z1 o1, by show cells + 1 + N0 = hN h + 1; omega, by show slots + 2 + U0 = hU h + 2; omega⟩ hL _ rfl X'
    refine ⟨t2, st' t2 ?_, b1⟩
    have e2 : T.heap.size = hN h := by rw [hT]; exact hR.1
    rw [e2]
    exact a1
theorem obj_warm {s : State} {vm : Vm} (hW : s.WarmedH vm) (h : ∀ o ok, s.vm.findClass "java/lang/Object" = some o → s.vm.classes[o]? = some ok → ok.instanceTypes.size = 0) : ∀ o ok, vm.findClass "java/lang/Object" = some o → vm.classes[o]? = some ok → ok.instanceTypes.size = 0 := by
  intro o ok h1 h2
  rw [hW.alike.findClass] at h1
  cases hk : s.vm.classes[o]? with
  | none => rw [hW.alike.none hk] at h2; cases h2
  | some k0 =>
    obtain ⟨k', hk', he⟩ := hW.alike.2.2 _ _ hk
    cases h2.symm.trans hk'
    rw [he]
    exact h o k0 h1 hk
theorem sc_L {pc : Nat} (hd : decode (mbyt 186) pc = .ok (.invokeinterface 24 2, 5)) : SC 186 pc (i_inL 283) := by
  intro L st h y0 as c' hf
  match st, hf with
  | .int k :: .ref a :: rest, hf =>
    unfold i_inL at hf
    dsimp only at hf
    by_cases hdl : rest.length ≤ 4
    case neg => rw [if_neg hdl] at hf; cases hf
    rw [if_pos hdl] at hf
    generalize hta : hT h a = ot at hf
    generalize hpa : hP h a 0 = op at hf
    match ot, op, hf with
    | some (t, nn), some o, hf =>
      dsimp only at hf
      obtain ⟨⟨h14, hoE⟩, he⟩ := opt_if hf
      cases he
      clear hf
      subst h14
      refine ⟨rfl, rfl, by show 3 ≤ mmax 283; decide, fun D p l e R s m args below meth c Q N0 U0 d r cx hfr hlo hM h283 hn1 hu1 hn2 hu2 kk kx => ?_⟩
      intro H locs ls cells slots hRP hL
      obtain ⟨hR, hS, hcl, hsl⟩ := hRP
      have hcl : cells + N0 = hN h := hcl
      have hsl : slots + U0 = hU h := hsl
      obtain ⟨xr, h', rfl⟩ := h283 rfl
      have hn1 : hN h ≤ hN h' := hn1
      have hu1 : hU h ≤ hU h' := hu1
      have hn2 : hN h' ≤ N0 + R.cells := hn2
      have hu2 : hU h' ≤ U0 + R.slots := hu2
      obtain ⟨mc, hmc⟩ : ∃ mc, hN h' = hN h + mc := ⟨hN h' - hN h, by omega⟩
      obtain ⟨ms, hms⟩ : ∃ ms, hU h' = hU h + ms := ⟨hU h' - hU h, by omega⟩
      have hM := hM mc ms hmc hms
      rw [mws_ne (by decide)] at hM
      have hts := cx.2.2.2.2.2.2.2.1
      have hK := kt_of cx
      obtain ⟨hlam, hdecl, hface⟩ := hK.2.2.2.2.2.2.2.1
      obtain ⟨hz, hcell⟩ : dZ D ≤ a ∧ H[a]? = some ({ cls := dL D, slots := #[va_rf (hP h a 0), .int (hI h a 1)], vm := .none } : Cell) := hR.2.2 a 14 nn hta
      rw [hpa] at hcell
      generalize hI h a 1 = i1 at hcell hM
      obtain ⟨mD, kD, cfD, i0, p0, lk, hmD, hkD, -, -, -, -, hmade, hcan, -⟩ := State.lambdaAt?_spec hlam
      obtain ⟨kD', hkD', hnameD⟩ := className_of_methodNamed hmD
      cases hkD.symm.trans hkD'
      have hO := obj_types hts
      obtain ⟨kK, tk, file, methk, ckK, toy, t, f0, f1, ⟨hkK, hkn, hfile, hpool⟩, ⟨hmk, hckK, hbytes, hml, hlk, hfl, hretk⟩, -, -, -, -, -, -⟩ := lam_facts hkD hnameD hmade hO
      obtain ⟨r0, rm, hn, hrm, hstR, hsigR⟩ := Cond.declares_spec hdecl
      obtain ⟨cL, kL, r1, hcL, hkL, hiL, hfoundL, hn1'⟩ := Cond.interfaceMethod_spec hface
      cases hn.symm.trans hn1'
      have hr0cls : r0.cls = cL := Option.some.inj ((findClass_of_methodNamed hn).symm.trans hcL)
      obtain ⟨hnameR, hdescR⟩ := name_of_methodNamed hn hrm
      obtain ⟨-, -, -, -, -, -, -, iface', -, -, -, -, found, -, -, -, -, -, hi', -, -, -, -, -, -, hfound', -, -, -, -, -, -, -, -, -, -, hsel⟩ := Jvm.Lambda.isMade_spec hmade
      cases hcL.symm.trans hi'
      have hfr0 : found = r0 := by
        have h1 : s.methodFound? "Encores$Measure" "of" "(I)I" = some r0 := hfoundL
        have hcL' : s.vm.findClass "Encores$Measure" = some cL := hcL
        simp only [State.methodFound?, hcL', hkL, hiL, Option.bind_eq_bind, Option.bind_some] at h1
        have h2 : ((methodIn cL "of" "(I)I" true none).ask { classPath := fun _ => none } s.vm).1 = .ok found := hfound'
        rw [h2] at h1
        exact Option.some.inj h1
      subst hfr0
      obtain ⟨i2, hi2, hasg, hway⟩ := State.lambdaCallable_spec hcan
      cases hcL.symm.trans hi2
      have e1 : lamS.sam.toString = "(I)I" := lam_sam
      have hsigI : rm.sig = ⟨[.int], some .int⟩ := (Option.some.inj ((by decide +kernel : parseMethodDescriptor "(I)I" = some ⟨[.int], some .int⟩).symm.trans hsigR)).symm
      intro T hTe X
      have hdg : decode c.code pc = .ok (.invokeinterface 24 2, 5) := by rw [cx.2.1]; exact hd
      obtain ⟨vm₁, X₁, hstep₁⟩ := X.invokeinterface cx.1 (own := "Encores") cx.2.2.2.2.2.2.1 (hts _ q1185) hn hrm hstR (by rw [hr0cls]; exact hkL) hiL (by decide) (a := a) (kcell := kK) (by rw [hTe]; exact hcell) (fun z h => by cases h) hkK (by rw [hr0cls]; exact hasg)
        (m' := ⟨dL D, 1⟩) (meth' := methk) (by rw [Launch.admits_selectMethod X.admits]; exact hsel) hmk (by rw [hnameR, hdescR]; rw [e1] at hway; exact hway) (by rw [hfl]; decide) (by simp [Method.isAbstract, hfl, hasFlag, Acc.abstract])
        (g := F0 m pc ls (.int k :: .ref a :: rest)) rfl (argsL := [.int k]) (rest := rest) (by rw [hsigI]; rfl) rfl hdg
      have hW₁ : s.WarmedH vm₁ := X₁.warmed
      obtain ⟨kD₁, hkD₁, heD₁⟩ := hW₁.alike.2.2 _ _ hkD
      obtain ⟨kK₁, tk₁, file₁, methk₁, ck₁, toy₁, t₁, f0₁, f1₁, ⟨hkK₁, hkn₁, hfile₁, hpool₁⟩, ⟨hmk₁, hck₁, hbytes₁, hml₁, hlk₁, hfl₁, hretk₁⟩, ⟨htoy₁, htk₁, hitf₁, hlook₁⟩, ⟨hready₁, hclsR₁⟩, ⟨hf0₁, hf0s₁, hf0t₁⟩, ⟨hf1₁, hf1s₁, hf1t₁⟩, -, -⟩ := lam_facts hkD₁ (by rw [heD₁]; exact hnameD) (Jvm.Lambda.isMade_warmer hW₁ hmade) (obj_warm hW₁ hO)
      -- the method under the lambda
      have hcodeT := hts _ q1180
      obtain ⟨mT, hmT⟩ := Cond.code_named hcodeT
      obtain ⟨methT, cT, hmethT, hcT, hbytesT, hlocT, hretT, hlocksT, -, hsigT⟩ := Cond.code_spec hmT hcodeT
      have hfT : s.vm.findClass "Encores" = some mT.cls := findClass_of_methodNamed hmT
      have hfT₁ : vm₁.findClass "Encores" = some mT.cls := by rw [hW₁.alike.findClass]; exact hfT
      cases htoy₁.symm.trans hfT₁
      have ht₁ : t₁ = mT := by
        have h1 : (s.setVm vm₁).methodFound? "Encores" "lambda$fits$0" "(II)I" = some mT := by rw [State.methodFound?_setVm hW₁.alike]; exact State.methodFound?_of_named hmT (by decide)
        simp only [State.methodFound?, State.vm_setVm, hfT₁, htk₁, Option.bind_eq_bind, Option.bind_some] at h1
        rw [hlook₁] at h1
        exact Option.some.inj h1
      subst ht₁
      have hmethT₁ : vm₁.method? t₁ = some methT := by rw [hW₁.alike.method?]; exact hmethT
      obtain ⟨mI, methI, hnI, hmI, hstI, habI⟩ := Cond.instanceMethod_spec (hts _ q1179)
      cases hmT.symm.trans hnI
      cases hmethT.symm.trans hmI
      obtain ⟨kT, hkT, hnameT⟩ := className_of_methodNamed hmT
      obtain ⟨kT₁, hkT₁, heT₁⟩ := hW₁.alike.2.2 _ _ hkT
      cases htk₁.symm.trans hkT₁
      have hnm : tk₁.name ≠ "java/lang/invoke/MethodHandle" ∧ tk₁.name ≠ "java/lang/invoke/VarHandle" := by
        have : tk₁.name = "Encores" := by rw [heT₁]; exact hnameT
        rw [this]; decide
      have hsp : ∀ y : Method, signaturePolymorphic tk₁ y = false := fun y => by simp [signaturePolymorphic, hnm.1, hnm.2]
      have hsigTI : methT.sig = ⟨[.int, .int], some .int⟩ := (Option.some.inj ((by decide +kernel : parseMethodDescriptor "(II)I" = some ⟨[.int, .int], some .int⟩).symm.trans hsigT)).symm
      have hpk : (T.setVm vm₁).plainMethod ⟨dL D, 1⟩ := State.plainMethod.of_name (fun k' hk' => by cases hkK₁.symm.trans hk'; rw [hkn₁]; decide)
      have hcat := cat_sum hdl
      obtain ⟨Y₀, hin⟩ := X₁.into (g := F0 m pc ls rest) rfl (hL.1.trans cx.2.2.1.symm) hdg #[.ref a, .int k] (R' := { frames := 2 * d + 2, cells := mc, slots := ms, locals := 64 * d + 3224 }) hmk₁ hck₁ hlk₁ hpk (by show 2 * d + 2 + 1 ≤ R.frames; omega)
        (by rw [hml₁]; show 2 * 0 + (rest.map fun v => v.category).sum + (2 + 11) + (64 * d + 3224) ≤ R.locals; omega) (by show cells + mc ≤ R.cells; omega) (by show slots + ms ≤ R.slots; omega)
      have hS0v : ((T.setVm vm₁).calling (F0 m pc ls rest) ⟨dL D, 1⟩ #[.ref a, .int k]).vm = vm₁ := rfl
      have hS0h : ((T.setVm vm₁).calling (F0 m pc ls rest) ⟨dL D, 1⟩ #[.ref a, .int k]).heap = T.heap := rfl
      generalize hS0 : (T.setVm vm₁).calling (F0 m pc ls rest) ⟨dL D, 1⟩ #[.ref a, .int k] = S0 at Y₀ hS0v hS0h
      generalize hUe : ((T.setVm vm₁).setTop (F0 m pc ls rest)).pushFrame (.java (entryFrame ⟨dL D, 1⟩ #[.ref a, .int k] ck₁.maxLocals)) = U at Y₀ hin
      have hvm : U.vm = vm₁ := by rw [← hUe]; rfl
      have hheap : U.heap = H := by rw [← hUe, ← hTe]; rfl
      have hws : ∀ w ∈ ws_ (mname 283) (mbyt 283) (mmax 283) (mret 283), ∀ (a' : Array Value) (V : State), S0.WarmedH V.vm → w.before a' V = true := by
        intro w hw a' V hV
        have hWV : s.WarmedH V.vm := State.WarmedH.trans (show s.WarmedH S0.vm by rw [hS0v]; exact hW₁) hV
        obtain ⟨g1, g2⟩ := lw_meth (y := mname 283) (b := mbyt 283) (L := mmax 283) (r := mret 283) q1180 w hw
        exact word_at hWV g2 (hts _ g1)
      have hnamedU : U.methodNamed? (mname 283) = some t₁ := by
        have : (s.setVm vm₁).methodNamed? (mname 283) = some t₁ := by rw [State.methodNamed?_setVm hW₁.alike]; exact hmT
        have e : U.methodNamed? (mname 283) = (s.setVm U.vm).methodNamed? (mname 283) := rfl
        rw [e, hvm]; exact this
      have hback : vx_Back l { frames := 2 * d + 2, cells := mc, slots := ms, locals := 64 * d + 3224 } p e (.java (F0 m pc ls rest) :: below) S0 #[.ref a, .int k] (mname 283) 3 0 (PreOf { frames := 2 * d + 2, cells := mc, slots := ms, locals := 64 * d + 3224 } mc ms (Pcl D [.ref o, .int i1, .int k] h)) (PostOf (Qcl D (.inl (some (.int xr)), h')) mc ms (dF D)) (vx_Post (Xcl D (.inl (some (.int xr)), h')) mc ms (dF D)) :=
        vx_back (bytes := mbyt 283) (maxL := mmax 283) (ret := mret 283) hM Pcl_blind rfl rfl (by show 2 * d + 1 + 1 ≤ 2 * d + 2; omega) (by show 0 + (3 + 11) + (64 * d + 3200) ≤ 64 * d + 3224; omega) hws List.mem_cons_self (fun a' V hV => by
          have hWV : s.WarmedH V.vm := State.WarmedH.trans (show s.WarmedH S0.vm by rw [hS0v]; exact hW₁) hV
          exact word_at hWV (Or.inl rfl) (hts _ q134))
      have hloc : entryFrame ⟨dL D, 1⟩ #[.ref a, .int k] ck₁.maxLocals = { method := ⟨dL D, 1⟩, pc := 0, locals := #[.val (.ref a), .val (.int k)], stack := [], locked := none } := by rw [hml₁]; rfl
      rcases hback ⟨dL D, 1⟩ methk₁ ck₁ (U, [], 0, 0) { method := ⟨dL D, 1⟩, pc := 9, locals := #[.val (.ref a), .val (.int k)], stack := [], locked := none } (.invokevirtual 27) t₁ #[.ref o, .int i1, .int k] Y₀ rfl (by rw [hml₁]; rfl) (by rw [hbytes₁]; exact ld_9) (Nat.le_refl _) hnamedU
        ⟨by show 0 + mc ≤ mc; omega, by show 0 + ms ≤ ms; omega, ⟨rfl, by show Rep D h U.heap; rw [hheap]; exact hR, KT_warm (by rw [hvm]; exact hW₁) (by rw [hheap]; exact hS.1) (fun q h1 h2 => by rw [hheap]; exact hS.2.1 q h1 h2) hK⟩⟩ with ⟨v, ⟨U3, L3, c3, s3⟩, Y₁, ⟨g', mk', t2, L2, e1, e2, ⟨⟨v', h2, hr2, ho2, hRep2⟩, hF2⟩, l1, l2, l3, l4⟩, st2⟩ | ⟨q, ⟨U3, L3, c3, s3⟩, Y₁, ⟨g', mk', t2, L2, E, ce, e1, e2, ⟨⟨h2, hr2, -⟩, -⟩, -⟩, -⟩
      case inr => cases hr2
      cases hr2
      cases ho2
      dsimp only [Pt.U, Pt.locs, Pt.cells, Pt.slots] at Y₁ e1 e2 l1 l3 l4 st2
      have l1 : L3 = [] ++ L2 := l1
      have l3 : c3 = 0 + mc := l3
      have l4 : s3 = 0 + ms := l4
      subst l1; subst l3; subst l4
      obtain ⟨fs, hleave, -, hended, hWe, hsame⟩ := Y₁.leave (v := some (.int xr)) (fun h => by rw [hretk₁] at h; cases h) hlk₁
      obtain ⟨T', X', hW', -, ht⟩ := X₁.outOf (g := F0 m pc ls rest) rfl hdg hended (by rw [hS0]; exact hWe) (by rw [hS0]; exact hsame)
      have eh : T'.heap = t2.heap := by
        rw [← e1]
        have := congrArg State.heap ht
        exact this.symm
      rw [Nat.zero_add, Nat.zero_add] at X'
      obtain ⟨k1, k2, k3⟩ := vx_keep (st₀ := U.calling g' mk' #[.ref o, .int i1, .int k]) (free := dF D) (show (U.calling g' mk' #[.ref o, .int i1, .int k]).heap = H from hheap) eh hS (fun _ _ z => z) (fun _ z => z) l2 hF2
      obtain ⟨t3, a3, b3⟩ := kk (some (.int xr)) h' rfl T'.heap (locs ++ L3) ls (cells + mc) (slots + ms) ⟨by rw [eh]; exact hRep2, k3, by show cells + mc + N0 = hN h'; omega, by show slots + ms + U0 = hU h'; omega⟩ hL T' rfl X'
      refine ⟨t3, hstep₁ _ fun acts => ?_, b3⟩
      rw [hin acts]
      have a4 : Steps p.tables e below (U3.setFrames fs) t3 := by rw [ht]; exact a3
      refine Steps.trans ?_ a4
      refine Steps.weaken (mid := [.java (F0 m pc ls rest)]) ?_
      rw [hloc]
      have hs : U.topJava?.isSome := Y₀.here.top
      have hcellU : U.heap[a]? = some ({ cls := dL D, slots := #[.ref o, .int i1], vm := .none } : Cell) := by rw [hheap]; exact hcell
      obtain ⟨cellB, hcB, hoB1, hoB2⟩ : ∃ cellB : Cell, U.heap[o]? = some cellB ∧ (∀ k, cellB.vm ≠ .statics k) ∧ selectMethod e.platform U.vm cellB.cls t₁ = .method t₁ := by
        unfold okE at hoE
        generalize hto : hT h o = to at hoE
        match to, hoE with
        | some (t, n0), hoE =>
          have ht0 := of_decide_eq_true hoE
          subst ht0
          obtain ⟨-, cell, g1, g2, g3, -⟩ := rep_obj hR hto (by omega)
          obtain ⟨c2, r2, m2, q1, q2, q3, q4, kP, hkP, hkPi⟩ := Cond.selects_spec (hts _ qs47)
          have hcls : s.vm.findClass "Encores" = some cell.cls := by rw [g2]; exact (hK.2.1.1 0 _ rfl).2.1
          cases hcls.symm.trans q1
          cases (State.methodFound?_of_named hmT (by decide)).symm.trans q2
          cases hmT.symm.trans q3
          refine ⟨cell, by rw [hheap]; exact g1, (fun k hk => by rw [g3] at hk; cases hk), ?_⟩
          rw [hvm, Launch.admits_selectMethod X.admits, hW₁.alike.selectMethod]
          exact q4
      jvm_step Y₀.here [cx.1, hbytes₁, ld_0, Value.isRef]
      jvm_step Y₀.here [cx.1, hbytes₁, ld_1, getfield.wp_ready (e := e) (s := U) (c := dL D) (field := f0₁) (a := a) (rest := []) (cell := { cls := dL D, slots := #[.ref o, .int i1], vm := .none }) (v := .ref o)
        (f := { method := ⟨dL D, 1⟩, pc := 1, locals := #[.val (.ref a), .val (.int k)], stack := [.ref a], locked := none }) hs (by rw [hvm]; exact hf0₁) hf0s₁ rfl hcellU (by simp) (by rw [hf0t₁]; rfl)]
      jvm_step Y₀.here [cx.1, hbytes₁, ld_4, Value.isRef]
      jvm_step Y₀.here [cx.1, hbytes₁, ld_5, getfield.wp_ready (e := e) (s := U) (c := dL D) (field := f1₁) (a := a) (rest := [.ref o]) (cell := { cls := dL D, slots := #[.ref o, .int i1], vm := .none }) (v := .int i1)
        (f := { method := ⟨dL D, 1⟩, pc := 5, locals := #[.val (.ref a), .val (.int k)], stack := [.ref a, .ref o], locked := none }) hs (by rw [hvm]; exact hf1₁) hf1s₁ rfl hcellU (by simp) (by rw [hf1t₁]; rfl)]
      jvm_step Y₀.here [cx.1, hbytes₁, ld_8]
      jvm_step Y₀.here [cx.1, hbytes₁, ld_9, invokevirtual.wp_ready (e := e) (s := U) (r := t₁) (m := t₁) (k := tk₁) (mk := tk₁) (rmeth := methT) (meth := methT) (a := o) (args := [.int i1, .int k]) (rest := []) (cell := cellB)
        (f := { method := ⟨dL D, 1⟩, pc := 9, locals := #[.val (.ref a), .val (.int k)], stack := [.int k, .int i1, .ref o], locked := none }) hs ⟨kK₁, file₁, 23, 26, _, tk₁, by rw [hvm]; exact hkK₁, hfile₁, by rw [hpool₁]; exact lam_M.1, by rw [hvm]; exact hclsR₁, by rw [hvm]; exact htk₁, hitf₁⟩ (by rw [hvm]; exact hready₁) (by rw [hvm]; exact htk₁) (by rw [hvm]; exact hmethT₁) (hsp _) hstI (by rw [hsigTI]; rfl) rfl
        hcB hoB1 hoB2 (by rw [hvm]; exact hmethT₁) habI (by rw [hvm]; exact htk₁) hitf₁]
      intro acts'
      rw [doInvoke_state]
      refine st2.trans ?_
      show Steps p.tables e (.java (F0 m pc ls rest) :: below) (U3.setTop { method := ⟨dL D, 1⟩, pc := 12, locals := #[.val (.ref a), .val (.int k)], stack := [.int xr], locked := none }) _
      jvm_step Y₁.here [Y₁.here.top, cx.1, hbytes₁, ld_12, Y₁.method', hretk₁, narrow]
      intro acts''
      rw [hleave { method := ⟨dL D, 1⟩, pc := 12, locals := #[.val (.ref a), .val (.int k)], stack := [], locked := none } acts'' rfl rfl rfl]
      exact Steps.refl _
theorem inL_ok_19 : SC 186 19 (i_inL 283) := sc_L (by decide +kernel)
theorem inL_ok_26 : SC 186 26 (i_inL 283) := sc_L (by decide +kernel)
