/-! arraycopy; calls -/
section
variable {y pc : Nat}
theorem tcn_int {z : Int32} (h : 0 ≤ z) : z.toInt = (z.toNatClampNeg : Int) := by
  have hz0 : (0 : Int) ≤ z.toInt := by simpa using Int32.le_iff_toInt_le.mp h
  show z.toInt = ((z.toInt.toNat : Nat) : Int)
  omega
theorem w_copy {α : Type} (mk : α → Value) {cc : ByteArray} {p : Program} {l : Launch} {e : Env} {R : Room} {s : State} {m : MethodId} {args : Array Value} {below : List Frame} {meth : Method} {c : Code} {Q : State → Prop} {H : Heap} {locs : List Loc} {cells slots : Nat} {ls : Array Slot} {rest : List Value} (hexec : p.tables.exec = Jvm.exec) (hb : c.code = cc) (hml : c.maxLocals = ls.size) {own : String} {index : Nat} (hown : s.vm.findClass own = some m.cls) (hlink : (Cond.methodLink own index arraycopyName).before args s = true) (hnat : (Cond.native arraycopyName).before args s = true) (hstat : (Cond.static arraycopyName).before args s = true) (hini : (Cond.initialized "java/lang/System").before args s = true)
    {a0 a : Nat} {cA : ClassId} {n0 n1 : Nat} {f g : Nat → α} {ty : FieldType} {kA : Class} {comp : ClassId} (hc0 : H[a0]? = some (arrV cA n0 (fun j => mk (f j)))) (hc1 : H[a]? = some (arrV cA n1 (fun j => mk (g j)))) (hk : s.vm.classes[cA]? = some kA) (hkind : kA.kind = .array comp ty)
    {sp dp n : Int32} (h1 : 0 ≤ sp) (h2 : 0 ≤ dp) (h3 : 0 ≤ n) (h4 : sp.toNatClampNeg + n.toNatClampNeg ≤ n0) (h5 : dp.toNatClampNeg + n.toNatClampNeg ≤ n1) (hel : ∀ (T : State), T.heap = H → ∀ vm', s.vm.Alike vm' → ∀ i, i < n.toNatClampNeg → fits ty (mk (f (sp.toNatClampNeg + i))) = true ∧ (T.setVm vm').takes comp (mk (f (sp.toNatClampNeg + i))))
    (hframes : 1 ≤ R.frames) (hlocals : (rest.map fun v => v.category).sum + (nativeFrameWords "java/lang/System" "arraycopy" 5 + 11) ≤ R.locals) (hdg : decode cc pc = .ok (.invokestatic index, 3))
    (kk : ∀ (H1 : Heap) (L1 : List Loc), H1[a]? = some (arrV cA n1 (fun j => mk (va_cpy f g sp.toNatClampNeg dp.toNatClampNeg n.toNatClampNeg j))) → H1.size = H.size → (∀ q : Nat, q ≠ a → H1[q]? = H[q]?) → (∀ z ∈ L1, z.base = a) → W p l e R s m args below meth c H1 (locs ++ L1) cells slots Q (F0 m (pc + 3) ls rest)) : W p l e R s m args below meth c H locs cells slots Q (F0 m pc ls (.int n :: .int dp :: .ref a :: .int sp :: .ref a0 :: rest)) := by
  intro T hT X
  have hgetD : ∀ i, i < n.toNatClampNeg → (arrV cA n0 (fun j => mk (f j))).slots.getD (sp.toNatClampNeg + i) .null = mk (f (sp.toNatClampNeg + i)) := by
    intro i hi
    rw [Array.getD_eq_getD_getElem?, arrV_read _ _ (by omega)]
    rfl
  obtain ⟨vm', X', step⟩ := X.arraycopy hexec hown hlink hnat hstat hini (src := a0) (dst := a) (srcPos := sp) (destPos := dp) (n := n) (by rw [hT]; exact hc0) (by rw [hT]; exact hc1)
    (fun _ z => by cases z) (fun _ z => by cases z) (fun z => by cases z) (fun z => by cases z) hk hk hkind hkind (by simp) (i32_nlt h1) (i32_nlt h2) (i32_nlt h3)
    (by rw [tcn_int h1, tcn_int h3, arrV_size]; omega) (by rw [tcn_int h2, tcn_int h3, arrV_size]; omega)
    (fun vm₁ hal i hi => by rw [hgetD i hi]; exact hel T hT vm₁ hal i hi)
    (g := F0 m pc ls (.int n :: .int dp :: .ref a :: .int sp :: .ref a0 :: rest)) rfl (by rw [hml]) (rest := rest) rfl (by rw [hb]; exact hdg) hframes (by show 2 * 0 + _ + _ ≤ _; omega)
  have e1 : copied (arrV cA n0 (fun j => mk (f j))) (arrV cA n1 (fun j => mk (g j))) sp dp n = arrV cA n1 (fun j => mk (va_cpy f g sp.toNatClampNeg dp.toNatClampNeg n.toNatClampNeg j)) := va_copied mk cA cA f g h4
  rw [e1] at X' step
  have hl : a < H.size := (Array.getElem?_eq_some_iff.mp hc1).1
  have hheap : ((T.setVm vm').setCell a (arrV cA n1 (fun j => mk (va_cpy f g sp.toNatClampNeg dp.toNatClampNeg n.toNatClampNeg j)))).heap = H.setIfInBounds a (arrV cA n1 (fun j => mk (va_cpy f g sp.toNatClampNeg dp.toNatClampNeg n.toNatClampNeg j))) := by rw [← hT]; rfl
  obtain ⟨t, a1, b1⟩ := kk _ _ (show (H.setIfInBounds a _)[a]? = some _ by simp [Array.getElem?_setIfInBounds, hl]) (by simp) (fun q hq => by simp [Array.getElem?_setIfInBounds, Ne.symm hq]) (fun z hz => by
    obtain ⟨w, -, hw⟩ := List.mem_map.mp hz
    rw [← hw]) _ hheap X'
  exact ⟨t, step t a1, b1⟩
theorem S_put {A : Nat → Prop} {H0 H H1 : Heap} {locs L1 : List Loc} {a : Nat} (hS : va_S A H0 H locs) (z : H1.size = H.size) (oq : ∀ q : Nat, q ≠ a → H1[q]? = H[q]?) (ha : A a) (hL : ∀ z ∈ L1, z.base = a) : va_S A H0 H1 (locs ++ L1) := by
  refine ⟨by rw [z]; exact hS.1, fun q h1 h2 => ?_, fun q hq => ?_⟩
  · rw [oq q (fun e => h2 (by rw [e]; exact ha))]
    exact hS.2.1 q h1 h2
  · rcases List.mem_append.mp hq with h1 | h1
    · exact hS.2.2 q h1
    · rw [hL q h1]
      exact ha
theorem hI_cIb {h : mH} {a b sp dp n : Nat} : hI (cI h a b sp dp n) b = va_cpy (hI h a) (hI h b) sp dp n := by
  funext j
  show (if b = b ∧ dp ≤ j ∧ j < dp + n then hI h a (sp + (j - dp)) else hI h b j) = _
  simp only [true_and]
  rfl
theorem hP_cPb {h : mH} {a b sp dp n : Nat} : hP (cP h a b sp dp n) b = va_cpy (hP h a) (hP h b) sp dp n := by
  funext j
  show (if b = b ∧ dp ≤ j ∧ j < dp + n then hP h a (sp + (j - dp)) else hP h b j) = _
  simp only [true_and]
  rfl
theorem cI_off {h : mH} {a b sp dp n : Nat} (q : Nat) (hq : q ≠ b) (j : Nat) : hI (cI h a b sp dp n) q j = hI h q j := if_neg (fun z => hq z.1)
theorem cP_off {h : mH} {a b sp dp n : Nat} (q : Nat) (hq : q ≠ b) (j : Nat) : hP (cP h a b sp dp n) q j = hP h q j := if_neg (fun z => hq z.1)
theorem sn_cpy {ix : Nat} (hd : decode (mbyt y) pc = .ok (.invokestatic ix, 3)) (hq : Cond.methodLink (mname y).cls ix arraycopyName ∈ lw_all) (hq1 : Cond.native arraycopyName ∈ lw_all) (hq2 : Cond.static arraycopyName ∈ lw_all) (hq3 : Cond.initialized "java/lang/System" ∈ lw_all) : SN y pc i_cpy := by
  intro L st h c' hf
  match st, hf with
  | .int n :: .int dp :: .ref b :: .int sp :: .ref a :: r, hf =>
    unfold i_cpy at hf
    dsimp only at hf
    generalize ha : hT h a = o at hf
    match o, hf with
    | some (t, na), hf =>
      dsimp only at hf
      generalize hb : hT h b = o2 at hf
      match o2, hf with
      | some (u, nb), hf =>
        obtain ⟨⟨rfl, hk, hr, g3, g2, g1, g4, g5⟩, rfl⟩ := opt_if hf
        refine ⟨?_, fun D p l e R s m args below meth c Q N0 U0 cx ro hn hu w => ?_⟩
        · dsimp only
          split <;> exact ⟨Nat.le_refl _, Nat.le_refl _⟩
        · intro H locs ls cells slots hRP hL
          obtain ⟨hR, hS, hcl, hsl⟩ := hRP
          have hts := cx.2.2.2.2.2.2.2.1
          have hs := cat_sum hr
          have hlo : (r.map fun v => v.category).sum + (nativeFrameWords "java/lang/System" "arraycopy" 5 + 11) ≤ R.locals := by
            have h1 : nativeFrameWords "java/lang/System" "arraycopy" 5 ≤ 7 := by decide +kernel
            have := ro.2
            omega
          rcases hk with rfl | ⟨rfl, hk⟩
          · obtain ⟨za, -, ca⟩ := rep_iar hR ha (by omega) (by omega)
            obtain ⟨zb, nb31, cb⟩ := rep_iar hR hb (by omega) (by omega)
            obtain ⟨-, kA, hkA, comp, hkind⟩ := (kt_ar (kt_of cx) 20 (by omega) (by omega)).1 0 (fun _ => .null)
            refine w_copy (fun z => Value.int z) cx.1 cx.2.1 (cx.2.2.1.trans hL.1.symm) cx.2.2.2.2.2.2.1 (hts _ hq) (hts _ hq1) (hts _ hq2) (hts _ hq3) (f := hI h a) (g := hI h b) ca cb hkA hkind g1 g2 g3 g4 g5 (fun T hT vm' hal i hi => ⟨rfl, trivial⟩) ro.1 hlo hd fun H1 L1 e1 e2 e3 e4 => ?_
            refine w H1 _ ls cells slots ⟨?_, S_put hS e2 e3 zb e4, hcl, hsl⟩ hL
            refine Rep_upd hR hb (fun _ => rfl) rfl rfl cI_off (fun _ _ _ => rfl) e2 e3 (RC_iar (by omega) (by omega) zb nb31 ?_)
            rw [e1]
            show _ = some (vp_cell _ (_, .inl (hI (cI h a b sp.toNatClampNeg dp.toNatClampNeg n.toNatClampNeg) b)))
            rw [hI_cIb]
            rfl
          · obtain ⟨za, -, ca⟩ := rep_qar hR ha (by omega) (by omega)
            obtain ⟨zb, nb31, cb⟩ := rep_qar hR hb (by omega) (by omega)
            obtain ⟨-, kA, hkA, comp, hkind⟩ := (kt_ar (kt_of cx) 27 (by omega) (by omega)).1 0 (fun _ => .null)
            obtain ⟨kA', comp', k1, k2, k3, -⟩ := (kt_ar (kt_of cx) 27 (by omega) (by omega)).2
            cases hkA.symm.trans k1
            cases hkind.symm.trans k2
            obtain ⟨hfc, kC, hkC, -⟩ := ((kt_of cx).2.1.1 2 _ rfl).2
            cases hfc.symm.trans k3
            refine w_copy va_rf cx.1 cx.2.1 (cx.2.2.1.trans hL.1.symm) cx.2.2.2.2.2.2.1 (hts _ hq) (hts _ hq1) (hts _ hq2) (hts _ hq3) (f := hP h a) (g := hP h b) ca cb hkA hkind g1 g2 g3 g4 g5 (fun T hTT vm' hal i hi => ?_) ro.1 hlo hd fun H1 L1 e1 e2 e3 e4 => ?_
            · have hi2 := hk i hi
              cases hy : hP h a (sp.toNatClampNeg + i) with
              | none => exact ⟨rfl, trivial⟩
              | some z =>
                rw [hy] at hi2
                unfold okG at hi2
                dsimp only at hi2
                generalize hz : hT h z = oz at hi2
                match oz, hi2 with
                | some (tz, nz), hi2 =>
                  have htz := of_decide_eq_true hi2
                  subst htz
                  obtain ⟨-, cell, q1, q2, q3, -⟩ := rep_obj hR hz (by omega)
                  obtain ⟨kC', hkC', -⟩ := hal.2.2 _ _ hkC
                  refine ⟨rfl, cell, (show T.heap[z]? = some cell by rw [hTT]; exact q1), (fun q w => by rw [q3] at w; cases w), ⟨kC', by rw [q2]; exact hkC'⟩, ⟨kC', hkC'⟩, ?_⟩
                  rw [q2]
                  exact asg_self _ _
            · refine w H1 _ ls cells slots ⟨?_, S_put hS e2 e3 zb e4, hcl, hsl⟩ hL
              refine Rep_upd hR hb (fun _ => rfl) rfl rfl (fun _ _ _ => rfl) cP_off e2 e3 (RC_qar (by omega) (by omega) zb nb31 ?_)
              rw [e1]
              show _ = some (vp_cell _ (_, .inr (.inr (.inr (.inr (hP (cP h a b sp.toNatClampNeg dp.toNatClampNeg n.toNatClampNeg) b))))))
              rw [hP_cPb]
              rfl
end
