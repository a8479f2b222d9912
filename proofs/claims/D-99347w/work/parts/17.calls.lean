/-! calls, ends, throws: a run of the small machine is a run of the machine -/
set_option maxRecDepth 10000
def mrm (d mc ms : Nat) : Room := { frames := 2 * d + 1, cells := mc, slots := ms, locals := 64 * d + 3200 }
def mws (y : Nat) : List Cond := if y = 220 then wsW_ (mname y) (mbyt y) (mmax y) (mret y) [(10, 29, 36, 271), (10, 29, 62, 0), (36, 55, 62, 0), (62, 64, 62, 0)] else ws_ (mname y) (mbyt y) (mmax y) (mret y)
def Pcl (D : mD) (as : List Value) (h : mH) : Array Value → State → Prop := va_Pc as (fun U => Rep D h U.heap ∧ KT D U)
def Qcl (D : mD) (r : mR) : Array Value → State → Outcome → State → Prop := fun _ st o t => (∃ (v : Option Value) (h' : mH), r = (.inl v, h') ∧ o = .returned v ∧ Rep D h' t.heap) ∧ va_F (dF D) st t
def Xcl (D : mD) (r : mR) : Addr → String → State → State → Prop := fun q E st t => (∃ h' : mH, r = (.inr q, h') ∧ E = RX4 ∧ Rep D h' t.heap ∧ isFl h' q = true) ∧ va_F (dF D) st t
/-- the contract of one call -/
def MT (D : mD) (l : Launch) (d y : Nat) (as : List Value) (h : mH) (r : mR) : Prop := ∀ mc ms : Nat, hN r.2 = hN h + mc → hU r.2 = hU h + ms → vx_Met l (mname y) (mws y) (mrm d mc ms) (Pcl D as h) (Qcl D r) (Xcl D r) mc ms (dF D)
theorem Pcl_blind {D : mD} {as : List Value} {h : mH} : FrameBlind (Pcl D as h) := by
  intro a U g mk q
  refine ⟨q.1, q.2.1, KT_warm (s := U) (U := U.calling g mk a) (State.WarmedH.refl U) (Nat.le_refl _) (fun _ _ _ => rfl) q.2.2⟩
section
variable {D : mD} {y : Nat} {p : Program} {l : Launch} {e : Env} {R : Room} {s : State} {m : MethodId} {args : Array Value} {below : List Frame} {meth : Method} {c : Code} {Q : State → Prop} {N0 U0 : Nat}
def WX (D : mD) (y : Nat) (p : Program) (l : Launch) (e : Env) (R : Room) (s : State) (m : MethodId) (args : Array Value) (below : List Frame) (meth : Method) (c : Code) (Q : State → Prop) (N0 U0 : Nat) (k : mC) (q : Nat) : Prop := ∀ (H : Heap) (locs : List Loc) (ls : Array Slot) (cells slots : Nat), RP D s N0 U0 k.2.2.2 H locs cells slots → lvr ls (mmax y) k.2.1 → isFl k.2.2.2 q = true → vx_W p l e R s m args below meth c H locs cells slots Q (F0 m k.1 ls k.2.2.1) q
theorem go_on {H : Heap} {locs : List Loc} {ls : Array Slot} {cells slots pc mc ms : Nat} {st rest : List Value} {L : List (Option Value)} {h : mH} {r : mR} {aa : Array Value} (hRP : RP D s N0 U0 h H locs cells slots) (hL : lvr ls (mmax y) L) (hmc : hN r.2 = hN h + mc) (hms : hU r.2 = hU h + ms)
    (hr : vx_Run p l e R s m args below meth c H locs cells slots mc ms (F0 m pc ls st) rest (Qcl D r aa) (Xcl D r) (dF D))
    (kk : ∀ (v : Option Value) (h' : mH), r = (.inl v, h') → WW D y p l e R s m args below meth c Q N0 U0 (pc + 3, L, v.toList ++ rest, h'))
    (kx : ∀ (q : Nat) (h' : mH), r = (.inr q, h') → WX D y p l e R s m args below meth c Q N0 U0 (pc, L, rest, h') q) : W p l e R s m args below meth c H locs cells slots Q (F0 m pc ls st) := by
  obtain ⟨hR, hS, hcl, hsl⟩ := hRP
  intro T hT' X
  rcases hr T hT' X with ⟨v, st₀, t, T', Ls, h0, X', hLs, e1, e2, ⟨⟨v', h', hr, ho, hRep⟩, hF⟩, stp⟩ | ⟨q, st₀, t, T', Ls, E, ce, h0, X', hLs, e1, e2, ⟨⟨h', hr, hE, hRep, hfl⟩, hF⟩, hce, hcv, hcls, stp⟩
  · cases ho
    obtain ⟨k1, k2, k3⟩ := vx_keep h0 e1 hS (fun _ _ z => z) (fun _ z => z) hLs hF
    rw [hr] at hmc hms
    dsimp only at hmc hms
    obtain ⟨t2, a1, b1⟩ := kk v h' hr T'.heap (locs ++ Ls) ls (cells + mc) (slots + ms) ⟨by rw [e1]; exact hRep, k3, by show cells + mc + N0 = hN h'; omega, by show slots + ms + U0 = hU h'; omega⟩ hL T' rfl X'
    exact ⟨t2, stp t2 a1, b1⟩
  · obtain ⟨k1, k2, k3⟩ := vx_keep h0 e1 hS (fun _ _ z => z) (fun _ z => z) hLs hF
    rw [hr] at hmc hms
    dsimp only at hmc hms
    obtain ⟨t2, a1, b1⟩ := kx q h' hr T'.heap (locs ++ Ls) ls (cells + mc) (slots + ms) ⟨by rw [e1]; exact hRep, k3, by show cells + mc + N0 = hN h'; omega, by show slots + ms + U0 = hU h'; omega⟩ hL hfl T' rfl X'
    exact ⟨t2, stp.trans a1, b1⟩
end
/-- a call's instruction -/
def SC (y pc : Nat) (f : mC → Option mCall) : Prop := ∀ (L : List (Option Value)) (st : List Value) (h : mH) (y' : Nat) (as : List Value) (c' : mC), f (pc, L, st, h) = some (y', as, c') → c'.2.2.2 = h ∧ c'.2.1 = L ∧ as.length ≤ mmax y' ∧ ∀ (D : mD) (p : Program) (l : Launch) (e : Env) (R : Room) (s : State) (m : MethodId) (args : Array Value) (below : List Frame) (meth : Method) (c : Code) (Q : State → Prop) (N0 U0 d : Nat) (r : mR), CX D y p l e R s m args meth c → 2 * d + 3 ≤ R.frames → 64 * (d + 1) + 3200 ≤ R.locals → MT D l d y' as h r → (y' = 283 → ∃ (x : Int32) (h' : mH), r = (.inl (some (.int x)), h')) → hN h ≤ hN r.2 → hU h ≤ hU r.2 → hN r.2 ≤ N0 + R.cells → hU r.2 ≤ U0 + R.slots → (∀ (v : Option Value) (h' : mH), r = (.inl v, h') → WW D y p l e R s m args below meth c Q N0 U0 (c'.1, L, v.toList ++ c'.2.2.1, h')) → (∀ (q : Nat) (h' : mH), r = (.inr q, h') → WX D y p l e R s m args below meth c Q N0 U0 (pc, L, c'.2.2.1, h') q) → WW D y p l e R s m args below meth c Q N0 U0 (pc, L, st, h)
section
variable {y pc : Nat}
theorem mws_ne {y' : Nat} (h : y' ≠ 220) : mws y' = ws_ (mname y') (mbyt y') (mmax y') (mret y') := if_neg h
/-- a static method called -/
theorem sc_S {ix y' n : Nat} (hd : decode (mbyt y) pc = .ok (.invokestatic ix, 3)) (hne : y' ≠ 220) (hq1 : Cond.methodLink (mname y).cls ix (mname y') ∈ lw_all) (hq2 : Cond.static (mname y') ∈ lw_all) (hq3 : Cond.initialized (mname y').cls ∈ lw_all) (hq4 : Cond.code (mname y') (mbyt y') (mmax y') (mret y') ∈ lw_all) (hn : ((mname y').cls ≠ "java/lang/invoke/MethodHandle" ∧ (mname y').cls ≠ "java/lang/invoke/VarHandle") ∧ (parseMethodDescriptor (mname y').desc).map (fun d => d.parameters.length) = some n) (hm : mmax y' ≤ 45) (hm2 : n ≤ mmax y') : SC y pc (i_inS y' n) := by
  intro L st h y0 as c' hf
  unfold i_inS at hf
  dsimp only at hf
  obtain ⟨⟨hl1, hl2⟩, he⟩ := opt_if hf
  cases he
  refine ⟨rfl, rfl, by simp; omega, fun D p l e R s m args below meth c Q N0 U0 d r cx hfr hlo hM h283 hn1 hu1 hn2 hu2 kk kx => ?_⟩
  intro H locs ls cells slots hRP hL
  have hts := cx.2.2.2.2.2.2.2.1
  have hK := kt_of cx
  have hM := hM (hN r.2 - hN h) (hU r.2 - hU h) (by omega) (by omega)
  rw [mws_ne hne] at hM
  obtain ⟨hR, hS, hcl, hsl⟩ := hRP
  have hcl : cells + N0 = hN h := hcl
  have hsl : slots + U0 = hU h := hsl
  have hst : st = ((st.take n).reverse).reverse ++ st.drop n := by rw [List.reverse_reverse, List.take_append_drop]
  have hlen : ((st.take n).reverse).length = n := by simp; omega
  have hdl : (st.drop n).length ≤ 4 := by simp; omega
  refine go_on (rest := st.drop n) (mc := hN r.2 - hN h) (ms := hU r.2 - hU h) ⟨hR, hS, hcl, hsl⟩ hL (by omega) (by omega) (vx_runS (As := (st.take n).reverse) (own := (mname y).cls) (n := n) ⟨cx.1, cx.2.1, cx.2.2.1, cx.2.2.2.2.2.2.1, hts⟩ hM (va_cwS n hts (lw_S hq1 hq2 hq3 hq4) rfl rfl rfl ⟨hn.1.1, hn.1.2, hn.2⟩ ⟨by show 2 * d + 1 + 1 ≤ R.frames; omega, by show 8 + (mmax y' + 11) + (64 * d + 3200) ≤ R.locals; omega⟩) ⟨Pcl_blind, fun U hU hW => ⟨rfl, by rw [hU]; exact hR, KT_warm hW (by rw [hU]; exact hS.1) (fun q h1 h2 => by rw [hU]; exact hS.2.1 q h1 h2) hK⟩⟩ rfl hlen hL.1 hst (lv_room (rest := st) (cat_sum hdl)) hd ⟨by omega, by omega⟩) kk kx
theorem sc_SN {ix y' n : Nat} {host : String} (hd : decode (mbyt y) pc = .ok (.invokestatic ix, 3)) (hne : y' ≠ 220) (hq1 : Cond.methodLinkNest (mname y).cls ix (mname y') host ∈ mnw) (hq2 : Cond.static (mname y') ∈ lw_all) (hq3 : Cond.initialized (mname y').cls ∈ lw_all) (hq4 : Cond.code (mname y') (mbyt y') (mmax y') (mret y') ∈ lw_all) (hn : ((mname y').cls ≠ "java/lang/invoke/MethodHandle" ∧ (mname y').cls ≠ "java/lang/invoke/VarHandle") ∧ (parseMethodDescriptor (mname y').desc).map (fun d => d.parameters.length) = some n) (hm : mmax y' ≤ 45) (hm2 : n ≤ mmax y') : SC y pc (i_inS y' n) := by
  intro L st h y0 as c' hf
  unfold i_inS at hf
  dsimp only at hf
  obtain ⟨⟨hl1, hl2⟩, he⟩ := opt_if hf
  cases he
  refine ⟨rfl, rfl, by simp; omega, fun D p l e R s m args below meth c Q N0 U0 d r cx hfr hlo hM h283 hn1 hu1 hn2 hu2 kk kx => ?_⟩
  intro H locs ls cells slots hRP hL
  have hts := cx.2.2.2.2.2.2.2.1
  have hK := kt_of cx
  have hM := hM (hN r.2 - hN h) (hU r.2 - hU h) (by omega) (by omega)
  rw [mws_ne hne] at hM
  obtain ⟨hR, hS, hcl, hsl⟩ := hRP
  have hcl : cells + N0 = hN h := hcl
  have hsl : slots + U0 = hU h := hsl
  have hst : st = ((st.take n).reverse).reverse ++ st.drop n := by rw [List.reverse_reverse, List.take_append_drop]
  have hlen : ((st.take n).reverse).length = n := by simp; omega
  have hdl : (st.drop n).length ≤ 4 := by simp; omega
  refine go_on (rest := st.drop n) (mc := hN r.2 - hN h) (ms := hU r.2 - hU h) ⟨hR, hS, hcl, hsl⟩ hL (by omega) (by omega) (vx_runSN (As := (st.take n).reverse) (own := (mname y).cls) (n := n) ⟨cx.1, cx.2.1, cx.2.2.1, cx.2.2.2.2.2.2.1, hts⟩ hM ⟨va_cnB n hts (lw_meth hq4) rfl rfl rfl (hK.2.2.1 _ hq1) (hts _ hq3) ⟨hn.1.1, hn.1.2, hn.2⟩ ⟨by show 2 * d + 1 + 1 ≤ R.frames; omega, by show 8 + (mmax y' + 11) + (64 * d + 3200) ≤ R.locals; omega⟩, hts _ hq2, trivial⟩ ⟨Pcl_blind, fun U hU hW => ⟨rfl, by rw [hU]; exact hR, KT_warm hW (by rw [hU]; exact hS.1) (fun q h1 h2 => by rw [hU]; exact hS.2.1 q h1 h2) hK⟩⟩ rfl hlen hL.1 hst (lv_room (rest := st) (cat_sum hdl)) hd ⟨by omega, by omega⟩) kk kx
theorem recv_st {st as : List Value} {n a : Nat} (hr : (st.take (n + 1)).reverse = .ref a :: as) (h1 : n + 1 ≤ st.length) : st = as.reverse ++ .ref a :: st.drop (n + 1) ∧ as.length = n := by
  constructor
  · have h2 : st.take (n + 1) = (.ref a :: as).reverse := by rw [← hr, List.reverse_reverse]
    calc st = st.take (n + 1) ++ st.drop (n + 1) := (List.take_append_drop _ _).symm
      _ = as.reverse ++ .ref a :: st.drop (n + 1) := by rw [h2]; simp
  · have h3 : ((st.take (n + 1)).reverse).length = n + 1 := by simp; omega
    rw [hr] at h3
    simpa using h3
def rcOK (t : Nat) (C : String) : Prop := t < 13 ∧ ∃ q : vw_C, mcl[t]? = some q ∧ q.1 = C
theorem recv_cell {D : mD} {h : mH} {H : Heap} {s : State} {a t n : Nat} {C : String} (hC : rcOK t C) (hR : Rep D h H) (hK : KT D s) (ha : hT h a = some (t, n)) : ∃ cellB : Cell, H[a]? = some cellB ∧ cellB.vm.isStatics = false ∧ s.vm.findClass C = some cellB.cls := by
  obtain ⟨ht, q, hq, rfl⟩ := hC
  obtain ⟨-, cell, g1, g2, g3, -⟩ := rep_obj hR ha ht
  exact ⟨cell, g1, by rw [g3]; rfl, by rw [g2]; exact (hK.2.1.1 t q hq).2.1⟩
theorem recv_str {D : mD} {h : mH} {H : Heap} {s : State} {a v : Nat} (hR : Rep D h H) (hK : KT D s) (ha : hS h a = some v) {locs : List Loc} (hS9 : va_S (dF D) s.heap H locs) : ∃ cellB : Cell, H[a]? = some cellB ∧ cellB.vm.isStatics = false ∧ s.vm.findClass "java/lang/String" = some cellB.cls := by
  obtain ⟨i, hi, e1, -⟩ := rep_str hR hK ha
  obtain ⟨cell, g1, g2, g3, -⟩ := (kt_str hK hi e1).1.kept hS9.2.1
  exact ⟨cell, g1, g2, g3⟩
theorem sc_V {ix y' n t : Nat} (hd : decode (mbyt y) pc = .ok (.invokevirtual ix, 3)) (hne : y' ≠ 220) (hC : rcOK t (mname y').cls) (hq1 : Cond.methodLink (mname y).cls ix (mname y') ∈ lw_all) (hq5 : Cond.instanceMethod (mname y') ∈ lw_all) (hq6 : Cond.selects (mname y').cls (mname y') (mname y') ∈ lw_all) (hq3 : Cond.initialized (mname y').cls ∈ lw_all) (hq4 : Cond.code (mname y') (mbyt y') (mmax y') (mret y') ∈ lw_all) (hn : ((mname y').cls ≠ "java/lang/invoke/MethodHandle" ∧ (mname y').cls ≠ "java/lang/invoke/VarHandle") ∧ (parseMethodDescriptor (mname y').desc).map (fun d => d.parameters.length) = some n) (hm : mmax y' ≤ 45) (hm2 : n + 1 ≤ mmax y') : SC y pc (i_inV y' n t) := by
  intro L st h y0 as c' hf
  unfold i_inV at hf
  dsimp only at hf
  by_cases hl : n + 1 ≤ st.length ∧ st.length ≤ n + 5
  · rw [if_pos hl] at hf
    obtain ⟨hl1, hl2⟩ := hl
    generalize hrv : (st.take (n + 1)).reverse = rv at hf
    match rv, hf with
    | .ref a :: as1, hf =>
      dsimp only at hf
      generalize ha : hT h a = o at hf
      match o, hf with
      | some (t', n'), hf =>
        obtain ⟨rfl, he⟩ := opt_if hf
        cases he
        obtain ⟨hst, hlen⟩ := recv_st hrv hl1
        have hdl : (st.drop (n + 1)).length ≤ 4 := by simp; omega
        refine ⟨rfl, rfl, by rw [List.length_cons, hlen]; exact hm2, fun D p l e R s m args below meth c Q N0 U0 d r cx hfr hlo hM h283 hn1 hu1 hn2 hu2 kk kx => ?_⟩
        intro H locs ls cells slots hRP hL
        have hts := cx.2.2.2.2.2.2.2.1
        have hK := kt_of cx
        have hM := hM (hN r.2 - hN h) (hU r.2 - hU h) (by omega) (by omega)
        rw [mws_ne hne] at hM
        obtain ⟨hR, hS, hcl, hsl⟩ := hRP
        have hcl : cells + N0 = hN h := hcl
        have hsl : slots + U0 = hU h := hsl
        refine go_on (rest := st.drop (n + 1)) (mc := hN r.2 - hN h) (ms := hU r.2 - hU h) ⟨hR, hS, hcl, hsl⟩ hL (by omega) (by omega) (vx_runV (As := as1) (own := (mname y).cls) (C := (mname y').cls) (n := n) ⟨cx.1, cx.2.1, cx.2.2.1, cx.2.2.2.2.2.2.1, hts⟩ hM (cwV n hts (lw_V hq1 hq5 hq6 hq3 hq4) rfl rfl rfl ⟨rfl, hn.1.1, hn.1.2, hn.2⟩ ⟨by show 2 * d + 1 + 1 ≤ R.frames; omega, by show 8 + (mmax y' + 11) + (64 * d + 3200) ≤ R.locals; omega⟩) ⟨Pcl_blind, recv_cell hC hR hK ha, fun U hU hW => ⟨rfl, by rw [hU]; exact hR, KT_warm hW (by rw [hU]; exact hS.1) (fun q h1 h2 => by rw [hU]; exact hS.2.1 q h1 h2) hK⟩⟩ rfl hlen hL.1 hst (lv_room (rest := st) (cat_sum hdl)) hd ⟨by omega, by omega⟩) kk kx
  · rw [if_neg hl] at hf
    cases hf
theorem sc_T {ix y' n : Nat} (hd : decode (mbyt y) pc = .ok (.invokevirtual ix, 3)) (hne : y' ≠ 220) (hC : (mname y').cls = "java/lang/String") (hq1 : Cond.methodLink (mname y).cls ix (mname y') ∈ lw_all) (hq5 : Cond.instanceMethod (mname y') ∈ lw_all) (hq6 : Cond.selects (mname y').cls (mname y') (mname y') ∈ lw_all) (hq3 : Cond.initialized (mname y').cls ∈ lw_all) (hq4 : Cond.code (mname y') (mbyt y') (mmax y') (mret y') ∈ lw_all) (hn : ((mname y').cls ≠ "java/lang/invoke/MethodHandle" ∧ (mname y').cls ≠ "java/lang/invoke/VarHandle") ∧ (parseMethodDescriptor (mname y').desc).map (fun d => d.parameters.length) = some n) (hm : mmax y' ≤ 45) (hm2 : n + 1 ≤ mmax y') : SC y pc (i_inT y' n) := by
  intro L st h y0 as c' hf
  unfold i_inT at hf
  dsimp only at hf
  by_cases hl : n + 1 ≤ st.length ∧ st.length ≤ n + 5
  · rw [if_pos hl] at hf
    obtain ⟨hl1, hl2⟩ := hl
    generalize hrv : (st.take (n + 1)).reverse = rv at hf
    match rv, hf with
    | .ref a :: as1, hf =>
      dsimp only at hf
      generalize ha : hS h a = o at hf
      match o, hf with
      | some v', hf =>
        cases hf
        obtain ⟨hst, hlen⟩ := recv_st hrv hl1
        have hdl : (st.drop (n + 1)).length ≤ 4 := by simp; omega
        refine ⟨rfl, rfl, by rw [List.length_cons, hlen]; exact hm2, fun D p l e R s m args below meth c Q N0 U0 d r cx hfr hlo hM h283 hn1 hu1 hn2 hu2 kk kx => ?_⟩
        intro H locs ls cells slots hRP hL
        have hts := cx.2.2.2.2.2.2.2.1
        have hK := kt_of cx
        have hM := hM (hN r.2 - hN h) (hU r.2 - hU h) (by omega) (by omega)
        rw [mws_ne hne] at hM
        obtain ⟨hR, hS, hcl, hsl⟩ := hRP
        have hcl : cells + N0 = hN h := hcl
        have hsl : slots + U0 = hU h := hsl
        refine go_on (rest := st.drop (n + 1)) (mc := hN r.2 - hN h) (ms := hU r.2 - hU h) ⟨hR, hS, hcl, hsl⟩ hL (by omega) (by omega) (vx_runV (As := as1) (own := (mname y).cls) (C := (mname y').cls) (n := n) ⟨cx.1, cx.2.1, cx.2.2.1, cx.2.2.2.2.2.2.1, hts⟩ hM (cwV n hts (lw_V hq1 hq5 hq6 hq3 hq4) rfl rfl rfl ⟨rfl, hn.1.1, hn.1.2, hn.2⟩ ⟨by show 2 * d + 1 + 1 ≤ R.frames; omega, by show 8 + (mmax y' + 11) + (64 * d + 3200) ≤ R.locals; omega⟩) ⟨Pcl_blind, (by rw [hC]; exact recv_str hR hK ha hS), fun U hU hW => ⟨rfl, by rw [hU]; exact hR, KT_warm hW (by rw [hU]; exact hS.1) (fun q h1 h2 => by rw [hU]; exact hS.2.1 q h1 h2) hK⟩⟩ rfl hlen hL.1 hst (lv_room (rest := st) (cat_sum hdl)) hd ⟨by omega, by omega⟩) kk kx
  · rw [if_neg hl] at hf
    cases hf
theorem sc_VN {ix y' n t : Nat} {host : String} (hd : decode (mbyt y) pc = .ok (.invokevirtual ix, 3)) (hne : y' ≠ 220) (hC : rcOK t (mname y').cls) (hq1 : Cond.methodLinkNest (mname y).cls ix (mname y') host ∈ mnw) (hq5 : Cond.instanceMethod (mname y') ∈ lw_all) (hq6 : Cond.selects (mname y').cls (mname y') (mname y') ∈ lw_all) (hq3 : Cond.initialized (mname y').cls ∈ lw_all) (hq4 : Cond.code (mname y') (mbyt y') (mmax y') (mret y') ∈ lw_all) (hn : ((mname y').cls ≠ "java/lang/invoke/MethodHandle" ∧ (mname y').cls ≠ "java/lang/invoke/VarHandle") ∧ (parseMethodDescriptor (mname y').desc).map (fun d => d.parameters.length) = some n) (hm : mmax y' ≤ 45) (hm2 : n + 1 ≤ mmax y') : SC y pc (i_inV y' n t) := by
  intro L st h y0 as c' hf
  unfold i_inV at hf
  dsimp only at hf
  by_cases hl : n + 1 ≤ st.length ∧ st.length ≤ n + 5
  · rw [if_pos hl] at hf
    obtain ⟨hl1, hl2⟩ := hl
    generalize hrv : (st.take (n + 1)).reverse = rv at hf
    match rv, hf with
    | .ref a :: as1, hf =>
      dsimp only at hf
      generalize ha : hT h a = o at hf
      match o, hf with
      | some (t', n'), hf =>
        obtain ⟨rfl, he⟩ := opt_if hf
        cases he
        obtain ⟨hst, hlen⟩ := recv_st hrv hl1
        have hdl : (st.drop (n + 1)).length ≤ 4 := by simp; omega
        refine ⟨rfl, rfl, by rw [List.length_cons, hlen]; exact hm2, fun D p l e R s m args below meth c Q N0 U0 d r cx hfr hlo hM h283 hn1 hu1 hn2 hu2 kk kx => ?_⟩
        intro H locs ls cells slots hRP hL
        have hts := cx.2.2.2.2.2.2.2.1
        have hK := kt_of cx
        have hM := hM (hN r.2 - hN h) (hU r.2 - hU h) (by omega) (by omega)
        rw [mws_ne hne] at hM
        obtain ⟨hR, hS, hcl, hsl⟩ := hRP
        have hcl : cells + N0 = hN h := hcl
        have hsl : slots + U0 = hU h := hsl
        refine go_on (rest := st.drop (n + 1)) (mc := hN r.2 - hN h) (ms := hU r.2 - hU h) ⟨hR, hS, hcl, hsl⟩ hL (by omega) (by omega) (vx_runVN (As := as1) (own := (mname y).cls) (C := (mname y').cls) (n := n) ⟨cx.1, cx.2.1, cx.2.2.1, cx.2.2.2.2.2.2.1, hts⟩ hM ⟨va_cnB n hts (lw_meth hq4) rfl rfl rfl (hK.2.2.1 _ hq1) (hts _ hq3) ⟨hn.1.1, hn.1.2, hn.2⟩ ⟨by show 2 * d + 1 + 1 ≤ R.frames; omega, by show 8 + (mmax y' + 11) + (64 * d + 3200) ≤ R.locals; omega⟩, hts _ hq5, hts _ hq6⟩ ⟨Pcl_blind, recv_cell hC hR hK ha, fun U hU hW => ⟨rfl, by rw [hU]; exact hR, KT_warm hW (by rw [hU]; exact hS.1) (fun q h1 h2 => by rw [hU]; exact hS.2.1 q h1 h2) hK⟩⟩ rfl hlen hL.1 hst (lv_room (rest := st) (cat_sum hdl)) hd ⟨by omega, by omega⟩) kk kx
  · rw [if_neg hl] at hf
    cases hf
theorem sc_V220 {ix n t : Nat} (hd : decode (mbyt y) pc = .ok (.invokevirtual ix, 3)) (hC : rcOK t (mname 220).cls) (hq1 : Cond.methodLink (mname y).cls ix (mname 220) ∈ lw_all) (hq5 : Cond.instanceMethod (mname 220) ∈ lw_all) (hq6 : Cond.selects (mname 220).cls (mname 220) (mname 220) ∈ lw_all) (hq3 : Cond.initialized (mname 220).cls ∈ lw_all) (hq4 : Cond.codeWith (mname 220) (mbyt 220) (mmax 220) (mret 220) [(10, 29, 36, 271), (10, 29, 62, 0), (36, 55, 62, 0), (62, 64, 62, 0)] ∈ lw_all) (hn : ((mname 220).cls ≠ "java/lang/invoke/MethodHandle" ∧ (mname 220).cls ≠ "java/lang/invoke/VarHandle") ∧ (parseMethodDescriptor (mname 220).desc).map (fun d => d.parameters.length) = some n) (hm : mmax 220 ≤ 45) (hm2 : n + 1 ≤ mmax 220) : SC y pc (i_inV 220 n t) := by
  intro L st h y0 as c' hf
  unfold i_inV at hf
  dsimp only at hf
  by_cases hl : n + 1 ≤ st.length ∧ st.length ≤ n + 5
  · rw [if_pos hl] at hf
    obtain ⟨hl1, hl2⟩ := hl
    generalize hrv : (st.take (n + 1)).reverse = rv at hf
    match rv, hf with
    | .ref a :: as1, hf =>
      dsimp only at hf
      generalize ha : hT h a = o at hf
      match o, hf with
      | some (t', n'), hf =>
        obtain ⟨rfl, he⟩ := opt_if hf
        cases he
        obtain ⟨hst, hlen⟩ := recv_st hrv hl1
        have hdl : (st.drop (n + 1)).length ≤ 4 := by simp; omega
        refine ⟨rfl, rfl, by rw [List.length_cons, hlen]; exact hm2, fun D p l e R s m args below meth c Q N0 U0 d r cx hfr hlo hM h283 hn1 hu1 hn2 hu2 kk kx => ?_⟩
        intro H locs ls cells slots hRP hL
        have hts := cx.2.2.2.2.2.2.2.1
        have hK := kt_of cx
        have hM := hM (hN r.2 - hN h) (hU r.2 - hU h) (by omega) (by omega)
        rw [show mws 220 = wsW_ (mname 220) (mbyt 220) (mmax 220) (mret 220) [(10, 29, 36, 271), (10, 29, 62, 0), (36, 55, 62, 0), (62, 64, 62, 0)] from if_pos rfl] at hM
        obtain ⟨hR, hS, hcl, hsl⟩ := hRP
        have hcl : cells + N0 = hN h := hcl
        have hsl : slots + U0 = hU h := hsl
        refine go_on (rest := st.drop (n + 1)) (mc := hN r.2 - hN h) (ms := hU r.2 - hU h) ⟨hR, hS, hcl, hsl⟩ hL (by omega) (by omega) (vx_runVX (As := as1) (own := (mname y).cls) (C := (mname 220).cls) (n := n) ⟨cx.1, cx.2.1, cx.2.2.1, cx.2.2.2.2.2.2.1, hts⟩ hM (vx_cwVW n hts (lw_VW hq1 hq5 hq6 hq3 hq4) rfl rfl rfl ⟨rfl, hn.1.1, hn.1.2, hn.2⟩ ⟨by show 2 * d + 1 + 1 ≤ R.frames; omega, by show 8 + (mmax 220 + 11) + (64 * d + 3200) ≤ R.locals; omega⟩) ⟨Pcl_blind, recv_cell hC hR hK ha, fun U hU hW => ⟨rfl, by rw [hU]; exact hR, KT_warm hW (by rw [hU]; exact hS.1) (fun q h1 h2 => by rw [hU]; exact hS.2.1 q h1 h2) hK⟩⟩ rfl hlen hL.1 hst (lv_room (rest := st) (cat_sum hdl)) hd ⟨by omega, by omega⟩) kk kx
  · rw [if_neg hl] at hf
    cases hf
theorem sc_I {ix y' n : Nat} (hd : decode (mbyt y) pc = .ok (.invokespecial ix, 3)) (hne : y' ≠ 220) (hq1 : Cond.methodLink (mname y).cls ix (mname y') ∈ lw_all) (hq5 : Cond.instanceMethod (mname y') ∈ lw_all) (hin : (mname y').name = "<init>") (hq3 : Cond.initialized (mname y').cls ∈ lw_all) (hq4 : Cond.code (mname y') (mbyt y') (mmax y') none ∈ lw_all) (hrn : mret y' = none) (hn : ((mname y').cls ≠ "java/lang/invoke/MethodHandle" ∧ (mname y').cls ≠ "java/lang/invoke/VarHandle") ∧ (parseMethodDescriptor (mname y').desc).map (fun d => d.parameters.length) = some n) (hm : mmax y' ≤ 45) (hm2 : n + 1 ≤ mmax y') : SC y pc (i_inI y' n) := by
  intro L st h y0 as c' hf
  unfold i_inI at hf
  dsimp only at hf
  by_cases hl : n + 1 ≤ st.length ∧ st.length ≤ n + 5
  · rw [if_pos hl] at hf
    obtain ⟨hl1, hl2⟩ := hl
    generalize hrv : (st.take (n + 1)).reverse = rv at hf
    match rv, hf with
    | .ref a :: as1, hf =>
      cases hf
      obtain ⟨hst, hlen⟩ := recv_st hrv hl1
      have hdl : (st.drop (n + 1)).length ≤ 4 := by simp; omega
      refine ⟨rfl, rfl, by rw [List.length_cons, hlen]; exact hm2, fun D p l e R s m args below meth c Q N0 U0 d r cx hfr hlo hM h283 hn1 hu1 hn2 hu2 kk kx => ?_⟩
      intro H locs ls cells slots hRP hL
      have hts := cx.2.2.2.2.2.2.2.1
      have hK := kt_of cx
      have hM := hM (hN r.2 - hN h) (hU r.2 - hU h) (by omega) (by omega)
      rw [mws_ne hne] at hM
      obtain ⟨hR, hS, hcl, hsl⟩ := hRP
      have hcl : cells + N0 = hN h := hcl
      have hsl : slots + U0 = hU h := hsl
      refine go_on (rest := st.drop (n + 1)) (mc := hN r.2 - hN h) (ms := hU r.2 - hU h) ⟨hR, hS, hcl, hsl⟩ hL (by omega) (by omega) (vx_runI (As := as1) (own := (mname y).cls) (n := n) ⟨cx.1, cx.2.1, cx.2.2.1, cx.2.2.2.2.2.2.1, hts⟩ (by rw [hrn] at hM; exact hM) (cwI n hts (lw_meth hq4) rfl rfl rfl (hts _ hq3) (hts _ hq1) (hts _ hq5) hin ⟨hn.1.1, hn.1.2, hn.2⟩ ⟨by show 2 * d + 1 + 1 ≤ R.frames; omega, by show 8 + (mmax y' + 11) + (64 * d + 3200) ≤ R.locals; omega⟩) ⟨Pcl_blind, fun U hU hW => ⟨rfl, by rw [hU]; exact hR, KT_warm hW (by rw [hU]; exact hS.1) (fun q h1 h2 => by rw [hU]; exact hS.2.1 q h1 h2) hK⟩⟩ rfl hlen hL.1 hst (lv_room (rest := st) (cat_sum hdl)) hd ⟨by omega, by omega⟩) kk kx
  · rw [if_neg hl] at hf
    cases hf
theorem sc_IN {ix y' n : Nat} {host : String} (hd : decode (mbyt y) pc = .ok (.invokespecial ix, 3)) (hne : y' ≠ 220) (hq1 : Cond.methodLinkNest (mname y).cls ix (mname y') host ∈ mnw) (hq5 : Cond.instanceMethod (mname y') ∈ lw_all) (hin : (mname y').name = "<init>") (hq3 : Cond.initialized (mname y').cls ∈ lw_all) (hq4 : Cond.code (mname y') (mbyt y') (mmax y') none ∈ lw_all) (hrn : mret y' = none) (hn : ((mname y').cls ≠ "java/lang/invoke/MethodHandle" ∧ (mname y').cls ≠ "java/lang/invoke/VarHandle") ∧ (parseMethodDescriptor (mname y').desc).map (fun d => d.parameters.length) = some n) (hm : mmax y' ≤ 45) (hm2 : n + 1 ≤ mmax y') : SC y pc (i_inI y' n) := by
  intro L st h y0 as c' hf
  unfold i_inI at hf
  dsimp only at hf
  by_cases hl : n + 1 ≤ st.length ∧ st.length ≤ n + 5
  · rw [if_pos hl] at hf
    obtain ⟨hl1, hl2⟩ := hl
    generalize hrv : (st.take (n + 1)).reverse = rv at hf
    match rv, hf with
    | .ref a :: as1, hf =>
      cases hf
      obtain ⟨hst, hlen⟩ := recv_st hrv hl1
      have hdl : (st.drop (n + 1)).length ≤ 4 := by simp; omega
      refine ⟨rfl, rfl, by rw [List.length_cons, hlen]; exact hm2, fun D p l e R s m args below meth c Q N0 U0 d r cx hfr hlo hM h283 hn1 hu1 hn2 hu2 kk kx => ?_⟩
      intro H locs ls cells slots hRP hL
      have hts := cx.2.2.2.2.2.2.2.1
      have hK := kt_of cx
      have hM := hM (hN r.2 - hN h) (hU r.2 - hU h) (by omega) (by omega)
      rw [mws_ne hne] at hM
      obtain ⟨hR, hS, hcl, hsl⟩ := hRP
      have hcl : cells + N0 = hN h := hcl
      have hsl : slots + U0 = hU h := hsl
      refine go_on (rest := st.drop (n + 1)) (mc := hN r.2 - hN h) (ms := hU r.2 - hU h) ⟨hR, hS, hcl, hsl⟩ hL (by omega) (by omega) (vx_runIN (As := as1) (own := (mname y).cls) (n := n) ⟨cx.1, cx.2.1, cx.2.2.1, cx.2.2.2.2.2.2.1, hts⟩ (by rw [hrn] at hM; exact hM) ⟨va_cnB n hts (lw_meth hq4) rfl rfl rfl (hK.2.2.1 _ hq1) (hts _ hq3) ⟨hn.1.1, hn.1.2, hn.2⟩ ⟨by show 2 * d + 1 + 1 ≤ R.frames; omega, by show 8 + (mmax y' + 11) + (64 * d + 3200) ≤ R.locals; omega⟩, hin, hts _ hq5⟩ ⟨Pcl_blind, fun U hU hW => ⟨rfl, by rw [hU]; exact hR, KT_warm hW (by rw [hU]; exact hS.1) (fun q h1 h2 => by rw [hU]; exact hS.2.1 q h1 h2) hK⟩⟩ rfl hlen hL.1 hst (lv_room (rest := st) (cat_sum hdl)) hd ⟨by omega, by omega⟩) kk kx
  · rw [if_neg hl] at hf
    cases hf
end
section
variable {y pc : Nat}
theorem lw_U {own : String} {idx : Nat} {C owner : String} {x y' : MethodName} {b : ByteArray} {L : Nat} {r : Option FieldType} (h1 : Cond.methodLink own idx x ∈ lw_all) (h2 : Cond.sameMethod x.cls owner x.name x.desc ∈ lw_all) (h3 : Cond.selects C x y' ∈ lw_all) (h4 : Cond.instanceMethod y' ∈ lw_all) (h5 : Cond.initialized y'.cls ∈ lw_all) (h6 : Cond.code y' b L r ∈ lw_all) : GoodIn lw_all (va_wsU own idx C owner x y' (ws_ y' b L r)) := by
  refine lw_app ?_ (lw_meth h6)
  intro w hw
  simp only [List.mem_cons, List.not_mem_nil, or_false] at hw
  rcases hw with e | e | e | e | e
  · rw [e]; exact h1
  · rw [e]; exact h2
  · rw [e]; exact h3
  · rw [e]; exact h4
  · rw [e]; exact h5
abbrev tmOf : MethodName := ⟨"Encores$Term", "of", "([I)I"⟩
def dOK (t y' : Nat) : Prop := t < 13 ∧ y' ≠ 220 ∧ (∃ q : vw_C, mcl[t]? = some q ∧ q.1 = (mname y').cls) ∧ Cond.selects (mname y').cls tmOf (mname y') ∈ lw_all ∧ Cond.instanceMethod (mname y') ∈ lw_all ∧ Cond.initialized (mname y').cls ∈ lw_all ∧ Cond.code (mname y') (mbyt y') (mmax y') (mret y') ∈ lw_all ∧ mmax y' ≤ 45 ∧ 2 ≤ mmax y'
theorem sc_D1 {ix t y' : Nat} (hd : decode (mbyt y) pc = .ok (.invokevirtual ix, 3)) (hk : dOK t y') (hq1 : Cond.methodLink (mname y).cls ix tmOf ∈ lw_all) (hq2 : Cond.sameMethod "Encores$Term" "Encores$Term" "of" "([I)I" ∈ lw_all) (hq3 : Cond.declares tmOf ∈ mnw) {L : List (Option Value)} {h : mH} {v : Value} {a n' : Nat} {r' : List Value} (ha : hT h a = some (t, n')) (hdl : r'.length ≤ 4) {D : mD} {p : Program} {l : Launch} {e : Env} {R : Room} {s : State} {m : MethodId} {args : Array Value} {below : List Frame} {meth : Method} {c : Code} {Q : State → Prop} {N0 U0 d : Nat} {r : mR} (cx : CX D y p l e R s m args meth c) (hfr : 2 * d + 3 ≤ R.frames) (hlo : 64 * (d + 1) + 3200 ≤ R.locals) (hM : MT D l d y' [.ref a, v] h r) (hn1 : hN h ≤ hN r.2) (hu1 : hU h ≤ hU r.2) (hn2 : hN r.2 ≤ N0 + R.cells) (hu2 : hU r.2 ≤ U0 + R.slots) (kk : ∀ (v : Option Value) (h' : mH), r = (.inl v, h') → WW D y p l e R s m args below meth c Q N0 U0 (pc + 3, L, v.toList ++ r', h')) (kx : ∀ (q : Nat) (h' : mH), r = (.inr q, h') → WX D y p l e R s m args below meth c Q N0 U0 (pc, L, r', h') q) : WW D y p l e R s m args below meth c Q N0 U0 (pc, L, v :: .ref a :: r', h) := by
  obtain ⟨ht, hne, ⟨q, hq, hqc⟩, h1, h2, h3, h4, h5, -⟩ := hk
  intro H locs ls cells slots hRP hL
  have hts := cx.2.2.2.2.2.2.2.1
  have hK := kt_of cx
  have hM := hM (hN r.2 - hN h) (hU r.2 - hU h) (by omega) (by omega)
  rw [mws_ne hne] at hM
  obtain ⟨hR, hS, hcl, hsl⟩ := hRP
  have hcl : cells + N0 = hN h := hcl
  have hsl : slots + U0 = hU h := hsl
  refine go_on (rest := r') (mc := hN r.2 - hN h) (ms := hU r.2 - hU h) ⟨hR, hS, hcl, hsl⟩ hL (by omega) (by omega) (vx_runU (As := [v]) (own := (mname y).cls) (C := (mname y').cls) (owner := "Encores$Term") (x := tmOf) (n := 1) ⟨cx.1, cx.2.1, cx.2.2.1, cx.2.2.2.2.2.2.1, hts⟩ hM (va_cwA 1 hts (lw_U hq1 hq2 h1 h2 h3 h4) rfl rfl rfl (hK.2.2.1 _ hq3) ⟨by decide +kernel, by decide +kernel, by decide +kernel⟩ ⟨by show 2 * d + 1 + 1 ≤ R.frames; omega, by show 8 + (mmax y' + 11) + (64 * d + 3200) ≤ R.locals; omega⟩) ⟨Pcl_blind, recv_cell ⟨ht, q, hq, hqc⟩ hR hK ha, fun U hU hW => ⟨rfl, by rw [hU]; exact hR, KT_warm hW (by rw [hU]; exact hS.1) (fun q h1 h2 => by rw [hU]; exact hS.2.1 q h1 h2) hK⟩⟩ rfl rfl hL.1 rfl (lv_room (m := m) (pc := pc) (ls := ls) (rest := v :: .ref a :: r') (cat_sum hdl)) hd ⟨by omega, by omega⟩) kk kx
theorem sc_D {ix y1 y2 y3 y4 : Nat} (hd : decode (mbyt y) pc = .ok (.invokevirtual ix, 3)) (k1 : dOK 8 y1) (k2 : dOK 9 y2) (k3 : dOK 10 y3) (k4 : dOK 11 y4) (hq1 : Cond.methodLink (mname y).cls ix tmOf ∈ lw_all) (hq2 : Cond.sameMethod "Encores$Term" "Encores$Term" "of" "([I)I" ∈ lw_all) (hq3 : Cond.declares tmOf ∈ mnw) : SC y pc (i_inD y1 y2 y3 y4) := by
  intro L st h y0 as c' hf
  match st, hf with
  | v :: .ref a :: r', hf =>
    unfold i_inD at hf
    dsimp only at hf
    by_cases hdl : r'.length ≤ 4
    · rw [if_pos hdl] at hf
      generalize ha : hT h a = o at hf
      match o, hf with
      | some (t', n'), hf =>
        dsimp only at hf
        by_cases h8 : t' = 8
        · subst h8
          rw [if_pos rfl] at hf
          cases hf
          exact ⟨rfl, rfl, k1.2.2.2.2.2.2.2.2, fun D p l e R s m args below meth c Q N0 U0 d r cx hfr hlo hM h283 hn1 hu1 hn2 hu2 kk kx => sc_D1 hd k1 hq1 hq2 hq3 ha hdl cx hfr hlo hM hn1 hu1 hn2 hu2 kk kx⟩
        · rw [if_neg h8] at hf
          by_cases h9 : t' = 9
          · subst h9
            rw [if_pos rfl] at hf
            cases hf
            exact ⟨rfl, rfl, k2.2.2.2.2.2.2.2.2, fun D p l e R s m args below meth c Q N0 U0 d r cx hfr hlo hM h283 hn1 hu1 hn2 hu2 kk kx => sc_D1 hd k2 hq1 hq2 hq3 ha hdl cx hfr hlo hM hn1 hu1 hn2 hu2 kk kx⟩
          · rw [if_neg h9] at hf
            by_cases h10 : t' = 10
            · subst h10
              rw [if_pos rfl] at hf
              cases hf
              exact ⟨rfl, rfl, k3.2.2.2.2.2.2.2.2, fun D p l e R s m args below meth c Q N0 U0 d r cx hfr hlo hM h283 hn1 hu1 hn2 hu2 kk kx => sc_D1 hd k3 hq1 hq2 hq3 ha hdl cx hfr hlo hM hn1 hu1 hn2 hu2 kk kx⟩
            · rw [if_neg h10] at hf
              obtain ⟨rfl, he⟩ := opt_if hf
              cases he
              exact ⟨rfl, rfl, k4.2.2.2.2.2.2.2.2, fun D p l e R s m args below meth c Q N0 U0 d r cx hfr hlo hM h283 hn1 hu1 hn2 hu2 kk kx => sc_D1 hd k4 hq1 hq2 hq3 ha hdl cx hfr hlo hM hn1 hu1 hn2 hu2 kk kx⟩
    · rw [if_neg hdl] at hf
      cases hf
end
