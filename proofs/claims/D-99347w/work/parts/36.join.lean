/-! the small machine's start, and the claim out of one run of it -/
set_option maxRecDepth 100000
/-- what the law's run starts from -/
def Start (h : mH) (b L : Nat) (xs : Nat → Int32) : Prop :=
  L ≤ 144 ∧ b < hN h ∧ hT h b = some (40, L) ∧ (∀ a, a ≠ b → hT h a = none) ∧ (∀ j, j < L → hI h b j = xs j) ∧
  (∀ i, i < 47 → ∃ a v : Nat, a < hN h ∧ hG h i = some a ∧ hS h a = some v ∧ hV h v = some ((sbyt i).map nI)) ∧
  ∃ t0 t1 t2 t3 t4 : Nat, (hG h 50 = some t0 ∧ hG h 51 = some t1 ∧ hG h 52 = some t2 ∧ hG h 53 = some t3 ∧ hG h 54 = some t4) ∧ t0 ≠ t1 ∧ t0 ≠ t2 ∧ t0 ≠ t3 ∧ t0 ≠ t4 ∧ t1 ≠ t2 ∧ t1 ≠ t3 ∧ t1 ≠ t4 ∧ t2 ≠ t3 ∧ t2 ≠ t4 ∧ t3 ≠ t4
/-- what holds at the law's entry -/
def lw_AtM (s : State) (m : MethodId) : Prop := s.methodNamed? x = some m
theorem mstr_getD {i : Nat} (h : i < 47) : mstr[i]? = some (mstr.getD i ("", 0, "", [])) := by
  rw [List.getD_eq_getElem?_getD, List.getElem?_eq_getElem (show i < mstr.length from h)]; rfl
theorem sbyt_len {i : Nat} (h : i < 47) : (sbyt i).length < 2 ^ 31 := by
  have h0 : mstr.all (fun o => decide (o.2.2.2.length < 2 ^ 31)) = true := by decide +kernel
  exact of_decide_eq_true (List.all_eq_true.mp h0 _ (List.mem_of_getElem? (mstr_getD h)))
theorem start_of {s : State} {b L : Nat} {xs : Nat → Int32} (hL : L ≤ 144) (hts : ∀ w ∈ lw_tbl, w.before #[Value.ref b] s = true) (hX : va_X b L xs s s.heap) (hb : b < s.heap.size) (hgv : (Jvm.Cond.and given_1 narrow_1).before #[Value.ref b] s = true) :
    ∃ (D : mD) (h0 : mH), KT D s ∧ Rep D h0 s.heap ∧ Start h0 b L xs ∧ dZ D = s.heap.size ∧ hU h0 = 0 := by
  have hg : ∀ w ∈ lwg, w.before #[Value.ref b] s = true := flat_of_before _ hgv
  have htl : ∀ w ∈ lw_all, w.before #[Value.ref b] s = true := fun w h => hts w (lw_ta h)
  have hA : ∀ a : Nat, a < s.heap.size → ¬ (fun q => s.heap.size ≤ q) a := fun a h1 h2 => absurd h1 (Nat.not_lt.mpr h2)
  obtain ⟨G, hG⟩ := cls_all htl
  obtain ⟨fA, hfA⟩ := arr_all hts
  obtain ⟨ad, vd, hs⟩ := str_all hA hg hts
  obtain ⟨t0, e0, z0⟩ := tok_one (C := "Encores$Token") (n := "END") (d := "LEncores$Token;") (E := "Encores$Token") hA (hts _ q512) (htl _ q143) (hg _ (by decide +kernel))
  obtain ⟨t1, e1, z1⟩ := tok_one (C := "Encores$Token") (n := "NONE") (d := "LEncores$Token;") (E := "Encores$Token") hA (hts _ q514) (htl _ q143) (hg _ (by decide +kernel))
  obtain ⟨t2, e2, z2⟩ := tok_one (C := "Encores$Token") (n := "WORD") (d := "LEncores$Token;") (E := "Encores$Token") hA (hts _ q519) (htl _ q143) (hg _ (by decide +kernel))
  obtain ⟨t3, e3, z3⟩ := tok_one (C := "Encores$Token") (n := "NUMBER") (d := "LEncores$Token;") (E := "Encores$Token") hA (hts _ q584) (htl _ q143) (hg _ (by decide +kernel))
  obtain ⟨t4, e4, z4⟩ := tok_one (C := "Encores$Token") (n := "SIGN") (d := "LEncores$Token;") (E := "Encores$Token") hA (hts _ q644) (htl _ q143) (hg _ (by decide +kernel))
  obtain ⟨o0, y0⟩ := ref_one (C := "jdk/internal/util/Preconditions") (n := "SIOOBE_FORMATTER") (d := "Ljava/util/function/BiFunction;") hA (hts _ q553) (htl _ q146) (hg _ (by decide +kernel))
  obtain ⟨o1, y1⟩ := ref_one (C := "java/lang/Throwable") (n := "UNASSIGNED_STACK") (d := "[Ljava/lang/StackTraceElement;") hA (hts _ q681) (htl _ q149) (hg _ (by decide +kernel))
  obtain ⟨o2, y2⟩ := ref_one (C := "java/lang/Throwable") (n := "SUPPRESSED_SENTINEL") (d := "Ljava/util/List;") hA (hts _ q683) (htl _ q149) (hg _ (by decide +kernel))
  have n01 : t0 ≠ t1 := va_neR (hg _ (by decide +kernel)) e0 e1
  have n02 : t0 ≠ t2 := va_neR (hg _ (by decide +kernel)) e0 e2
  have n03 : t0 ≠ t3 := va_neR (hg _ (by decide +kernel)) e0 e3
  have n04 : t0 ≠ t4 := va_neR (hg _ (by decide +kernel)) e0 e4
  have n12 : t1 ≠ t2 := va_neR (hg _ (by decide +kernel)) e1 e2
  have n13 : t1 ≠ t3 := va_neR (hg _ (by decide +kernel)) e1 e3
  have n14 : t1 ≠ t4 := va_neR (hg _ (by decide +kernel)) e1 e4
  have n23 : t2 ≠ t3 := va_neR (hg _ (by decide +kernel)) e2 e3
  have n24 : t2 ≠ t4 := va_neR (hg _ (by decide +kernel)) e2 e4
  have n34 : t3 ≠ t4 := va_neR (hg _ (by decide +kernel)) e3 e4
  have hcs : va_Z "java/lang/String" "COMPACT_STRINGS" "Z" (.int 1) (fun q => s.heap.size ≤ q) s s.heap := va_Zof (hts _ q537) (htl _ q144) (va_eqt (hg _ (by decide +kernel))) hA
  obtain ⟨cL, one, hlam⟩ := Cond.lambdaSite_spec (args := #[Value.ref b]) (first := s) (o := none) (s := s) (idx := []) (x := lamN) (pc := 164) (index := 556) (σ := lamS) (hg siteWord_1_1 (by decide +kernel))
  have hone : one = none := by
    obtain ⟨m0, k0, c0, i0, p0, l0, -, -, -, -, -, -, -, -, hl⟩ := State.lambdaAt?_spec hlam
    rcases hl with ⟨a, cell, -, -, h, -⟩ | ⟨-, h, -⟩
    · exact absurd h (by decide)
    · exact h
  subst hone
  have hs' : ∀ i, i < 47 → KS (mstr.getD i ("", 0, "", [])).1 (mstr.getD i ("", 0, "", [])).2.2.1 (mstr.getD i ("", 0, "", [])).2.1 (sbyt i) (some (ad i)) (vd i) (fun q => s.heap.size ≤ q) s := fun i hi => hs i _ (mstr_getD hi)
  have hkS : ∀ a : Nat, ∃ o : Option Nat, (∀ v, o = some v → ∃ i, i < 47 ∧ ad i = a ∧ v = vd i) ∧ ∀ i, i < 47 → ad i = a → o = some (vd i) := by
    intro a
    by_cases h : ∃ i, i < 47 ∧ ad i = a
    · obtain ⟨i, hi, he⟩ := h
      refine ⟨some (vd i), fun v hv => ⟨i, hi, he, (Option.some.inj hv).symm⟩, fun j hj hje => ?_⟩
      have k1 := hs' i hi
      have k2 := hs' j hj
      rw [he] at k1
      rw [hje] at k2
      rw [str_fun k1 k2]
    · exact ⟨none, fun v hv => (by cases hv), fun j hj hje => absurd ⟨j, hj, hje⟩ h⟩
  have hkV : ∀ a : Nat, ∃ o : Option (List Int32), (∀ bs, o = some bs → ∃ i, i < 47 ∧ a = vd i ∧ bs = (sbyt i).map nI) ∧ ∀ i, i < 47 → vd i = a → o = some ((sbyt i).map nI) := by
    intro a
    by_cases h : ∃ i, i < 47 ∧ vd i = a
    · obtain ⟨i, hi, he⟩ := h
      refine ⟨some ((sbyt i).map nI), fun v hv => ⟨i, hi, he.symm, (Option.some.inj hv).symm⟩, fun j hj hje => ?_⟩
      have k1 := hs' i hi
      have k2 := hs' j hj
      rw [he] at k1
      rw [hje] at k2
      rw [byt_fun (sbyt_len hi) (sbyt_len hj) k1 k2]
    · exact ⟨none, fun v hv => (by cases hv), fun j hj hje => absurd ⟨j, hj, hje⟩ h⟩
  obtain ⟨kS, hkS⟩ := Classical.axiomOfChoice hkS
  obtain ⟨kV, hkV⟩ := Classical.axiomOfChoice hkV
  let kG : Nat → Option Nat := fun k => if k < 47 then some (ad k) else if k = 50 then some t0 else if k = 51 then some t1 else if k = 52 then some t2 else if k = 53 then some t3 else if k = 54 then some t4 else if k = 60 then o0 else if k = 61 then o1 else if k = 62 then o2 else none
  have hkG : ∀ i, i < 47 → kG i = some (ad i) := fun i hi => if_pos hi
  refine ⟨(G, fA, s.heap.size, (kG, kS, kV), vd, (b, L, xs), cL), (fun a => if a = b then some (40, L) else none, fun a j => if a = b then xs j else 0, fun _ _ => none, s.heap.size, 0, (kG, kS, kV)), ?_, ?_, ?_, rfl, rfl⟩
  · refine ⟨Nat.le_refl _, ⟨hG, fun k q hq => ?_⟩, fun w hw => ?_, ?_, hcs, fun i o hi => ?_, ⟨hb, hX⟩, ⟨hlam, ?_, ?_⟩, ⟨fun a v hv => ?_, fun a bs hv => ?_⟩⟩
    · match k, hq with
      | 0, hq => cases hq; exact hfA 20 (by omega) (by omega)
      | 1, hq => cases hq; exact hfA 21 (by omega) (by omega)
      | 2, hq => cases hq; exact hfA 22 (by omega) (by omega)
      | 3, hq => cases hq; exact hfA 23 (by omega) (by omega)
      | 4, hq => cases hq; exact hfA 24 (by omega) (by omega)
      | 5, hq => cases hq; exact hfA 25 (by omega) (by omega)
      | 6, hq => cases hq; exact hfA 26 (by omega) (by omega)
      | 7, hq => cases hq; exact hfA 27 (by omega) (by omega)
      | 8, hq => cases hq; exact hfA 28 (by omega) (by omega)
      | 9, hq => cases hq; exact hfA 29 (by omega) (by omega)
      | k + 10, hq => exact absurd hq (by simp [mtys])
    · have h1 := hts w (mnw_in w hw)
      have hok := List.all_eq_true.mp mnw_ok w hw
      cases w with
      | fieldLinkNest _ _ _ _ _ _ => exact h1
      | methodLinkNest _ _ _ _ => exact h1
      | castable _ _ => exact h1
      | declares _ => exact h1
      | arrayOver ty => exact h1
      | _ => exact absurd hok (by simp [wok])
    · exact List.forall_mem_cons.mpr ⟨z0, List.forall_mem_cons.mpr ⟨z1, List.forall_mem_cons.mpr ⟨z2, List.forall_mem_cons.mpr ⟨z3, List.forall_mem_cons.mpr ⟨z4, List.forall_mem_cons.mpr ⟨y0, List.forall_mem_cons.mpr ⟨y1, List.forall_mem_cons.mpr ⟨y2, fun _ h => absurd h List.not_mem_nil⟩⟩⟩⟩⟩⟩⟩⟩
    · have hi47 : i < 47 := by
        have := (List.getElem?_eq_some_iff.mp hi).1
        exact this
      show KS o.1 o.2.2.1 o.2.1 o.2.2.2 (kG i) (vd i) (fun q => s.heap.size ≤ q) s
      rw [hkG i hi47]
      exact hs i o hi
    · exact hts _ q1187
    · exact hts _ q1186
    · obtain ⟨i, hi, e, hv⟩ := (hkS a).1 v hv
      exact ⟨i, hi, (hkG i hi).trans (congrArg some e), hv⟩
    · exact (hkV a).1 bs hv
  · refine ⟨rfl, rfl, fun a t n ha => ?_⟩
    have ha : (if a = b then some (40, L) else none) = some (t, n) := ha
    by_cases hab : a = b
    · rw [if_pos hab] at ha
      cases ha
      subst hab
      exact ⟨rfl, rfl, fun j _ => if_pos rfl⟩
    · rw [if_neg hab] at ha; cases ha
  · refine ⟨hL, hb, if_pos rfl, fun a ha => if_neg ha, fun j _ => if_pos rfl, fun i hi => ⟨ad i, vd i, ?_, hkG i hi, (hkS _).2 i hi rfl, (hkV _).2 i hi rfl⟩, t0, t1, t2, t3, t4, ⟨rfl, rfl, rfl, rfl, rfl⟩, n01, n02, n03, n04, n12, n13, n14, n23, n24, n34⟩
    obtain ⟨a, ea, -, ⟨cell, hc, -⟩, -⟩ := hs' i hi
    cases ea
    exact (Array.getElem?_eq_some_iff.mp hc).1
