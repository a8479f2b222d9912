/-! THE START: from what the statement gives of the law's start to the small machine's first heap -/
set_option maxRecDepth 100000
theorem lw_ta {w : Cond} (h : w ∈ lw_all) : w ∈ lw_tbl := (List.mem_filter.mp h).1
theorem mnw_in : ∀ w ∈ mnw, w ∈ lw_tbl := List.forall_mem_cons.mpr ⟨q198, List.forall_mem_cons.mpr ⟨q228, List.forall_mem_cons.mpr ⟨q744, List.forall_mem_cons.mpr ⟨q774, List.forall_mem_cons.mpr ⟨q1150, List.forall_mem_cons.mpr ⟨q833, List.forall_mem_cons.mpr ⟨q1929, List.forall_mem_cons.mpr ⟨q865, List.forall_mem_cons.mpr ⟨q1930, List.forall_mem_cons.mpr ⟨q324, List.forall_mem_cons.mpr ⟨q328, List.forall_mem_cons.mpr ⟨q330, List.forall_mem_cons.mpr ⟨q332, List.forall_mem_cons.mpr ⟨q335, List.forall_mem_cons.mpr ⟨q338, List.forall_mem_cons.mpr ⟨q340, List.forall_mem_cons.mpr ⟨q342, List.forall_mem_cons.mpr ⟨q343, List.forall_mem_cons.mpr ⟨q346, List.forall_mem_cons.mpr ⟨q348, List.forall_mem_cons.mpr ⟨q882, List.forall_mem_cons.mpr ⟨q943, List.forall_mem_cons.mpr ⟨q973, List.forall_mem_cons.mpr ⟨q1000, List.forall_mem_cons.mpr ⟨q1020, List.forall_mem_cons.mpr ⟨q1024, List.forall_mem_cons.mpr ⟨q1032, List.forall_mem_cons.mpr ⟨q658, List.forall_mem_cons.mpr ⟨q948, List.forall_mem_cons.mpr ⟨q810, List.forall_mem_cons.mpr ⟨q1927, List.forall_mem_cons.mpr ⟨q823, List.forall_mem_cons.mpr ⟨q1928, List.forall_mem_cons.mpr ⟨q661, List.forall_mem_cons.mpr ⟨q662, List.forall_mem_cons.mpr ⟨q659, List.forall_mem_cons.mpr ⟨q660, List.forall_mem_cons.mpr ⟨q1187, List.forall_mem_cons.mpr ⟨q170, List.forall_mem_cons.mpr ⟨q171, List.forall_mem_cons.mpr ⟨q203, List.forall_mem_cons.mpr ⟨q223, List.forall_mem_cons.mpr ⟨q225, List.forall_mem_cons.mpr ⟨q302, List.forall_mem_cons.mpr ⟨q304, List.forall_mem_cons.mpr ⟨q306, fun _ h => absurd h List.not_mem_nil⟩⟩⟩⟩⟩⟩⟩⟩⟩⟩⟩⟩⟩⟩⟩⟩⟩⟩⟩⟩⟩⟩⟩⟩⟩⟩⟩⟩⟩⟩⟩⟩⟩⟩⟩⟩⟩⟩⟩⟩⟩⟩⟩⟩⟩⟩
def wst (o : String × Nat × String × List Nat) : List Cond := [.exactly (.string o.1 o.2.1) "java/lang/String", .eq (.field (.string o.1 o.2.1) "java/lang/String" "coder" "B") (.int 0), .arrayOf (.field (.string o.1 o.2.1) "java/lang/String" "value" "[B") .byte, .eq (.length (.field (.string o.1 o.2.1) "java/lang/String" "value" "[B")) (.int (Int32.ofNat o.2.2.2.length))] ++ (List.range o.2.2.2.length).map (fun j => .eq (.elem (.field (.string o.1 o.2.1) "java/lang/String" "value" "[B") (.int (Int32.ofNat j))) (.int (nI (o.2.2.2.getD j 0))))
def lwg : List Cond := flatC (Jvm.Cond.and given_1 narrow_1)
theorem wst_in : mstr.flatMap wst = [114, 115, 116, 117, 118, 119, 120, 121, 122, 123, 124, 125, 126, 127, 128, 129, 130, 131, 132, 133, 134, 135, 136, 137, 138, 139, 140, 141, 142, 143, 144, 145, 146, 147, 148, 149, 150, 151, 152, 153, 154, 155, 156, 157, 158, 159, 160, 161, 162, 163, 164, 165, 166, 167, 168, 169, 170, 171, 172, 173, 174, 175, 176, 177, 178, 179, 180, 181, 182, 183, 184, 185, 186, 187, 188, 189, 190, 191, 192, 193, 194, 195, 196, 197, 198, 199, 200, 201, 202, 203, 204, 205, 206, 207, 208, 209, 210, 211, 212, 213, 214, 215, 216, 217, 218, 219, 220, 221, 222, 223, 224, 225, 226, 227, 228, 229, 230, 231, 232, 233, 234, 235, 236, 237, 238, 239, 240, 241, 242, 243, 244, 245, 246, 247, 248, 249, 250, 251, 252, 253, 254, 255, 256, 257, 258, 259, 260, 261, 262, 263, 264, 265, 266, 267, 268, 269, 270, 271, 272, 273, 274, 275, 276, 277, 278, 279, 280, 281, 282, 283, 284, 285, 286, 287, 288, 289, 290, 291, 292, 293, 294, 295, 296, 297, 298, 299, 300, 301, 302, 303, 304, 305, 306, 307, 308, 309, 310, 311, 312, 313, 314, 315, 316, 317, 318, 319, 380, 381, 382, 383, 384, 385, 386, 387, 388, 389, 391, 392, 393, 394, 395, 396, 397, 398, 399, 401, 402, 403, 404, 405, 406, 407, 408, 409, 411, 412, 413, 414, 415, 416, 417, 418, 419, 420, 421, 423, 424, 425, 426, 427, 428, 429, 430, 432, 433, 434, 435, 436, 437, 438, 439, 440, 442, 443, 444, 445, 446, 447, 448, 449, 451, 452, 453, 454, 455, 456, 457, 458, 459, 460, 462, 463, 464, 465, 466, 467, 468, 469, 470, 471, 473, 474, 475, 476, 477, 478, 479, 480, 320, 321, 322, 323, 324, 325, 326, 327, 329, 330, 331, 332, 333, 334, 336, 337, 338, 339, 340, 341, 342, 344, 345, 346, 347, 348, 349, 350, 352, 353, 354, 355, 356, 357, 358, 359, 361, 362, 363, 364, 365, 366, 367, 368, 370, 371, 372, 373, 374, 375, 376, 377, 378, 482, 483, 484, 485, 486, 487, 488, 489, 491, 492, 493, 494, 495, 496, 497, 498, 499, 500, 502, 503, 504, 505, 506, 507, 508, 510, 511, 512, 513, 514, 515, 516, 517, 519, 520, 521, 522, 523, 524, 526, 527, 528, 529, 530, 531, 532, 533].filterMap (fun i => lwg[i]?) := by decide +kernel
theorem wst_at {o : String × Nat × String × List Nat} (ho : o ∈ mstr) {w : Cond} (hw : w ∈ wst o) : w ∈ lwg := by
  have h : w ∈ mstr.flatMap wst := List.mem_flatMap.mpr ⟨o, ho, hw⟩
  rw [wst_in] at h
  obtain ⟨i, -, hi⟩ := List.mem_filterMap.mp h
  exact List.mem_of_getElem? hi
theorem sref_in : ∀ o ∈ mstr, Cond.stringRef o.1 o.2.1 o.2.2.1 ∈ lw_tbl := List.forall_mem_cons.mpr ⟨q173, List.forall_mem_cons.mpr ⟨q174, List.forall_mem_cons.mpr ⟨q175, List.forall_mem_cons.mpr ⟨q176, List.forall_mem_cons.mpr ⟨q177, List.forall_mem_cons.mpr ⟨q178, List.forall_mem_cons.mpr ⟨q179, List.forall_mem_cons.mpr ⟨q180, List.forall_mem_cons.mpr ⟨q181, List.forall_mem_cons.mpr ⟨q182, List.forall_mem_cons.mpr ⟨q183, List.forall_mem_cons.mpr ⟨q184, List.forall_mem_cons.mpr ⟨q185, List.forall_mem_cons.mpr ⟨q186, List.forall_mem_cons.mpr ⟨q187, List.forall_mem_cons.mpr ⟨q188, List.forall_mem_cons.mpr ⟨q189, List.forall_mem_cons.mpr ⟨q190, List.forall_mem_cons.mpr ⟨q191, List.forall_mem_cons.mpr ⟨q192, List.forall_mem_cons.mpr ⟨q193, List.forall_mem_cons.mpr ⟨q194, List.forall_mem_cons.mpr ⟨q195, List.forall_mem_cons.mpr ⟨q585, List.forall_mem_cons.mpr ⟨q1485, List.forall_mem_cons.mpr ⟨q1486, List.forall_mem_cons.mpr ⟨q1487, List.forall_mem_cons.mpr ⟨q1488, List.forall_mem_cons.mpr ⟨q1489, List.forall_mem_cons.mpr ⟨q1490, List.forall_mem_cons.mpr ⟨q1491, List.forall_mem_cons.mpr ⟨q1492, List.forall_mem_cons.mpr ⟨q1493, List.forall_mem_cons.mpr ⟨q1494, List.forall_mem_cons.mpr ⟨q1468, List.forall_mem_cons.mpr ⟨q1475, List.forall_mem_cons.mpr ⟨q1476, List.forall_mem_cons.mpr ⟨q1477, List.forall_mem_cons.mpr ⟨q1478, List.forall_mem_cons.mpr ⟨q1479, List.forall_mem_cons.mpr ⟨q1480, List.forall_mem_cons.mpr ⟨q1499, List.forall_mem_cons.mpr ⟨q1500, List.forall_mem_cons.mpr ⟨q1501, List.forall_mem_cons.mpr ⟨q1502, List.forall_mem_cons.mpr ⟨q1503, List.forall_mem_cons.mpr ⟨q1504, fun _ h => absurd h List.not_mem_nil⟩⟩⟩⟩⟩⟩⟩⟩⟩⟩⟩⟩⟩⟩⟩⟩⟩⟩⟩⟩⟩⟩⟩⟩⟩⟩⟩⟩⟩⟩⟩⟩⟩⟩⟩⟩⟩⟩⟩⟩⟩⟩⟩⟩⟩⟩⟩
theorem mstr_len : mstr.length = 47 := rfl
theorem str_one {s : State} {args : Array Value} {A : Nat → Prop} (hA : ∀ a : Nat, a < s.heap.size → ¬ A a) (hg : ∀ w ∈ lwg, w.before args s = true) (hts : ∀ w ∈ lw_tbl, w.before args s = true) {o : String × Nat × String × List Nat} (ho : o ∈ mstr) : ∃ a v : Nat, KS o.1 o.2.2.1 o.2.1 o.2.2.2 (some a) v A s := by
  have hw : ∀ w ∈ wst o, w.before args s = true := fun w h => hg w (wst_at ho h)
  have hlen : o.2.2.2.length < 2 ^ 31 := by
    have h : mstr.all (fun o => decide (o.2.2.2.length < 2 ^ 31)) = true := by decide +kernel
    exact of_decide_eq_true (List.all_eq_true.mp h o ho)
  have m0 : ∀ {w}, w ∈ ([.exactly (.string o.1 o.2.1) "java/lang/String", .eq (.field (.string o.1 o.2.1) "java/lang/String" "coder" "B") (.int 0), .arrayOf (.field (.string o.1 o.2.1) "java/lang/String" "value" "[B") .byte, .eq (.length (.field (.string o.1 o.2.1) "java/lang/String" "value" "[B")) (.int (Int32.ofNat o.2.2.2.length))] : List Cond) → w.before args s = true := fun h => hw _ (List.mem_append_left _ h)
  obtain ⟨a, c, cA, kA, q1, q2, q3, q4, q5, q6, -⟩ := Cond.exactly_spec (args := args) (first := s) (o := none) (s := s) (idx := []) (t := .string o.1 o.2.1) (cls := "java/lang/String") (m0 (by simp))
  obtain ⟨t, ht, hT⟩ := va_Tof (ty := .byte) (tm := .field (.string o.1 o.2.1) "java/lang/String" "value" "[B") (f := fun j => .int (nI (o.2.2.2.getD j 0))) (A := A) hlen (m0 (by simp)) (va_eqt (m0 (by simp))) (fun j hj => va_eqt (hw _ (List.mem_append_right _ (List.mem_map.mpr ⟨j, List.mem_range.mpr hj, rfl⟩)))) hA
  exact ⟨a, t, a, rfl, ⟨(show (Cond.stringRef o.1 o.2.1 o.2.2.1).before args s = true from hts _ (sref_in o ho)), q1⟩, ⟨cA, q3, q5, by rw [q6]; exact q2, hA a (Array.getElem?_eq_some_iff.mp q3).1⟩, vk_OFof q1 (va_eqt (m0 (by simp))) hA, vk_OFof q1 ht hA, hT⟩
theorem str_all {s : State} {args : Array Value} {A : Nat → Prop} (hA : ∀ a : Nat, a < s.heap.size → ¬ A a) (hg : ∀ w ∈ lwg, w.before args s = true) (hts : ∀ w ∈ lw_tbl, w.before args s = true) : ∃ ad vd : Nat → Nat, ∀ i o, mstr[i]? = some o → KS o.1 o.2.2.1 o.2.1 o.2.2.2 (some (ad i)) (vd i) A s := by
  have h0 : ∀ i : Nat, ∃ q : Nat × Nat, ∀ o, mstr[i]? = some o → KS o.1 o.2.2.1 o.2.1 o.2.2.2 (some q.1) q.2 A s := by
    intro i
    cases hi : mstr[i]? with
    | none => exact ⟨(0, 0), fun o h => by cases h⟩
    | some o =>
      obtain ⟨a, v, h⟩ := str_one hA hg hts (List.mem_of_getElem? hi)
      exact ⟨(a, v), fun o' h' => by cases h'; exact h⟩
  obtain ⟨f, hf⟩ := Classical.axiomOfChoice h0
  exact ⟨fun i => (f i).1, fun i => (f i).2, hf⟩
/-- one string, one array: the array is its field's -/
theorem str_fun {s : State} {A : Nat → Prop} {own tx own' tx' : String} {ix ix' : Nat} {bs bs' : List Nat} {a v v' : Nat} (h : KS own tx ix bs (some a) v A s) (h' : KS own' tx' ix' bs' (some a) v' A s) : v = v' := by
  obtain ⟨a1, e1, -, -, -, ⟨cf, k, i, f, cell, g1, g2, g3, g4, g5, -⟩, -⟩ := h
  obtain ⟨a2, e2, -, -, -, ⟨cf', k', i', f', cell', g1', g2', g3', g4', g5', -⟩, -⟩ := h'
  cases e1; cases e2
  cases g1.symm.trans g1'
  cases g3.symm.trans g3'
  cases g5.symm.trans g5'
  rfl
/-- one array, one text -/
theorem byt_fun {s : State} {A : Nat → Prop} {own tx own' tx' : String} {ix ix' : Nat} {bs bs' : List Nat} {a a' v : Nat} (hb : bs.length < 2 ^ 31) (hb' : bs'.length < 2 ^ 31) (h : KS own tx ix bs (some a) v A s) (h' : KS own' tx' ix' bs' (some a') v A s) : bs.map nI = bs'.map nI := by
  obtain ⟨a1, -, -, -, -, -, ⟨cell, g1, -, -, g4, g5, g6, -⟩⟩ := h
  obtain ⟨a2, -, -, -, -, -, ⟨cell', g1', -, -, g4', g5', g6', -⟩⟩ := h'
  cases g1.symm.trans g1'
  have e : bs.length = bs'.length := by
    have e0 : nI bs.length = nI bs'.length := g5.symm.trans g5'
    have e1 := congrArg Int32.toNatClampNeg e0
    rwa [nI_clamp hb, nI_clamp hb'] at e1
  refine List.ext_getElem (by simpa using e) fun j h1 h2 => ?_
  rw [List.length_map] at h1 h2
  have e2 := (g6 j h1).symm.trans (g6' j h2)
  simp only [Option.some.injEq, Value.int.injEq] at e2
  simpa [List.getElem_map, List.getD_eq_getElem?_getD, List.getElem?_eq_getElem h1, List.getElem?_eq_getElem h2] using e2
/-- classes -/
theorem cls_all {s : State} {args : Array Value} (hts : ∀ w ∈ lw_all, w.before args s = true) : ∃ G : va_G, ∀ (c : Nat) (q : vw_C), mcl[c]? = some q → u_Kn s q.1 q.2.1 q.2.2 (G.1 c) (G.2 c) := by
  have h0 : ∀ c : Nat, ∃ g : ClassId × (Nat → Nat), ∀ q : vw_C, mcl[c]? = some q → u_Kn s q.1 q.2.1 q.2.2 g.1 g.2 := by
    have one : ∀ {C : String} {T : u_T} {N n : Nat}, (∀ w ∈ u_ws C T N, w ∈ lw_all) → Cond.instantiable C n ∈ lw_all → ∃ g : ClassId × (Nat → Nat), ∀ q : vw_C, some (C, T, N) = some q → u_Kn s q.1 q.2.1 q.2.2 g.1 g.2 := by
      intro C T N n h1 h2
      obtain ⟨cC, iS, h⟩ := u_known hts h1 (hts _ h2)
      exact ⟨(cC, iS), fun q hq => by cases hq; exact h⟩
    intro c
    match c with
    | 0 => exact one in_X0 q162
    | 1 => exact one in_X1 q197
    | 2 => exact one in_X2 q227
    | 3 => exact one in_X3 q1291
    | 4 => exact one in_X4 q657
    | 5 => exact one in_X5 q735
    | 6 => exact one in_X6 q773
    | 7 => exact one in_X6 q773
    | 8 => exact one in_X8 q806
    | 9 => exact one in_X9 q819
    | 10 => exact one in_X10 q829
    | 11 => exact one in_X11 q861
    | 12 => exact one in_X12 q1149
    | c + 13 => exact ⟨(0, fun _ => 0), fun q hq => by simp at hq⟩
  obtain ⟨f, hf⟩ := Classical.axiomOfChoice h0
  exact ⟨(fun c => (f c).1, fun c => (f c).2), hf⟩
theorem arr_O {s : State} {C : String} {args : Array Value} (h : (Cond.arrayOver (.object C)).before args s = true) : ∃ cA, ArrOfT s cA (.object C) ∧ va_RA s cA (.object C) := by
  obtain ⟨comp, c, k, h1, h2, h3, h4, h5⟩ := Cond.arrayOver_spec (args := args) (first := s) (o := none) (s := s) (idx := []) h
  exact ⟨c, fun n z => ⟨(fun q hq => by cases hq), k, h3, comp, h4⟩, k, comp, h3, h4, h1, h5⟩
theorem arr_A {s : State} {t : FieldType} {args : Array Value} (h : (Cond.arrayOver (.array t)).before args s = true) : ∃ cA, ArrOfT s cA (.array t) ∧ va_RA s cA (.array t) := by
  obtain ⟨comp, c, k, h1, h2, h3, h4, h5⟩ := arrayOverA_spec (args := args) (first := s) (o := none) (s := s) (idx := []) h
  exact ⟨c, fun n z => ⟨(fun q hq => by cases hq), k, h3, comp, h4⟩, h5⟩
theorem arr_P {s : State} {t : FieldType} {args : Array Value} (ht : t = .int ∨ t = .byte) (h : (Cond.arrayClass t).before args s = true) : ∃ cA, ArrOfT s cA t ∧ va_RA s cA t := by
  obtain ⟨c, k, comp, h1, h2, h3⟩ := Cond.arrayClass_spec (args := args) (first := s) (o := none) (s := s) (idx := []) h
  refine ⟨c, fun n z => ⟨(fun q hq => by cases hq), k, h2, comp, h3⟩, ?_⟩
  rcases ht with rfl | rfl <;> exact h1
theorem arr_all {s : State} {args : Array Value} (hts : ∀ w ∈ lw_tbl, w.before args s = true) : ∃ dA : Nat → ClassId, ∀ t, 20 ≤ t → t < 30 → ArrOfT s (dA t) (aty t) ∧ va_RA s (dA t) (aty t) := by
  have h0 : ∀ t : Nat, ∃ cA : ClassId, 20 ≤ t → t < 30 → ArrOfT s cA (aty t) ∧ va_RA s cA (aty t) := by
    intro t
    match t with
    | 20 => obtain ⟨c, h⟩ := arr_P (Or.inl rfl) (hts _ (lw_ta q221)); exact ⟨c, fun _ _ => h⟩
    | 21 => obtain ⟨c, h⟩ := arr_P (Or.inr rfl) (hts _ (lw_ta q220)); exact ⟨c, fun _ _ => h⟩
    | 22 => obtain ⟨c, h⟩ := arr_O (hts _ q171); exact ⟨c, fun _ _ => h⟩
    | 23 => obtain ⟨c, h⟩ := arr_A (hts _ q170); exact ⟨c, fun _ _ => h⟩
    | 24 => obtain ⟨c, h⟩ := arr_O (hts _ q203); exact ⟨c, fun _ _ => h⟩
    | 25 => obtain ⟨c, h⟩ := arr_O (hts _ q223); exact ⟨c, fun _ _ => h⟩
    | 26 => obtain ⟨c, h⟩ := arr_O (hts _ q225); exact ⟨c, fun _ _ => h⟩
    | 27 => obtain ⟨c, h⟩ := arr_O (hts _ q302); exact ⟨c, fun _ _ => h⟩
    | 28 => obtain ⟨c, h⟩ := arr_O (hts _ q304); exact ⟨c, fun _ _ => h⟩
    | 29 => obtain ⟨c, h⟩ := arr_A (hts _ q306); exact ⟨c, fun _ _ => h⟩
    | t + 30 => exact ⟨0, fun _ h => by omega⟩
    | 0 | 1 | 2 | 3 | 4 | 5 | 6 | 7 | 8 | 9 | 10 | 11 | 12 | 13 | 14 | 15 | 16 | 17 | 18 | 19 => exact ⟨0, fun h _ => by omega⟩
  obtain ⟨f, hf⟩ := Classical.axiomOfChoice h0
  exact ⟨f, hf⟩
/-- statics -/
theorem tok_one {s : State} {args : Array Value} {C n d E : String} {A : Nat → Prop} (hA : ∀ a : Nat, a < s.heap.size → ¬ A a) (hl : (Cond.laysStatic C n d).before args s = true) (hini : (Cond.initialized C).before args s = true) (h : (Cond.exactly (.static C n d) E).before args s = true) : ∃ a : Nat, (Term.static C n d).eval args s none [] s = some (.ref a) ∧ va_Z C n d (va_rf (some a)) A s s.heap := by
  obtain ⟨a, c, cell, k, h1, -⟩ := Cond.exactly_spec (args := args) (first := s) (o := none) (s := s) (idx := []) h
  exact ⟨a, h1, va_Zof hl hini h1 hA⟩
theorem ref_one {s : State} {args : Array Value} {C n d : String} {A : Nat → Prop} (hA : ∀ a : Nat, a < s.heap.size → ¬ A a) (hl : (Cond.laysStatic C n d).before args s = true) (hini : (Cond.initialized C).before args s = true) (h : (Cond.isRef (.static C n d)).before args s = true) : ∃ o : Option Nat, va_Z C n d (va_rf o) A s s.heap := by
  rcases va_Zqof hl hini h hA with h | ⟨t, h⟩
  · exact ⟨none, h⟩
  · exact ⟨some t, h⟩
