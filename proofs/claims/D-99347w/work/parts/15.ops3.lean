/-! fields and arrays: writing; new cells -/
section
variable {y pc : Nat}
theorem RC_congr {D : mD} {h h' : mH} {H H' : Heap} {b t n : Nat} (hi : ∀ j, hI h' b j = hI h b j) (hp : ∀ j, hP h' b j = hP h b j) (hH : H'[b]? = H[b]?) (hR : RC D h H b t n) : RC D h' H' b t n := by
  have ei : hI h' b = hI h b := funext hi
  have ep : hP h' b = hP h b := funext hp
  have ef : fv h' b t = fv h b t := by
    funext k
    simp only [fv, ei, ep]
  unfold RC at hR ⊢
  rw [ei, ep, ef, hH]
  by_cases h1 : t < 13
  · rw [if_pos h1] at hR ⊢
    exact ⟨hR.1, hR.2.kept hH⟩
  · rw [if_neg h1] at hR ⊢
    exact hR
theorem Rep_upd {D : mD} {h h' : mH} {H H' : Heap} {a t n : Nat} (hR : Rep D h H) (ha : hT h a = some (t, n)) (hT' : ∀ b, hT h' b = hT h b) (hG' : hC h' = hC h) (hN' : hN h' = hN h) (hi : ∀ b, b ≠ a → ∀ j, hI h' b j = hI h b j) (hp : ∀ b, b ≠ a → ∀ j, hP h' b j = hP h b j) (hz : H'.size = H.size) (ho : ∀ q : Nat, q ≠ a → H'[q]? = H[q]?) (hc : RC D h' H' a t n) : Rep D h' H' := by
  refine ⟨by rw [hz, hN']; exact hR.1, hG'.trans hR.2.1, fun b t' n' hb => ?_⟩
  rw [hT'] at hb
  by_cases hba : b = a
  · subst hba
    cases ha.symm.trans hb
    exact hc
  · exact RC_congr (hi b hba) (hp b hba) (ho b hba) (hR.2.2 b t' n' hb)
/-- a field written -/
theorem sn_putX {t k ix : Nat} {C : String} {T : u_T} {N : Nat} {ty : Nat → FieldType} {h h' : mH} {L : List (Option Value)} {a n : Nat} {v : Value} {r : List Value} (ha : hT h a = some (t, n)) (ht : t < 13) (hc : mcl[t]? = some (C, T, N)) (hk : k < N) (hws : ∀ w ∈ u_ws C T N, w ∈ lw_all) (htyo : ∀ k, k < N → parseFieldDescriptor (T k).2.2.1 = some (ty k)) (hnm : ∀ a, a < N → ∀ b, b < N → a ≠ b → (T a).2.1 ≠ (T b).2.1) (hfin : (T k).2.2.2 = false ∨ ((T k).2.2.2 = true ∧ (mname y).name = "<init>" ∧ (T k).1 = (mname y).cls)) (hd : decode (mbyt y) pc = .ok (.putfield ix, 3)) (hq : Cond.fieldLink (mname y).cls ix (T k).1 (T k).2.1 (T k).2.2.1 ∈ lw_all)
    (hn : narrow (ty k) v = v) (hfit : fits (ty k) v = true) (hT' : ∀ b, hT h' b = hT h b) (hG' : hC h' = hC h) (hN' : hN h' = hN h) (hU' : hU h' = hU h) (hi : ∀ b, b ≠ a → ∀ j, hI h' b j = hI h b j) (hp : ∀ b, b ≠ a → ∀ j, hP h' b j = hP h b j) (hfv : ∀ j, j < N → fv h' a t j = updV (fv h a t) k v j)
    {D : mD} {p : Program} {l : Launch} {e : Env} {R : Room} {s : State} {m : MethodId} {args : Array Value} {below : List Frame} {meth : Method} {c : Code} {Q : State → Prop} {N0 U0 : Nat} (cx : CX D y p l e R s m args meth c) (w : WW D y p l e R s m args below meth c Q N0 U0 (pc + 3, L, r, h')) : WW D y p l e R s m args below meth c Q N0 U0 (pc, L, v :: .ref a :: r, h) := by
  intro H locs ls cells slots hRP hL
  obtain ⟨hR, hS, hcl, hsl⟩ := hRP
  have hts := cx.2.2.2.2.2.2.2.1
  have hown := cx.2.2.2.2.2.2.1
  have hK := (kt_of cx).2.1
  have hap := va_apart (own := C) hts hws ty htyo hnm hK hc
  obtain ⟨hza, cell, q1, q2, q3, q4⟩ := rep_obj hR ha ht
  rw [mN_ok t ht _ hc] at q4
  obtain ⟨hSl, hfc, kC, hkC, hkind⟩ := hK.1 t _ hc
  obtain ⟨cf, kf, fi, f, hif, hsf⟩ := hSl k hk
  have hlay := hts _ (hws _ (u_in_lay hk))
  have hst := (u_facts hfc hkC (u_lays hts hws hk) hif).1
  have fin : ∀ H' : Heap, H'[a]? = some (cell.setSlot f.slot v) → H'.size = H.size → (∀ q, q ≠ a → H'[q]? = H[q]?) → W p l e R s m args below meth c H' (locs ++ [⟨a, f.slot⟩]) cells slots Q (F0 m (pc + 3) ls r) := by
    intro H' e1 e2 e3
    refine w H' (locs ++ [⟨a, f.slot⟩]) ls cells slots ⟨?_, hS.put e2 e3 hza, by rw [hN']; exact hcl, by rw [hU']; exact hsl⟩ hL
    refine Rep_upd hR ha hT' hG' hN' hi hp e2 e3 ?_
    unfold RC
    rw [if_pos ht]
    refine ⟨hza, t_OB.to (V := updV (fv h a t) k v) ⟨_, e1, q2, q3, ?_⟩ (fun j hj => (hfv j (by rwa [mN_ok t ht _ hc] at hj)).symm)⟩
    rw [mN_ok t ht _ hc]
    have := t_set q4 hap hk v
    rw [hsf]
    exact this
  rcases hfin with hfin | ⟨hfin, hin2, hdecl⟩
  · unfold u_lay at hlay
    rw [if_neg (by rw [hfin]; decide)] at hlay
    have h6 := u_store hfc hkC hkind hlay hif (htyo k hk) hn hfit
    exact W.putK cx.1 cx.2.1 (f := f) ⟨hown, hts _ hq, ⟨_, _, _, hif⟩, hst⟩ (by rw [q2]; exact h6) q1 q3 (by rw [hsf]; exact k2_hasslot (q4 k hk)) rfl rfl hd fin
  · unfold u_lay at hlay
    rw [if_pos hfin] at hlay
    have hcf : m.cls = cf := by
      obtain ⟨_, _, c', _, _, _, -, -, hf', -, -, -, hown2, -⟩ := Cond.laysFinal_spec hlay
      have e1 : c' = cf := by have := hif.symm.trans hf'; simp at this; exact this.1.symm
      rw [hdecl] at hown2
      rw [← e1]; exact Option.some.inj (hown.symm.trans hown2)
    have h6 := u_fits hfc hkC hkind (Or.inr hlay) hif (htyo k hk) hn hfit
    exact W.putFinK cx.1 cx.2.1 hown (hts _ hq) hif hst hcf (by rw [cx.2.2.2.2.2.1.1]; exact hin2) (by rw [q2]; exact h6) q1 q3 (by rw [hsf]; exact k2_hasslot (q4 k hk)) rfl rfl hd fin
theorem fv_sI {h : mH} {a t k : Nat} {x : Int32} (hty : isRt (mty t k) = false) (j : Nat) : fv (sI h a k x) a t j = updV (fv h a t) k (.int x) j := by
  unfold fv updV
  show (if isRt (mty t j) = true then va_rf (hP h a j) else Value.int (if a = a ∧ j = k then x else hI h a j)) = _
  by_cases hj : j = k
  · subst hj
    rw [hty]
    simp
  · simp [hj]
theorem fv_sP {h : mH} {a t k : Nat} {x : Option Nat} (hty : isRt (mty t k) = true) (j : Nat) : fv (sP h a k x) a t j = updV (fv h a t) k (va_rf x) j := by
  unfold fv updV
  show (if isRt (mty t j) = true then va_rf (if a = a ∧ j = k then x else hP h a j) else Value.int (hI h a j)) = _
  by_cases hj : j = k
  · subst hj
    rw [hty]
    simp
  · simp [hj]
theorem sI_off {h : mH} {a k : Nat} {x : Int32} (b : Nat) (hb : b ≠ a) (j : Nat) : hI (sI h a k x) b j = hI h b j := if_neg (fun q => hb q.1)
theorem sP_off {h : mH} {a k : Nat} {x : Option Nat} (b : Nat) (hb : b ≠ a) (j : Nat) : hP (sP h a k x) b j = hP h b j := if_neg (fun q => hb q.1)
theorem sn_putI {t k ix : Nat} {C : String} {T : u_T} {N : Nat} {ty : Nat → FieldType} (hd : decode (mbyt y) pc = .ok (.putfield ix, 3)) (ht : t < 13) (hc : mcl[t]? = some (C, T, N)) (hk : k < N) (hty : isRt (mty t k) = false) (hi : ty k = .int) (hws : ∀ w ∈ u_ws C T N, w ∈ lw_all) (htyo : ∀ k, k < N → parseFieldDescriptor (T k).2.2.1 = some (ty k)) (hnm : ∀ a, a < N → ∀ b, b < N → a ≠ b → (T a).2.1 ≠ (T b).2.1) (hfin : (T k).2.2.2 = false ∨ ((T k).2.2.2 = true ∧ (mname y).name = "<init>" ∧ (T k).1 = (mname y).cls)) (hq : Cond.fieldLink (mname y).cls ix (T k).1 (T k).2.1 (T k).2.2.1 ∈ lw_all) : SN y pc (i_putI t k) := by
  intro L st h c' hf
  match st, hf with
  | .int x :: .ref a :: r, hf =>
    unfold i_putI at hf
    dsimp only at hf
    generalize ha : hT h a = o at hf
    match o, hf with
    | some (t', n), hf =>
      obtain ⟨rfl, rfl⟩ := opt_if hf
      refine ⟨⟨Nat.le_refl _, Nat.le_refl _⟩, fun D p l e R s m args below meth c Q N0 U0 cx ro hn hu w => ?_⟩
      exact sn_putX (h := h) (h' := sI h a k x) ha ht hc hk hws htyo hnm hfin hd hq (by rw [hi]; rfl) (by rw [hi]; rfl) (fun _ => rfl) rfl rfl rfl sI_off (fun _ _ _ => rfl) (fun j _ => fv_sI hty j) cx w
theorem narZ {x : Int32} (h : x = 0 ∨ x = 1) : narrow .boolean (.int x) = .int x ∧ fits .boolean (.int x) = true := by
  rcases h with h | h <;> subst h <;> exact ⟨rfl, by decide⟩
theorem narC {x : Int32} (h : 0 ≤ x ∧ x ≤ 65535) : narrow .char (.int x) = .int x ∧ fits .char (.int x) = true := by
  obtain ⟨q, hq, rfl⟩ := nI_of2 (M := 65535) (n := 65535) (by decide) (i32_nlt h.1) h.2
  exact pk_charN (by omega)
theorem sn_putZ {t k ix : Nat} {C : String} {T : u_T} {N : Nat} {ty : Nat → FieldType} (hd : decode (mbyt y) pc = .ok (.putfield ix, 3)) (ht : t < 13) (hc : mcl[t]? = some (C, T, N)) (hk : k < N) (hty : isRt (mty t k) = false) (hi : ty k = .boolean) (hws : ∀ w ∈ u_ws C T N, w ∈ lw_all) (htyo : ∀ k, k < N → parseFieldDescriptor (T k).2.2.1 = some (ty k)) (hnm : ∀ a, a < N → ∀ b, b < N → a ≠ b → (T a).2.1 ≠ (T b).2.1) (hfin : (T k).2.2.2 = false ∨ ((T k).2.2.2 = true ∧ (mname y).name = "<init>" ∧ (T k).1 = (mname y).cls)) (hq : Cond.fieldLink (mname y).cls ix (T k).1 (T k).2.1 (T k).2.2.1 ∈ lw_all) : SN y pc (i_putZ t k) := by
  intro L st h c' hf
  match st, hf with
  | .int x :: .ref a :: r, hf =>
    unfold i_putZ at hf
    dsimp only at hf
    generalize ha : hT h a = o at hf
    match o, hf with
    | some (t', n), hf =>
      obtain ⟨⟨rfl, hx⟩, rfl⟩ := opt_if hf
      refine ⟨⟨Nat.le_refl _, Nat.le_refl _⟩, fun D p l e R s m args below meth c Q N0 U0 cx ro hn hu w => ?_⟩
      exact sn_putX (h := h) (h' := sI h a k x) ha ht hc hk hws htyo hnm hfin hd hq (by rw [hi]; exact (narZ hx).1) (by rw [hi]; exact (narZ hx).2) (fun _ => rfl) rfl rfl rfl sI_off (fun _ _ _ => rfl) (fun j _ => fv_sI hty j) cx w
theorem sn_putC {t k ix : Nat} {C : String} {T : u_T} {N : Nat} {ty : Nat → FieldType} (hd : decode (mbyt y) pc = .ok (.putfield ix, 3)) (ht : t < 13) (hc : mcl[t]? = some (C, T, N)) (hk : k < N) (hty : isRt (mty t k) = false) (hi : ty k = .char) (hws : ∀ w ∈ u_ws C T N, w ∈ lw_all) (htyo : ∀ k, k < N → parseFieldDescriptor (T k).2.2.1 = some (ty k)) (hnm : ∀ a, a < N → ∀ b, b < N → a ≠ b → (T a).2.1 ≠ (T b).2.1) (hfin : (T k).2.2.2 = false ∨ ((T k).2.2.2 = true ∧ (mname y).name = "<init>" ∧ (T k).1 = (mname y).cls)) (hq : Cond.fieldLink (mname y).cls ix (T k).1 (T k).2.1 (T k).2.2.1 ∈ lw_all) : SN y pc (i_putC t k) := by
  intro L st h c' hf
  match st, hf with
  | .int x :: .ref a :: r, hf =>
    unfold i_putC at hf
    dsimp only at hf
    generalize ha : hT h a = o at hf
    match o, hf with
    | some (t', n), hf =>
      obtain ⟨⟨rfl, hx⟩, rfl⟩ := opt_if hf
      refine ⟨⟨Nat.le_refl _, Nat.le_refl _⟩, fun D p l e R s m args below meth c Q N0 U0 cx ro hn hu w => ?_⟩
      exact sn_putX (h := h) (h' := sI h a k x) ha ht hc hk hws htyo hnm hfin hd hq (by rw [hi]; exact (narC hx).1) (by rw [hi]; exact (narC hx).2) (fun _ => rfl) rfl rfl rfl sI_off (fun _ _ _ => rfl) (fun j _ => fv_sI hty j) cx w
theorem narR {ty : FieldType} {v : Value} (h : isRt ty = true) (hv : isRv v = true) : narrow ty v = v ∧ fits ty v = true := by
  rcases isRv_cases hv with ⟨a, rfl⟩ | rfl <;> (cases ty <;> first | exact ⟨rfl, rfl⟩ | exact absurd h (by simp [isRt]))
theorem rf_rfo {v : Value} (hv : isRv v = true) : va_rf (rfo v) = v := by
  rcases isRv_cases hv with ⟨a, rfl⟩ | rfl <;> rfl
theorem sn_putP {t k ix : Nat} {C : String} {T : u_T} {N : Nat} {ty : Nat → FieldType} (hd : decode (mbyt y) pc = .ok (.putfield ix, 3)) (ht : t < 13) (hc : mcl[t]? = some (C, T, N)) (hk : k < N) (hty : isRt (mty t k) = true) (hi : isRt (ty k) = true) (hws : ∀ w ∈ u_ws C T N, w ∈ lw_all) (htyo : ∀ k, k < N → parseFieldDescriptor (T k).2.2.1 = some (ty k)) (hnm : ∀ a, a < N → ∀ b, b < N → a ≠ b → (T a).2.1 ≠ (T b).2.1) (hfin : (T k).2.2.2 = false ∨ ((T k).2.2.2 = true ∧ (mname y).name = "<init>" ∧ (T k).1 = (mname y).cls)) (hq : Cond.fieldLink (mname y).cls ix (T k).1 (T k).2.1 (T k).2.2.1 ∈ lw_all) : SN y pc (i_putP t k) := by
  intro L st h c' hf
  match st, hf with
  | v :: .ref a :: r, hf =>
    unfold i_putP at hf
    dsimp only at hf
    generalize ha : hT h a = o at hf
    match o, hf with
    | some (t', n), hf =>
      obtain ⟨⟨rfl, hx⟩, rfl⟩ := opt_if hf
      refine ⟨⟨Nat.le_refl _, Nat.le_refl _⟩, fun D p l e R s m args below meth c Q N0 U0 cx ro hn hu w => ?_⟩
      exact sn_putX (h := h) (h' := sP h a k (rfo v)) ha ht hc hk hws htyo hnm hfin hd hq (narR hi hx).1 (narR hi hx).2 (fun _ => rfl) rfl rfl rfl (fun _ _ _ => rfl) sP_off (fun j _ => by rw [fv_sP hty j, rf_rfo hx]) cx w
-- array elements
theorem upd_vp {cA : ClassId} {n k : Nat} {f : Nat → Int32} {x : Int32} : (vp_cell cA (n, .inl f)).setSlot k (.int x) = vp_cell cA (n, .inl (fun j => if j = k then x else f j)) := by
  rw [vp_cell_i, vp_cell_i, arrV_store]
  congr 1
  funext q
  by_cases hq : q = k
  · subst hq; simp [updV]
  · simp [updV, hq]
theorem upd_vq {cA : ClassId} {n k : Nat} {f : Nat → Option Nat} {x : Option Nat} : (vp_cell cA (n, .inr (.inr (.inr (.inr f))))).setSlot k (va_rf x) = vp_cell cA (n, .inr (.inr (.inr (.inr (fun j => if j = k then x else f j))))) := by
  rw [vp_cell_q, vp_cell_q, arrV_store]
  congr 1
  funext q
  by_cases hq : q = k
  · subst hq; simp [updV]
  · simp [updV, hq]
theorem RC_iar {D : mD} {h : mH} {H : Heap} {a t n : Nat} (h1 : 20 ≤ t) (h2 : t < 22) (hz : dZ D ≤ a) (hn : n < 2 ^ 31) (hc : H[a]? = some (vp_cell (dA D t) (n, .inl (hI h a)))) : RC D h H a t n := by
  unfold RC
  rw [if_neg (by omega), if_neg (by omega), if_neg (by omega), if_pos h2]
  exact ⟨hz, hn, hc⟩
theorem RC_qar {D : mD} {h : mH} {H : Heap} {a t n : Nat} (h1 : 22 ≤ t) (h2 : t < 30) (hz : dZ D ≤ a) (hn : n < 2 ^ 31) (hc : H[a]? = some (vp_cell (dA D t) (n, .inr (.inr (.inr (.inr (hP h a))))))) : RC D h H a t n := by
  unfold RC
  rw [if_neg (by omega), if_neg (by omega), if_neg (by omega), if_neg (by omega), if_pos h2]
  exact ⟨hz, hn, hc⟩
theorem hI_sIa {h : mH} {a k : Nat} {x : Int32} : hI (sI h a k x) a = fun j => if j = k then x else hI h a j := by
  funext j
  show (if a = a ∧ j = k then x else hI h a j) = _
  simp
theorem hP_sPa {h : mH} {a k : Nat} {x : Option Nat} : hP (sP h a k x) a = fun j => if j = k then x else hP h a j := by
  funext j
  show (if a = a ∧ j = k then x else hP h a j) = _
  simp
theorem sn_ast (hd : decode (mbyt y) pc = .ok (.iastore, 1)) : SN y pc i_ast := by
  intro L st h c' hf
  match st, hf with
  | .int x :: .int i :: .ref a :: r, hf =>
    unfold i_ast at hf
    dsimp only at hf
    generalize ha : hT h a = o at hf
    match o, hf with
    | some (t, n), hf =>
      obtain ⟨⟨rfl, hg⟩, rfl⟩ := opt_if hf
      refine ⟨⟨Nat.le_refl _, Nat.le_refl _⟩, fun D p l e R s m args below meth c Q N0 U0 cx ro hn hu w => ?_⟩
      intro H locs ls cells slots hRP hL
      obtain ⟨hR, hS, hcl, hsl⟩ := hRP
      obtain ⟨hz, hn, hc⟩ := rep_iar hR ha (by omega) (by omega)
      refine W.iast cx.1 cx.2.1 hc ((kt_ar (kt_of cx) 20 (by omega) (by omega)).1 n (fun j => .int (hI h a j))) (fun q => by cases q) (by show ¬ (i < 0 ∨ (arrV _ _ _).slots.size ≤ _); rw [arrV_size]; exact not_out hg) rfl rfl hd fun H1 e1 e2 e3 => ?_
      refine w H1 _ ls cells slots ⟨Rep_upd hR ha (fun _ => rfl) rfl rfl sI_off (fun _ _ _ => rfl) e2 e3 (RC_iar (by omega) (by omega) hz hn ?_), hS.put e2 e3 hz, hcl, hsl⟩ hL
      rw [e1, upd_vp, hI_sIa]
theorem sn_bst (hd : decode (mbyt y) pc = .ok (.bastore, 1)) : SN y pc i_bst := by
  intro L st h c' hf
  match st, hf with
  | .int x :: .int i :: .ref a :: r, hf =>
    unfold i_bst at hf
    dsimp only at hf
    generalize ha : hT h a = o at hf
    match o, hf with
    | some (t, n), hf =>
      obtain ⟨⟨rfl, hg⟩, rfl⟩ := opt_if hf
      refine ⟨⟨Nat.le_refl _, Nat.le_refl _⟩, fun D p l e R s m args below meth c Q N0 U0 cx ro hn hu w => ?_⟩
      intro H locs ls cells slots hRP hL
      obtain ⟨hR, hS, hcl, hsl⟩ := hRP
      obtain ⟨hz, hn, hc⟩ := rep_iar hR ha (by omega) (by omega)
      refine W.bast cx.1 cx.2.1 hc ((kt_ar (kt_of cx) 21 (by omega) (by omega)).1 n (fun j => .int (hI h a j))) (fun q => by cases q) (by show ¬ (i < 0 ∨ (arrV _ _ _).slots.size ≤ _); rw [arrV_size]; exact not_out hg) rfl rfl hd fun H1 e1 e2 e3 => ?_
      refine w H1 _ ls cells slots ⟨Rep_upd hR ha (fun _ => rfl) rfl rfl sI_off (fun _ _ _ => rfl) e2 e3 (RC_iar (by omega) (by omega) hz hn ?_), hS.put e2 e3 hz, hcl, hsl⟩ hL
      rw [e1, show narrow .byte (.int x) = .int x.toInt8.toInt32 from rfl, upd_vp, hI_sIa]
theorem asg_self (vm : Vm) (c : ClassId) : vm.assignable c c = true := by
  show vm.assignableAux (255 + 1) c c = true
  rw [Vm.assignableAux]
  simp only [beq_self_eq_true, Bool.true_or]
def ElOK (D : mD) (s : State) (H : Heap) (t v : Nat) : Prop := ∃ (cv : Cell) (kv kA : Class) (comp : ClassId) (kcomp : Class) (ty : FieldType), H[v]? = some cv ∧ (∀ q, cv.vm ≠ .statics q) ∧ s.vm.classes[cv.cls]? = some kv ∧ s.vm.classes[dA D t]? = some kA ∧ kA.kind = .array comp ty ∧ ty.isReference = true ∧ s.vm.classes[comp]? = some kcomp ∧ s.vm.assignable cv.cls comp = true
theorem elA {D : mD} {h : mH} {H : Heap} {s : State} {t u v m : Nat} {q : vw_C} {E : String} (hR : Rep D h H) (hK : KT D s) (h1 : 22 ≤ t) (h2 : t < 30) (hu : u < 13) (hq : mcl[u]? = some q) (hty : aty t = .object E) (hE : q.1 = E ∨ Cond.castable q.1 E ∈ mnw) (hv : hT h v = some (u, m)) : ElOK D s H t v := by
  obtain ⟨-, cell, g1, g2, g3, -⟩ := rep_obj hR hv hu
  obtain ⟨hfc, kC, hkC, hkind⟩ := (hK.2.1.1 u q hq).2
  have hRA := (kt_ar hK t (by omega) h2).2
  rw [hty] at hRA
  obtain ⟨kA, comp, k1, k2, k3, -⟩ := hRA
  obtain ⟨kcomp, hkc, -⟩ := Vm.findClass_spec k3
  refine ⟨cell, kC, kA, comp, kcomp, _, g1, (fun z w => by rw [g3] at w; cases w), (by rw [g2]; exact hkC), k1, k2, rfl, hkc, ?_⟩
  rw [g2]
  rcases hE with e | e
  · rw [e] at hfc
    rw [Option.some.inj (hfc.symm.trans k3)]
    exact asg_self _ _
  · obtain ⟨c0, t1, f1, f2, f3⟩ := Cond.castable_spec (hK.2.2.1 _ e)
    cases hfc.symm.trans f1
    cases k3.symm.trans f2
    exact f3
theorem elS {D : mD} {h : mH} {H : Heap} {s : State} {locs : List Loc} {v m : Nat} (hR : Rep D h H) (hv : hS h v = some m) (hS : va_S (dF D) s.heap H locs) (hK : KT D s) : ElOK D s H 22 v := by
  obtain ⟨i, hi, e1, -⟩ := rep_str hR hK hv
  obtain ⟨cell, g1, g2, g3, -⟩ := (kt_str hK hi e1).1.kept hS.2.1
  obtain ⟨kv, hkv, -⟩ := Vm.findClass_spec g3
  obtain ⟨kA, comp, k1, k2, k3, -⟩ := (kt_ar hK 22 (by omega) (by omega)).2
  obtain ⟨kcomp, hkc, -⟩ := Vm.findClass_spec k3
  refine ⟨cell, kv, kA, comp, kcomp, _, g1, (fun z w => by rw [w] at g2; cases g2), hkv, k1, k2, rfl, hkc, ?_⟩
  rw [Option.some.inj (g3.symm.trans k3)]
  exact asg_self _ _
theorem elR {D : mD} {h : mH} {H : Heap} {s : State} {t u v : Nat} {cell : Cell} {ty : FieldType} (hK : KT D s) (h1 : 22 ≤ t) (h2 : t < 30) (hu1 : 20 ≤ u) (hu2 : u < 30) (hty : aty t = .array ty) (hA : va_Nw (.arrayOver (.array ty)) s) (hfu : s.vm.findClass (FieldType.array ty).toString = some (dA D u)) (hc : H[v]? = some cell) (hcl : cell.cls = dA D u) (hvm : cell.vm = .none) : ElOK D s H t v := by
  obtain ⟨comp, c, k, f1, f2, f3, f4, f5⟩ := arrayOverA_spec hA
  have hRA := (kt_ar hK t (by omega) h2).2
  rw [hty] at hRA
  have hfA : s.vm.findClass ("[" ++ (FieldType.array ty).toString) = some (dA D t) := hRA
  cases f5.symm.trans hfA
  cases f1.symm.trans hfu
  obtain ⟨kcomp, hkc, -⟩ := Vm.findClass_spec f1
  exact ⟨cell, kcomp, k, _, kcomp, _, hc, (fun z w => by rw [hvm] at w; cases w), (by rw [hcl]; exact hkc), f3, f4, rfl, hkc, by rw [hcl]; exact asg_self _ _⟩
/-- what an element is, in an array of references -/
theorem elem_ok {D : mD} {h : mH} {H : Heap} {s : State} {locs : List Loc} {t u v m : Nat} (hR : Rep D h H) (hS : va_S (dF D) s.heap H locs) (hK : KT D s) (ht : eOK t u = true) (hv : hT h v = some (u, m)) : 22 ≤ t ∧ t < 30 ∧ ElOK D s H t v := by
  unfold eOK at ht
  split at ht
  · have hu := of_decide_eq_true ht
    subst hu
    obtain ⟨-, -, hc⟩ := rep_qar hR hv (by omega) (by omega)
    have hRA := (kt_ar hK 22 (by omega) (by omega)).2
    obtain ⟨-, -, -, -, -, hfA⟩ := hRA
    exact ⟨by omega, by omega, elR (h := h) (u := 22) (ty := .object "java/lang/String") hK (by omega) (by omega) (by omega) (by omega) rfl (hK.2.2.1 _ (List.mem_of_getElem? (i := 38) rfl)) hfA hc rfl rfl⟩
  · have hu := of_decide_eq_true ht
    refine ⟨by omega, by omega, ?_⟩
    rcases hu with e | e | e | e
    · subst e
      exact elA (E := "Encores$Term") hR hK (by omega) (by omega) (by omega) rfl rfl (Or.inr (List.mem_of_getElem? (i := 30) rfl)) hv
    · subst e
      exact elA (E := "Encores$Term") hR hK (by omega) (by omega) (by omega) rfl rfl (Or.inr (List.mem_of_getElem? (i := 32) rfl)) hv
    · subst e
      exact elA (E := "Encores$Term") hR hK (by omega) (by omega) (by omega) rfl rfl (Or.inr (List.mem_of_getElem? (i := 6) rfl)) hv
    · subst e
      exact elA (E := "Encores$Term") hR hK (by omega) (by omega) (by omega) rfl rfl (Or.inr (List.mem_of_getElem? (i := 8) rfl)) hv
  · have hu := of_decide_eq_true ht
    subst hu
    exact ⟨by omega, by omega, elA (E := RX5) hR hK (by omega) (by omega) (by omega) rfl rfl (Or.inl rfl) hv⟩
  · have hu := of_decide_eq_true ht
    subst hu
    exact ⟨by omega, by omega, elA (E := RX6) hR hK (by omega) (by omega) (by omega) rfl rfl (Or.inl rfl) hv⟩
  · have hu := of_decide_eq_true ht
    subst hu
    exact ⟨by omega, by omega, elA (E := RX2) hR hK (by omega) (by omega) (by omega) rfl rfl (Or.inl rfl) hv⟩
  · have hu := of_decide_eq_true ht
    subst hu
    exact ⟨by omega, by omega, elA (E := RX12) hR hK (by omega) (by omega) (by omega) rfl rfl (Or.inl rfl) hv⟩
  · have hu := of_decide_eq_true ht
    subst hu
    obtain ⟨-, -, hc⟩ := rep_iar hR hv (by omega) (by omega)
    have hfA : s.vm.findClass ("[" ++ (FieldType.int).toString) = some (dA D 20) := (kt_ar hK 20 (by omega) (by omega)).2
    exact ⟨by omega, by omega, elR (h := h) (u := 20) (ty := .int) hK (by omega) (by omega) (by omega) (by omega) rfl (hK.2.2.1 _ (List.mem_of_getElem? (i := 45) rfl)) hfA hc rfl rfl⟩
  · exact absurd ht (by decide)
theorem sn_aast (hd : decode (mbyt y) pc = .ok (.aastore, 1)) : SN y pc i_aast := by
  intro L st h c' hf
  match st, hf with
  | .ref v :: .int i :: .ref a :: r, hf =>
    unfold i_aast at hf
    dsimp only at hf
    generalize ha : hT h a = o at hf
    match o, hf with
    | some (t, n), hf =>
      dsimp only at hf
      generalize hv : hT h v = o2 at hf
      match o2, hf with
      | some (u, m2), hf =>
        obtain ⟨⟨ht, hg⟩, rfl⟩ := opt_if hf
        refine ⟨⟨Nat.le_refl _, Nat.le_refl _⟩, fun D p l e R s m args below meth c Q N0 U0 cx ro hn hu w => ?_⟩
        intro H locs ls cells slots hRP hL
        obtain ⟨hR, hS, hcl, hsl⟩ := hRP
        obtain ⟨t1, t2, cv, kv, kA, comp, kcomp, ty, g1, g2, g3, g4, g5, g6, g7, g8⟩ := elem_ok hR hS (kt_of cx) ht hv
        obtain ⟨hz, hn, hc⟩ := rep_qar hR ha t1 t2
        refine W.aast cx.1 cx.2.1 hc (fun q z => by cases z) (fun z => by cases z) g4 g5 g6 g7 ⟨fun q => i32_nlt hg.1 q, by show _ < (arrV _ _ _).slots.size; rw [arrV_size]; exact hg.2⟩ g1 g2 g3 g8 rfl rfl hd fun H1 e1 e2 e3 => ?_
        refine w H1 _ ls cells slots ⟨Rep_upd hR ha (fun _ => rfl) rfl rfl (fun _ _ _ => rfl) sP_off e2 e3 (RC_qar t1 t2 hz hn ?_), hS.put e2 e3 hz, hcl, hsl⟩ hL
        rw [e1, ← va_rf_some v, upd_vq, hP_sPa]
theorem sn_aastS (hd : decode (mbyt y) pc = .ok (.aastore, 1)) : SN y pc i_aastS := by
  intro L st h c' hf
  match st, hf with
  | .ref v :: .int i :: .ref a :: r, hf =>
    unfold i_aastS at hf
    dsimp only at hf
    generalize ha : hT h a = o at hf
    match o, hf with
    | some (t, n), hf =>
      dsimp only at hf
      generalize hv : hS h v = o2 at hf
      match o2, hf with
      | some u, hf =>
        obtain ⟨⟨rfl, hg⟩, rfl⟩ := opt_if hf
        refine ⟨⟨Nat.le_refl _, Nat.le_refl _⟩, fun D p l e R s m args below meth c Q N0 U0 cx ro hn hu w => ?_⟩
        intro H locs ls cells slots hRP hL
        obtain ⟨hR, hS9, hcl, hsl⟩ := hRP
        obtain ⟨cv, kv, kA, comp, kcomp, ty, g1, g2, g3, g4, g5, g6, g7, g8⟩ := elS hR hv hS9 (kt_of cx)
        obtain ⟨hz, hn, hc⟩ := rep_qar hR ha (by omega) (by omega)
        refine W.aast cx.1 cx.2.1 hc (fun q z => by cases z) (fun z => by cases z) g4 g5 g6 g7 ⟨fun q => i32_nlt hg.1 q, by show _ < (arrV _ _ _).slots.size; rw [arrV_size]; exact hg.2⟩ g1 g2 g3 g8 rfl rfl hd fun H1 e1 e2 e3 => ?_
        refine w H1 _ ls cells slots ⟨Rep_upd hR ha (fun _ => rfl) rfl rfl (fun _ _ _ => rfl) sP_off e2 e3 (RC_qar (by omega) (by omega) hz hn ?_), hS9.put e2 e3 hz, hcl, hsl⟩ hL
        rw [e1, ← va_rf_some v, upd_vq, hP_sPa]
/-- a new cell -/
theorem Rep_new {D : mD} {h h' : mH} {H H' : Heap} {t n : Nat} (hR : Rep D h H) (hT' : ∀ b, b ≠ hN h → hT h' b = hT h b) (hTn : hT h' (hN h) = some (t, n)) (hG' : hC h' = hC h) (hN' : hN h' = hN h + 1) (hi : ∀ b, b ≠ hN h → ∀ j, hI h' b j = hI h b j) (hp : ∀ b, b ≠ hN h → ∀ j, hP h' b j = hP h b j) (hz : H'.size = H.size + 1) (ho : ∀ q : Nat, q < H.size → H'[q]? = H[q]?) (hc : RC D h' H' (hN h) t n) : Rep D h' H' := by
  refine ⟨by rw [hz, hN', hR.1], hG'.trans hR.2.1, fun b t' n' hb => ?_⟩
  by_cases hba : b = hN h
  · subst hba
    cases hTn.symm.trans hb
    exact hc
  · rw [hT' b hba] at hb
    refine RC_congr (hi b hba) (hp b hba) ?_ (hR.2.2 b t' n' hb)
    rcases Nat.lt_or_ge b H.size with q | q
    · exact ho b q
    · have h1 : H.size ≠ b := fun z => hba (by rw [← z, hR.1])
      rw [Array.getElem?_eq_none q, Array.getElem?_eq_none (by omega)]
theorem S_new {A : Nat → Prop} {H0 H H' : Heap} {locs : List Loc} (hS : va_S A H0 H locs) (hz : H'.size = H.size + 1) (ho : ∀ q : Nat, q < H.size → H'[q]? = H[q]?) : va_S A H0 H' locs := ⟨Nat.le_trans hS.1 (by omega), fun x h1 h2 => (ho x (Nat.lt_of_lt_of_le h1 hS.1)).trans (hS.2.1 x h1 h2), hS.2.2⟩
theorem dz_new {D : mD} {h : mH} {H : Heap} {s : State} {locs : List Loc} (hR : Rep D h H) (hS : va_S (dF D) s.heap H locs) (hK : KT D s) : dZ D ≤ hN h := by rw [← hR.1]; exact Nat.le_trans hK.1 hS.1
theorem T_nwn (h : mH) (t n : Nat) : hT (nw h t n) (hN h) = some (t, n) := if_pos rfl
theorem T_nwo (h : mH) (t n b : Nat) (hb : b ≠ hN h) : hT (nw h t n) b = hT h b := if_neg hb
theorem I_nwo (h : mH) (t n b : Nat) (hb : b ≠ hN h) (j : Nat) : hI (nw h t n) b j = hI h b j := if_neg hb
theorem P_nwo (h : mH) (t n b : Nat) (hb : b ≠ hN h) (j : Nat) : hP (nw h t n) b j = hP h b j := if_neg hb
theorem I_nwn (h : mH) (t n : Nat) : hI (nw h t n) (hN h) = fun _ => 0 := by funext j; exact if_pos rfl
theorem P_nwn (h : mH) (t n : Nat) : hP (nw h t n) (hN h) = fun _ => none := by funext j; exact if_pos rfl
theorem sn_newo {t ix : Nat} {C : String} {T : u_T} {N : Nat} {ty : Nat → FieldType} (hd : decode (mbyt y) pc = .ok (.new ix, 3)) (ht : t < 13) (hc : mcl[t]? = some (C, T, N)) (htt : ∀ k, k < N → ty k = mty t k ∧ (isRt (mty t k) = true → defaultValue (mty t k) = .null) ∧ (isRt (mty t k) = false → defaultValue (mty t k) = .int 0)) (hws : ∀ w ∈ u_ws C T N, w ∈ lw_all) (htyo : ∀ k, k < N → parseFieldDescriptor (T k).2.2.1 = some (ty k)) (hq1 : Cond.classLink (mname y).cls ix C ∈ lw_all) (hq2 : Cond.instantiable C N ∈ lw_all) (hq3 : Cond.initialized C ∈ lw_all) : SN y pc (i_newo t N) := by
  intro L st h c' hf
  obtain rfl := Option.some.inj hf
  refine ⟨⟨Nat.le_succ _, Nat.le_add_right _ _⟩, fun D p l e R s m args below meth c Q N0 U0 cx ro hn hu w => ?_⟩
  intro H locs ls cells slots hRP hL
  obtain ⟨hR, hS, hcl, hsl⟩ := hRP
  have hts := cx.2.2.2.2.2.2.2.1
  have hK := (kt_of cx).2.1
  have hKn := hK.1 t _ hc
  have hn : hN h + 1 ≤ N0 + R.cells := hn
  have hu : hU h + N ≤ U0 + R.slots := hu
  have hcl : cells + N0 = hN h := hcl
  have hsl : slots + U0 = hU h := hsl
  refine W.newcK cx.1 cx.2.1 cx.2.2.2.2.2.2.1 (hts _ hq1) (hts _ hq2) (hts _ hq3) rfl hd (by omega) (by omega) hKn.2.1 hR.1 fun H1 kC hkC e1 z1 o1 => ?_
  have z1 : H1.size = H.size + 1 := by rw [hR.1]; exact z1
  have o1 : ∀ q, q < H.size → H1[q]? = H[q]? := by rw [hR.1]; exact o1
  refine w H1 locs ls (cells + 1) (slots + N) ⟨?_, S_new hS z1 o1, by show cells + 1 + N0 = hN h + 1; omega, by show slots + N + U0 = hU h + N; omega⟩ hL
  refine Rep_new hR (T_nwo h t N) (T_nwn h t N) rfl rfl (I_nwo h t N) (P_nwo h t N) z1 o1 ?_
  unfold RC
  rw [if_pos ht]
  refine ⟨dz_new hR hS (kt_of cx), ?_⟩
  have hb := u_born ty hts hws hKn hkC e1 htyo
  rw [mN_ok t ht _ hc]
  refine hb.to (fun k hk => ?_)
  obtain ⟨g1, g2, g3⟩ := htt k hk
  rw [g1]
  unfold fv
  rw [I_nwn, P_nwn]
  by_cases hr : isRt (mty t k) = true
  · rw [if_pos hr, g2 hr]; rfl
  · rw [if_neg hr, g3 (by simpa using hr)]
theorem nat_of {x : Int32} (h : 0 ≤ x ∧ x ≤ 100000) : ¬ x < 0 ∧ x.toNatClampNeg ≤ 100000 := by
  refine ⟨i32_nlt h.1, ?_⟩
  obtain ⟨q, hq, rfl⟩ := nI_of2 (M := 100000) (n := 100000) (by decide) (i32_nlt h.1) h.2
  rw [nI_clamp (by omega)]
  exact hq
theorem sn_newa {t : Nat} {atype : ArrayType} (hd : decode (mbyt y) pc = .ok (.newarray atype, 2)) (ht : 20 ≤ t ∧ t < 22) (hty : newarray.typeOf atype = aty t) (hdv : defaultValue (aty t) = .int 0) (hbt : componentBytes (aty t) ≤ 4) (hq : Cond.arrayClass (aty t) ∈ lw_all) (hfc : ∀ (s : State) (cA : ClassId), va_RA s cA (aty t) → s.vm.findClass ("[" ++ (aty t).toString) = some cA) : SN y pc (i_newa t 2) := by
  intro L st h c' hf
  match st, hf with
  | .int x :: r, hf =>
    obtain ⟨hx, rfl⟩ := opt_if hf
    refine ⟨⟨Nat.le_succ _, Nat.le_add_right _ _⟩, fun D p l e R s m args below meth c Q N0 U0 cx ro hn hu w => ?_⟩
    intro H locs ls cells slots hRP hL
    obtain ⟨hR, hS, hcl, hsl⟩ := hRP
    obtain ⟨x1, x2⟩ := nat_of hx
    have hn : hN h + 1 ≤ N0 + R.cells := hn
    have hu : hU h + x.toNatClampNeg ≤ U0 + R.slots := hu
    have hcl : cells + N0 = hN h := hcl
    have hsl : slots + U0 = hU h := hsl
    have hbb : x.toNatClampNeg * componentBytes (aty t) ≤ 100000 * 4 := Nat.mul_le_mul x2 hbt
    refine va_newaK cx.1 cx.2.1 (by rw [hty]; exact cx.2.2.2.2.2.2.2.1 _ hq) rfl hd rfl x1 rfl (by rw [hty]; omega) (by omega) (by omega) hR.1 fun H1 cA e1 z1 o1 hA hfA => ?_
    have z1 : H1.size = H.size + 1 := by rw [hR.1]; exact z1
    have o1 : ∀ q, q < H.size → H1[q]? = H[q]? := by rw [hR.1]; exact o1
    rw [hty] at e1 hfA
    have hcA : cA = dA D t := Option.some.inj (hfA.symm.trans (hfc s _ (kt_ar (kt_of cx) t ht.1 (by omega)).2))
    subst hcA
    refine w H1 locs ls (cells + 1) (slots + x.toNatClampNeg) ⟨?_, S_new hS z1 o1, by show cells + 1 + N0 = hN h + 1; omega, by show slots + x.toNatClampNeg + U0 = hU h + x.toNatClampNeg; omega⟩ hL
    refine Rep_new hR (T_nwo h t _) (T_nwn h t _) rfl rfl (I_nwo h t _) (P_nwo h t _) z1 o1 (RC_iar ht.1 ht.2 (dz_new hR hS (kt_of cx)) (by omega) ?_)
    rw [e1, I_nwn, hdv]
    rfl
theorem sn_newq {t ix : Nat} {C : String} (hd : decode (mbyt y) pc = .ok (.anewarray ix, 3)) (ht : 22 ≤ t ∧ t < 30) (hty : aty t = .object C) (hq : Cond.classLink (mname y).cls ix C ∈ lw_all) (hao : Cond.arrayOver (.object C) ∈ mnw) : SN y pc (i_newa t 3) := by
  intro L st h c' hf
  match st, hf with
  | .int x :: r, hf =>
    obtain ⟨hx, rfl⟩ := opt_if hf
    refine ⟨⟨Nat.le_succ _, Nat.le_add_right _ _⟩, fun D p l e R s m args below meth c Q N0 U0 cx ro hn hu w => ?_⟩
    intro H locs ls cells slots hRP hL
    obtain ⟨hR, hS, hcl, hsl⟩ := hRP
    obtain ⟨x1, x2⟩ := nat_of hx
    have hn : hN h + 1 ≤ N0 + R.cells := hn
    have hu : hU h + x.toNatClampNeg ≤ U0 + R.slots := hu
    have hcl : cells + N0 = hN h := hcl
    have hsl : slots + U0 = hU h := hsl
    refine W.anew cx.1 cx.2.1 cx.2.2.2.2.2.2.1 (cx.2.2.2.2.2.2.2.1 _ hq) (va_AO.use ((kt_of cx).2.2.1 _ hao)) rfl hd rfl x1 (by omega) (by omega) (by omega) fun cA kA comp f1 f2 f3 f4 => ?_
    generalize hH1 : H.push ({ cls := cA, slots := Array.replicate x.toNatClampNeg .null, vm := .none } : Cell) = H1
    have z1 : H1.size = H.size + 1 := by rw [← hH1, Array.size_push]
    have e1 : H1[H.size]? = some (arrV cA x.toNatClampNeg (fun _ => .null)) := by rw [← hH1, Array.getElem?_push_size, ← arrV_new]
    have o1 : ∀ q : Nat, q < H.size → H1[q]? = H[q]? := fun q hq => by rw [← hH1, Array.getElem?_push, if_neg (Nat.ne_of_lt hq)]
    have hRA := (kt_ar (kt_of cx) t (by omega) ht.2).2
    rw [hty] at hRA
    obtain ⟨kA', comp', -, -, -, hfA⟩ := hRA
    have hcA : cA = dA D t := Option.some.inj (f1.symm.trans hfA)
    subst hcA
    rw [hR.1] at e1
    have w := w H1 locs ls (cells + 1) (slots + x.toNatClampNeg) ⟨?_, S_new hS z1 o1, by show cells + 1 + N0 = hN h + 1; omega, by show slots + x.toNatClampNeg + U0 = hU h + x.toNatClampNeg; omega⟩ hL
    · dsimp only at w
      rw [hR.1]
      exact w
    · refine Rep_new hR (T_nwo h t _) (T_nwn h t _) rfl rfl (I_nwo h t _) (P_nwo h t _) z1 o1 (RC_qar ht.1 ht.2 (dz_new hR hS (kt_of cx)) (by omega) ?_)
      rw [e1, P_nwn]
      rfl
theorem sn_newqA {t ix : Nat} {ty : FieldType} (hd : decode (mbyt y) pc = .ok (.anewarray ix, 3)) (ht : 22 ≤ t ∧ t < 30) (hty : aty t = .array ty) (hq : Cond.classLink (mname y).cls ix (FieldType.array ty).toString ∈ lw_all) (hao : Cond.arrayOver (.array ty) ∈ mnw) : SN y pc (i_newa t 3) := by
  intro L st h c' hf
  match st, hf with
  | .int x :: r, hf =>
    obtain ⟨hx, rfl⟩ := opt_if hf
    refine ⟨⟨Nat.le_succ _, Nat.le_add_right _ _⟩, fun D p l e R s m args below meth c Q N0 U0 cx ro hn hu w => ?_⟩
    intro H locs ls cells slots hRP hL
    obtain ⟨hR, hS, hcl, hsl⟩ := hRP
    obtain ⟨x1, x2⟩ := nat_of hx
    have hn : hN h + 1 ≤ N0 + R.cells := hn
    have hu : hU h + x.toNatClampNeg ≤ U0 + R.slots := hu
    have hcl : cells + N0 = hN h := hcl
    have hsl : slots + U0 = hU h := hsl
    refine W.anewA cx.1 cx.2.1 cx.2.2.2.2.2.2.1 (cx.2.2.2.2.2.2.2.1 _ hq) ((kt_of cx).2.2.1 _ hao) rfl hd rfl x1 (by omega) (by omega) (by omega) fun cA kA comp f1 f2 f3 f4 => ?_
    generalize hH1 : H.push ({ cls := cA, slots := Array.replicate x.toNatClampNeg .null, vm := .none } : Cell) = H1
    have z1 : H1.size = H.size + 1 := by rw [← hH1, Array.size_push]
    have e1 : H1[H.size]? = some (arrV cA x.toNatClampNeg (fun _ => .null)) := by rw [← hH1, Array.getElem?_push_size, ← arrV_new]
    have o1 : ∀ q : Nat, q < H.size → H1[q]? = H[q]? := fun q hq => by rw [← hH1, Array.getElem?_push, if_neg (Nat.ne_of_lt hq)]
    have hRA := (kt_ar (kt_of cx) t (by omega) ht.2).2
    rw [hty] at hRA
    have hfA : s.vm.findClass ("[" ++ (FieldType.array ty).toString) = some (dA D t) := hRA
    have hcA : cA = dA D t := Option.some.inj (f1.symm.trans hfA)
    subst hcA
    rw [hR.1] at e1
    have w := w H1 locs ls (cells + 1) (slots + x.toNatClampNeg) ⟨?_, S_new hS z1 o1, by show cells + 1 + N0 = hN h + 1; omega, by show slots + x.toNatClampNeg + U0 = hU h + x.toNatClampNeg; omega⟩ hL
    · dsimp only at w
      rw [hR.1]
      exact w
    · refine Rep_new hR (T_nwo h t _) (T_nwn h t _) rfl rfl (I_nwo h t _) (P_nwo h t _) z1 o1 (RC_qar ht.1 ht.2 (dz_new hR hS (kt_of cx)) (by omega) ?_)
      rw [e1, P_nwn]
      rfl
end
