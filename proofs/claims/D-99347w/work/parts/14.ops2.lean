/-! fields and arrays: reading -/
section
variable {y pc : Nat}
def lsw (pc : Nat) : List (Int32 × Nat) → List (Int × Int) → Bool
  | [], [] => true
  | (v, t) :: l, (a, o) :: os => decide (v.toInt = a) && decide ((pc : Int) + o = (t : Int)) && lsw pc l os
  | _, _ => false
theorem lsw_spec {L : List (Option Value)} {r : List Value} {h : mH} {x : Int32} {d : Nat} {c' : mC} {dflt : Int} (ht : (pc : Int) + dflt = (d : Int)) : ∀ (l : List (Int32 × Nat)) (os : List (Int × Int)), lsw pc l os = true → swc L r h x d l = some c' → ∃ t : Nat, c' = (t, L, r, h) ∧ (pc : Int) + Op.lookupswitch.offset os dflt x.toInt = (t : Int) := by
  intro l
  induction l with
  | nil =>
    intro os h1 e
    cases os with
    | nil => exact ⟨d, (Option.some.inj e).symm, ht⟩
    | cons o os => cases h1
  | cons q l ih =>
    obtain ⟨v, t⟩ := q
    intro os h1 e
    cases os with
    | nil => cases h1
    | cons o os =>
      obtain ⟨a, o⟩ := o
      unfold lsw at h1
      simp only [Bool.and_eq_true, decide_eq_true_eq] at h1
      obtain ⟨⟨h1, h2⟩, h3⟩ := h1
      unfold swc at e
      rw [Op.lookupswitch.offset_cons]
      by_cases hx : x = v
      · rw [if_pos hx] at e
        refine ⟨t, (Option.some.inj e).symm, ?_⟩
        rw [if_pos (by rw [hx, h1])]
        exact h2
      · rw [if_neg hx] at e
        obtain ⟨t', e1, e2⟩ := ih os h3 e
        refine ⟨t', e1, ?_⟩
        rw [if_neg (fun z => hx (Int32.toInt_inj.mp (by rw [h1]; exact z.symm)))]
        exact e2
theorem sp_lsw {dflt : Int} {ps : Array (Int × Int)} {len d : Nat} {tl : List (Int32 × Nat)} (hd : decode (mbyt y) pc = .ok (.lookupswitch dflt ps, len)) (hp : (ps.toList.zip (ps.toList.drop 1)).all (fun (a, next) => a.1 < next.1) = true) (hl : lsw pc tl ps.toList = true) (ht : (pc : Int) + dflt = (d : Int)) : SP y pc (i_sw tl d) := by
  intro L st h c' hf
  match st, hf with
  | .int x :: r, hf =>
    obtain ⟨t, rfl, e9⟩ := lsw_spec ht tl _ hl hf
    exact ⟨rfl, fun D p l e R s m args below meth c Q cx ro H locs ls cells slots hR hS hL k => lv_lookup cx.1 cx.2.1 hd hp rfl e9 (k ls hL)⟩
theorem kt_of {D : mD} {p : Program} {l : Launch} {e : Env} {R : Room} {s : State} {m : MethodId} {args : Array Value} {meth : Method} {c : Code} (cx : CX D y p l e R s m args meth c) : KT D s := cx.2.2.2.2.2.2.2.2.1
/-- an object's cell, as a world of one -/
theorem rep_obj {D : mD} {h : mH} {H : Heap} {a t n : Nat} (hR : Rep D h H) (ha : hT h a = some (t, n)) (ht : t < 13) : dZ D ≤ a ∧ t_OB a ((dG D).1 t) (mN t) ((dG D).2 t) H (fv h a t) := by
  have h1 := hR.2.2 a t n ha
  unfold RC at h1
  rwa [if_pos ht] at h1
theorem mN_ok : ∀ t, t < 13 → ∀ q : vw_C, mcl[t]? = some q → mN t = q.2.2 := by
  intro t ht q hq
  match t, ht, hq with
  | 0, _, hq => cases hq; rfl
  | 1, _, hq => cases hq; rfl
  | 2, _, hq => cases hq; rfl
  | 3, _, hq => cases hq; rfl
  | 4, _, hq => cases hq; rfl
  | 5, _, hq => cases hq; rfl
  | 6, _, hq => cases hq; rfl
  | 7, _, hq => cases hq; rfl
  | 8, _, hq => cases hq; rfl
  | 9, _, hq => cases hq; rfl
  | 10, _, hq => cases hq; rfl
  | 11, _, hq => cases hq; rfl
  | 12, _, hq => cases hq; rfl
theorem rep_P {D : mD} {h : mH} {H : Heap} {a t n : Nat} {q : vw_C} (hR : Rep D h H) (ha : hT h a = some (t, n)) (ht : t < 13) (hq : mcl[t]? = some q) : va_P (dG D) mcl [(a, .inr (t, (List.range q.2.2).map (fv h a t)))] H := by
  intro k z hz
  have hk : k = 0 := by
    have := (List.getElem?_eq_some_iff.mp hz).1
    simp at this
    exact this
  subst hk
  cases hz
  refine ⟨q, hq, t_OB.to (V := fv h a t) ?_ (fun k hk => ?_)⟩
  · have h1 := (rep_obj hR ha ht).2
    rwa [mN_ok t ht q hq] at h1
  · simp [vp_V, hk]
theorem sp_getX {t k ix : Nat} {C : String} {T : u_T} {N : Nat} {h : mH} {L : List (Option Value)} {a n : Nat} {r : List Value} (ha : hT h a = some (t, n)) (ht : t < 13) (hc : mcl[t]? = some (C, T, N)) (hk : k < N) (hws : ∀ w ∈ u_ws C T N, w ∈ lw_all) (hd : decode (mbyt y) pc = .ok (.getfield ix, 3)) (hq : Cond.fieldLink (mname y).cls ix (T k).1 (T k).2.1 (T k).2.2.1 ∈ lw_all ∨ ∃ host, Cond.fieldLinkNest (mname y).cls ix (T k).1 (T k).2.1 (T k).2.2.1 host ∈ mnw) {D : mD} {p : Program} {l : Launch} {e : Env} {R : Room} {s : State} {m : MethodId} {args : Array Value} {below : List Frame} {meth : Method} {c : Code} {Q : State → Prop} (cx : CX D y p l e R s m args meth c) {H : Heap} {locs : List Loc} {ls : Array Slot} {cells slots : Nat} (hR : Rep D h H) (kk : W p l e R s m args below meth c H locs cells slots Q (F0 m (pc + 3) ls (fv h a t k :: r))) : W p l e R s m args below meth c H locs cells slots Q (F0 m pc ls (.ref a :: r)) := by
  have hv : ((List.range N).map (fv h a t))[k]? = some (fv h a t k) := by simp [hk]
  rcases hq with hq | ⟨host, hq⟩
  · exact va_get cx.1 cx.2.1 cx.2.2.2.2.2.2.2.1 hws cx.2.2.2.2.2.2.1 (kt_of cx).2.1 (rep_P hR ha ht hc) 0 rfl hc k hk (cx.2.2.2.2.2.2.2.1 _ hq) (fun _ z => z) hv hd kk
  · exact va_getN cx.1 cx.2.1 cx.2.2.2.2.2.2.2.1 hws cx.2.2.2.2.2.2.1 (kt_of cx).2.1 (rep_P hR ha ht hc) 0 rfl hc k hk (va_Nw.use rfl ((kt_of cx).2.2.1 _ hq)) (fun _ z => z) hv hd kk
theorem sp_getI {t k ix : Nat} {C : String} {T : u_T} {N : Nat} (hd : decode (mbyt y) pc = .ok (.getfield ix, 3)) (ht : t < 13) (hc : mcl[t]? = some (C, T, N)) (hk : k < N) (hty : isRt (mty t k) = false) (hws : ∀ w ∈ u_ws C T N, w ∈ lw_all) (hq : Cond.fieldLink (mname y).cls ix (T k).1 (T k).2.1 (T k).2.2.1 ∈ lw_all ∨ ∃ host, Cond.fieldLinkNest (mname y).cls ix (T k).1 (T k).2.1 (T k).2.2.1 host ∈ mnw) : SP y pc (i_getI t k) := by
  intro L st h c' hf
  match st, hf with
  | .ref a :: r, hf =>
    unfold i_getI at hf
    dsimp only at hf
    generalize ha : hT h a = o at hf
    match o, hf with
    | some (t', n), hf =>
      obtain ⟨rfl, rfl⟩ := opt_if hf
      refine ⟨rfl, fun D p l e R s m args below meth c Q cx ro H locs ls cells slots hR hS hL k => sp_getX (L := L) ha ht hc hk hws hd hq cx hR ?_⟩
      have k := k ls hL
      simp only [fv, hty]
      exact k
theorem sp_getP {t k ix : Nat} {C : String} {T : u_T} {N : Nat} (hd : decode (mbyt y) pc = .ok (.getfield ix, 3)) (ht : t < 13) (hc : mcl[t]? = some (C, T, N)) (hk : k < N) (hty : isRt (mty t k) = true) (hws : ∀ w ∈ u_ws C T N, w ∈ lw_all) (hq : Cond.fieldLink (mname y).cls ix (T k).1 (T k).2.1 (T k).2.2.1 ∈ lw_all ∨ ∃ host, Cond.fieldLinkNest (mname y).cls ix (T k).1 (T k).2.1 (T k).2.2.1 host ∈ mnw) : SP y pc (i_getP t k) := by
  intro L st h c' hf
  match st, hf with
  | .ref a :: r, hf =>
    unfold i_getP at hf
    dsimp only at hf
    generalize ha : hT h a = o at hf
    match o, hf with
    | some (t', n), hf =>
      obtain ⟨rfl, rfl⟩ := opt_if hf
      refine ⟨rfl, fun D p l e R s m args below meth c Q cx ro H locs ls cells slots hR hS hL k => sp_getX (L := L) ha ht hc hk hws hd hq cx hR ?_⟩
      have k := k ls hL
      simp only [fv, hty]
      exact k
-- a constant string
theorem rep_str {D : mD} {h : mH} {H : Heap} {s : State} {a v : Nat} (hR : Rep D h H) (hK : KT D s) (ha : hS h a = some v) : ∃ i, i < 47 ∧ dK D i = some a ∧ v = dV D i := hK.2.2.2.2.2.2.2.2.1 a v ((congrArg (fun z : mK => z.2.1 a) hR.2.1).symm.trans ha)
theorem rep_sby {D : mD} {h : mH} {H : Heap} {s : State} {a : Nat} {bs : List Int32} (hR : Rep D h H) (hK : KT D s) (ha : hV h a = some bs) : ∃ i, i < 47 ∧ a = dV D i ∧ bs = (sbyt i).map nI := hK.2.2.2.2.2.2.2.2.2 a bs ((congrArg (fun z : mK => z.2.2 a) hR.2.1).symm.trans ha)
theorem mstr_at : ∀ i, i < 47 → ∃ o, mstr[i]? = some o ∧ o.2.2.2 = sbyt i := by
  intro i hi
  have h : i < mstr.length := hi
  refine ⟨mstr[i], List.getElem?_eq_getElem h, ?_⟩
  unfold sbyt
  rw [List.getD_eq_getElem?_getD, List.getElem?_eq_getElem h]
  rfl
theorem kt_str {D : mD} {s : State} (hK : KT D s) {i a : Nat} (hi : i < 47) (ha : dK D i = some a) : va_O "java/lang/String" a (dF D) s s.heap ∧ va_OF "java/lang/String" "coder" "B" (.int 0) a (dF D) s s.heap ∧ va_OF "java/lang/String" "value" "[B" (.ref (dV D i)) a (dF D) s s.heap ∧ va_T .byte (dV D i) (slen i) (fun j => .int (nI ((sbyt i).getD j 0))) (dF D) s s.heap := by
  obtain ⟨o, h1, h2⟩ := mstr_at i hi
  obtain ⟨a', e, k1, k2, k3, k4, k5⟩ := hK.2.2.2.2.2.1 i o h1
  cases ha.symm.trans e
  rw [h2] at k5
  exact ⟨k2, k3, k4, k5⟩
theorem sp_gsc {ix : Nat} (hd : decode (mbyt y) pc = .ok (.getfield ix, 3)) (hq : Cond.fieldLink (mname y).cls ix "java/lang/String" "coder" "B" ∈ lw_all) : SP y pc i_gsc := by
  intro L st h c' hf
  match st, hf with
  | .ref a :: r, hf =>
    unfold i_gsc at hf
    dsimp only at hf
    generalize ha : hS h a = o at hf
    match o, hf with
    | some v, hf =>
      obtain rfl := Option.some.inj hf
      refine ⟨rfl, fun D p l e R s m args below meth c Q cx ro H locs ls cells slots hR hS hL k => ?_⟩
      obtain ⟨i, hi, h1, h2⟩ := rep_str hR (kt_of cx) ha
      exact vk_getf cx.1 cx.2.1 (kt_str (kt_of cx) hi h1).2.1 hS cx.2.2.2.2.2.2.1 (cx.2.2.2.2.2.2.2.1 _ hq) (fun _ z => z) hd (k ls hL)
theorem sp_gsv {ix : Nat} (hd : decode (mbyt y) pc = .ok (.getfield ix, 3)) (hq : Cond.fieldLink (mname y).cls ix "java/lang/String" "value" "[B" ∈ lw_all) : SP y pc i_gsv := by
  intro L st h c' hf
  match st, hf with
  | .ref a :: r, hf =>
    unfold i_gsv at hf
    dsimp only at hf
    generalize ha : hS h a = o at hf
    match o, hf with
    | some v, hf =>
      obtain rfl := Option.some.inj hf
      refine ⟨rfl, fun D p l e R s m args below meth c Q cx ro H locs ls cells slots hR hS hL k => ?_⟩
      obtain ⟨i, hi, h1, h2⟩ := rep_str hR (kt_of cx) ha
      have k := k ls hL
      dsimp only at k
      rw [h2] at k
      exact vk_getf cx.1 cx.2.1 (kt_str (kt_of cx) hi h1).2.2.1 hS cx.2.2.2.2.2.2.1 (cx.2.2.2.2.2.2.2.1 _ hq) (fun _ z => z) hd k
-- arrays
theorem rep_iar {D : mD} {h : mH} {H : Heap} {a t n : Nat} (hR : Rep D h H) (ha : hT h a = some (t, n)) (h1 : 20 ≤ t) (h2 : t < 22) : dZ D ≤ a ∧ n < 2 ^ 31 ∧ H[a]? = some (vp_cell (dA D t) (n, .inl (hI h a))) := by
  have h0 := hR.2.2 a t n ha
  unfold RC at h0
  rwa [if_neg (by omega), if_neg (by omega), if_neg (by omega), if_pos h2] at h0
theorem rep_qar {D : mD} {h : mH} {H : Heap} {a t n : Nat} (hR : Rep D h H) (ha : hT h a = some (t, n)) (h1 : 22 ≤ t) (h2 : t < 30) : dZ D ≤ a ∧ n < 2 ^ 31 ∧ H[a]? = some (vp_cell (dA D t) (n, .inr (.inr (.inr (.inr (hP h a)))))) := by
  have h0 := hR.2.2 a t n ha
  unfold RC at h0
  rwa [if_neg (by omega), if_neg (by omega), if_neg (by omega), if_neg (by omega), if_pos h2] at h0
theorem rep_scr {D : mD} {h : mH} {H : Heap} {a n : Nat} (hR : Rep D h H) (ha : hT h a = some (40, n)) : a = (dS D).1 ∧ n = (dS D).2.1 ∧ ∀ j, j < n → hI h a j = (dS D).2.2 j := hR.2.2 a 40 n ha
/-- kinds that stand for arrays -/
theorem rep_tag {D : mD} {h : mH} {H : Heap} {a t n : Nat} (hR : Rep D h H) (ha : hT h a = some (t, n)) (ht : 20 ≤ t) : t < 30 ∨ t = 40 := by
  have h0 := hR.2.2 a t n ha
  unfold RC at h0
  by_cases h30 : t < 30
  · exact Or.inl h30
  · by_cases h40 : t = 40
    · exact Or.inr h40
    · rw [if_neg (by omega), if_neg (by omega), if_neg (by omega), if_neg (by omega), if_neg h30, if_neg h40] at h0
      exact h0.elim
theorem kt_ar {D : mD} {s : State} (hK : KT D s) : ∀ t, 20 ≤ t → t < 30 → ArrOfT s (dA D t) (aty t) ∧ va_RA s (dA D t) (aty t) := by
  intro t h1 h2
  have h := hK.2.1.2 (t - 20)
  match t, h1, h2, h with
  | 20, _, _, h => exact h _ rfl
  | 21, _, _, h => exact h _ rfl
  | 22, _, _, h => exact h _ rfl
  | 23, _, _, h => exact h _ rfl
  | 24, _, _, h => exact h _ rfl
  | 25, _, _, h => exact h _ rfl
  | 26, _, _, h => exact h _ rfl
  | 27, _, _, h => exact h _ rfl
  | 28, _, _, h => exact h _ rfl
  | 29, _, _, h => exact h _ rfl
  | n + 30, _, h2, _ => omega
theorem nI_size {n : Nat} (hn : n < 2 ^ 31) : n.toInt32 = nI n := rfl
theorem sp_alen (hd : decode (mbyt y) pc = .ok (.arraylength, 1)) : SP y pc i_alen := by
  intro L st h c' hf
  match st, hf with
  | .ref a :: r, hf =>
    unfold i_alen at hf
    dsimp only at hf
    generalize ha : hT h a = o at hf
    match o, hf with
    | some (t, n), hf =>
      obtain ⟨hg, rfl⟩ := opt_if hf
      refine ⟨rfl, fun D p l e R s m args below meth c Q cx ro H locs ls cells slots hR hS hL k => ?_⟩
      have ht : 20 ≤ t := of_decide_eq_true hg
      have hK := kt_of cx
      have k := k ls hL
      rcases rep_tag hR ha ht with h1 | h1
      · have hA := (kt_ar hK t ht h1).1
        rcases Nat.lt_or_ge t 22 with h2 | h2
        · obtain ⟨-, hn, hc⟩ := rep_iar hR ha ht h2
          exact W.alen cx.1 cx.2.1 hc (hA n (fun j => .int (hI h a j))) (by show (arrV _ _ _).slots.size.toInt32 = _; rw [arrV_size]; rfl) rfl rfl hd k
        · obtain ⟨-, hn, hc⟩ := rep_qar hR ha h2 h1
          exact W.alen cx.1 cx.2.1 hc (hA n (fun j => va_rf (hP h a j))) (by show (arrV _ _ _).slots.size.toInt32 = _; rw [arrV_size]; rfl) rfl rfl hd k
      · subst h1
        obtain ⟨e1, e2, -⟩ := rep_scr hR ha
        obtain ⟨hlt, hX⟩ := hK.2.2.2.2.2.2.1
        obtain ⟨scr, q1, q2, q3, q4, -⟩ := hX.kept (H1 := H) (hS.2.1 _ (Nat.lt_of_lt_of_le hlt hK.1) (Nat.not_le.mpr hlt))
        exact W.alen cx.1 cx.2.1 (by rw [e1]; exact q1) q2 (by rw [q4, e2]; rfl) rfl rfl hd k
theorem not_out {i : Int32} {n : Nat} (h : 0 ≤ i ∧ i.toNatClampNeg < n) : vp_in i n := by
  intro q
  rcases q with q | q
  · exact absurd h.1 (fun z => i32_nlt z q)
  · exact absurd h.2 (Nat.not_lt.mpr q)
theorem sp_iald (hd : decode (mbyt y) pc = .ok (.iaload, 1)) : SP y pc (i_ald 20) := by
  intro L st h c' hf
  match st, hf with
  | .int i :: .ref a :: r, hf =>
    unfold i_ald at hf
    dsimp only at hf
    generalize ha : hT h a = o at hf
    match o, hf with
    | some (t, n), hf =>
      obtain ⟨⟨rfl, hg⟩, rfl⟩ := opt_if hf
      refine ⟨rfl, fun D p l e R s m args below meth c Q cx ro H locs ls cells slots hR hS hL k => ?_⟩
      obtain ⟨-, hn, hc⟩ := rep_iar hR ha (by omega) (by omega)
      exact W.iald (v := .int (hI h a i.toNatClampNeg)) cx.1 cx.2.1 hc ((kt_ar (kt_of cx) 20 (by omega) (by omega)).1 n (fun j => .int (hI h a j))) (fun q => by cases q) (by show ¬ (i < 0 ∨ (arrV _ _ _).slots.size ≤ _); rw [arrV_size]; exact not_out hg) (by show (arrV _ _ _).slots[_]? = _; rw [arrV_read _ _ hg.2]) rfl rfl hd (k ls hL)
theorem sp_sald (hd : decode (mbyt y) pc = .ok (.iaload, 1)) : SP y pc (i_ald 40) := by
  intro L st h c' hf
  match st, hf with
  | .int i :: .ref a :: r, hf =>
    unfold i_ald at hf
    dsimp only at hf
    generalize ha : hT h a = o at hf
    match o, hf with
    | some (t, n), hf =>
      obtain ⟨⟨rfl, hg⟩, rfl⟩ := opt_if hf
      refine ⟨rfl, fun D p l e R s m args below meth c Q cx ro H locs ls cells slots hR hS hL k => ?_⟩
      have hK := kt_of cx
      obtain ⟨e1, e2, e3⟩ := rep_scr hR ha
      obtain ⟨hlt, hX⟩ := hK.2.2.2.2.2.2.1
      obtain ⟨scr, q1, q2, q3, q4, q5⟩ := hX.kept (H1 := H) (hS.2.1 _ (Nat.lt_of_lt_of_le hlt hK.1) (Nat.not_le.mpr hlt))
      exact W.iald (v := .int (hI h a i.toNatClampNeg)) cx.1 cx.2.1 (by rw [e1]; exact q1) q2 q3 (by rw [q4, ← e2]; exact not_out hg) (by rw [q5 _ (by rw [← e2]; exact hg.2), e3 _ hg.2]) rfl rfl hd (k ls hL)
theorem sp_bald (hd : decode (mbyt y) pc = .ok (.baload, 1)) : SP y pc (i_ald 21) := by
  intro L st h c' hf
  match st, hf with
  | .int i :: .ref a :: r, hf =>
    unfold i_ald at hf
    dsimp only at hf
    generalize ha : hT h a = o at hf
    match o, hf with
    | some (t, n), hf =>
      obtain ⟨⟨rfl, hg⟩, rfl⟩ := opt_if hf
      refine ⟨rfl, fun D p l e R s m args below meth c Q cx ro H locs ls cells slots hR hS hL k => ?_⟩
      obtain ⟨-, hn, hc⟩ := rep_iar hR ha (by omega) (by omega)
      exact W.bald (v := .int (hI h a i.toNatClampNeg)) cx.1 cx.2.1 hc ((kt_ar (kt_of cx) 21 (by omega) (by omega)).1 n (fun j => .int (hI h a j))) (fun q => by cases q) (by show ¬ (i < 0 ∨ (arrV _ _ _).slots.size ≤ _); rw [arrV_size]; exact not_out hg) (by show (arrV _ _ _).slots[_]? = _; rw [arrV_read _ _ hg.2]) rfl rfl hd (k ls hL)
theorem kt_sby {D : mD} {s : State} (hK : KT D s) {i : Nat} (hi : i < 47) : va_T .byte (dV D i) (sbyt i).length (fun j => .int (nI ((sbyt i).getD j 0))) (dF D) s s.heap := by
  obtain ⟨o, g1, g2⟩ := mstr_at i hi
  obtain ⟨a', e, k1, k2, k3, k4, k5⟩ := hK.2.2.2.2.2.1 i o g1
  rw [g2] at k5
  exact k5
theorem sp_slen (hd : decode (mbyt y) pc = .ok (.arraylength, 1)) : SP y pc i_slen := by
  intro L st h c' hf
  match st, hf with
  | .ref a :: r, hf =>
    unfold i_slen at hf
    dsimp only at hf
    generalize ha : hV h a = o at hf
    match o, hf with
    | some bs, hf =>
      obtain rfl := Option.some.inj hf
      refine ⟨rfl, fun D p l e R s m args below meth c Q cx ro H locs ls cells slots hR hS hL k => ?_⟩
      obtain ⟨i, hi, e1, e2⟩ := rep_sby hR (kt_of cx) ha
      obtain ⟨cell, q1, q2, q3, q4, q5, -⟩ := (kt_sby (kt_of cx) hi).kept hS.2.1
      exact W.alen cx.1 cx.2.1 (by rw [e1]; exact q1) q2 (by rw [q5, e2, List.length_map]; rfl) rfl rfl hd (k ls hL)
theorem sp_gvb (hd : decode (mbyt y) pc = .ok (.baload, 1)) : SP y pc i_gvb := by
  intro L st h c' hf
  match st, hf with
  | .int i :: .ref a :: r, hf =>
    unfold i_gvb at hf
    dsimp only at hf
    generalize ha : hV h a = o at hf
    match o, hf with
    | some bs, hf =>
      obtain ⟨hg, rfl⟩ := opt_if hf
      refine ⟨rfl, fun D p l e R s m args below meth c Q cx ro H locs ls cells slots hR hS hL k => ?_⟩
      obtain ⟨j, hj, e1, e2⟩ := rep_sby hR (kt_of cx) ha
      obtain ⟨cell, q1, q2, q3, q4, q5, q6, -⟩ := (kt_sby (kt_of cx) hj).kept hS.2.1
      have hlt : i.toNatClampNeg < (sbyt j).length := by have := hg.2; rw [e2, List.length_map] at this; exact this
      have ev : bs.getD i.toNatClampNeg 0 = nI ((sbyt j).getD i.toNatClampNeg 0) := by
        rw [e2, List.getD_eq_getElem?_getD, List.getElem?_map, List.getElem?_eq_getElem hlt, List.getD_eq_getElem?_getD, List.getElem?_eq_getElem hlt]
        rfl
      have k := k ls hL
      dsimp only at k
      rw [ev] at k
      exact W.bald (v := .int (nI ((sbyt j).getD i.toNatClampNeg 0))) cx.1 cx.2.1 (by rw [e1]; exact q1) q2 q3 (fun z => not_out hg (by rcases z with z | z; exact Or.inl z; exact absurd hlt (by omega))) (by rw [q6 _ hlt]) rfl rfl hd k
theorem isRt_ref : ∀ t, 22 ≤ t → t < 30 → (aty t).isReference = true := by
  intro t h1 h2
  match t, h1, h2 with
  | 22, _, _ => rfl
  | 23, _, _ => rfl
  | 24, _, _ => rfl
  | 25, _, _ => rfl
  | 26, _, _ => rfl
  | 27, _, _ => rfl
  | 28, _, _ => rfl
  | 29, _, _ => rfl
  | n + 30, _, h2 => omega
theorem sp_aald (hd : decode (mbyt y) pc = .ok (.aaload, 1)) : SP y pc i_aald := by
  intro L st h c' hf
  match st, hf with
  | .int i :: .ref a :: r, hf =>
    unfold i_aald at hf
    dsimp only at hf
    generalize ha : hT h a = o at hf
    match o, hf with
    | some (t, n), hf =>
      obtain ⟨⟨ht, hg⟩, rfl⟩ := opt_if hf
      have ht := of_decide_eq_true ht
      refine ⟨rfl, fun D p l e R s m args below meth c Q cx ro H locs ls cells slots hR hS hL k => ?_⟩
      obtain ⟨-, hn, hc⟩ := rep_qar hR ha ht.1 ht.2
      exact W.aald (v := va_rf (hP h a i.toNatClampNeg)) cx.1 cx.2.1 hc ((kt_ar (kt_of cx) t (by omega) ht.2).1 n (fun j => va_rf (hP h a j))) (isRt_ref t ht.1 ht.2) (fun q => by cases q) (by show ¬ (i < 0 ∨ (arrV _ _ _).slots.size ≤ _); rw [arrV_size]; exact not_out hg) (by show (arrV _ _ _).slots[_]? = _; rw [arrV_read _ _ hg.2]) rfl rfl hd (k ls hL)
theorem cat_sum {r : List Value} (h : r.length ≤ 4) : (r.map fun v => v.category).sum ≤ 8 := by
  have h1 : ∀ l : List Value, (l.map fun v => v.category).sum ≤ 2 * l.length := by
    intro l
    induction l with
    | nil => simp
    | cons v l ih =>
      have hv : v.category ≤ 2 := by rcases lv_cat v with q | q <;> omega
      simp only [List.map_cons, List.sum_cons, List.length_cons]
      omega
  have := h1 r
  omega
theorem sp_obj {ix : Nat} (hd : decode (mbyt y) pc = .ok (.invokespecial ix, 3)) (hq : Cond.methodLink (mname y).cls ix Lib.objectInit ∈ lw_all) (hq2 : Cond.instanceMethod Lib.objectInit ∈ lw_all) (hq3 : Cond.code Lib.objectInit ⟨#[0xb1]⟩ 1 none ∈ lw_all) : SP y pc i_obj := by
  intro L st h c' hf
  match st, hf with
  | .ref a :: r, hf =>
    obtain ⟨hg, rfl⟩ := opt_if hf
    refine ⟨rfl, fun D p l e R s m args below meth c Q cx ro H locs ls cells slots hR hS hL k => ?_⟩
    have hs := cat_sum hg
    have hts := cx.2.2.2.2.2.2.2.1
    refine W.objInit cx.1 cx.2.1 cx.2.2.2.2.2.2.1 (hts _ hq) (hts _ hq2) (hts _ hq3) rfl (by rw [cx.2.2.1]; exact hL.1) rfl hd ro.1 ?_ (k ls hL)
    have h0 : (F0 m pc ls (.ref a :: r)).monitorRoom = 0 := rfl
    have := ro.2
    rw [h0]
    omega
end
