/-! the rules by which a run is followed -/
def gI (o : Option (Nat × Nat)) (c : Nat) (X : Option mR) : Option mR := match o with
  | some (t, _) => if t = c then X else none
  | none => none
def gA (o : Option (Nat × Nat)) (c : Nat) (i : Int32) (X : Option mR) : Option mR := match o with
  | some (t, n) => if t = c ∧ (nI 0 ≤ i ∧ i.toNatClampNeg < n) then X else none
  | none => none
def gR (o : Option (Nat × Nat)) (i : Int32) (X : Option mR) : Option mR := match o with
  | some (t, n) => if isRA t = true ∧ (nI 0 ≤ i ∧ i.toNatClampNeg < n) then X else none
  | none => none
def gE (o o2 : Option (Nat × Nat)) (i : Int32) (X : Option mR) : Option mR := match o, o2 with
  | some (t, n), some (u, _) => if eOK t u = true ∧ (nI 0 ≤ i ∧ i.toNatClampNeg < n) then X else none
  | _, _ => none
def gN (o : Option (Nat × Nat)) (X : Int32 → Option mR) : Option mR := match o with
  | some (t, n) => if isAr t = true then X (nI n) else none
  | none => none
def gO {α : Type} (o : Option α) (X : α → Option mR) : Option mR := match o with
  | some v => X v
  | none => none
def gL (r : List Value) (X : Option mR) : Option mR := if r.length ≤ 4 then X else none
def lI (o : Option Value) (X : Int32 → Option mR) : Option mR := match o with
  | some (.int x) => X x
  | _ => none
def lJ (o : Option Value) (X : Int64 → Option mR) : Option mR := match o with
  | some (.long x) => X x
  | _ => none
def lR (o : Option Value) (X : Value → Option mR) : Option mR := match o with
  | some v => if isRv v = true then X v else none
  | _ => none
def bG (b : Bool) (X : Option mR) : Option mR := if b = true then X else none
def swR (x : Int32) (D : Option mR) (X : Nat → Option mR) : List (Int32 × Nat) → Option mR
  | [] => D
  | (v, t) :: l => if x = v then X t else swR x D X l
def b2 (P : Prop) [Decidable P] : Int32 := if P then nI 1 else nI 0
section R
variable {d y pc k w t n c y' : Nat} {L : List (Option Value)} {st r : List Value} {h : mH} {v u : Value} {x x' : Int32} {z z' : Int64} {a b : Nat} {f : Int32 → Int32} {g : Int32 → Int32 → Int32}
theorem r_ic : rN d y (i_ic x w (pc, L, st, h)) = res d y (pc + w, L, .int x :: st, h) := rfl
theorem r_lc : rN d y (i_lc z w (pc, L, st, h)) = res d y (pc + w, L, .long z :: st, h) := rfl
theorem r_gc : rN d y (i_gc k w (pc, L, st, h)) = res d y (pc + w, L, va_rf (hG h k) :: st, h) := rfl
theorem r_null : rN d y (i_null (pc, L, st, h)) = res d y (pc + 1, L, .null :: st, h) := rfl
theorem r_iload : rN d y (i_iload k w (pc, L, st, h)) = lI (lget L k) (fun x => res d y (pc + w, L, .int x :: st, h)) := by
  show rN d y (match lget L k with | some (.int x) => some (pc + w, L, .int x :: st, h) | _ => none) = _
  cases lget L k with
  | none => rfl
  | some v => cases v <;> rfl
theorem r_lload : rN d y (i_lload k w (pc, L, st, h)) = lJ (lget L k) (fun x => res d y (pc + w, L, .long x :: st, h)) := by
  show rN d y (match lget L k with | some (.long x) => some (pc + w, L, .long x :: st, h) | _ => none) = _
  cases lget L k with
  | none => rfl
  | some v => cases v <;> rfl
theorem r_aload : rN d y (i_aload k w (pc, L, st, h)) = lR (lget L k) (fun v => res d y (pc + w, L, v :: st, h)) := by
  show rN d y (match lget L k with | some v => if isRv v = true then some (pc + w, L, v :: st, h) else none | _ => none) = _
  cases lget L k with
  | none => rfl
  | some v =>
    show rN d y (if isRv v = true then _ else none) = if isRv v = true then _ else none
    split <;> rfl
theorem r_istore : rN d y (i_istore k w (pc, L, .int x :: r, h)) = res d y (pc + w, lset L k (.int x), r, h) := rfl
theorem r_lstore : rN d y (i_lstore k w (pc, L, .long z :: r, h)) = res d y (pc + w, lsetL L k (.long z), r, h) := rfl
theorem r_astore : rN d y (i_astore k w (pc, L, v :: r, h)) = bG (isRv v) (res d y (pc + w, lset L k v, r, h)) := by
  show rN d y (if isRv v = true then _ else none) = if isRv v = true then _ else none
  split <;> rfl
theorem r_iinc {i : Int} : rN d y (i_iinc k i (pc, L, st, h)) = lI (lget L k) (fun x => res d y (pc + 3, lset L k (.int (x + Int32.ofInt i)), st, h)) := by
  show rN d y (match lget L k with | some (.int x) => some (pc + 3, lset L k (.int (x + Int32.ofInt i)), st, h) | _ => none) = _
  cases lget L k with
  | none => rfl
  | some v => cases v <;> rfl
theorem r_bin : rN d y (i_bin g (pc, L, .int x' :: .int x :: r, h)) = res d y (pc + 1, L, .int (g x x') :: r, h) := rfl
theorem r_un : rN d y (i_un f (pc, L, .int x :: r, h)) = res d y (pc + 1, L, .int (f x) :: r, h) := rfl
theorem r_ite {P : Prop} [Decidable P] {A B : mC} : rN d y (if P then some A else some B) = if P then res d y A else res d y B := by split <;> rfl
theorem r_ite0 {P : Prop} [Decidable P] {A : mC} : rN d y (if P then some A else none) = if P then res d y A else none := by split <;> rfl
theorem r_0ite {P : Prop} [Decidable P] {A : mC} : rN d y (if P then none else some A) = if P then none else res d y A := by split <;> rfl
theorem r_div : rN d y (i_div (pc, L, .int x' :: .int x :: r, h)) = if x' = nI 0 then none else res d y (pc + 1, L, .int (x / x') :: r, h) := r_0ite
theorem r_rem : rN d y (i_rem (pc, L, .int x' :: .int x :: r, h)) = if x' = nI 0 then none else res d y (pc + 1, L, .int (x - x / x' * x') :: r, h) := r_0ite
theorem r_i2l : rN d y (i_i2l (pc, L, .int x :: r, h)) = res d y (pc + 1, L, .long x.toInt64 :: r, h) := rfl
theorem r_l2i : rN d y (i_l2i (pc, L, .long z :: r, h)) = res d y (pc + 1, L, .int z.toInt32 :: r, h) := rfl
theorem r_lmul : rN d y (i_lmul (pc, L, .long z' :: .long z :: r, h)) = res d y (pc + 1, L, .long (z * z') :: r, h) := rfl
theorem r_lrem : rN d y (i_lrem (pc, L, .long z' :: .long z :: r, h)) = if z' = 0 then none else res d y (pc + 1, L, .long (z - z / z' * z') :: r, h) := r_0ite
theorem r_dup : rN d y (i_dup (pc, L, v :: r, h)) = bG (isC1 v) (res d y (pc + 1, L, v :: v :: r, h)) := r_ite0
theorem r_dup2 : rN d y (i_dup2 (pc, L, v :: u :: r, h)) = bG (isC1 v) (bG (isC1 u) (res d y (pc + 1, L, v :: u :: v :: u :: r, h))) := by
  show rN d y (if isC1 v = true ∧ isC1 u = true then _ else none) = if isC1 v = true then (if isC1 u = true then _ else none) else none
  by_cases h1 : isC1 v = true
  · by_cases h2 : isC1 u = true
    · rw [if_pos ⟨h1, h2⟩, if_pos h1, if_pos h2]; rfl
    · rw [if_neg (fun q => h2 q.2), if_pos h1, if_neg h2]; rfl
  · rw [if_neg (fun q => h1 q.1), if_neg h1]; rfl
theorem r_pop : rN d y (i_pop (pc, L, v :: r, h)) = bG (isC1 v) (res d y (pc + 1, L, r, h)) := r_ite0
theorem r_goto : rN d y (i_goto t (pc, L, st, h)) = res d y (t, L, st, h) := rfl
theorem r_ifeq : rN d y (i_ifeq t (pc, L, .int x :: r, h)) = if x = nI 0 then res d y (t, L, r, h) else res d y (pc + 3, L, r, h) := r_ite
theorem r_ifne : rN d y (i_ifne t (pc, L, .int x :: r, h)) = if x = nI 0 then res d y (pc + 3, L, r, h) else res d y (t, L, r, h) := r_ite
theorem r_iflt : rN d y (i_iflt t (pc, L, .int x :: r, h)) = if x < nI 0 then res d y (t, L, r, h) else res d y (pc + 3, L, r, h) := r_ite
theorem r_ifge : rN d y (i_ifge t (pc, L, .int x :: r, h)) = if x < nI 0 then res d y (pc + 3, L, r, h) else res d y (t, L, r, h) := r_ite
theorem r_ifgt : rN d y (i_ifgt t (pc, L, .int x :: r, h)) = if nI 0 < x then res d y (t, L, r, h) else res d y (pc + 3, L, r, h) := r_ite
theorem r_ifle : rN d y (i_ifle t (pc, L, .int x :: r, h)) = if nI 0 < x then res d y (pc + 3, L, r, h) else res d y (t, L, r, h) := r_ite
theorem r_ceq : rN d y (i_ceq t (pc, L, .int x' :: .int x :: r, h)) = if x = x' then res d y (t, L, r, h) else res d y (pc + 3, L, r, h) := r_ite
theorem r_cne : rN d y (i_cne t (pc, L, .int x' :: .int x :: r, h)) = if x = x' then res d y (pc + 3, L, r, h) else res d y (t, L, r, h) := r_ite
theorem r_clt : rN d y (i_clt t (pc, L, .int x' :: .int x :: r, h)) = if x < x' then res d y (t, L, r, h) else res d y (pc + 3, L, r, h) := r_ite
theorem r_cge : rN d y (i_cge t (pc, L, .int x' :: .int x :: r, h)) = if x < x' then res d y (pc + 3, L, r, h) else res d y (t, L, r, h) := r_ite
theorem r_cgt : rN d y (i_cgt t (pc, L, .int x' :: .int x :: r, h)) = if x' < x then res d y (t, L, r, h) else res d y (pc + 3, L, r, h) := r_ite
theorem r_cle : rN d y (i_cle t (pc, L, .int x' :: .int x :: r, h)) = if x' < x then res d y (pc + 3, L, r, h) else res d y (t, L, r, h) := r_ite
theorem r_aeq : rN d y (i_aeq t (pc, L, .ref b :: .ref a :: r, h)) = if a = b then res d y (t, L, r, h) else res d y (pc + 3, L, r, h) := r_ite
theorem r_ane : rN d y (i_ane t (pc, L, .ref b :: .ref a :: r, h)) = if a = b then res d y (pc + 3, L, r, h) else res d y (t, L, r, h) := r_ite
theorem r_ifnull : rN d y (i_ifnull t (pc, L, .ref a :: r, h)) = res d y (pc + 3, L, r, h) := rfl
theorem r_ifnullN : rN d y (i_ifnull t (pc, L, .null :: r, h)) = res d y (t, L, r, h) := rfl
theorem r_ifnn : rN d y (i_ifnonnull t (pc, L, .ref a :: r, h)) = res d y (t, L, r, h) := rfl
theorem r_ifnnN : rN d y (i_ifnonnull t (pc, L, .null :: r, h)) = res d y (pc + 3, L, r, h) := rfl
theorem r_ifnullq {o : Option Nat} : rN d y (i_ifnull t (pc, L, va_rf o :: r, h)) = if o = none then res d y (t, L, r, h) else res d y (pc + 3, L, r, h) := by cases o <;> rfl
theorem r_ifnnq {o : Option Nat} : rN d y (i_ifnonnull t (pc, L, va_rf o :: r, h)) = if o = none then res d y (pc + 3, L, r, h) else res d y (t, L, r, h) := by cases o <;> rfl
theorem r_sw {l : List (Int32 × Nat)} {e : Nat} : rN d y (i_sw l e (pc, L, .int x :: r, h)) = swR x (res d y (e, L, r, h)) (fun t => res d y (t, L, r, h)) l := by
  show rN d y (swc L r h x e l) = _
  induction l with
  | nil => rfl
  | cons p l ih =>
    obtain ⟨v, t⟩ := p
    show rN d y (if x = v then some (t, L, r, h) else swc L r h x e l) = if x = v then res d y (t, L, r, h) else _
    by_cases hx : x = v
    · rw [if_pos hx, if_pos hx]; rfl
    · rw [if_neg hx, if_neg hx]; exact ih
theorem r_getI : rN d y (i_getI c k (pc, L, .ref a :: r, h)) = gI (hT h a) c (res d y (pc + 3, L, .int (hI h a k) :: r, h)) := by
  show rN d y (match hT h a with | some (t, _) => if t = c then some (pc + 3, L, .int (hI h a k) :: r, h) else none | none => none) = _
  cases hT h a with
  | none => rfl
  | some q => obtain ⟨t, n⟩ := q; exact r_ite0
theorem r_getP : rN d y (i_getP c k (pc, L, .ref a :: r, h)) = gI (hT h a) c (res d y (pc + 3, L, va_rf (hP h a k) :: r, h)) := by
  show rN d y (match hT h a with | some (t, _) => if t = c then some (pc + 3, L, va_rf (hP h a k) :: r, h) else none | none => none) = _
  cases hT h a with
  | none => rfl
  | some q => obtain ⟨t, n⟩ := q; exact r_ite0
theorem r_putI : rN d y (i_putI c k (pc, L, .int x :: .ref a :: r, h)) = gI (hT h a) c (res d y (pc + 3, L, r, sI h a k x)) := by
  show rN d y (match hT h a with | some (t, _) => if t = c then some (pc + 3, L, r, sI h a k x) else none | none => none) = _
  cases hT h a with
  | none => rfl
  | some q => obtain ⟨t, n⟩ := q; exact r_ite0
theorem r_ite2 {P Q : Prop} [Decidable P] [Decidable Q] {A : mC} : rN d y (if P ∧ Q then some A else none) = if P then (if Q then res d y A else none) else none := by
  by_cases h1 : P
  · by_cases h2 : Q
    · rw [if_pos ⟨h1, h2⟩, if_pos h1, if_pos h2]; rfl
    · rw [if_neg (fun q => h2 q.2), if_pos h1, if_neg h2]; rfl
  · rw [if_neg (fun q => h1 q.1), if_neg h1]; rfl
theorem r_putZ : rN d y (i_putZ c k (pc, L, .int x :: .ref a :: r, h)) = gI (hT h a) c (if x = nI 0 ∨ x = nI 1 then res d y (pc + 3, L, r, sI h a k x) else none) := by
  show rN d y (match hT h a with | some (t, _) => if t = c ∧ (x = 0 ∨ x = 1) then some (pc + 3, L, r, sI h a k x) else none | none => none) = _
  cases hT h a with
  | none => rfl
  | some q => obtain ⟨t, n⟩ := q; exact r_ite2
theorem r_putC : rN d y (i_putC c k (pc, L, .int x :: .ref a :: r, h)) = gI (hT h a) c (if nI 0 ≤ x ∧ x ≤ nI 65535 then res d y (pc + 3, L, r, sI h a k x) else none) := by
  show rN d y (match hT h a with | some (t, _) => if t = c ∧ (0 ≤ x ∧ x ≤ 65535) then some (pc + 3, L, r, sI h a k x) else none | none => none) = _
  cases hT h a with
  | none => rfl
  | some q => obtain ⟨t, n⟩ := q; exact r_ite2
theorem r_putP : rN d y (i_putP c k (pc, L, v :: .ref a :: r, h)) = gI (hT h a) c (bG (isRv v) (res d y (pc + 3, L, r, sP h a k (rfo v)))) := by
  show rN d y (match v :: .ref a :: r with | v :: .ref a :: r => (match hT h a with | some (t, _) => if t = c ∧ isRv v = true then some (pc + 3, L, r, sP h a k (rfo v)) else none | none => none) | _ => none) = _
  dsimp only
  cases hT h a with
  | none => rfl
  | some q => obtain ⟨t, n⟩ := q; exact r_ite2
theorem r_newo : rN d y (i_newo c n (pc, L, st, h)) = res d y (pc + 3, L, .ref (hN h) :: st, nw h c n) := rfl
theorem r_newa : rN d y (i_newa t w (pc, L, .int x :: r, h)) = if nI 0 ≤ x ∧ x ≤ nI 100000 then res d y (pc + w, L, .ref (hN h) :: r, nw h t x.toNatClampNeg) else none := r_ite0
theorem r_alen : rN d y (i_alen (pc, L, .ref a :: r, h)) = gN (hT h a) (fun x => res d y (pc + 1, L, .int x :: r, h)) := by
  show rN d y (match hT h a with | some (t, n) => if isAr t = true then some (pc + 1, L, .int (nI n) :: r, h) else none | none => none) = _
  cases hT h a with
  | none => rfl
  | some q => obtain ⟨t, n⟩ := q; exact r_ite0
theorem r_ald : rN d y (i_ald c (pc, L, .int x :: .ref a :: r, h)) = gA (hT h a) c x (res d y (pc + 1, L, .int (hI h a x.toNatClampNeg) :: r, h)) := by
  show rN d y (match hT h a with | some (t, n) => if t = c ∧ (0 ≤ x ∧ x.toNatClampNeg < n) then some (pc + 1, L, .int (hI h a x.toNatClampNeg) :: r, h) else none | none => none) = _
  cases hT h a with
  | none => rfl
  | some q => obtain ⟨t, n⟩ := q; exact r_ite0
theorem r_ast : rN d y (i_ast (pc, L, .int x' :: .int x :: .ref a :: r, h)) = gA (hT h a) 20 x (res d y (pc + 1, L, r, sI h a x.toNatClampNeg x')) := by
  show rN d y (match hT h a with | some (t, n) => if t = 20 ∧ (0 ≤ x ∧ x.toNatClampNeg < n) then some (pc + 1, L, r, sI h a x.toNatClampNeg x') else none | none => none) = _
  cases hT h a with
  | none => rfl
  | some q => obtain ⟨t, n⟩ := q; exact r_ite0
theorem r_bst : rN d y (i_bst (pc, L, .int x' :: .int x :: .ref a :: r, h)) = gA (hT h a) 21 x (res d y (pc + 1, L, r, sI h a x.toNatClampNeg x'.toInt8.toInt32)) := by
  show rN d y (match hT h a with | some (t, n) => if t = 21 ∧ (0 ≤ x ∧ x.toNatClampNeg < n) then some (pc + 1, L, r, sI h a x.toNatClampNeg x'.toInt8.toInt32) else none | none => none) = _
  cases hT h a with
  | none => rfl
  | some q => obtain ⟨t, n⟩ := q; exact r_ite0
theorem r_aald : rN d y (i_aald (pc, L, .int x :: .ref a :: r, h)) = gR (hT h a) x (res d y (pc + 1, L, va_rf (hP h a x.toNatClampNeg) :: r, h)) := by
  show rN d y (match hT h a with | some (t, n) => if isRA t = true ∧ (0 ≤ x ∧ x.toNatClampNeg < n) then some (pc + 1, L, va_rf (hP h a x.toNatClampNeg) :: r, h) else none | none => none) = _
  cases hT h a with
  | none => rfl
  | some q => obtain ⟨t, n⟩ := q; exact r_ite0
theorem r_aast : rN d y (i_aast (pc, L, .ref b :: .int x :: .ref a :: r, h)) = gE (hT h a) (hT h b) x (res d y (pc + 1, L, r, sP h a x.toNatClampNeg (some b))) := by
  show rN d y (match hT h a with | some (t, n) => (match hT h b with | some (u, _) => if eOK t u = true ∧ (0 ≤ x ∧ x.toNatClampNeg < n) then some (pc + 1, L, r, sP h a x.toNatClampNeg (some b)) else none | none => none) | none => none) = _
  cases hT h a with
  | none => rfl
  | some q =>
    obtain ⟨t, n⟩ := q
    cases hT h b with
    | none => rfl
    | some q => obtain ⟨u, m⟩ := q; exact r_ite0
theorem r_gsc : rN d y (i_gsc (pc, L, .ref a :: r, h)) = gO (hS h a) (fun _ => res d y (pc + 3, L, .int (nI 0) :: r, h)) := by
  show rN d y (match hS h a with | some _ => some (pc + 3, L, .int (nI 0) :: r, h) | none => none) = _
  cases hS h a <;> rfl
theorem r_gsv : rN d y (i_gsv (pc, L, .ref a :: r, h)) = gO (hS h a) (fun v => res d y (pc + 3, L, .ref v :: r, h)) := by
  show rN d y (match hS h a with | some v => some (pc + 3, L, .ref v :: r, h) | none => none) = _
  cases hS h a <;> rfl
theorem r_slen : rN d y (i_slen (pc, L, .ref a :: r, h)) = gO (hV h a) (fun bs => res d y (pc + 1, L, .int (nI bs.length) :: r, h)) := by
  show rN d y (match hV h a with | some bs => some (pc + 1, L, .int (nI bs.length) :: r, h) | none => none) = _
  cases hV h a <;> rfl
theorem r_gvb : rN d y (i_gvb (pc, L, .int x :: .ref a :: r, h)) = gO (hV h a) (fun bs => if nI 0 ≤ x ∧ x.toNatClampNeg < bs.length then res d y (pc + 1, L, .int (bs.getD x.toNatClampNeg 0) :: r, h) else none) := by
  show rN d y (match hV h a with | some bs => if 0 ≤ x ∧ x.toNatClampNeg < bs.length then some (pc + 1, L, .int (bs.getD x.toNatClampNeg 0) :: r, h) else none | none => none) = _
  cases hV h a with
  | none => rfl
  | some bs => exact r_ite0
theorem r_aastS : rN d y (i_aastS (pc, L, .ref b :: .int x :: .ref a :: r, h)) = gO (hS h b) (fun _ => gA (hT h a) 22 x (res d y (pc + 1, L, r, sP h a x.toNatClampNeg (some b)))) := by
  show rN d y (match hT h a with | some (t, n) => (match hS h b with | some _ => if t = 22 ∧ (0 ≤ x ∧ x.toNatClampNeg < n) then some (pc + 1, L, r, sP h a x.toNatClampNeg (some b)) else none | none => none) | none => none) = _
  cases hS h b with
  | none => cases hT h a <;> rfl
  | some v =>
    cases hT h a with
    | none => rfl
    | some q => obtain ⟨t, n⟩ := q; exact r_ite0
theorem r_obj : rN d y (i_obj (pc, L, .ref a :: r, h)) = gL r (res d y (pc + 3, L, r, h)) := r_ite0
theorem r_mx : rN d y (i_mx (pc, L, .int x' :: .int x :: r, h)) = gL r (res d y (pc + 3, L, .int (mx x x') :: r, h)) := r_ite0
theorem r_mn : rN d y (i_mn (pc, L, .int x' :: .int x :: r, h)) = gL r (res d y (pc + 3, L, .int (mn x x') :: r, h)) := r_ite0
theorem r_lam : rN d y (i_lam (pc, L, .int x :: .ref a :: r, h)) = gL r (res d y (pc + 5, L, .ref (hN h) :: r, sI (sP (nw h 14 2) (hN h) 0 (some a)) (hN h) 1 x)) := r_ite0
theorem r_cpyI {x1 x2 x3 : Int32} {na nb : Nat} (h1 : hT h a = some (20, na)) (h2 : hT h b = some (20, nb)) (h3 : r.length ≤ 4) (h4 : 0 ≤ x3 ∧ 0 ≤ x2 ∧ 0 ≤ x1 ∧ x1.toNatClampNeg + x3.toNatClampNeg ≤ na ∧ x2.toNatClampNeg + x3.toNatClampNeg ≤ nb) : rN d y (i_cpy (pc, L, .int x3 :: .int x2 :: .ref b :: .int x1 :: .ref a :: r, h)) = res d y (pc + 3, L, r, cI h a b x1.toNatClampNeg x2.toNatClampNeg x3.toNatClampNeg) := by
  unfold i_cpy
  simp only [h1, h2]
  rw [if_pos ⟨trivial, Or.inl trivial, h3, h4⟩]
  rfl
theorem r_cpyP {x1 x2 x3 : Int32} {na nb : Nat} (h1 : hT h a = some (27, na)) (h2 : hT h b = some (27, nb)) (h6 : ∀ i, i < x3.toNatClampNeg → okG h (hP h a (x1.toNatClampNeg + i)) = true) (h3 : r.length ≤ 4) (h4 : 0 ≤ x3 ∧ 0 ≤ x2 ∧ 0 ≤ x1 ∧ x1.toNatClampNeg + x3.toNatClampNeg ≤ na ∧ x2.toNatClampNeg + x3.toNatClampNeg ≤ nb) : rN d y (i_cpy (pc, L, .int x3 :: .int x2 :: .ref b :: .int x1 :: .ref a :: r, h)) = res d y (pc + 3, L, r, cP h a b x1.toNatClampNeg x2.toNatClampNeg x3.toNatClampNeg) := by
  unfold i_cpy
  simp only [h1, h2]
  rw [if_pos ⟨trivial, Or.inr ⟨trivial, h6⟩, h3, h4⟩]
  rfl
theorem rC_ite {P : Prop} [Decidable P] {A : mCall} : rC (d + 1) y pc L (if P then some A else none) = if P then rC (d + 1) y pc L (some A) else none := by split <;> rfl
theorem rC_i {P Q : Prop} [Decidable P] [Decidable Q] {A : mCall} (h : P ↔ Q) : rC (d + 1) y pc L (if P then some A else none) = if Q then rK (d + 1) y pc L A.2.2 (cal d A.1 A.2.1 A.2.2.2.2.2) else none := by
  by_cases hp : P
  · rw [if_pos hp, if_pos (h.mp hp)]; rfl
  · rw [if_neg hp, if_neg (fun q => hp (h.mpr q))]; rfl
variable {v1 v2 v3 v4 v5 v6 : Value}
theorem c_S0 : rC (d + 1) y pc L (i_inS y' 0 (pc, L, r, h)) = gL r (rK (d + 1) y pc L (pc + 3, L, r, h) (cal d y' [] h)) := rC_i (A := (y', [], pc + 3, L, r, h)) (by simp)
theorem c_S1 : rC (d + 1) y pc L (i_inS y' 1 (pc, L, v1 :: r, h)) = gL r (rK (d + 1) y pc L (pc + 3, L, r, h) (cal d y' [v1] h)) := rC_i (A := (y', [v1], pc + 3, L, r, h)) (by simp <;> omega)
theorem c_S2 : rC (d + 1) y pc L (i_inS y' 2 (pc, L, v2 :: v1 :: r, h)) = gL r (rK (d + 1) y pc L (pc + 3, L, r, h) (cal d y' [v1, v2] h)) := rC_i (A := (y', [v1, v2], pc + 3, L, r, h)) (by simp <;> omega)
theorem c_S3 : rC (d + 1) y pc L (i_inS y' 3 (pc, L, v3 :: v2 :: v1 :: r, h)) = gL r (rK (d + 1) y pc L (pc + 3, L, r, h) (cal d y' [v1, v2, v3] h)) := rC_i (A := (y', [v1, v2, v3], pc + 3, L, r, h)) (by simp <;> omega)
theorem c_S4 : rC (d + 1) y pc L (i_inS y' 4 (pc, L, v4 :: v3 :: v2 :: v1 :: r, h)) = gL r (rK (d + 1) y pc L (pc + 3, L, r, h) (cal d y' [v1, v2, v3, v4] h)) := rC_i (A := (y', [v1, v2, v3, v4], pc + 3, L, r, h)) (by simp <;> omega)
theorem c_Vg {A : mCall} {P : Prop} [Decidable P] (hP : P ↔ r.length ≤ 4) : rC (d + 1) y pc L (if P then (match hT h a with | some (t, _) => if t = c then some A else none | none => none) else none) = gL r (gI (hT h a) c (rK (d + 1) y pc L A.2.2 (cal d A.1 A.2.1 A.2.2.2.2.2))) := by
  unfold gL gI
  by_cases hp : P
  · rw [if_pos hp, if_pos (hP.mp hp)]
    cases hT h a with
    | none => rfl
    | some q =>
      obtain ⟨t, n⟩ := q
      dsimp only
      split <;> rfl
  · rw [if_neg hp, if_neg (fun q => hp (hP.mpr q))]; rfl
theorem c_V0 : rC (d + 1) y pc L (i_inV y' 0 c (pc, L, .ref a :: r, h)) = gL r (gI (hT h a) c (rK (d + 1) y pc L (pc + 3, L, r, h) (cal d y' [.ref a] h))) := c_Vg (A := (y', [.ref a], pc + 3, L, r, h)) (by simp <;> omega)
theorem c_V1 : rC (d + 1) y pc L (i_inV y' 1 c (pc, L, v1 :: .ref a :: r, h)) = gL r (gI (hT h a) c (rK (d + 1) y pc L (pc + 3, L, r, h) (cal d y' [.ref a, v1] h))) := c_Vg (A := (y', [.ref a, v1], pc + 3, L, r, h)) (by simp <;> omega)
theorem c_V2 : rC (d + 1) y pc L (i_inV y' 2 c (pc, L, v2 :: v1 :: .ref a :: r, h)) = gL r (gI (hT h a) c (rK (d + 1) y pc L (pc + 3, L, r, h) (cal d y' [.ref a, v1, v2] h))) := c_Vg (A := (y', [.ref a, v1, v2], pc + 3, L, r, h)) (by simp <;> omega)
theorem c_V3 : rC (d + 1) y pc L (i_inV y' 3 c (pc, L, v3 :: v2 :: v1 :: .ref a :: r, h)) = gL r (gI (hT h a) c (rK (d + 1) y pc L (pc + 3, L, r, h) (cal d y' [.ref a, v1, v2, v3] h))) := c_Vg (A := (y', [.ref a, v1, v2, v3], pc + 3, L, r, h)) (by simp <;> omega)
theorem c_V4 : rC (d + 1) y pc L (i_inV y' 4 c (pc, L, v4 :: v3 :: v2 :: v1 :: .ref a :: r, h)) = gL r (gI (hT h a) c (rK (d + 1) y pc L (pc + 3, L, r, h) (cal d y' [.ref a, v1, v2, v3, v4] h))) := c_Vg (A := (y', [.ref a, v1, v2, v3, v4], pc + 3, L, r, h)) (by simp <;> omega)
theorem c_V5 : rC (d + 1) y pc L (i_inV y' 5 c (pc, L, v5 :: v4 :: v3 :: v2 :: v1 :: .ref a :: r, h)) = gL r (gI (hT h a) c (rK (d + 1) y pc L (pc + 3, L, r, h) (cal d y' [.ref a, v1, v2, v3, v4, v5] h))) := c_Vg (A := (y', [.ref a, v1, v2, v3, v4, v5], pc + 3, L, r, h)) (by simp <;> omega)
theorem c_Tg {A : mCall} {P : Prop} [Decidable P] (hP : P ↔ r.length ≤ 4) : rC (d + 1) y pc L (if P then (match hS h a with | some _ => some A | none => none) else none) = gL r (gO (hS h a) (fun _ => rK (d + 1) y pc L A.2.2 (cal d A.1 A.2.1 A.2.2.2.2.2))) := by
  unfold gL gO
  by_cases hp : P
  · rw [if_pos hp, if_pos (hP.mp hp)]
    cases hS h a <;> rfl
  · rw [if_neg hp, if_neg (fun q => hp (hP.mpr q))]; rfl
theorem c_T0 : rC (d + 1) y pc L (i_inT y' 0 (pc, L, .ref a :: r, h)) = gL r (gO (hS h a) (fun _ => rK (d + 1) y pc L (pc + 3, L, r, h) (cal d y' [.ref a] h))) := c_Tg (A := (y', [.ref a], pc + 3, L, r, h)) (by simp <;> omega)
theorem c_T1 : rC (d + 1) y pc L (i_inT y' 1 (pc, L, v1 :: .ref a :: r, h)) = gL r (gO (hS h a) (fun _ => rK (d + 1) y pc L (pc + 3, L, r, h) (cal d y' [.ref a, v1] h))) := c_Tg (A := (y', [.ref a, v1], pc + 3, L, r, h)) (by simp <;> omega)
theorem c_T2 : rC (d + 1) y pc L (i_inT y' 2 (pc, L, v2 :: v1 :: .ref a :: r, h)) = gL r (gO (hS h a) (fun _ => rK (d + 1) y pc L (pc + 3, L, r, h) (cal d y' [.ref a, v1, v2] h))) := c_Tg (A := (y', [.ref a, v1, v2], pc + 3, L, r, h)) (by simp <;> omega)
theorem c_I0 : rC (d + 1) y pc L (i_inI y' 0 (pc, L, .ref a :: r, h)) = gL r (rK (d + 1) y pc L (pc + 3, L, r, h) (cal d y' [.ref a] h)) := rC_i (A := (y', [.ref a], pc + 3, L, r, h)) (by simp <;> omega)
theorem c_I1 : rC (d + 1) y pc L (i_inI y' 1 (pc, L, v1 :: .ref a :: r, h)) = gL r (rK (d + 1) y pc L (pc + 3, L, r, h) (cal d y' [.ref a, v1] h)) := rC_i (A := (y', [.ref a, v1], pc + 3, L, r, h)) (by simp <;> omega)
theorem c_I2 : rC (d + 1) y pc L (i_inI y' 2 (pc, L, v2 :: v1 :: .ref a :: r, h)) = gL r (rK (d + 1) y pc L (pc + 3, L, r, h) (cal d y' [.ref a, v1, v2] h)) := rC_i (A := (y', [.ref a, v1, v2], pc + 3, L, r, h)) (by simp <;> omega)
theorem c_I3 : rC (d + 1) y pc L (i_inI y' 3 (pc, L, v3 :: v2 :: v1 :: .ref a :: r, h)) = gL r (rK (d + 1) y pc L (pc + 3, L, r, h) (cal d y' [.ref a, v1, v2, v3] h)) := rC_i (A := (y', [.ref a, v1, v2, v3], pc + 3, L, r, h)) (by simp <;> omega)
theorem c_I4 : rC (d + 1) y pc L (i_inI y' 4 (pc, L, v4 :: v3 :: v2 :: v1 :: .ref a :: r, h)) = gL r (rK (d + 1) y pc L (pc + 3, L, r, h) (cal d y' [.ref a, v1, v2, v3, v4] h)) := rC_i (A := (y', [.ref a, v1, v2, v3, v4], pc + 3, L, r, h)) (by simp <;> omega)
variable {L' : List (Option Value)} {pc' : Nat} {h' : mH}
theorem k_some : rK d y pc L (pc', L', r, h) (some (.inl (some v), h')) = res d y (pc', L', v :: r, h') := rfl
theorem k_void : rK d y pc L (pc', L', r, h) (some (.inl none, h')) = res d y (pc', L', r, h') := rfl
theorem k_thr : rK d y pc L (pc', L', r, h) (some (.inr a, h')) = mthr (res d y) y pc L a h' := rfl
theorem k_ite {P : Prop} [Decidable P] {A B : Option mR} {c' : mC} : rK d y pc L c' (if P then A else B) = if P then rK d y pc L c' A else rK d y pc L c' B := by split <;> rfl
theorem e_i : rR h (i_iret (pc, L, [.int x], h)) = some (.inl (some (.int x)), h) := rfl
theorem e_z : rR h (i_zret (pc, L, [.int x], h)) = if x = nI 0 ∨ x = nI 1 then some (.inl (some (.int x)), h) else none := by
  show rR h (if x = 0 ∨ x = 1 then some (some (.int x)) else none) = if x = 0 ∨ x = 1 then _ else _
  split <;> rfl
theorem e_c : rR h (i_cret (pc, L, [.int x], h)) = if nI 0 ≤ x ∧ x ≤ nI 65535 then some (.inl (some (.int x)), h) else none := by
  show rR h (if 0 ≤ x ∧ x ≤ 65535 then some (some (.int x)) else none) = if 0 ≤ x ∧ x ≤ 65535 then _ else _
  split <;> rfl
theorem e_b : rR h (i_bret (pc, L, [.int x], h)) = if nI 0 ≤ x ∧ x ≤ nI 127 then some (.inl (some (.int x)), h) else none := by
  show rR h (if 0 ≤ x ∧ x ≤ 127 then some (some (.int x)) else none) = if 0 ≤ x ∧ x ≤ 127 then _ else _
  split <;> rfl
theorem e_a : rR h (i_aret (pc, L, [v], h)) = bG (isRv v) (some (.inl (some v), h)) := by
  show rR h (if isRv v = true then some (some v) else none) = if isRv v = true then _ else none
  split <;> rfl
theorem e_v : rR h (i_vret (pc, L, [], h)) = some (.inl none, h) := rfl
-- guards that hold
variable {X : Option mR} {XI : Int32 → Option mR} {XJ : Int64 → Option mR} {XV : Value → Option mR} {q : Nat × Nat}
theorem g_I : gI (some (c, n)) c X = X := if_pos rfl
theorem g_A : gA (some (c, n)) c x X = if nI 0 ≤ x ∧ x.toNatClampNeg < n then X else none := by
  show (if c = c ∧ (nI 0 ≤ x ∧ x.toNatClampNeg < n) then X else none) = _
  simp only [true_and]
theorem g_An (hk : k < 2 ^ 31) : gA (some (c, n)) c (nI k) X = if k < n then X else none := by
  rw [g_A, nI_clamp hk]
  have h0 : nI 0 ≤ nI k := nI_le (Nat.zero_le k) hk
  simp only [h0, true_and]
theorem g_R (ht : isRA t = true) : gR (some (t, n)) x X = if nI 0 ≤ x ∧ x.toNatClampNeg < n then X else none := by
  show (if isRA t = true ∧ (nI 0 ≤ x ∧ x.toNatClampNeg < n) then X else none) = _
  simp only [ht, true_and]
theorem g_Rn (ht : isRA t = true) (hk : k < 2 ^ 31) : gR (some (t, n)) (nI k) X = if k < n then X else none := by
  rw [g_R ht, nI_clamp hk]
  have h0 : nI 0 ≤ nI k := nI_le (Nat.zero_le k) hk
  simp only [h0, true_and]
theorem g_En {m : Nat} (ht : eOK t w = true) (hk : k < 2 ^ 31) : gE (some (t, n)) (some (w, m)) (nI k) X = if k < n then X else none := by
  show (if eOK t w = true ∧ (nI 0 ≤ nI k ∧ (nI k).toNatClampNeg < n) then X else none) = _
  rw [nI_clamp hk]
  have h0 : nI 0 ≤ nI k := nI_le (Nat.zero_le k) hk
  simp only [ht, h0, true_and]
theorem g_N (ht : isAr t = true) : gN (some (t, n)) XI = XI (nI n) := if_pos ht
theorem g_O {α : Type} {v : α} {XA : α → Option mR} : gO (some v) XA = XA v := rfl
theorem g_L0 : gL [] X = X := rfl
theorem g_L1 : gL [v1] X = X := rfl
theorem g_L2 : gL [v1, v2] X = X := rfl
theorem g_L3 : gL [v1, v2, v3] X = X := rfl
theorem g_L4 : gL [v1, v2, v3, v4] X = X := rfl
theorem l_I : lI (some (.int x)) XI = XI x := rfl
theorem l_J : lJ (some (.long z)) XJ = XJ z := rfl
theorem l_Rr : lR (some (.ref a)) XV = XV (.ref a) := rfl
theorem l_Rn : lR (some .null) XV = XV .null := rfl
theorem l_Rq {o : Option Nat} : lR (some (va_rf o)) XV = XV (va_rf o) := by cases o <;> rfl
theorem b_G : bG true X = X := rfl
theorem isRv_ref : isRv (.ref a) = true := rfl
theorem isRv_null : isRv .null = true := rfl
theorem isC1_int : isC1 (.int x) = true := rfl
theorem isC1_ref : isC1 (.ref a) = true := rfl
theorem isC1_null : isC1 .null = true := rfl
theorem rfo_ref : rfo (.ref a) = some a := rfl
theorem rfo_null : rfo .null = none := rfl
theorem kil_int : kil2 (some (.int x)) = some (.int x) := rfl
theorem kil_ref : kil2 (some (.ref a)) = some (.ref a) := rfl
theorem kil_null : kil2 (some .null) = some .null := rfl
theorem kil_long : kil2 (some (.long z)) = none := rfl
theorem kil_none : kil2 none = none := rfl
theorem s_nil {D : Option mR} {XN : Nat → Option mR} : swR x D XN [] = D := rfl
theorem s_cons {D : Option mR} {XN : Nat → Option mR} {l : List (Int32 × Nat)} : swR x D XN ((x', t) :: l) = if x = x' then XN t else swR x D XN l := rfl
-- locals
variable {o o0 o1 o2 o3 : Option Value} {lo : List (Option Value)}
theorem lg_0 : lget (o :: lo) 0 = o := rfl
theorem lg_1 : lget (o0 :: o :: lo) 1 = o := rfl
theorem lg_2 : lget (o0 :: o1 :: o :: lo) 2 = o := rfl
theorem lg_3 : lget (o0 :: o1 :: o2 :: o :: lo) 3 = o := rfl
theorem lg_4 : lget (o0 :: o1 :: o2 :: o3 :: o :: lo) 4 = o := rfl
theorem lg_s : lget (o0 :: o1 :: o2 :: o3 :: o :: lo) (k + 5) = lget lo k := rfl
theorem ls_0 : lset (o :: lo) 0 v = some v :: lo := rfl
theorem ls_1 : lset (o0 :: o :: lo) 1 v = kil2 o0 :: some v :: lo := rfl
theorem ls_2 : lset (o0 :: o1 :: o :: lo) 2 v = o0 :: kil2 o1 :: some v :: lo := rfl
theorem ls_3 : lset (o0 :: o1 :: o2 :: o :: lo) 3 v = o0 :: o1 :: kil2 o2 :: some v :: lo := rfl
theorem ls_4 : lset (o0 :: o1 :: o2 :: o3 :: o :: lo) 4 v = o0 :: o1 :: o2 :: kil2 o3 :: some v :: lo := rfl
theorem ls_5 {o4 : Option Value} : lset (o0 :: o1 :: o2 :: o3 :: o4 :: o :: lo) 5 v = o0 :: o1 :: o2 :: o3 :: kil2 o4 :: some v :: lo := rfl
theorem ls_6 {o4 o5 : Option Value} : lset (o0 :: o1 :: o2 :: o3 :: o4 :: o5 :: o :: lo) 6 v = o0 :: o1 :: o2 :: o3 :: o4 :: kil2 o5 :: some v :: lo := rfl
theorem ls_7 {o4 o5 o6 : Option Value} : lset (o0 :: o1 :: o2 :: o3 :: o4 :: o5 :: o6 :: o :: lo) 7 v = o0 :: o1 :: o2 :: o3 :: o4 :: o5 :: kil2 o6 :: some v :: lo := rfl
theorem ls_8 {o4 o5 o6 o7 : Option Value} : lset (o0 :: o1 :: o2 :: o3 :: o4 :: o5 :: o6 :: o7 :: o :: lo) 8 v = o0 :: o1 :: o2 :: o3 :: o4 :: o5 :: o6 :: kil2 o7 :: some v :: lo := rfl
end R
-- the heap's rows
theorem T_sI (h : mH) (a k : Nat) (v : Int32) (b : Nat) : hT (sI h a k v) b = hT h b := rfl
theorem I_sI (h : mH) (a k : Nat) (v : Int32) (b j : Nat) : hI (sI h a k v) b j = if b = a ∧ j = k then v else hI h b j := rfl
theorem P_sI (h : mH) (a k : Nat) (v : Int32) (b j : Nat) : hP (sI h a k v) b j = hP h b j := rfl
theorem N_sI (h : mH) (a k : Nat) (v : Int32) : hN (sI h a k v) = hN h := rfl
theorem G_sI (h : mH) (a k : Nat) (v : Int32) (b : Nat) : hG (sI h a k v) b = hG h b := rfl
theorem T_sP (h : mH) (a k : Nat) (v : Option Nat) (b : Nat) : hT (sP h a k v) b = hT h b := rfl
theorem I_sP (h : mH) (a k : Nat) (v : Option Nat) (b j : Nat) : hI (sP h a k v) b j = hI h b j := rfl
theorem P_sP (h : mH) (a k : Nat) (v : Option Nat) (b j : Nat) : hP (sP h a k v) b j = if b = a ∧ j = k then v else hP h b j := rfl
theorem N_sP (h : mH) (a k : Nat) (v : Option Nat) : hN (sP h a k v) = hN h := rfl
theorem G_sP (h : mH) (a k : Nat) (v : Option Nat) (b : Nat) : hG (sP h a k v) b = hG h b := rfl
theorem T_nw (h : mH) (t n b : Nat) : hT (nw h t n) b = if b = hN h then some (t, n) else hT h b := rfl
theorem I_nw (h : mH) (t n b j : Nat) : hI (nw h t n) b j = if b = hN h then 0 else hI h b j := rfl
theorem P_nw (h : mH) (t n b j : Nat) : hP (nw h t n) b j = if b = hN h then none else hP h b j := rfl
theorem N_nw (h : mH) (t n : Nat) : hN (nw h t n) = hN h + 1 := rfl
theorem G_nw (h : mH) (t n b : Nat) : hG (nw h t n) b = hG h b := rfl
theorem T_cI (h : mH) (a b sp dp n c : Nat) : hT (cI h a b sp dp n) c = hT h c := rfl
theorem I_cI (h : mH) (a b sp dp n c j : Nat) : hI (cI h a b sp dp n) c j = if c = b ∧ dp ≤ j ∧ j < dp + n then hI h a (sp + (j - dp)) else hI h c j := rfl
theorem P_cI (h : mH) (a b sp dp n c j : Nat) : hP (cI h a b sp dp n) c j = hP h c j := rfl
theorem N_cI (h : mH) (a b sp dp n : Nat) : hN (cI h a b sp dp n) = hN h := rfl
theorem G_cI (h : mH) (a b sp dp n c : Nat) : hG (cI h a b sp dp n) c = hG h c := rfl
theorem T_cP (h : mH) (a b sp dp n c : Nat) : hT (cP h a b sp dp n) c = hT h c := rfl
theorem I_cP (h : mH) (a b sp dp n c j : Nat) : hI (cP h a b sp dp n) c j = hI h c j := rfl
theorem P_cP (h : mH) (a b sp dp n c j : Nat) : hP (cP h a b sp dp n) c j = if c = b ∧ dp ≤ j ∧ j < dp + n then hP h a (sp + (j - dp)) else hP h c j := rfl
theorem N_cP (h : mH) (a b sp dp n : Nat) : hN (cP h a b sp dp n) = hN h := rfl
theorem G_cP (h : mH) (a b sp dp n c : Nat) : hG (cP h a b sp dp n) c = hG h c := rfl
theorem S_sI (h : mH) (a k : Nat) (v : Int32) (b : Nat) : hS (sI h a k v) b = hS h b := rfl
theorem V_sI (h : mH) (a k : Nat) (v : Int32) (b : Nat) : hV (sI h a k v) b = hV h b := rfl
theorem S_sP (h : mH) (a k : Nat) (v : Option Nat) (b : Nat) : hS (sP h a k v) b = hS h b := rfl
theorem V_sP (h : mH) (a k : Nat) (v : Option Nat) (b : Nat) : hV (sP h a k v) b = hV h b := rfl
theorem S_nw (h : mH) (t n b : Nat) : hS (nw h t n) b = hS h b := rfl
theorem V_nw (h : mH) (t n b : Nat) : hV (nw h t n) b = hV h b := rfl
theorem S_cI (h : mH) (a b sp dp n c : Nat) : hS (cI h a b sp dp n) c = hS h c := rfl
theorem V_cI (h : mH) (a b sp dp n c : Nat) : hV (cI h a b sp dp n) c = hV h c := rfl
theorem S_cP (h : mH) (a b sp dp n c : Nat) : hS (cP h a b sp dp n) c = hS h c := rfl
theorem V_cP (h : mH) (a b sp dp n c : Nat) : hV (cP h a b sp dp n) c = hV h c := rfl
theorem b2_eq0 (P : Prop) [Decidable P] : (b2 P = nI 0) = ¬ P := by
  unfold b2
  by_cases h : P
  · rw [if_pos h]; simp [h]; decide +kernel
  · rw [if_neg h]; simp [h]
theorem b2_01 (P : Prop) [Decidable P] : (b2 P = nI 0 ∨ b2 P = nI 1) = True := by
  unfold b2
  by_cases h : P
  · rw [if_pos h]; simp
  · rw [if_neg h]; simp
theorem b2_ite (P : Prop) [Decidable P] : (if P then nI 1 else nI 0) = b2 P := rfl
