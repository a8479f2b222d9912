/-! THE SMALL MACHINE: its heap, its configurations, its instructions -/
/-- constants: statics and strings by number; a constant string's array; a constant array's bytes -/
abbrev mK : Type := (Nat → Option Nat) × (Nat → Option Nat) × (Nat → Option (List Int32))
abbrev mH : Type := (Nat → Option (Nat × Nat)) × (Nat → Nat → Int32) × (Nat → Nat → Option Nat) × Nat × Nat × mK
def hT (h : mH) (a : Nat) : Option (Nat × Nat) := h.1 a
def hI (h : mH) (a k : Nat) : Int32 := h.2.1 a k
def hP (h : mH) (a k : Nat) : Option Nat := h.2.2.1 a k
def hN (h : mH) : Nat := h.2.2.2.1
def hU (h : mH) : Nat := h.2.2.2.2.1
def hC (h : mH) : mK := h.2.2.2.2.2
def hG (h : mH) (k : Nat) : Option Nat := h.2.2.2.2.2.1 k
def hS (h : mH) (a : Nat) : Option Nat := h.2.2.2.2.2.2.1 a
def hV (h : mH) (a : Nat) : Option (List Int32) := h.2.2.2.2.2.2.2 a
def sI (h : mH) (a k : Nat) (v : Int32) : mH := (h.1, fun b j => if b = a ∧ j = k then v else h.2.1 b j, h.2.2)
def sP (h : mH) (a k : Nat) (v : Option Nat) : mH := (h.1, h.2.1, fun b j => if b = a ∧ j = k then v else h.2.2.1 b j, h.2.2.2)
def nw (h : mH) (t n : Nat) : mH := (fun b => if b = hN h then some (t, n) else h.1 b, fun b j => if b = hN h then 0 else h.2.1 b j, fun b j => if b = hN h then none else h.2.2.1 b j, hN h + 1, hU h + n, h.2.2.2.2.2)
def cI (h : mH) (a b sp dp n : Nat) : mH := (h.1, fun c j => if c = b ∧ dp ≤ j ∧ j < dp + n then h.2.1 a (sp + (j - dp)) else h.2.1 c j, h.2.2)
def cP (h : mH) (a b sp dp n : Nat) : mH := (h.1, h.2.1, fun c j => if c = b ∧ dp ≤ j ∧ j < dp + n then h.2.2.1 a (sp + (j - dp)) else h.2.2.1 c j, h.2.2.2)
/-- configuration: pc, locals, stack, heap -/
abbrev mC : Type := Nat × List (Option Value) × List Value × mH
/-- result: what was returned, or the cell thrown -/
abbrev mR : Type := (Option Value ⊕ Nat) × mH
abbrev mCall : Type := Nat × List Value × mC
abbrev mI : Type := (mC → Option mC) ⊕ (mC → Option mCall) ⊕ (mC → Option (Option Value)) ⊕ Unit
def lget : List (Option Value) → Nat → Option Value
  | [], _ => none
  | a :: _, 0 => a
  | _ :: l, k + 1 => lget l k
def kil2 : Option Value → Option Value
  | some (.long _) => none
  | some (.double _) => none
  | x => x
def lset : List (Option Value) → Nat → Value → List (Option Value)
  | [], _, _ => []
  | _ :: l, 0, v => some v :: l
  | a :: l, k + 1, v => (if k = 0 then kil2 a else a) :: lset l k v
def lsetL : List (Option Value) → Nat → Value → List (Option Value)
  | [], _, _ => []
  | _ :: l, 0, v => some v :: (match l with | [] => [] | _ :: l' => none :: l')
  | a :: l, k + 1, v => (if k = 0 then kil2 a else a) :: lsetL l k v
def isRv : Value → Bool
  | .ref _ => true
  | .null => true
  | _ => false
def isC1 : Value → Bool
  | .long _ => false
  | .double _ => false
  | _ => true
theorem isRv_rf (x : Option Nat) : isRv (va_rf x) = true := by cases x <;> rfl
theorem isC1_rf (x : Option Nat) : isC1 (va_rf x) = true := by cases x <;> rfl
theorem kil2_rf (x : Option Nat) : kil2 (some (va_rf x)) = some (va_rf x) := by cases x <;> rfl
theorem va_rf_some (a : Nat) : va_rf (some a) = .ref a := rfl
theorem va_rf_none : va_rf none = .null := rfl
-- instructions that go on
def i_ic (v : Int32) (w : Nat) : mC → Option mC | (pc, L, st, h) => some (pc + w, L, .int v :: st, h)
def i_lc (v : Int64) (w : Nat) : mC → Option mC | (pc, L, st, h) => some (pc + w, L, .long v :: st, h)
def i_gc (k : Nat) (w : Nat) : mC → Option mC | (pc, L, st, h) => some (pc + w, L, va_rf (hG h k) :: st, h)
def i_null : mC → Option mC | (pc, L, st, h) => some (pc + 1, L, .null :: st, h)
def i_iload (k w : Nat) : mC → Option mC | (pc, L, st, h) => match lget L k with
  | some (.int x) => some (pc + w, L, .int x :: st, h)
  | _ => none
def i_lload (k w : Nat) : mC → Option mC | (pc, L, st, h) => match lget L k with
  | some (.long x) => some (pc + w, L, .long x :: st, h)
  | _ => none
def i_aload (k w : Nat) : mC → Option mC | (pc, L, st, h) => match lget L k with
  | some v => if isRv v = true then some (pc + w, L, v :: st, h) else none
  | _ => none
def i_istore (k w : Nat) : mC → Option mC | (pc, L, st, h) => match st with
  | .int x :: r => some (pc + w, lset L k (.int x), r, h)
  | _ => none
def i_lstore (k w : Nat) : mC → Option mC | (pc, L, st, h) => match st with
  | .long x :: r => some (pc + w, lsetL L k (.long x), r, h)
  | _ => none
def i_astore (k w : Nat) : mC → Option mC | (pc, L, st, h) => match st with
  | v :: r => if isRv v = true then some (pc + w, lset L k v, r, h) else none
  | _ => none
def i_iinc (k : Nat) (n : Int) : mC → Option mC | (pc, L, st, h) => match lget L k with
  | some (.int x) => some (pc + 3, lset L k (.int (x + Int32.ofInt n)), st, h)
  | _ => none
def i_bin (f : Int32 → Int32 → Int32) : mC → Option mC | (pc, L, st, h) => match st with
  | .int y :: .int x :: r => some (pc + 1, L, .int (f x y) :: r, h)
  | _ => none
def i_div : mC → Option mC | (pc, L, st, h) => match st with
  | .int y :: .int x :: r => if y = 0 then none else some (pc + 1, L, .int (x / y) :: r, h)
  | _ => none
def i_rem : mC → Option mC | (pc, L, st, h) => match st with
  | .int y :: .int x :: r => if y = 0 then none else some (pc + 1, L, .int (x - x / y * y) :: r, h)
  | _ => none
def i_un (f : Int32 → Int32) : mC → Option mC | (pc, L, st, h) => match st with
  | .int x :: r => some (pc + 1, L, .int (f x) :: r, h)
  | _ => none
def i_i2l : mC → Option mC | (pc, L, st, h) => match st with
  | .int x :: r => some (pc + 1, L, .long x.toInt64 :: r, h)
  | _ => none
def i_l2i : mC → Option mC | (pc, L, st, h) => match st with
  | .long x :: r => some (pc + 1, L, .int x.toInt32 :: r, h)
  | _ => none
def i_lmul : mC → Option mC | (pc, L, st, h) => match st with
  | .long y :: .long x :: r => some (pc + 1, L, .long (x * y) :: r, h)
  | _ => none
def i_lrem : mC → Option mC | (pc, L, st, h) => match st with
  | .long y :: .long x :: r => if y = 0 then none else some (pc + 1, L, .long (x - x / y * y) :: r, h)
  | _ => none
def i_dup : mC → Option mC | (pc, L, st, h) => match st with
  | v :: r => if isC1 v = true then some (pc + 1, L, v :: v :: r, h) else none
  | _ => none
def i_dup2 : mC → Option mC | (pc, L, st, h) => match st with
  | v :: u :: r => if isC1 v = true ∧ isC1 u = true then some (pc + 1, L, v :: u :: v :: u :: r, h) else none
  | _ => none
def i_pop : mC → Option mC | (pc, L, st, h) => match st with
  | v :: r => if isC1 v = true then some (pc + 1, L, r, h) else none
  | _ => none
def i_goto (t : Nat) : mC → Option mC | (_, L, st, h) => some (t, L, st, h)
def i_ifeq (t : Nat) : mC → Option mC | (pc, L, st, h) => match st with
  | .int x :: r => if x = 0 then some (t, L, r, h) else some (pc + 3, L, r, h)
  | _ => none
def i_ifne (t : Nat) : mC → Option mC | (pc, L, st, h) => match st with
  | .int x :: r => if x = 0 then some (pc + 3, L, r, h) else some (t, L, r, h)
  | _ => none
def i_iflt (t : Nat) : mC → Option mC | (pc, L, st, h) => match st with
  | .int x :: r => if x < 0 then some (t, L, r, h) else some (pc + 3, L, r, h)
  | _ => none
def i_ifge (t : Nat) : mC → Option mC | (pc, L, st, h) => match st with
  | .int x :: r => if x < 0 then some (pc + 3, L, r, h) else some (t, L, r, h)
  | _ => none
def i_ifgt (t : Nat) : mC → Option mC | (pc, L, st, h) => match st with
  | .int x :: r => if 0 < x then some (t, L, r, h) else some (pc + 3, L, r, h)
  | _ => none
def i_ifle (t : Nat) : mC → Option mC | (pc, L, st, h) => match st with
  | .int x :: r => if 0 < x then some (pc + 3, L, r, h) else some (t, L, r, h)
  | _ => none
def i_ceq (t : Nat) : mC → Option mC | (pc, L, st, h) => match st with
  | .int y :: .int x :: r => if x = y then some (t, L, r, h) else some (pc + 3, L, r, h)
  | _ => none
def i_cne (t : Nat) : mC → Option mC | (pc, L, st, h) => match st with
  | .int y :: .int x :: r => if x = y then some (pc + 3, L, r, h) else some (t, L, r, h)
  | _ => none
def i_clt (t : Nat) : mC → Option mC | (pc, L, st, h) => match st with
  | .int y :: .int x :: r => if x < y then some (t, L, r, h) else some (pc + 3, L, r, h)
  | _ => none
def i_cge (t : Nat) : mC → Option mC | (pc, L, st, h) => match st with
  | .int y :: .int x :: r => if x < y then some (pc + 3, L, r, h) else some (t, L, r, h)
  | _ => none
def i_cgt (t : Nat) : mC → Option mC | (pc, L, st, h) => match st with
  | .int y :: .int x :: r => if y < x then some (t, L, r, h) else some (pc + 3, L, r, h)
  | _ => none
def i_cle (t : Nat) : mC → Option mC | (pc, L, st, h) => match st with
  | .int y :: .int x :: r => if y < x then some (pc + 3, L, r, h) else some (t, L, r, h)
  | _ => none
def i_aeq (t : Nat) : mC → Option mC | (pc, L, st, h) => match st with
  | .ref y :: .ref x :: r => if x = y then some (t, L, r, h) else some (pc + 3, L, r, h)
  | _ => none
def i_ane (t : Nat) : mC → Option mC | (pc, L, st, h) => match st with
  | .ref y :: .ref x :: r => if x = y then some (pc + 3, L, r, h) else some (t, L, r, h)
  | _ => none
def i_ifnull (t : Nat) : mC → Option mC | (pc, L, st, h) => match st with
  | .ref _ :: r => some (pc + 3, L, r, h)
  | .null :: r => some (t, L, r, h)
  | _ => none
def i_ifnonnull (t : Nat) : mC → Option mC | (pc, L, st, h) => match st with
  | .ref _ :: r => some (t, L, r, h)
  | .null :: r => some (pc + 3, L, r, h)
  | _ => none
/-- a switch: the places in order, else the last -/
def swc (L : List (Option Value)) (r : List Value) (h : mH) (x : Int32) (d : Nat) : List (Int32 × Nat) → Option mC
  | [] => some (d, L, r, h)
  | (v, t) :: l => if x = v then some (t, L, r, h) else swc L r h x d l
def i_sw (l : List (Int32 × Nat)) (d : Nat) : mC → Option mC | (_, L, st, h) => match st with
  | .int x :: r => swc L r h x d l
  | _ => none
-- fields: of the class c (its tag), place k
def i_getI (c k : Nat) : mC → Option mC | (pc, L, st, h) => match st with
  | .ref a :: r => (match hT h a with
    | some (t, _) => if t = c then some (pc + 3, L, .int (hI h a k) :: r, h) else none
    | none => none)
  | _ => none
def i_getP (c k : Nat) : mC → Option mC | (pc, L, st, h) => match st with
  | .ref a :: r => (match hT h a with
    | some (t, _) => if t = c then some (pc + 3, L, va_rf (hP h a k) :: r, h) else none
    | none => none)
  | _ => none
def i_putI (c k : Nat) : mC → Option mC | (pc, L, st, h) => match st with
  | .int v :: .ref a :: r => (match hT h a with
    | some (t, _) => if t = c then some (pc + 3, L, r, sI h a k v) else none
    | none => none)
  | _ => none
def i_putZ (c k : Nat) : mC → Option mC | (pc, L, st, h) => match st with
  | .int v :: .ref a :: r => (match hT h a with
    | some (t, _) => if t = c ∧ (v = 0 ∨ v = 1) then some (pc + 3, L, r, sI h a k v) else none
    | none => none)
  | _ => none
def i_putC (c k : Nat) : mC → Option mC | (pc, L, st, h) => match st with
  | .int v :: .ref a :: r => (match hT h a with
    | some (t, _) => if t = c ∧ (0 ≤ v ∧ v ≤ 65535) then some (pc + 3, L, r, sI h a k v) else none
    | none => none)
  | _ => none
def rfo : Value → Option Nat
  | .ref a => some a
  | _ => none
theorem rfo_rf (x : Option Nat) : rfo (va_rf x) = x := by cases x <;> rfl
def i_putP (c k : Nat) : mC → Option mC | (pc, L, st, h) => match st with
  | v :: .ref a :: r => (match hT h a with
    | some (t, _) => if t = c ∧ isRv v = true then some (pc + 3, L, r, sP h a k (rfo v)) else none
    | none => none)
  | _ => none
-- new cells
def i_newo (c n : Nat) : mC → Option mC | (pc, L, st, h) => some (pc + 3, L, .ref (hN h) :: st, nw h c n)
def i_newa (t w : Nat) : mC → Option mC | (pc, L, st, h) => match st with
  | .int x :: r => if 0 ≤ x ∧ x ≤ 100000 then some (pc + w, L, .ref (hN h) :: r, nw h t x.toNatClampNeg) else none
  | _ => none
-- arrays
def isAr (t : Nat) : Bool := decide (20 ≤ t)
def i_alen : mC → Option mC | (pc, L, st, h) => match st with
  | .ref a :: r => (match hT h a with
    | some (t, n) => if isAr t = true then some (pc + 1, L, .int (nI n) :: r, h) else none
    | none => none)
  | _ => none
def inb (i : Int32) (n : Nat) : Prop := 0 ≤ i ∧ i.toNatClampNeg < n
def i_ald (c : Nat) : mC → Option mC | (pc, L, st, h) => match st with
  | .int i :: .ref a :: r => (match hT h a with
    | some (t, n) => if t = c ∧ (0 ≤ i ∧ i.toNatClampNeg < n) then some (pc + 1, L, .int (hI h a i.toNatClampNeg) :: r, h) else none
    | none => none)
  | _ => none
def i_ast : mC → Option mC | (pc, L, st, h) => match st with
  | .int x :: .int i :: .ref a :: r => (match hT h a with
    | some (t, n) => if t = 20 ∧ (0 ≤ i ∧ i.toNatClampNeg < n) then some (pc + 1, L, r, sI h a i.toNatClampNeg x) else none
    | none => none)
  | _ => none
def i_bst : mC → Option mC | (pc, L, st, h) => match st with
  | .int x :: .int i :: .ref a :: r => (match hT h a with
    | some (t, n) => if t = 21 ∧ (0 ≤ i ∧ i.toNatClampNeg < n) then some (pc + 1, L, r, sI h a i.toNatClampNeg x.toInt8.toInt32) else none
    | none => none)
  | _ => none
def isRA (t : Nat) : Bool := decide (22 ≤ t ∧ t < 30)
def i_aald : mC → Option mC | (pc, L, st, h) => match st with
  | .int i :: .ref a :: r => (match hT h a with
    | some (t, n) => if isRA t = true ∧ (0 ≤ i ∧ i.toNatClampNeg < n) then some (pc + 1, L, va_rf (hP h a i.toNatClampNeg) :: r, h) else none
    | none => none)
  | _ => none
-- constant strings
def i_gsc : mC → Option mC | (pc, L, st, h) => match st with
  | .ref a :: r => (match hS h a with
    | some _ => some (pc + 3, L, .int (nI 0) :: r, h)
    | none => none)
  | _ => none
def i_gsv : mC → Option mC | (pc, L, st, h) => match st with
  | .ref a :: r => (match hS h a with
    | some v => some (pc + 3, L, .ref v :: r, h)
    | none => none)
  | _ => none
def i_slen : mC → Option mC | (pc, L, st, h) => match st with
  | .ref a :: r => (match hV h a with
    | some bs => some (pc + 1, L, .int (nI bs.length) :: r, h)
    | none => none)
  | _ => none
def i_gvb : mC → Option mC | (pc, L, st, h) => match st with
  | .int i :: .ref a :: r => (match hV h a with
    | some bs => if 0 ≤ i ∧ i.toNatClampNeg < bs.length then some (pc + 1, L, .int (bs.getD i.toNatClampNeg 0) :: r, h) else none
    | none => none)
  | _ => none
def i_aastS : mC → Option mC | (pc, L, st, h) => match st with
  | .ref v :: .int i :: .ref a :: r => (match hT h a with
    | some (t, n) => (match hS h v with
      | some _ => if t = 22 ∧ (0 ≤ i ∧ i.toNatClampNeg < n) then some (pc + 1, L, r, sP h a i.toNatClampNeg (some v)) else none
      | none => none)
    | none => none)
  | _ => none
/-- the kinds of cells that an array of references of kind t may hold -/
def eOK (t u : Nat) : Bool := match t with
  | 23 => decide (u = 22)
  | 24 => decide (u = 8 ∨ u = 9 ∨ u = 10 ∨ u = 11)
  | 25 => decide (u = 5)
  | 26 => decide (u = 6)
  | 27 => decide (u = 2)
  | 28 => decide (u = 12)
  | 29 => decide (u = 20)
  | _ => false
def i_aast : mC → Option mC | (pc, L, st, h) => match st with
  | .ref v :: .int i :: .ref a :: r => (match hT h a with
    | some (t, n) => (match hT h v with
      | some (u, _) => if eOK t u = true ∧ (0 ≤ i ∧ i.toNatClampNeg < n) then some (pc + 1, L, r, sP h a i.toNatClampNeg (some v)) else none
      | none => none)
    | none => none)
  | _ => none
def mx (x y : Int32) : Int32 := if x < y then y else x
def mn (x y : Int32) : Int32 := if y < x then y else x
/-- Math.max, Math.min -/
def i_mx : mC → Option mC | (pc, L, st, h) => match st with
  | .int y :: .int x :: r => if r.length ≤ 4 then some (pc + 3, L, .int (mx x y) :: r, h) else none
  | _ => none
def i_mn : mC → Option mC | (pc, L, st, h) => match st with
  | .int y :: .int x :: r => if r.length ≤ 4 then some (pc + 3, L, .int (mn x y) :: r, h) else none
  | _ => none
def i_obj : mC → Option mC | (pc, L, st, h) => match st with
  | .ref _ :: r => if r.length ≤ 4 then some (pc + 3, L, r, h) else none
  | _ => none
/-- null, or a Gallery -/
def okG (h : mH) (o : Option Nat) : Bool := match o with
  | none => true
  | some y => (match hT h y with
    | some (t, _) => decide (t = 2)
    | none => false)
/-- System.arraycopy of arrays of one kind -/
def i_cpy : mC → Option mC | (pc, L, st, h) => match st with
  | .int n :: .int dp :: .ref b :: .int sp :: .ref a :: r => (match hT h a with
    | some (t, na) => (match hT h b with
      | some (u, nb) => if t = u ∧ (t = 20 ∨ (t = 27 ∧ ∀ i, i < n.toNatClampNeg → okG h (hP h a (sp.toNatClampNeg + i)) = true)) ∧ r.length ≤ 4 ∧ 0 ≤ n ∧ 0 ≤ dp ∧ 0 ≤ sp ∧ sp.toNatClampNeg + n.toNatClampNeg ≤ na ∧ dp.toNatClampNeg + n.toNatClampNeg ≤ nb then
          some (pc + 3, L, r, if t = 20 then cI h a b sp.toNatClampNeg dp.toNatClampNeg n.toNatClampNeg else cP h a b sp.toNatClampNeg dp.toNatClampNeg n.toNatClampNeg) else none
      | none => none)
    | none => none)
  | _ => none
/-- the lambda of fits: a cell (14) of what it holds -/
def i_lam : mC → Option mC | (pc, L, st, h) => match st with
  | .int x :: .ref a :: r => if r.length ≤ 4 then some (pc + 5, L, .ref (hN h) :: r, sI (sP (nw h 14 2) (hN h) 0 (some a)) (hN h) 1 x) else none
  | _ => none
-- calls: of method y with n arguments
def i_inS (y n : Nat) : mC → Option mCall | (pc, L, st, h) => if n ≤ st.length ∧ st.length ≤ n + 4 then some (y, (st.take n).reverse, pc + 3, L, st.drop n, h) else none
/-- on an object of class c -/
def i_inV (y n c : Nat) : mC → Option mCall | (pc, L, st, h) => if n + 1 ≤ st.length ∧ st.length ≤ n + 5 then (match (st.take (n + 1)).reverse with
    | .ref a :: as => (match hT h a with
      | some (t, _) => if t = c then some (y, .ref a :: as, pc + 3, L, st.drop (n + 1), h) else none
      | none => none)
    | _ => none) else none
/-- on a constant string -/
def i_inT (y n : Nat) : mC → Option mCall | (pc, L, st, h) => if n + 1 ≤ st.length ∧ st.length ≤ n + 5 then (match (st.take (n + 1)).reverse with
    | .ref a :: as => (match hS h a with
      | some _ => some (y, .ref a :: as, pc + 3, L, st.drop (n + 1), h)
      | none => none)
    | _ => none) else none
def i_inI (y n : Nat) : mC → Option mCall | (pc, L, st, h) => if n + 1 ≤ st.length ∧ st.length ≤ n + 5 then (match (st.take (n + 1)).reverse with
    | .ref a :: as => some (y, .ref a :: as, pc + 3, L, st.drop (n + 1), h)
    | _ => none) else none
/-- chosen by the object's class -/
def i_inD (y1 y2 y3 y4 : Nat) : mC → Option mCall | (pc, L, st, h) => match st with
  | v :: .ref a :: r => if r.length ≤ 4 then (match hT h a with
    | some (t, _) => if t = 8 then some (y1, [.ref a, v], pc + 3, L, r, h) else if t = 9 then some (y2, [.ref a, v], pc + 3, L, r, h) else if t = 10 then some (y3, [.ref a, v], pc + 3, L, r, h) else if t = 11 then some (y4, [.ref a, v], pc + 3, L, r, h) else none
    | none => none) else none
  | _ => none
def okE (h : mH) (o : Nat) : Bool := match hT h o with
  | some (t, _) => decide (t = 0)
  | none => false
/-- the lambda called -/
def i_inL (y : Nat) : mC → Option mCall | (pc, L, st, h) => match st with
  | .int k :: .ref a :: r => if r.length ≤ 4 then (match hT h a, hP h a 0 with
    | some (t, _), some o => if t = 14 ∧ okE h o = true then some (y, [.ref o, .int (hI h a 1), .int k], pc + 5, L, r, h) else none
    | _, _ => none) else none
  | _ => none
-- ends
def i_iret : mC → Option (Option Value) | (_, _, st, _) => match st with
  | [.int x] => some (some (.int x))
  | _ => none
def i_zret : mC → Option (Option Value) | (_, _, st, _) => match st with
  | [.int x] => if x = 0 ∨ x = 1 then some (some (.int x)) else none
  | _ => none
def i_cret : mC → Option (Option Value) | (_, _, st, _) => match st with
  | [.int x] => if 0 ≤ x ∧ x ≤ 65535 then some (some (.int x)) else none
  | _ => none
def i_bret : mC → Option (Option Value) | (_, _, st, _) => match st with
  | [.int x] => if 0 ≤ x ∧ x ≤ 127 then some (some (.int x)) else none
  | _ => none
def i_aret : mC → Option (Option Value) | (_, _, st, _) => match st with
  | [v] => if isRv v = true then some (some v) else none
  | _ => none
def i_vret : mC → Option (Option Value) | (_, _, st, _) => match st with
  | [] => some none
  | _ => none
abbrev kN (f : mC → Option mC) : mI := .inl f
abbrev kC (f : mC → Option mCall) : mI := .inr (.inl f)
abbrev kR (f : mC → Option (Option Value)) : mI := .inr (.inr (.inl f))
abbrev kT : mI := .inr (.inr (.inr ()))
/-- the code at a place of a list of rows -/
def alk : List (Nat × mI) → Nat → mI
  | [], _ => kN (fun _ => none)
  | (a, i) :: l, pc => if a = pc then i else alk l pc
