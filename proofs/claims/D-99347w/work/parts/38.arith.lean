/-! whole numbers of the machine that are natural numbers -/
theorem a_ofI1 : Int32.ofInt 1 = nI 1 := rfl
theorem a_add {a b : Nat} : nI a + nI b = nI (a + b) := (Int32.ofNat_add a b).symm
theorem a_clamp {a : Nat} (h : a < 2147483648) : (nI a).toNatClampNeg = a := nI_clamp h
theorem a_lt {a b : Nat} (ha : a < 2147483648) (hb : b < 2147483648) : (nI a < nI b) = (a < b) := propext (Int32.ofNat_lt_ofNat ha hb)
theorem a_le {a b : Nat} (ha : a < 2147483648) (hb : b < 2147483648) : (nI a ≤ nI b) = (a ≤ b) := propext (Int32.ofNat_le_ofNat ha hb)
theorem a_eq {a b : Nat} (ha : a < 2147483648) (hb : b < 2147483648) : (nI a = nI b) = (a = b) := propext ⟨fun h => by have := congrArg Int32.toNatClampNeg h; rwa [nI_clamp ha, nI_clamp hb] at this, fun h => by rw [h]⟩
theorem a_sub {a b : Nat} (h : b ≤ a) : nI a - nI b = nI (a - b) := by
  have : nI a = nI (a - b) + nI b := by rw [a_add, Nat.sub_add_cancel h]
  rw [this, Int32.add_sub_cancel]
theorem g_AL {c n k : Nat} {X : Option mR} (hk : k < 2147483648) (hn : k < n) : gA (some (c, n)) c (nI k) X = X := by rw [g_An hk, if_pos hn]
/-- sums over k, k+1, .. of n numbers -/
def fo {α : Type} (f : Nat → α → α) : Nat → Nat → α → α
  | 0, _, a => a
  | n + 1, k, a => fo f n (k + 1) (f k a)
theorem fo_0 {α : Type} (f : Nat → α → α) (k : Nat) (a : α) : fo f 0 k a = a := rfl
theorem fo_s {α : Type} (f : Nat → α → α) (n k : Nat) (a : α) : fo f (n + 1) k a = fo f n (k + 1) (f k a) := rfl
theorem fo_e {α : Type} {f g : Nat → α → α} : ∀ (n k : Nat) (a : α), (∀ j a, k ≤ j → j < k + n → f j a = g j a) → fo f n k a = fo g n k a := by
  intro n
  induction n with
  | zero => intro k a _; rfl
  | succ n ih =>
    intro k a h
    rw [fo_s, fo_s, h k a (Nat.le_refl _) (by omega)]
    exact ih (k + 1) _ fun j a h1 h2 => h j a (by omega) (by omega)
theorem b2_eq1 (P : Prop) [Decidable P] : (b2 P = nI 1) = P := by
  unfold b2
  by_cases h : P
  · rw [if_pos h]; simp [h]
  · rw [if_neg h]; simp [h]; decide +kernel
theorem b2_z (P : Prop) [Decidable P] : (¬ P ∨ P) = True := by
  by_cases h : P <;> simp [h]
theorem a_eq0 {a : Nat} (h : 0 < a) (ha : a < 2147483648) : (nI a = nI 0) = False := by
  rw [a_eq ha (by omega)]; exact eq_false (by omega)
theorem a_eqT {a b : Nat} (h : a = b) : (nI a = nI b) = True := by rw [h]; exact eq_self _
theorem a_eqF {a b : Nat} (h : a ≠ b) (ha : a < 2147483648) (hb : b < 2147483648) : (nI a = nI b) = False := by
  rw [a_eq ha hb]; exact eq_false h
theorem a_ltT {a b : Nat} (h : a < b) (hb : b < 2147483648) : (nI a < nI b) = True := by
  rw [a_lt (by omega) hb]; exact eq_true h
theorem a_ltF {a b : Nat} (h : b ≤ a) (ha : a < 2147483648) : (nI a < nI b) = False := by
  rw [a_lt ha (by omega)]; exact eq_false (by omega)
theorem g_N20 {n : Nat} {X : Int32 → Option mR} : gN (some (20, n)) X = X (nI n) := g_N rfl
theorem g_N21 {n : Nat} {X : Int32 → Option mR} : gN (some (21, n)) X = X (nI n) := g_N rfl
theorem g_N22 {n : Nat} {X : Int32 → Option mR} : gN (some (22, n)) X = X (nI n) := g_N rfl
theorem g_N23 {n : Nat} {X : Int32 → Option mR} : gN (some (23, n)) X = X (nI n) := g_N rfl
theorem g_N24 {n : Nat} {X : Int32 → Option mR} : gN (some (24, n)) X = X (nI n) := g_N rfl
theorem g_N25 {n : Nat} {X : Int32 → Option mR} : gN (some (25, n)) X = X (nI n) := g_N rfl
theorem g_N26 {n : Nat} {X : Int32 → Option mR} : gN (some (26, n)) X = X (nI n) := g_N rfl
theorem g_N27 {n : Nat} {X : Int32 → Option mR} : gN (some (27, n)) X = X (nI n) := g_N rfl
theorem g_N28 {n : Nat} {X : Int32 → Option mR} : gN (some (28, n)) X = X (nI n) := g_N rfl
theorem g_N29 {n : Nat} {X : Int32 → Option mR} : gN (some (29, n)) X = X (nI n) := g_N rfl
theorem g_N40 {n : Nat} {X : Int32 → Option mR} : gN (some (40, n)) X = X (nI n) := g_N rfl
theorem g_R22 {n k : Nat} {X : Option mR} (hk : k < 2147483648) (hn : k < n) : gR (some (22, n)) (nI k) X = X := by rw [g_Rn rfl hk, if_pos hn]
theorem g_R23 {n k : Nat} {X : Option mR} (hk : k < 2147483648) (hn : k < n) : gR (some (23, n)) (nI k) X = X := by rw [g_Rn rfl hk, if_pos hn]
theorem g_R24 {n k : Nat} {X : Option mR} (hk : k < 2147483648) (hn : k < n) : gR (some (24, n)) (nI k) X = X := by rw [g_Rn rfl hk, if_pos hn]
theorem g_R25 {n k : Nat} {X : Option mR} (hk : k < 2147483648) (hn : k < n) : gR (some (25, n)) (nI k) X = X := by rw [g_Rn rfl hk, if_pos hn]
theorem g_R26 {n k : Nat} {X : Option mR} (hk : k < 2147483648) (hn : k < n) : gR (some (26, n)) (nI k) X = X := by rw [g_Rn rfl hk, if_pos hn]
theorem g_R27 {n k : Nat} {X : Option mR} (hk : k < 2147483648) (hn : k < n) : gR (some (27, n)) (nI k) X = X := by rw [g_Rn rfl hk, if_pos hn]
theorem g_R28 {n k : Nat} {X : Option mR} (hk : k < 2147483648) (hn : k < n) : gR (some (28, n)) (nI k) X = X := by rw [g_Rn rfl hk, if_pos hn]
theorem g_R29 {n k : Nat} {X : Option mR} (hk : k < 2147483648) (hn : k < n) : gR (some (29, n)) (nI k) X = X := by rw [g_Rn rfl hk, if_pos hn]
theorem g_E24_8 {n m k : Nat} {X : Option mR} (hk : k < 2147483648) (hn : k < n) : gE (some (24, n)) (some (8, m)) (nI k) X = X := by rw [g_En rfl hk, if_pos hn]
theorem g_E24_9 {n m k : Nat} {X : Option mR} (hk : k < 2147483648) (hn : k < n) : gE (some (24, n)) (some (9, m)) (nI k) X = X := by rw [g_En rfl hk, if_pos hn]
theorem g_E24_10 {n m k : Nat} {X : Option mR} (hk : k < 2147483648) (hn : k < n) : gE (some (24, n)) (some (10, m)) (nI k) X = X := by rw [g_En rfl hk, if_pos hn]
theorem g_E24_11 {n m k : Nat} {X : Option mR} (hk : k < 2147483648) (hn : k < n) : gE (some (24, n)) (some (11, m)) (nI k) X = X := by rw [g_En rfl hk, if_pos hn]
theorem g_E25_5 {n m k : Nat} {X : Option mR} (hk : k < 2147483648) (hn : k < n) : gE (some (25, n)) (some (5, m)) (nI k) X = X := by rw [g_En rfl hk, if_pos hn]
theorem g_E26_6 {n m k : Nat} {X : Option mR} (hk : k < 2147483648) (hn : k < n) : gE (some (26, n)) (some (6, m)) (nI k) X = X := by rw [g_En rfl hk, if_pos hn]
theorem g_E27_2 {n m k : Nat} {X : Option mR} (hk : k < 2147483648) (hn : k < n) : gE (some (27, n)) (some (2, m)) (nI k) X = X := by rw [g_En rfl hk, if_pos hn]
theorem g_E28_12 {n m k : Nat} {X : Option mR} (hk : k < 2147483648) (hn : k < n) : gE (some (28, n)) (some (12, m)) (nI k) X = X := by rw [g_En rfl hk, if_pos hn]
theorem g_E23_22 {n m k : Nat} {X : Option mR} (hk : k < 2147483648) (hn : k < n) : gE (some (23, n)) (some (22, m)) (nI k) X = X := by rw [g_En rfl hk, if_pos hn]
theorem g_E29_20 {n m k : Nat} {X : Option mR} (hk : k < 2147483648) (hn : k < n) : gE (some (29, n)) (some (20, m)) (nI k) X = X := by rw [g_En rfl hk, if_pos hn]
theorem a_mul {a b : Nat} : nI a * nI b = nI (a * b) := (Int32.ofNat_mul a b).symm
theorem a_ofIm1 {x : Int32} : x + Int32.ofInt (-1) = x - nI 1 := by
  have : Int32.ofInt (-1) = - nI 1 := by decide +kernel
  rw [this, Int32.sub_eq_add_neg]
section
variable {XI : Int32 → Option mR} {XJ : Int64 → Option mR} {XV : Value → Option mR} {x : Int32} {z : Int64} {a : Nat} {q : Option Nat} {lo : List (Option Value)}
theorem lzI_0 : lI (lget (some (.int x) :: lo) 0) XI = XI x := rfl
theorem lzR_0 : lR (lget (some (.ref a) :: lo) 0) XV = XV (.ref a) := rfl
theorem lzN_0 : lR (lget (some .null :: lo) 0) XV = XV .null := rfl
theorem lzQ_0 : lR (lget (some (va_rf q) :: lo) 0) XV = XV (va_rf q) := l_Rq
theorem lzI_1 {o0 : Option Value} : lI (lget (o0 :: some (.int x) :: lo) 1) XI = XI x := rfl
theorem lzR_1 {o0 : Option Value} : lR (lget (o0 :: some (.ref a) :: lo) 1) XV = XV (.ref a) := rfl
theorem lzN_1 {o0 : Option Value} : lR (lget (o0 :: some .null :: lo) 1) XV = XV .null := rfl
theorem lzQ_1 {o0 : Option Value} : lR (lget (o0 :: some (va_rf q) :: lo) 1) XV = XV (va_rf q) := l_Rq
theorem lzI_2 {o0 o1 : Option Value} : lI (lget (o0 :: o1 :: some (.int x) :: lo) 2) XI = XI x := rfl
theorem lzR_2 {o0 o1 : Option Value} : lR (lget (o0 :: o1 :: some (.ref a) :: lo) 2) XV = XV (.ref a) := rfl
theorem lzN_2 {o0 o1 : Option Value} : lR (lget (o0 :: o1 :: some .null :: lo) 2) XV = XV .null := rfl
theorem lzQ_2 {o0 o1 : Option Value} : lR (lget (o0 :: o1 :: some (va_rf q) :: lo) 2) XV = XV (va_rf q) := l_Rq
theorem lzI_3 {o0 o1 o2 : Option Value} : lI (lget (o0 :: o1 :: o2 :: some (.int x) :: lo) 3) XI = XI x := rfl
theorem lzR_3 {o0 o1 o2 : Option Value} : lR (lget (o0 :: o1 :: o2 :: some (.ref a) :: lo) 3) XV = XV (.ref a) := rfl
theorem lzN_3 {o0 o1 o2 : Option Value} : lR (lget (o0 :: o1 :: o2 :: some .null :: lo) 3) XV = XV .null := rfl
theorem lzQ_3 {o0 o1 o2 : Option Value} : lR (lget (o0 :: o1 :: o2 :: some (va_rf q) :: lo) 3) XV = XV (va_rf q) := l_Rq
theorem lzI_4 {o0 o1 o2 o3 : Option Value} : lI (lget (o0 :: o1 :: o2 :: o3 :: some (.int x) :: lo) 4) XI = XI x := rfl
theorem lzR_4 {o0 o1 o2 o3 : Option Value} : lR (lget (o0 :: o1 :: o2 :: o3 :: some (.ref a) :: lo) 4) XV = XV (.ref a) := rfl
theorem lzN_4 {o0 o1 o2 o3 : Option Value} : lR (lget (o0 :: o1 :: o2 :: o3 :: some .null :: lo) 4) XV = XV .null := rfl
theorem lzQ_4 {o0 o1 o2 o3 : Option Value} : lR (lget (o0 :: o1 :: o2 :: o3 :: some (va_rf q) :: lo) 4) XV = XV (va_rf q) := l_Rq
theorem lzI_5 {o0 o1 o2 o3 o4 : Option Value} : lI (lget (o0 :: o1 :: o2 :: o3 :: o4 :: some (.int x) :: lo) 5) XI = XI x := rfl
theorem lzR_5 {o0 o1 o2 o3 o4 : Option Value} : lR (lget (o0 :: o1 :: o2 :: o3 :: o4 :: some (.ref a) :: lo) 5) XV = XV (.ref a) := rfl
theorem lzN_5 {o0 o1 o2 o3 o4 : Option Value} : lR (lget (o0 :: o1 :: o2 :: o3 :: o4 :: some .null :: lo) 5) XV = XV .null := rfl
theorem lzQ_5 {o0 o1 o2 o3 o4 : Option Value} : lR (lget (o0 :: o1 :: o2 :: o3 :: o4 :: some (va_rf q) :: lo) 5) XV = XV (va_rf q) := l_Rq
theorem lzI_6 {o0 o1 o2 o3 o4 o5 : Option Value} : lI (lget (o0 :: o1 :: o2 :: o3 :: o4 :: o5 :: some (.int x) :: lo) 6) XI = XI x := rfl
theorem lzR_6 {o0 o1 o2 o3 o4 o5 : Option Value} : lR (lget (o0 :: o1 :: o2 :: o3 :: o4 :: o5 :: some (.ref a) :: lo) 6) XV = XV (.ref a) := rfl
theorem lzN_6 {o0 o1 o2 o3 o4 o5 : Option Value} : lR (lget (o0 :: o1 :: o2 :: o3 :: o4 :: o5 :: some .null :: lo) 6) XV = XV .null := rfl
theorem lzQ_6 {o0 o1 o2 o3 o4 o5 : Option Value} : lR (lget (o0 :: o1 :: o2 :: o3 :: o4 :: o5 :: some (va_rf q) :: lo) 6) XV = XV (va_rf q) := l_Rq
theorem lzI_7 {o0 o1 o2 o3 o4 o5 o6 : Option Value} : lI (lget (o0 :: o1 :: o2 :: o3 :: o4 :: o5 :: o6 :: some (.int x) :: lo) 7) XI = XI x := rfl
theorem lzR_7 {o0 o1 o2 o3 o4 o5 o6 : Option Value} : lR (lget (o0 :: o1 :: o2 :: o3 :: o4 :: o5 :: o6 :: some (.ref a) :: lo) 7) XV = XV (.ref a) := rfl
theorem lzN_7 {o0 o1 o2 o3 o4 o5 o6 : Option Value} : lR (lget (o0 :: o1 :: o2 :: o3 :: o4 :: o5 :: o6 :: some .null :: lo) 7) XV = XV .null := rfl
theorem lzQ_7 {o0 o1 o2 o3 o4 o5 o6 : Option Value} : lR (lget (o0 :: o1 :: o2 :: o3 :: o4 :: o5 :: o6 :: some (va_rf q) :: lo) 7) XV = XV (va_rf q) := l_Rq
theorem lzI_8 {o0 o1 o2 o3 o4 o5 o6 o7 : Option Value} : lI (lget (o0 :: o1 :: o2 :: o3 :: o4 :: o5 :: o6 :: o7 :: some (.int x) :: lo) 8) XI = XI x := rfl
theorem lzR_8 {o0 o1 o2 o3 o4 o5 o6 o7 : Option Value} : lR (lget (o0 :: o1 :: o2 :: o3 :: o4 :: o5 :: o6 :: o7 :: some (.ref a) :: lo) 8) XV = XV (.ref a) := rfl
theorem lzN_8 {o0 o1 o2 o3 o4 o5 o6 o7 : Option Value} : lR (lget (o0 :: o1 :: o2 :: o3 :: o4 :: o5 :: o6 :: o7 :: some .null :: lo) 8) XV = XV .null := rfl
theorem lzQ_8 {o0 o1 o2 o3 o4 o5 o6 o7 : Option Value} : lR (lget (o0 :: o1 :: o2 :: o3 :: o4 :: o5 :: o6 :: o7 :: some (va_rf q) :: lo) 8) XV = XV (va_rf q) := l_Rq
theorem lzI_9 {o0 o1 o2 o3 o4 o5 o6 o7 o8 : Option Value} : lI (lget (o0 :: o1 :: o2 :: o3 :: o4 :: o5 :: o6 :: o7 :: o8 :: some (.int x) :: lo) 9) XI = XI x := rfl
theorem lzR_9 {o0 o1 o2 o3 o4 o5 o6 o7 o8 : Option Value} : lR (lget (o0 :: o1 :: o2 :: o3 :: o4 :: o5 :: o6 :: o7 :: o8 :: some (.ref a) :: lo) 9) XV = XV (.ref a) := rfl
theorem lzN_9 {o0 o1 o2 o3 o4 o5 o6 o7 o8 : Option Value} : lR (lget (o0 :: o1 :: o2 :: o3 :: o4 :: o5 :: o6 :: o7 :: o8 :: some .null :: lo) 9) XV = XV .null := rfl
theorem lzQ_9 {o0 o1 o2 o3 o4 o5 o6 o7 o8 : Option Value} : lR (lget (o0 :: o1 :: o2 :: o3 :: o4 :: o5 :: o6 :: o7 :: o8 :: some (va_rf q) :: lo) 9) XV = XV (va_rf q) := l_Rq
theorem lzI_10 {o0 o1 o2 o3 o4 o5 o6 o7 o8 o9 : Option Value} : lI (lget (o0 :: o1 :: o2 :: o3 :: o4 :: o5 :: o6 :: o7 :: o8 :: o9 :: some (.int x) :: lo) 10) XI = XI x := rfl
theorem lzR_10 {o0 o1 o2 o3 o4 o5 o6 o7 o8 o9 : Option Value} : lR (lget (o0 :: o1 :: o2 :: o3 :: o4 :: o5 :: o6 :: o7 :: o8 :: o9 :: some (.ref a) :: lo) 10) XV = XV (.ref a) := rfl
theorem lzN_10 {o0 o1 o2 o3 o4 o5 o6 o7 o8 o9 : Option Value} : lR (lget (o0 :: o1 :: o2 :: o3 :: o4 :: o5 :: o6 :: o7 :: o8 :: o9 :: some .null :: lo) 10) XV = XV .null := rfl
theorem lzQ_10 {o0 o1 o2 o3 o4 o5 o6 o7 o8 o9 : Option Value} : lR (lget (o0 :: o1 :: o2 :: o3 :: o4 :: o5 :: o6 :: o7 :: o8 :: o9 :: some (va_rf q) :: lo) 10) XV = XV (va_rf q) := l_Rq
theorem lzI_11 {o0 o1 o2 o3 o4 o5 o6 o7 o8 o9 o10 : Option Value} : lI (lget (o0 :: o1 :: o2 :: o3 :: o4 :: o5 :: o6 :: o7 :: o8 :: o9 :: o10 :: some (.int x) :: lo) 11) XI = XI x := rfl
theorem lzR_11 {o0 o1 o2 o3 o4 o5 o6 o7 o8 o9 o10 : Option Value} : lR (lget (o0 :: o1 :: o2 :: o3 :: o4 :: o5 :: o6 :: o7 :: o8 :: o9 :: o10 :: some (.ref a) :: lo) 11) XV = XV (.ref a) := rfl
theorem lzN_11 {o0 o1 o2 o3 o4 o5 o6 o7 o8 o9 o10 : Option Value} : lR (lget (o0 :: o1 :: o2 :: o3 :: o4 :: o5 :: o6 :: o7 :: o8 :: o9 :: o10 :: some .null :: lo) 11) XV = XV .null := rfl
theorem lzQ_11 {o0 o1 o2 o3 o4 o5 o6 o7 o8 o9 o10 : Option Value} : lR (lget (o0 :: o1 :: o2 :: o3 :: o4 :: o5 :: o6 :: o7 :: o8 :: o9 :: o10 :: some (va_rf q) :: lo) 11) XV = XV (va_rf q) := l_Rq
theorem lzI_12 {o0 o1 o2 o3 o4 o5 o6 o7 o8 o9 o10 o11 : Option Value} : lI (lget (o0 :: o1 :: o2 :: o3 :: o4 :: o5 :: o6 :: o7 :: o8 :: o9 :: o10 :: o11 :: some (.int x) :: lo) 12) XI = XI x := rfl
theorem lzR_12 {o0 o1 o2 o3 o4 o5 o6 o7 o8 o9 o10 o11 : Option Value} : lR (lget (o0 :: o1 :: o2 :: o3 :: o4 :: o5 :: o6 :: o7 :: o8 :: o9 :: o10 :: o11 :: some (.ref a) :: lo) 12) XV = XV (.ref a) := rfl
theorem lzN_12 {o0 o1 o2 o3 o4 o5 o6 o7 o8 o9 o10 o11 : Option Value} : lR (lget (o0 :: o1 :: o2 :: o3 :: o4 :: o5 :: o6 :: o7 :: o8 :: o9 :: o10 :: o11 :: some .null :: lo) 12) XV = XV .null := rfl
theorem lzQ_12 {o0 o1 o2 o3 o4 o5 o6 o7 o8 o9 o10 o11 : Option Value} : lR (lget (o0 :: o1 :: o2 :: o3 :: o4 :: o5 :: o6 :: o7 :: o8 :: o9 :: o10 :: o11 :: some (va_rf q) :: lo) 12) XV = XV (va_rf q) := l_Rq
end
