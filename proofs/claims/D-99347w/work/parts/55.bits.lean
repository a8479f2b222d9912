/-! bits (b_, s_, nf_ rows began as rows of BITS.to-paste) -/
set_option maxRecDepth 100000
def bt (x : Int32) (i : Nat) : Bool := x.toBitVec.getLsbD i
theorem b_ext {x y : Int32} (h : ∀ i, i < 32 → bt x i = bt y i) : x = y := Int32.toBitVec_inj.mp (BitVec.eq_of_getLsbD_eq (fun i hi => h i hi))
theorem b_or (x y : Int32) (i : Nat) : bt (x ||| y) i = (bt x i || bt y i) := by unfold bt; rw [Int32.toBitVec_or, BitVec.getLsbD_or]
theorem b_and (x y : Int32) (i : Nat) : bt (x &&& y) i = (bt x i && bt y i) := by unfold bt; rw [Int32.toBitVec_and, BitVec.getLsbD_and]
theorem b_xor (x y : Int32) (i : Nat) : bt (x ^^^ y) i = (bt x i ^^ bt y i) := by unfold bt; rw [Int32.toBitVec_xor, BitVec.getLsbD_xor]
theorem b_big {x : Int32} {i : Nat} (h : 32 ≤ i) : bt x i = false := BitVec.getLsbD_of_ge _ _ h
theorem b_m1 : ∀ i, i < 32 → bt (-1) i = true := by decide +kernel
theorem b_0 (i : Nat) : bt 0 i = false := BitVec.getLsbD_zero
theorem s_l : ∀ n, n < 32 → ((nI n &&& 31).toBitVec.smod 32).toNat = n := by decide +kernel
theorem s_u : ∀ n, n < 32 → (((nI n).toUInt32 &&& Int32.toUInt32 31).toBitVec % 32).toNat = n := by decide +kernel
theorem b_shl (n : Nat) (hn : n < 32) (x : Int32) {i : Nat} (hi : i < 32) : bt (x <<< (nI n &&& 31)) i = (decide (n ≤ i) && bt x (i - n)) := by
  unfold bt
  rw [Int32.toBitVec_shiftLeft]
  show (x.toBitVec <<< ((nI n &&& 31).toBitVec.smod 32).toNat).getLsbD i = _
  rw [s_l n hn, BitVec.getLsbD_shiftLeft]
  rcases Nat.lt_or_ge i n with h | h
  · simp [h, Nat.not_le.mpr h]
  · simp [hi, h, Nat.not_lt.mpr h]
theorem b_ushr (n : Nat) (hn : n < 32) (x : Int32) (i : Nat) : bt ((x.toUInt32 >>> ((nI n).toUInt32 &&& Int32.toUInt32 31)).toInt32) i = bt x (n + i) := by
  show (x.toUInt32 >>> ((nI n).toUInt32 &&& Int32.toUInt32 31)).toBitVec.getLsbD i = x.toUInt32.toBitVec.getLsbD (n + i)
  rw [UInt32.toBitVec_shiftRight]
  show (x.toUInt32.toBitVec >>> (((nI n).toUInt32 &&& Int32.toUInt32 31).toBitVec % 32).toNat).getLsbD i = _
  rw [s_u n hn, BitVec.getLsbD_ushiftRight]
theorem b_sshr (n : Nat) (hn : n < 32) (x : Int32) {i : Nat} (hi : i < 32) : bt (x >>> (nI n &&& 31)) i = if n + i < 32 then bt x (n + i) else bt x 31 := by
  unfold bt
  rw [Int32.toBitVec_shiftRight]
  show (x.toBitVec.sshiftRight ((nI n &&& 31).toBitVec.smod 32).toNat).getLsbD i = _
  rw [s_l n hn, BitVec.getLsbD_sshiftRight, BitVec.msb_eq_getLsbD_last]
  simp [hi]
def nf_M (m : Int32) : Nat := 4294967296 - m.toBitVec.toNat
theorem nf_sh : ∀ l, l < 32 → ((1 : Int32) <<< (nI l &&& 31)).toBitVec = BitVec.twoPow 32 l := by decide +kernel
theorem nf_gr (m k : Int32) (h : m &&& k = 0) (hk : k ≠ 0) : nf_M (m ||| k) < nf_M m := by
  have hm := m.toBitVec.isLt
  have hm' := (m ||| k).toBitVec.isLt
  have h1 : m.toBitVec.toNat ≤ (m ||| k).toBitVec.toNat := by
    rw [Int32.toBitVec_or, BitVec.toNat_or]
    exact Nat.left_le_or
  have h2 : m.toBitVec.toNat ≠ (m ||| k).toBitVec.toNat := by
    intro e
    have e2 : m = m ||| k := Int32.toBitVec_inj.mp (BitVec.eq_of_toNat_eq e)
    apply hk
    apply Int32.toBitVec_inj.mp
    show k.toBitVec = 0#32
    apply BitVec.eq_of_getLsbD_eq
    intro i hi
    have a : m.toBitVec.getLsbD i = (m.toBitVec.getLsbD i || k.toBitVec.getLsbD i) := by rw [← BitVec.getLsbD_or, ← Int32.toBitVec_or, ← e2]
    have b : (m.toBitVec.getLsbD i && k.toBitVec.getLsbD i) = false := by
      rw [← BitVec.getLsbD_and, ← Int32.toBitVec_and, h]
      exact BitVec.getLsbD_zero
    rw [BitVec.getLsbD_zero]
    revert a b
    cases m.toBitVec.getLsbD i <;> cases k.toBitVec.getLsbD i <;> simp
  unfold nf_M
  omega
/-! ===== a byte read unsigned ===== -/
theorem b_one : ∀ i, i < 32 → bt (nI 1) i = decide (i = 0) := by decide +kernel
theorem bitP_bt (s : Int32) (k : Nat) (hk : k < 32) : bitP s k ↔ bt s k = true := by
  have e0 : bt (s >>> (nI k &&& 31)) 0 = bt s k := by rw [b_sshr k hk s (by omega), if_pos (by omega)]; rfl
  constructor
  · intro h
    have := congrArg (fun z => bt z 0) h
    simp only [b_and, e0, b_one 0 (by omega)] at this
    simpa using this
  · intro h
    refine b_ext fun i hi => ?_
    rw [b_and, b_one i hi]
    by_cases q : i = 0
    · subst q; rw [e0, h]; rfl
    · simp [q]
theorem b_bit (k : Nat) (hk : k < 32) (i : Nat) (hi : i < 32) : bt (nI 1 <<< (nI k &&& 31)) i = decide (i = k) := by
  rw [b_shl k hk _ hi]
  by_cases q : k ≤ i
  · rw [b_one (i - k) (by omega)]
    by_cases z : i = k
    · subst z; simp
    · simp [z]; omega
  · have : i ≠ k := by omega
    simp [q, this]
theorem bit_and0 (s : Int32) (k : Nat) (hk : k < 32) (h : ¬ bitP s k) : s &&& (nI 1 <<< (nI k &&& 31)) = 0 := by
  refine b_ext fun i hi => ?_
  rw [b_and, b_bit k hk i hi, show bt 0 i = false from BitVec.getLsbD_zero]
  by_cases q : i = k
  · subst q
    have : bt s i = false := by
      cases hb : bt s i with
      | false => rfl
      | true => exact absurd ((bitP_bt s i hk).mpr hb) h
    rw [this]; rfl
  · simp [q]
theorem bit_ne0 : ∀ k, k < 32 → (nI 1 <<< (nI k &&& 31)) ≠ 0 := by decide +kernel
theorem rnd_gr (ls : List LL) (w dr : Nat → Int32) (e : Nat) : ∀ (r k : Nat) (z : Int32 × Int32), k + r ≤ 32 → fo (rndS ls w dr e) r k z = z ∨ nf_M (fo (rndS ls w dr e) r k z).1 < nf_M z.1 := by
  intro r
  induction r with
  | zero => intro k z _; exact Or.inl rfl
  | succ r ih =>
    intro k z hk
    rw [fo_s]
    by_cases c : cR ls w dr e k z.1 = true
    · have e1 : rndS ls w dr e k z = (z.1 ||| (nI 1 <<< (nI k &&& 31)), nI 1) := if_pos c
      rw [e1]
      have hn : ¬ bitP z.1 k := by
        intro q
        unfold cR at c
        rw [decide_eq_true q] at c
        simp at c
      have g := nf_gr z.1 (nI 1 <<< (nI k &&& 31)) (bit_and0 z.1 k (by omega) hn) (bit_ne0 k (by omega))
      rcases ih (k + 1) (z.1 ||| (nI 1 <<< (nI k &&& 31)), nI 1) (by omega) with i | i
      · rw [i]; exact Or.inr g
      · exact Or.inr (Nat.lt_trans i g)
    · have e1 : rndS ls w dr e k z = z := if_neg c
      rw [e1]
      exact ih (k + 1) z (by omega)
/-- the rounds come to their end -/
theorem rloop_ends (ls : List LL) (w dr : Nat → Int32) (e n : Nat) (hn : n ≤ 12) : ∀ (N : Nat) (z : Int32 × Int32), nf_M z.1 < N → ∃ f q, rloop ls w dr e n f z = some q := by
  intro N
  induction N with
  | zero => intro z h; omega
  | succ N ih =>
    intro z h
    by_cases c : (rnd ls w dr e n z.1).2 = nI 0
    · exact ⟨1, _, if_pos c⟩
    · rcases rnd_gr ls w dr e n 0 (z.1, nI 0) (by omega) with i | i
      · exact absurd (congrArg (fun p => p.2) i) c
      · obtain ⟨f, q, hf⟩ := ih ((rnd ls w dr e n z.1).1, z.2 + nI 1) (by
          have : nf_M (rnd ls w dr e n z.1).1 < nf_M z.1 := i
          show nf_M (rnd ls w dr e n z.1).1 < N
          omega)
        exact ⟨f + 1, q, (if_neg c).trans hf⟩
