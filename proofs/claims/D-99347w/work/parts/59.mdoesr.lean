/-! a doing with its agains, as a relation that has one answer -/
set_option maxRecDepth 100000
def oneR (ls : List LL) (rs : List RR) (t : Int32) (n e : Nat) (w dr : Nat → Int32) (v x : Int32) (q : Int32 × Int32) (w' dr' : Nat → Int32) : Prop :=
  ∃ f b : Nat, rloop ls (up (begS ls w e) 5 (fo (drwS (begS ls w e) t) n 0 (begS ls w e 5, dr)).1) (fo (drwS (begS ls w e) t) n 0 (begS ls w e 5, dr)).2 e n f (nI 0, nI 0) = some q ∧ begS ls w e 6 = nI b ∧ b ≤ 150 ∧
    endP ls rs (up (begS ls w e) 5 (fo (drwS (begS ls w e) t) n 0 (begS ls w e 5, dr)).1) t q.1 b n e v x w' ∧ dr' = (fo (drwS (begS ls w e) t) n 0 (begS ls w e 5, dr)).2
theorem oneR_det {ls : List LL} {rs : List RR} {t : Int32} {n e : Nat} {w dr : Nat → Int32} {v x v2 x2 : Int32} {q q2 : Int32 × Int32} {w' dr' w2 dr2 : Nat → Int32} (h : oneR ls rs t n e w dr v x q w' dr') (h' : oneR ls rs t n e w dr v2 x2 q2 w2 dr2) : v = v2 ∧ x = x2 ∧ q = q2 ∧ w' = w2 ∧ dr' = dr2 := by
  obtain ⟨f, b, h1, h2, h3, h4, h5⟩ := h
  obtain ⟨f', b', g1, g2, g3, g4, g5⟩ := h'
  have eq := rloop_det _ _ _ _ _ h1 g1
  subst eq
  have eb : b = b' := by
    have := h2.symm.trans g2
    rwa [a_eq (by omega) (by omega)] at this
  subst eb
  obtain ⟨k1, k2, k3⟩ := endP_det h4 g4
  exact ⟨k1, k2, rfl, k3, h5.trans g5.symm⟩
def doesR (ls : List LL) (rs : List RR) (t : Int32) (n e : Nat) : Nat → (Nat → Int32) → (Nat → Int32) → Int32 → Int32 × Int32 → (Nat → Int32) → (Nat → Int32) → Prop
  | 0, _, _, _, _, _, _ => False
  | k + 1, w, dr, x, q, w', dr' => oneR ls rs t n e w dr (nI 0) x q w' dr' ∧ k = 0 ∨ ∃ (x1 : Int32) (q1 : Int32 × Int32) (w1 dr1 : Nat → Int32), oneR ls rs t n e w dr (nI 1) x1 q1 w1 dr1 ∧ doesR ls rs t n e k w1 dr1 x q w' dr'
theorem doesR_det {ls : List LL} {rs : List RR} {t : Int32} {n e : Nat} : ∀ (k k2 : Nat) (w dr : Nat → Int32) (x x2 : Int32) (q q2 : Int32 × Int32) (w' dr' w2 dr2 : Nat → Int32), doesR ls rs t n e k w dr x q w' dr' → doesR ls rs t n e k2 w dr x2 q2 w2 dr2 → k = k2 ∧ x = x2 ∧ q = q2 ∧ w' = w2 ∧ dr' = dr2 := by
  have h01 : ¬ (nI 0 : Int32) = nI 1 := by rw [a_eq (by omega) (by omega)]; omega
  intro k
  induction k with
  | zero => intro k2 w dr x x2 q q2 w' dr' w2 dr2 h; exact h.elim
  | succ k ih =>
    intro k2 w dr x x2 q q2 w' dr' w2 dr2 h h'
    cases k2 with
    | zero => exact h'.elim
    | succ k2 =>
      rcases h with ⟨h, rfl⟩ | ⟨x1, q1, w1, d1, h, hk⟩ <;> rcases h' with ⟨h', rfl⟩ | ⟨y1, r1, u1, e1, h', hk'⟩
      · obtain ⟨-, g⟩ := oneR_det h h'
        exact ⟨rfl, g⟩
      · exact absurd (oneR_det h h').1 h01
      · exact absurd (oneR_det h' h).1 h01
      · obtain ⟨-, -, -, g1, g2⟩ := oneR_det h h'
        subst g1; subst g2
        obtain ⟨g1, g⟩ := ih k2 _ _ _ _ _ _ _ _ _ _ hk hk'
        exact ⟨by rw [g1], g⟩
