/-! one doing as a function -/
set_option maxRecDepth 100000
theorem rloop_up (ls : List LL) (w dr : Nat → Int32) (e n : Nat) : ∀ (f : Nat) (z q : Int32 × Int32), rloop ls w dr e n f z = some q → rloop ls w dr e n (f + 1) z = some q := by
  intro f
  induction f with
  | zero => intro z q h; cases h
  | succ f ih =>
    intro z q h
    have h : (if (rnd ls w dr e n z.1).2 = nI 0 then some ((rnd ls w dr e n z.1).1, z.2) else rloop ls w dr e n f ((rnd ls w dr e n z.1).1, z.2 + nI 1)) = some q := h
    show (if (rnd ls w dr e n z.1).2 = nI 0 then some ((rnd ls w dr e n z.1).1, z.2) else rloop ls w dr e n (f + 1) ((rnd ls w dr e n z.1).1, z.2 + nI 1)) = some q
    by_cases c : (rnd ls w dr e n z.1).2 = nI 0
    · rw [if_pos c] at h ⊢; exact h
    · rw [if_neg c] at h ⊢; exact ih _ _ h
theorem rloop_le (ls : List LL) (w dr : Nat → Int32) (e n : Nat) {f g : Nat} (hfg : f ≤ g) {z q : Int32 × Int32} (h : rloop ls w dr e n f z = some q) : rloop ls w dr e n g z = some q := by
  obtain ⟨k, rfl⟩ := Nat.le.dest hfg
  clear hfg
  induction k with
  | zero => exact h
  | succ k ih => exact rloop_up ls w dr e n _ _ _ ih
theorem rloop_det (ls : List LL) (w dr : Nat → Int32) (e n : Nat) {f g : Nat} {z q r : Int32 × Int32} (h : rloop ls w dr e n f z = some q) (h' : rloop ls w dr e n g z = some r) : q = r :=
  Option.some.inj ((rloop_le ls w dr e n (Nat.le_max_left f g) h).symm.trans (rloop_le ls w dr e n (Nat.le_max_right f g) h'))
theorem endP_det {ls : List LL} {rs : List RR} {w : Nat → Int32} {t cl : Int32} {b n e : Nat} {v x v' x' : Int32} {w1 w2 : Nat → Int32} (h : endP ls rs w t cl b n e v x w1) (h' : endP ls rs w t cl b n e v' x' w2) : v = v' ∧ x = x' ∧ w1 = w2 := by
  rcases h with ⟨c, rfl, rfl, rfl⟩ | ⟨c, rfl, g, rfl⟩
  · rcases h' with ⟨-, rfl, rfl, rfl⟩ | ⟨c', -⟩
    · exact ⟨rfl, rfl, rfl⟩
    · exact absurd c c'
  · rcases h' with ⟨c', -⟩ | ⟨-, rfl, g', rfl⟩
    · exact absurd c' c
    · refine ⟨?_, rfl, rfl⟩
      rcases g with ⟨rfl, g⟩ | ⟨rfl, g⟩ <;> rcases g' with ⟨rfl, g'⟩ | ⟨rfl, g'⟩
      · rfl
      · exact absurd g g'
      · exact absurd g' g
      · rfl
