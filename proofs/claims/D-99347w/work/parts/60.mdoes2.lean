/-! EncoresModel.does -/
set_option maxRecDepth 100000
theorem begS_ne (ls : List LL) (w : Nat → Int32) (e : Nat) (he : e < 8) {j : Nat} (h0 : j ≠ 0) (h2 : j ≠ 2) (h3 : j ≠ 3) (h4 : j ≠ 4) (hj : j < 21 ∨ 37 ≤ j) : begS ls w e j = w j := by
  unfold begS begS1
  rw [up_ne (by omega), up_ne (by omega), up_ne h2, up_ne h0, up_ne h3, up_ne h4]
theorem begS_3 (ls : List LL) (w : Nat → Int32) (e : Nat) : begS ls w e 3 = nI e := by
  unfold begS begS1
  rw [up_ne (by omega), up_ne (by omega), up_ne (by omega), up_ne (by omega), up_eq]
theorem begS_4 (ls : List LL) (w : Nat → Int32) (e : Nat) : begS ls w e 4 = if w 3 = nI e then w 4 + nI 1 else nI 0 := by
  unfold begS begS1
  rw [up_ne (by omega), up_ne (by omega), up_ne (by omega), up_ne (by omega), up_ne (by omega), up_eq]
theorem endP_keep {ls : List LL} {rs : List RR} {w : Nat → Int32} {t cl : Int32} {b n e : Nat} {v x : Int32} {w' : Nat → Int32} (hb : b ≤ 150) (hb6 : w 6 = nI b) (h : endP ls rs w t cl b n e v x w') :
    (∀ j, j ≠ 5 → j ≠ 6 → j < 223 ∨ 823 ≤ j → w' j = w j) ∧ (∃ b', b' ≤ 150 ∧ w' 6 = nI b') ∧ (v = nI 0 ∨ v = nI 1 ∧ w 4 < lastR 1 rs (nI 9)) := by
  have ask : ∀ j, j ≠ 5 → askS w t j = w j := by
    intro j hj
    unfold askS
    by_cases c : t ≠ nI 0 ∧ nI 0 < w 39
    · rw [if_pos c, up_ne hj]
    · rw [if_neg c]
  have six : ∀ (u : Nat → Int32) (c : Nat) (a1 a2 a3 : Int32), c ≤ 150 → u 6 = nI c → ∃ b', b' ≤ 150 ∧ noteS u t c a1 a2 a3 6 = nI b' := by
    intro u c a1 a2 a3 hc hu
    unfold noteS
    by_cases q : t = nI 0 ∨ c = 150
    · rw [if_pos q]; exact ⟨c, hc, hu⟩
    · rw [if_neg q, up_eq]
      exact ⟨c + 1, by have : c ≠ 150 := fun z => q (Or.inr z); omega, rfl⟩
  rcases h with ⟨⟨ct, -⟩, rfl, rfl, rfl⟩ | ⟨-, rfl, g, rfl⟩
  · have hb3 : (if b = 150 then 150 else b + 1) ≤ 150 := by split <;> omega
    have h6 : noteS (askS w t) t b (nI 2) (nI e) (nI 0) 6 = nI (if b = 150 then 150 else b + 1) := by
      unfold noteS
      by_cases q : b = 150
      · rw [if_pos (Or.inr q), if_pos q, ask 6 (by omega), hb6, q]
      · rw [if_neg (fun z => z.elim ct q), if_neg q, up_eq]
    refine ⟨fun j h5 h6' hj => ?_, ?_, Or.inl rfl⟩
    · unfold endW
      rw [noteS_ne _ _ hb3 _ _ _ h6' hj, noteS_ne _ _ hb _ _ _ h6' hj, ask j h5]
    · exact six _ _ _ _ _ hb3 h6
  · refine ⟨fun j h5 h6' hj => ?_, ?_, ?_⟩
    · unfold endW
      rw [noteS_ne _ _ hb _ _ _ h6' hj, ask j h5]
    · exact six _ _ _ _ _ hb ((ask 6 (by omega)).trans hb6)
    · rcases g with ⟨rfl, -, -, g, -⟩ | ⟨rfl, -⟩
      · rw [ask 4 (by omega)] at g
        exact Or.inr ⟨rfl, g⟩
      · exact Or.inl rfl
