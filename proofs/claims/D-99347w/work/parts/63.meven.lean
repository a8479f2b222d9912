/-! EncoresModel.anEvening -/
set_option maxRecDepth 100000
abbrev TT : Type := Int32 × Nat
/-- the row holds the programme -/
def MT2 (w : Nat → Int32) (ts : List TT) : Prop := w 42 = nI ts.length ∧ ts.length ≤ 16 ∧ ∀ k p, ts[k]? = some p → w (153 + 2 * k) = p.1 ∧ w (153 + 2 * k + 1) = nI p.2 ∧ p.2 < 8
theorem MT2_w {w w' : Nat → Int32} {ts : List TT} (h42 : w' 42 = w 42) (h : ∀ j, 153 ≤ j → j < 185 → w' j = w j) (L : MT2 w ts) : MT2 w' ts := by
  obtain ⟨h1, h2, h3⟩ := L
  refine ⟨h42.trans h1, h2, fun k p hp => ?_⟩
  obtain ⟨g1, g2, g3⟩ := h3 k p hp
  have hk := (List.getElem?_eq_some_iff.mp hp).1
  exact ⟨(h _ (by omega) (by omega)).trans g1, (h _ (by omega) (by omega)).trans g2, g3⟩
def atS (w : Nat → Int32) (p : TT) : Nat → Int32 := up w 0 (if p.1 < w 0 then w 0 else p.1)
/-- the turns of a programme, one behind the other: how often in all, row, drawn -/
def turnsR (ls : List LL) (rs : List RR) (t : Int32) (n : Nat) : List TT → (Nat → Int32) → (Nat → Int32) → Nat → (Nat → Int32) → (Nat → Int32) → Prop
  | [], w, dr, K, w', dr' => K = 0 ∧ w' = w ∧ dr' = dr
  | p :: ts, w, dr, K, w', dr' => (¬ atS w p 0 < lastR 3 rs (nI 300) ∧ turnsR ls rs t n ts (atS w p) dr K w' dr') ∨
      (atS w p 0 < lastR 3 rs (nI 300) ∧ ∃ (k K1 : Nat) (x : Int32) (q : Int32 × Int32) (w1 dr1 : Nat → Int32), doesR ls rs t n p.2 k (atS w p) dr x q w1 dr1 ∧ turnsR ls rs t n ts w1 dr1 K1 w' dr' ∧ K = k + K1)
theorem turnsR_det {ls : List LL} {rs : List RR} {t : Int32} {n : Nat} : ∀ (ts : List TT) (w dr : Nat → Int32) (K K2 : Nat) (w' dr' w2 dr2 : Nat → Int32), turnsR ls rs t n ts w dr K w' dr' → turnsR ls rs t n ts w dr K2 w2 dr2 → K = K2 ∧ w' = w2 ∧ dr' = dr2 := by
  intro ts
  induction ts with
  | nil =>
    intro w dr K K2 w' dr' w2 dr2 h h'
    obtain ⟨rfl, rfl, rfl⟩ := h
    obtain ⟨rfl, rfl, rfl⟩ := h'
    exact ⟨rfl, rfl, rfl⟩
  | cons p ts ih =>
    intro w dr K K2 w' dr' w2 dr2 h h'
    rcases h with ⟨c, h⟩ | ⟨c, k, K1, x, q, w1, d1, h, hk, rfl⟩ <;> rcases h' with ⟨c', h'⟩ | ⟨c', k', K1', x', q', u1, e1, h', hk', rfl⟩
    · exact ih _ _ _ _ _ _ _ _ h h'
    · exact absurd c' c
    · exact absurd c c'
    · obtain ⟨rfl, -, -, rfl, rfl⟩ := doesR_det _ _ _ _ _ _ _ _ _ _ _ _ h h'
      obtain ⟨rfl, g⟩ := ih _ _ _ _ _ _ _ _ hk hk'
      exact ⟨rfl, g⟩
