/-! the small machine runs -/
def mcode (y pc : Nat) : mI := alk (mtab.getD y []) pc
def mname (y : Nat) : MethodName := (mmet.getD y (⟨"", "", ""⟩, .empty, 0, none)).1
def mbyt (y : Nat) : ByteArray := (mmet.getD y (⟨"", "", ""⟩, .empty, 0, none)).2.1
def mmax (y : Nat) : Nat := (mmet.getD y (⟨"", "", ""⟩, .empty, 0, none)).2.2.1
def mret (y : Nat) : Option FieldType := (mmet.getD y (⟨"", "", ""⟩, .empty, 0, none)).2.2.2
def mentry (y : Nat) (as : List Value) (h : mH) : mC := (0, as.map some ++ List.replicate (mmax y - as.length) none, [], h)
/-- handlers: none, one that isn't walked, or the place where the thrown cell is caught -/
def mhand (y pc : Nat) : Option (Option Nat) := if y = 220 then (if 10 ≤ pc ∧ pc < 29 then some (some 36) else if 36 ≤ pc ∧ pc < 64 then some none else none) else none
def mthr (go : mC → Option mR) (y pc : Nat) (L : List (Option Value)) (q : Nat) (h : mH) : Option mR := match mhand y pc with
  | none => some (.inr q, h)
  | some none => none
  | some (some t) => go (t, L, [.ref q], h)
/-- a thrown cell is a Fault -/
def isFl (h : mH) (q : Nat) : Bool := match hT h q with
  | some (t, _) => decide (t = 4)
  | none => false
def run : Nat → Nat → Nat → mC → Option mR
  | 0, _, _, _ => none
  | n + 1, d, y, c => match mcode y c.1 with
    | .inl f => (match f c with
      | some c' => run n d y c'
      | none => none)
    | .inr (.inl f) => (match f c with
      | some (y', as, c') => (match d with
        | 0 => none
        | d' + 1 => (match (if as.all isC1 = true then run n d' y' (mentry y' as c'.2.2.2) else none) with
          | some (.inl v, h') => run n (d' + 1) y (c'.1, c'.2.1, v.toList ++ c'.2.2.1, h')
          | some (.inr q, h') => mthr (run n (d' + 1) y) y c.1 c.2.1 q h'
          | none => none))
      | none => none)
    | .inr (.inr (.inl f)) => (match f c with
      | some v => some (.inl v, c.2.2.2)
      | none => none)
    | .inr (.inr (.inr _)) => (match c.2.2.1 with
      | .ref q :: _ => if isFl c.2.2.2 q = true then mthr (run n d y) y c.1 c.2.1 q c.2.2.2 else none
      | _ => none)
theorem mthr_mono {g g' : mC → Option mR} (hg : ∀ c r, g c = some r → g' c = some r) {y pc : Nat} {L : List (Option Value)} {q : Nat} {h : mH} {r : mR} (e : mthr g y pc L q h = some r) : mthr g' y pc L q h = some r := by
  unfold mthr at e ⊢
  cases hm : mhand y pc with
  | none => rw [hm] at e; exact e
  | some o =>
    rw [hm] at e
    cases o with
    | none => exact e
    | some t => exact hg _ _ e
theorem run_mono1 : ∀ (n d y : Nat) (c : mC) (r : mR), run n d y c = some r → run (n + 1) d y c = some r := by
  intro n
  induction n with
  | zero => intro d y c r e; exact absurd e (by simp [run])
  | succ n ih =>
    intro d y c r e
    rw [run] at e ⊢
    cases hk : mcode y c.1 with
    | inl f =>
      rw [hk] at e
      dsimp only at e ⊢
      cases hf : f c with
      | none => rw [hf] at e; exact absurd e (by simp)
      | some c' => rw [hf] at e; exact ih _ _ _ _ e
    | inr k =>
      cases k with
      | inl f =>
        rw [hk] at e
        dsimp only at e ⊢
        cases hf : f c with
        | none => rw [hf] at e; exact absurd e (by simp)
        | some z =>
          obtain ⟨y', as, c'⟩ := z
          rw [hf] at e
          dsimp only at e ⊢
          cases d with
          | zero => exact absurd e (by simp)
          | succ d' =>
            dsimp only at e ⊢
            by_cases hA : as.all isC1 = true
            case neg => rw [if_neg hA] at e; exact absurd e (by simp)
            rw [if_pos hA] at e ⊢
            cases hr : run n d' y' (mentry y' as c'.2.2.2) with
            | none => rw [hr] at e; exact absurd e (by simp)
            | some z =>
              obtain ⟨o, h'⟩ := z
              rw [hr] at e
              rw [ih _ _ _ _ hr]
              cases o with
              | inl v => exact ih _ _ _ _ e
              | inr q => exact mthr_mono (fun c r z => ih _ _ _ _ z) e
      | inr k =>
        cases k with
        | inl f => rw [hk] at e; exact e
        | inr u =>
          rw [hk] at e
          dsimp only at e ⊢
          cases hs : c.2.2.1 with
          | nil => rw [hs] at e; exact absurd e (by simp)
          | cons v r' =>
            rw [hs] at e
            cases v with
            | ref q =>
              dsimp only at e ⊢
              by_cases hq : isFl c.2.2.2 q = true
              · rw [if_pos hq] at e ⊢
                exact mthr_mono (fun c r z => ih _ _ _ _ z) e
              · rw [if_neg hq] at e
                exact absurd e (by simp)
            | _ => exact absurd e (by simp)
theorem run_mono {n m d y : Nat} {c : mC} {r : mR} (h : n ≤ m) (e : run n d y c = some r) : run m d y c = some r := by
  induction m with
  | zero => rw [Nat.le_zero.mp h] at e; exact e
  | succ m ih =>
    rcases Nat.lt_or_ge m n with q | q
    · rw [show m + 1 = n by omega]; exact e
    · exact run_mono1 _ _ _ _ _ (ih q)
theorem run_det {n m d y : Nat} {c : mC} {r r' : mR} (e : run n d y c = some r) (e' : run m d y c = some r') : r = r' :=
  Option.some.inj ((run_mono (Nat.le_max_left n m) e).symm.trans (run_mono (Nat.le_max_right n m) e'))
/-- what a run comes to, if it ends -/
noncomputable def res (d y : Nat) (c : mC) : Option mR := @dite (Option mR) (∃ r : mR, ∃ n : Nat, run n d y c = some r) (Classical.propDecidable _) (fun h => some h.choose) (fun _ => none)
theorem res_some {d y : Nat} {c : mC} {r : mR} : res d y c = some r ↔ ∃ n : Nat, run n d y c = some r := by
  unfold res
  by_cases h : ∃ r : mR, ∃ n : Nat, run n d y c = some r
  · rw [dif_pos h]
    constructor
    · intro e
      rw [← Option.some.inj e]
      exact h.choose_spec
    · rintro ⟨n, e⟩
      obtain ⟨m, e'⟩ := h.choose_spec
      rw [run_det e e']
  · rw [dif_neg h]
    exact ⟨fun e => absurd e (by simp), fun ⟨n, e⟩ => absurd ⟨r, n, e⟩ h⟩
theorem res_eq {d y d' y' : Nat} {c c' : mC} (h : ∀ r : mR, (∃ n : Nat, run n d y c = some r) ↔ ∃ n : Nat, run n d' y' c' = some r) : res d y c = res d' y' c' := by
  apply Option.ext
  intro r
  rw [res_some, res_some]
  exact h r
noncomputable def rN (d y : Nat) : Option mC → Option mR
  | some c => res d y c
  | none => none
/-- a call: method y on the arguments as -/
noncomputable def cal (d y : Nat) (as : List Value) (h : mH) : Option mR := if as.all isC1 = true then res d y (mentry y as h) else none
noncomputable def rK (d y : Nat) (pc : Nat) (L : List (Option Value)) (c' : mC) : Option mR → Option mR
  | some (.inl v, h') => res d y (c'.1, c'.2.1, v.toList ++ c'.2.2.1, h')
  | some (.inr q, h') => mthr (res d y) y pc L q h'
  | none => none
noncomputable def rC : Nat → Nat → Nat → List (Option Value) → Option mCall → Option mR
  | d + 1, y, pc, L, some (y', as, c') => rK (d + 1) y pc L c' (cal d y' as c'.2.2.2)
  | _, _, _, _, _ => none
def rR (h : mH) : Option (Option Value) → Option mR
  | some v => some (.inl v, h)
  | none => none
noncomputable def rT (d y pc : Nat) (L : List (Option Value)) (st : List Value) (h : mH) : Option mR := match st with
  | .ref q :: _ => if isFl h q = true then mthr (res d y) y pc L q h else none
  | _ => none
theorem res_N {d y pc : Nat} {L : List (Option Value)} {st : List Value} {h : mH} {f : mC → Option mC} (hk : mcode y pc = kN f) : res d y (pc, L, st, h) = rN d y (f (pc, L, st, h)) := by
  cases hf : f (pc, L, st, h) with
  | none =>
    show _ = none
    apply Option.ext
    intro r
    rw [res_some]
    refine ⟨fun ⟨n, e⟩ => ?_, fun e => absurd e (by simp)⟩
    cases n with
    | zero => exact absurd e (by simp [run])
    | succ n => rw [run] at e; dsimp only at e; rw [hk] at e; dsimp only at e; rw [hf] at e; exact e
  | some c' =>
    refine res_eq fun r => ⟨fun ⟨n, e⟩ => ?_, fun ⟨n, e⟩ => ⟨n + 1, ?_⟩⟩
    · cases n with
      | zero => exact absurd e (by simp [run])
      | succ n => rw [run] at e; dsimp only at e; rw [hk] at e; dsimp only at e; rw [hf] at e; exact ⟨n, e⟩
    · rw [run]; dsimp only; rw [hk]; dsimp only; rw [hf]; exact e
theorem res_R {d y pc : Nat} {L : List (Option Value)} {st : List Value} {h : mH} {f : mC → Option (Option Value)} (hk : mcode y pc = kR f) : res d y (pc, L, st, h) = rR h (f (pc, L, st, h)) := by
  apply Option.ext
  intro r
  rw [res_some]
  constructor
  · rintro ⟨n, e⟩
    cases n with
    | zero => exact absurd e (by simp [run])
    | succ n =>
      rw [run] at e; dsimp only at e; rw [hk] at e; dsimp only at e
      cases hf : f (pc, L, st, h) with
      | none => rw [hf] at e; exact absurd e (by simp)
      | some v => rw [hf] at e; exact e
  · intro e
    refine ⟨1, ?_⟩
    rw [run]; dsimp only; rw [hk]; dsimp only
    cases hf : f (pc, L, st, h) with
    | none => rw [hf] at e; exact e
    | some v => rw [hf] at e; exact e
theorem mthr_res {d y y' pc : Nat} {L : List (Option Value)} {q : Nat} {h : mH} {r : mR} : mthr (res d y) y' pc L q h = some r ↔ ∃ n : Nat, mthr (run n d y) y' pc L q h = some r := by
  unfold mthr
  cases mhand y' pc with
  | none => exact ⟨fun e => ⟨0, e⟩, fun ⟨_, e⟩ => e⟩
  | some o =>
    cases o with
    | none => exact ⟨fun e => ⟨0, e⟩, fun ⟨_, e⟩ => e⟩
    | some t => exact res_some
theorem res_T {d y pc : Nat} {L : List (Option Value)} {st : List Value} {h : mH} (hk : mcode y pc = kT) : res d y (pc, L, st, h) = rT d y pc L st h := by
  apply Option.ext
  intro r
  rw [res_some]
  unfold rT
  constructor
  · rintro ⟨n, e⟩
    cases n with
    | zero => exact absurd e (by simp [run])
    | succ n =>
      rw [run] at e; dsimp only at e; rw [hk] at e; dsimp only at e
      cases st with
      | nil => exact absurd e (by simp)
      | cons v rest =>
        cases v with
        | ref q =>
          dsimp only at e ⊢
          by_cases hq : isFl h q = true
          · rw [if_pos hq] at e ⊢
            exact mthr_res.mpr ⟨n, e⟩
          · rw [if_neg hq] at e ⊢
            exact absurd e (by simp)
        | _ => exact absurd e (by simp)
  · intro e
    cases st with
    | nil => exact absurd e (by simp)
    | cons v rest =>
      cases v with
      | ref q =>
        dsimp only at e
        by_cases hq : isFl h q = true
        · rw [if_pos hq] at e
          obtain ⟨n, e⟩ := mthr_res.mp e
          refine ⟨n + 1, ?_⟩
          rw [run]; dsimp only; rw [hk]; dsimp only
          rw [if_pos hq]
          exact e
        · rw [if_neg hq] at e
          exact absurd e (by simp)
      | _ => exact absurd e (by simp)
theorem res_C {d y pc : Nat} {L : List (Option Value)} {st : List Value} {h : mH} {f : mC → Option mCall} (hk : mcode y pc = kC f) : res d y (pc, L, st, h) = rC d y pc L (f (pc, L, st, h)) := by
  apply Option.ext
  intro r
  rw [res_some]
  cases hf : f (pc, L, st, h) with
  | none =>
    constructor
    · rintro ⟨n, e⟩
      cases n with
      | zero => exact absurd e (by simp [run])
      | succ n => rw [run] at e; dsimp only at e; rw [hk] at e; dsimp only at e; rw [hf] at e; exact absurd e (by simp)
    · intro e
      cases d <;> exact absurd e (by simp [rC])
  | some z =>
    obtain ⟨y', as, c'⟩ := z
    cases d with
    | zero =>
      constructor
      · rintro ⟨n, e⟩
        cases n with
        | zero => exact absurd e (by simp [run])
        | succ n => rw [run] at e; dsimp only at e; rw [hk] at e; dsimp only at e; rw [hf] at e; exact absurd e (by simp)
      · intro e
        exact absurd e (by simp [rC])
    | succ d' =>
      show _ ↔ rK (d' + 1) y pc L c' (cal d' y' as c'.2.2.2) = some r
      constructor
      · rintro ⟨n, e⟩
        cases n with
        | zero => exact absurd e (by simp [run])
        | succ n =>
          rw [run] at e; dsimp only at e; rw [hk] at e; dsimp only at e; rw [hf] at e; dsimp only at e
          by_cases hA : as.all isC1 = true
          case neg => rw [if_neg hA] at e; exact absurd e (by simp)
          rw [if_pos hA] at e
          cases hr : run n d' y' (mentry y' as c'.2.2.2) with
          | none => rw [hr] at e; exact absurd e (by simp)
          | some w =>
            obtain ⟨o, h'⟩ := w
            rw [hr] at e
            have hc : cal d' y' as c'.2.2.2 = some (o, h') := (if_pos hA).trans (res_some.mpr ⟨n, hr⟩)
            rw [hc]
            cases o with
            | inl v => exact res_some.mpr ⟨n, e⟩
            | inr q => exact mthr_res.mpr ⟨n, e⟩
      · intro e
        cases hc : cal d' y' as c'.2.2.2 with
        | none => rw [hc] at e; exact absurd e (by simp [rK])
        | some w =>
          obtain ⟨o, h'⟩ := w
          rw [hc] at e
          by_cases hA : as.all isC1 = true
          case neg => unfold cal at hc; rw [if_neg hA] at hc; exact absurd hc (by simp)
          unfold cal at hc
          rw [if_pos hA] at hc
          obtain ⟨n1, h1⟩ := res_some.mp hc
          have key : ∃ n2, (match (some (o, h') : Option mR) with
              | some (.inl v, h') => run n2 (d' + 1) y (c'.1, c'.2.1, v.toList ++ c'.2.2.1, h')
              | some (.inr q, h') => mthr (run n2 (d' + 1) y) y pc L q h'
              | none => none) = some r := by
            cases o with
            | inl v => exact res_some.mp e
            | inr q => exact mthr_res.mp e
          obtain ⟨n2, h2⟩ := key
          refine ⟨max n1 n2 + 1, ?_⟩
          rw [run]; dsimp only; rw [hk]; dsimp only; rw [hf]; dsimp only
          rw [if_pos hA, run_mono (Nat.le_max_left n1 n2) h1]
          cases o with
          | inl v => exact run_mono (Nat.le_max_right n1 n2) h2
          | inr q => exact mthr_mono (fun c r z => run_mono (Nat.le_max_right n1 n2) z) h2
