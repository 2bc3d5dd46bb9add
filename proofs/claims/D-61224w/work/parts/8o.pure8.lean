/-! PURE 8: a path taken apart at its dots; operands in a longer text -/
set_option maxRecDepth 100000
/-- how long the name behind a dot is -/
def mDt (f : Nat → Nat) (e k : Nat) : Nat := if lts f e (k + 1) = 0 ∧ isD (cA f e (k + 1)) = true then 1 else lts f e (k + 1)
theorem dt_step {f : Nat → Nat} {e k : Nat} (hk : k < e) (h : f k = 46) : dtF f e e k = if mDt f e k < 1 ∨ 8 < mDt f e k then none else dtF f e e (k + 1 + mDt f e k) := by
  obtain ⟨n, hn⟩ : ∃ n, e = n + 1 := ⟨e - 1, by omega⟩
  have e1 : dtF f e e k = dtF f e (n + 1) k := by rw [← hn]
  rw [e1]
  show (if cA f e k = 46 then (if mDt f e k < 1 ∨ 8 < mDt f e k then none else dtF f e n (k + 1 + mDt f e k)) else some k) = _
  rw [if_pos (by rw [cA_eq hk]; exact h)]
  split
  · rfl
  · exact dtF_fuel _ _ _ (by omega) (by omega)
theorem dt_stop {f : Nat → Nat} {e k : Nat} (h : cA f e k ≠ 46) : dtF f e e k = some k := by
  cases e with
  | zero => rfl
  | succ n =>
    show (if cA f (n + 1) k = 46 then _ else some k) = _
    rw [if_neg h]
theorem dn_step {f : Nat → Nat} {e k : Nat} (hk : k < e) (h : f k = 46) : dnF f e e k = sgF f (k + 1) (mDt f e k) :: dnF f e e (k + 1 + mDt f e k) := by
  obtain ⟨n, hn⟩ : ∃ n, e = n + 1 := ⟨e - 1, by omega⟩
  have e1 : dnF f e e k = dnF f e (n + 1) k := by rw [← hn]
  rw [e1]
  show (if cA f e k = 46 then (sgF f (k + 1) (mDt f e k) :: dnF f e n (k + 1 + mDt f e k)) else []) = _
  rw [if_pos (by rw [cA_eq hk]; exact h)]
  rw [dnF_fuel n e (k + 1 + mDt f e k) (by omega) (by omega)]
theorem dn_stop {f : Nat → Nat} {e k : Nat} (h : cA f e k ≠ 46) : dnF f e e k = [] := by
  cases e with
  | zero => rfl
  | succ n =>
    show (if cA f (n + 1) k = 46 then _ else []) = _
    rw [if_neg h]
/-- letters up to where none is -/
theorem lts_eq {f : Nat → Nat} {e : Nat} : ∀ {n p : Nat}, (∀ i, i < n → isL (f (p + i)) = true) → p + n ≤ e → isL (cA f e (p + n)) = false → lts f e p = n
  | 0, p, _, _, h => lts_stop h
  | n + 1, p, h, hp, hs => by
    have h0 := h 0 (by omega)
    rw [lts_step (by rw [cA_eq (by omega)]; exact h0), lts_eq (n := n) (p := p + 1) (fun i hi => by rw [show p + 1 + i = p + (i + 1) by omega]; exact h (i + 1) (by omega)) (by omega) (by rw [show p + 1 + n = p + (n + 1) by omega]; exact hs)]
theorem lts_al2 {f : Nat → Nat} {e : Nat} : ∀ {n p : Nat}, lts f e p = n → ∀ i, i < n → isL (f (p + i)) = true
  | 0, _, _, i, hi => absurd hi (Nat.not_lt_zero _)
  | n + 1, p, h, i, hi => by
    cases hl : isL (cA f e p) with
    | false => rw [lts_stop hl] at h; cases h
    | true =>
      have hp := cA_lt (isL_pos hl)
      rw [lts_step hl] at h
      cases i with
      | zero => rw [cA_eq hp] at hl; exact hl
      | succ i =>
        rw [show p + (i + 1) = p + 1 + i by omega]
        exact lts_al2 (e := e) (n := n) (p := p + 1) (by omega) i (by omega)
theorem lts_end {f : Nat → Nat} {e p : Nat} : isL (cA f e (p + lts f e p)) = false := by
  generalize hn : lts f e p = n
  induction n generalizing p with
  | zero =>
    rw [Nat.add_zero]
    cases hl : isL (cA f e p) with
    | false => rfl
    | true => rw [lts_step hl] at hn; cases hn
  | succ n ih =>
    cases hl : isL (cA f e p) with
    | false => rw [lts_stop hl] at hn; cases hn
    | true =>
      rw [lts_step hl] at hn
      have := ih (p := p + 1) (by omega)
      rw [show p + (n + 1) = p + 1 + n by omega]
      exact this
/-- a path, the @ words left out -/
def pathW (f : Nat → Nat) (e : Nat) : Option Nat :=
  if lts f e (upF f e e 0) < 1 ∨ 8 < lts f e (upF f e e 0) then none
  else if lts f e (upF f e e 0) = 4 ∧ stB f e (upF f e e 0) [116, 104, 105, 115] = true then some (upF f e e 0 + 4)
  else dtF f e e (upF f e e 0 + lts f e (upF f e e 0))
theorem isL_46 : isL 46 = false := by decide
/-- the first name: from u up to a dot or the end -/
theorem pw_first {f : Nat → Nat} {e u d : Nat} (hu : upF f e e 0 = u) (hd : u ≤ d) (hde : d ≤ e) (hend : d = e ∨ f d = 46) (hno : ∀ i, u ≤ i → i < d → f i ≠ 46) (hth : ¬ (e = u + 4 ∧ stB f e u [116, 104, 105, 115] = true)) :
    ((∀ i, u ≤ i → i < d → isL (f i) = true) ∧ 1 ≤ d - u ∧ d - u ≤ 8 ∧ ¬ (d - u = 4 ∧ stB f e u [116, 104, 105, 115] = true) → lts f e u = d - u ∧ pathW f e = dtF f e e d) ∧
    (¬ ((∀ i, u ≤ i → i < d → isL (f i) = true) ∧ 1 ≤ d - u ∧ d - u ≤ 8 ∧ ¬ (d - u = 4 ∧ stB f e u [116, 104, 105, 115] = true)) → pathW f e ≠ some e) := by
  have hdl : isL (cA f e d) = false := by
    rcases hend with z | z
    · rw [cA_ge (by omega)]; rfl
    · by_cases y : d < e
      · rw [cA_eq y, z]; rfl
      · rw [cA_ge (by omega)]; rfl
  constructor
  · rintro ⟨h1, h2, h3, h4⟩
    have hl : lts f e u = d - u := lts_eq (fun i hi => h1 (u + i) (by omega) (by omega)) (by omega) (by rw [show u + (d - u) = d by omega]; exact hdl)
    refine ⟨hl, ?_⟩
    unfold pathW
    rw [hu, hl, if_neg (by omega), if_neg h4, show u + (d - u) = d by omega]
  · intro hn
    unfold pathW
    rw [hu]
    split
    · intro z; cases z
    · rename_i h1
      split
      · rename_i h2
        intro z
        have : u + 4 = e := Option.some.inj z
        exact hth ⟨by omega, h2.2⟩
      · rename_i h2
        have hle := lts_le (f := f) (e := e) (p := u)
        have hall := lts_al2 (f := f) (e := e) (p := u) rfl
        have hld : u + lts f e u ≤ d := by
          apply Nat.le_of_not_lt
          intro z
          rcases hend with y | y
          · omega
          · have := hall (d - u) (by omega)
            rw [show u + (d - u) = d by omega, y] at this
            cases this
        by_cases z : u + lts f e u = d
        · exfalso
          apply hn
          refine ⟨fun i h3 h4 => ?_, by omega, by omega, fun y => h2 ⟨by omega, y.2⟩⟩
          have := hall (i - u) (by omega)
          rw [show u + (i - u) = i by omega] at this
          exact this
        · rw [dt_stop (by rw [cA_eq (by omega)]; exact hno _ (by omega) (by omega))]
          intro y
          have : u + lts f e u = e := Option.some.inj y
          omega
/-- a name behind a dot at k: up to a dot or the end -/
theorem pw_next {f : Nat → Nat} {e k d : Nat} (hk : k < e) (hf : f k = 46) (hd : k + 1 ≤ d) (hde : d ≤ e) (hend : d = e ∨ f d = 46) (hno : ∀ i, k + 1 ≤ i → i < d → f i ≠ 46) :
    (((∀ i, k + 1 ≤ i → i < d → isL (f i) = true) ∧ 1 ≤ d - (k + 1) ∧ d - (k + 1) ≤ 8) ∨ (d = k + 2 ∧ isD (f (k + 1)) = true) → mDt f e k = d - (k + 1) ∧ dtF f e e k = dtF f e e d) ∧
    (¬ (((∀ i, k + 1 ≤ i → i < d → isL (f i) = true) ∧ 1 ≤ d - (k + 1) ∧ d - (k + 1) ≤ 8) ∨ (d = k + 2 ∧ isD (f (k + 1)) = true)) → dtF f e e k ≠ some e) := by
  have hdl : isL (cA f e d) = false := by
    rcases hend with z | z
    · rw [cA_ge (by omega)]; rfl
    · by_cases y : d < e
      · rw [cA_eq y, z]; rfl
      · rw [cA_ge (by omega)]; rfl
  have hLD : ∀ c, isD c = true → isL c = false := fun c hc => by
    have := isD_iff.mp hc
    cases hl : isL c with
    | false => rfl
    | true => have := isL_iff.mp hl; omega
  rw [dt_step hk hf]
  constructor
  · intro h
    have hm : mDt f e k = d - (k + 1) := by
      unfold mDt
      rcases h with ⟨h1, h2, h3⟩ | ⟨h1, h2⟩
      · have hl : lts f e (k + 1) = d - (k + 1) := lts_eq (fun i hi => h1 (k + 1 + i) (by omega) (by omega)) (by omega) (by rw [show k + 1 + (d - (k + 1)) = d by omega]; exact hdl)
        rw [if_neg (by omega)]
        exact hl
      · have hl : lts f e (k + 1) = 0 := lts_stop (by rw [cA_eq (by omega)]; exact hLD _ h2)
        rw [if_pos ⟨hl, by rw [cA_eq (by omega)]; exact h2⟩]
        omega
    refine ⟨hm, ?_⟩
    rw [hm, if_neg (by omega), show k + 1 + (d - (k + 1)) = d by omega]
  · intro hn
    split
    · intro z; cases z
    · rename_i h1
      have hle := lts_le (f := f) (e := e) (p := k + 1)
      have hall := lts_al2 (f := f) (e := e) (p := k + 1) rfl
      have hmd : k + 1 + mDt f e k ≤ d := by
        unfold mDt at h1 ⊢
        split
        · rename_i h2
          apply Nat.le_of_not_lt
          intro z
          have hd1 : d = k + 1 := by omega
          subst hd1
          have h3 := cA_lt (isD_pos h2.2)
          rcases hend with y | y
          · omega
          · rw [cA_eq h3, y] at h2
            exact absurd h2.2 (by decide)
        · apply Nat.le_of_not_lt
          intro z
          rcases hend with y | y
          · omega
          · have := hall (d - (k + 1)) (by omega)
            rw [show k + 1 + (d - (k + 1)) = d by omega, y] at this
            cases this
      by_cases z : k + 1 + mDt f e k = d
      · exfalso
        apply hn
        unfold mDt at z h1
        split at z
        · rename_i h2
          rw [if_pos h2] at h1
          have h3 := cA_lt (isD_pos h2.2)
          rw [cA_eq h3] at h2
          exact Or.inr ⟨by omega, h2.2⟩
        · rename_i h2
          rw [if_neg h2] at h1
          refine Or.inl ⟨fun i h3 h4 => ?_, by omega, by omega⟩
          have := hall (i - (k + 1)) (by omega)
          rw [show k + 1 + (i - (k + 1)) = i by omega] at this
          exact this
      · rw [dt_stop (by rw [cA_eq (by omega)]; exact hno _ (by omega) (by omega))]
        intro y
        have : k + 1 + mDt f e k = e := Option.some.inj y
        omega
theorem pw_at {f : Nat → Nat} {e : Nat} (h : f 0 = 64) : pathW f e = none := by
  have hu : upF f e e 0 = 0 := upF_no (by omega) e
  unfold pathW
  rw [hu]
  have hl : lts f e 0 = 0 := by
    apply lts_stop
    by_cases z : 0 < e
    · rw [cA_eq z, h]; rfl
    · rw [cA_ge (by omega)]; rfl
  rw [hl, if_pos (by omega)]
theorem pathE_W {f : Nat → Nat} {e : Nat} (h : cA f e 0 ≠ 64) : pathE f e 0 = pathW f e := by
  unfold pathE pathW
  have n1 : stB f e 0 [64, 105, 110, 100, 101, 120] = false := by
    rw [stB_cons]
    rw [show (cA f e 0 == 64) = false from beq_eq_false_iff_ne.mpr h]
    rfl
  have n2 : stB f e 0 [64, 102, 105, 114, 115, 116] = false := by
    rw [stB_cons]
    rw [show (cA f e 0 == 64) = false from beq_eq_false_iff_ne.mpr h]
    rfl
  rw [n1, n2]
  rfl
