/-! PURE 10: operands that end at a blank -/
set_option maxRecDepth 100000
section EX
variable {f : Nat → Nat} {e k : Nat}
theorem cA_ext {q : Nat} (hk : k < e) (hq : q < k) : cA f e q = cA f k q := by
  rw [cA_eq (by omega), cA_eq hq]
theorem stB_ext (hk : k < e) (hb : f k = 32) : ∀ {w : List Nat} {q : Nat}, (∀ c ∈ w, c ≠ 0 ∧ c ≠ 32) → q ≤ k → stB f e q w = stB f k q w
  | [], _, _, _ => rfl
  | c :: cs, q, hw, hq => by
    rw [stB_cons, stB_cons]
    have hc := hw c List.mem_cons_self
    by_cases z : q = k
    · subst z
      have e1 : (cA f e q == c) = false := beq_eq_false_iff_ne.mpr (by rw [cA_eq hk, hb]; exact fun z => hc.2 z.symm)
      have e2 : (cA f q q == c) = false := beq_eq_false_iff_ne.mpr (by rw [cA_ge (Nat.le_refl _)]; exact fun z => hc.1 z.symm)
      rw [e1, e2]
      rfl
    · rw [cA_ext hk (by omega), stB_ext hk hb (fun c h => hw c (List.mem_cons_of_mem _ h)) (by omega)]
theorem lts_ext (hk : k < e) (hb : f k = 32) {q : Nat} (hq : q ≤ k) : lts f e q = lts f k q := by
  have hle := lts_le (f := f) (e := k) (p := q)
  refine lts_eq (fun i hi => lts_al2 (f := f) (e := k) (p := q) rfl i hi) (by omega) ?_
  have he := lts_end (f := f) (e := k) (p := q)
  by_cases z : q + lts f k q = k
  · rw [z, cA_eq hk, hb]; rfl
  · rw [cA_ext hk (by omega)]; exact he
theorem upF_ext (hk : k < e) (hb : f k = 32) : ∀ {n q : Nat}, q ≤ k → upF f e n q = upF f k n q
  | 0, _, _ => rfl
  | n + 1, q, hq => by
    unfold upF
    rw [stB_ext hk hb (by decide) hq]
    split
    · rename_i h
      have := stB_len (by simp) (by simp) h
      simp at this
      exact upF_ext hk hb (by omega)
    · rfl
theorem dtF_ext (hk : k < e) (hb : f k = 32) : ∀ {n q : Nat}, q ≤ k → dtF f e n q = dtF f k n q
  | 0, _, _ => rfl
  | n + 1, q, hq => by
    unfold dtF
    by_cases z : q = k
    · subst z
      rw [if_neg (by rw [cA_eq hk, hb]; decide), if_neg (by rw [cA_ge (Nat.le_refl _)]; decide)]
    · rw [cA_ext hk (show q < k by omega), lts_ext hk hb (show q + 1 ≤ k by omega)]
      have hD : isD (cA f e (q + 1)) = isD (cA f k (q + 1)) := by
        by_cases y : q + 1 = k
        · rw [y, cA_eq hk, hb, cA_ge (Nat.le_refl _)]; rfl
        · rw [cA_ext hk (by omega)]
      rw [hD]
      split
      · dsimp only
        have hm : q + 1 + (if lts f k (q + 1) = 0 ∧ isD (cA f k (q + 1)) = true then 1 else lts f k (q + 1)) ≤ k := by
          split
          · rename_i h
            have := cA_lt (isD_pos h.2)
            omega
          · have := lts_le (f := f) (e := k) (p := q + 1)
            omega
        rw [dtF_ext hk hb hm]
      · rfl
theorem dgF_ext (hk : k < e) (hb : f k = 32) : ∀ {n q : Nat}, q ≤ k → dgF f e n q = dgF f k n q
  | 0, _, _ => rfl
  | n + 1, q, hq => by
    unfold dgF
    by_cases z : q = k
    · subst z
      rw [if_neg (by rw [cA_eq hk, hb]; decide), if_neg (by rw [cA_ge (Nat.le_refl _)]; decide)]
    · rw [cA_ext hk (show q < k by omega), dgF_ext hk hb (show q + 1 ≤ k by omega)]
theorem pathE_ext (hk : k < e) (hb : f k = 32) {q : Nat} (hq : q ≤ k) : pathE f e q = pathE f k q := by
  unfold pathE
  have hu : upF f e e q = upF f k k q := by
    rw [upF_ext hk hb hq]
    exact upF_fuel _ _ _ (by omega) (by omega)
  have hle : upF f k k q ≤ k := by have := upF_le (f := f) (e := k) k q; omega
  rw [stB_ext hk hb (by decide) hq, stB_ext hk hb (by decide) hq, hu]
  dsimp only
  rw [lts_ext hk hb hle, stB_ext hk hb (by decide) hle]
  have hl := lts_le (f := f) (e := k) (p := upF f k k q)
  rw [dtF_ext hk hb (show upF f k k q + lts f k (upF f k k q) ≤ k by omega), dtF_fuel e k _ (by omega) (by omega)]
/-- an operand without quotes looks no further than a blank -/
theorem op_ext (hk : k < e) (hb : f k = 32) {q : Nat} (hq : q ≤ k) (hn : f q ≠ 34) : operE f e q = operE f k q := by
  have e1 : operE f e q = if isD (cA f e q) = true then some (dgF f e 5 q) else pathE f e q := by
    unfold operE
    rw [if_neg (by rw [cA_eq (by omega)]; exact hn)]
  have hnk : cA f k q ≠ 34 := by
    by_cases z : q < k
    · rw [cA_eq z]; exact hn
    · rw [cA_ge (by omega)]; decide
  have e2 : operE f k q = if isD (cA f k q) = true then some (dgF f k 5 q) else pathE f k q := by
    unfold operE
    rw [if_neg hnk]
  have hD : isD (cA f e q) = isD (cA f k q) := by
    by_cases y : q = k
    · rw [y, cA_eq hk, hb, cA_ge (Nat.le_refl _)]; rfl
    · rw [cA_ext hk (by omega)]
  rw [e1, e2, hD, dgF_ext hk hb hq, pathE_ext hk hb hq]
/-- no blank inside -/
theorem op_nob {q r : Nat} (h : operE f e q = some r) (hn : f q ≠ 34) : ∀ i, q ≤ i → i < r → f i ≠ 32 := by
  intro i h1 h2 h3
  have h4 := operE_le h
  rw [op_ext (k := i) (by omega) h3 h1 hn] at h
  have := operE_le h
  omega
/-- a quoted text -/
theorem op_quP {q r : Nat} (hq : q < e) (h34 : f q = 34) : operE f e q = some r ↔ q + 2 ≤ r ∧ r ≤ e ∧ f (r - 1) = 34 ∧ ∀ i, q + 1 ≤ i → i < r - 1 → f i ≠ 34 ∧ f i ≠ 125 := by
  unfold operE
  rw [if_pos (by rw [cA_eq hq]; exact h34)]
  dsimp only
  obtain ⟨a, b, c, d⟩ := quF_spec (f := f) (e := e) (n := e) (k := q + 1) (by omega) (by omega)
  generalize quF f e e (q + 1) = k at a b c d
  constructor
  · intro h
    split at h
    · rename_i h1
      have hk := cA_lt (f := f) (e := e) (p := k) (by rw [h1]; decide)
      have e1 : k + 1 = r := Option.some.inj h
      rw [cA_eq hk] at h1
      rw [show r - 1 = k by omega]
      exact ⟨by omega, by omega, h1, c⟩
    · cases h
  · rintro ⟨h0, h1, h2, h3⟩
    have hk : k = r - 1 := by
      rcases Nat.lt_trichotomy k (r - 1) with z | z | z
      · rcases d with y | y | y
        · omega
        · exact absurd y (h3 k a z).1
        · exact absurd y (h3 k a z).2
      · exact z
      · exact absurd h2 (c (r - 1) (by omega) z).1
    rw [hk, if_pos (by rw [cA_eq (by omega)]; exact h2)]
    congr 1
    omega
end EX
/-- where the operand from k on ends: behind its second quote, or at a blank -/
def opEnd (l : List Nat) (k : Nat) : Nat := if k < l.length ∧ lF l k = 34 then (match ixO l [34] (k + 1) with | some c => c + 1 | none => l.length) else (match ixO l [32] k with | some b => b | none => l.length)
theorem opEnd_le {l : List Nat} {k : Nat} (hk : k ≤ l.length) : k ≤ opEnd l k ∧ opEnd l k ≤ l.length := by
  unfold opEnd
  split
  · rename_i h
    cases hx : ixO l [34] (k + 1) with
    | none => dsimp only; omega
    | some c => have := ixO_inv hx; dsimp only; omega
  · cases hx : ixO l [32] k with
    | none => dsimp only; omega
    | some c => have := ixO_inv hx; dsimp only; omega
/-- a whole operand up to r, at the end or before a blank: r is its end -/
theorem opEnd_of {l : List Nat} {k r : Nat} (hk : k < l.length) (h : operE (lF l) l.length k = some r) (hr : r = l.length ∨ lF l r = 32) : opEnd l k = r := by
  have hle := operE_le h
  have hgt := operE_gt h
  unfold opEnd
  by_cases h34 : lF l k = 34
  · rw [if_pos ⟨hk, h34⟩]
    obtain ⟨a, b, c, d⟩ := (op_quP hk h34).mp h
    have : ixO l [34] (k + 1) = some (r - 1) := by
      refine ixO_some (by omega) (by omega) ((st1_t (by omega)).mpr c) (fun j h1 h2 => (st1_f (by omega)).mpr (d j h1 h2).1)
    rw [this]
    dsimp only
    omega
  · rw [if_neg (fun z => h34 z.2)]
    have nb := op_nob h h34
    rcases hr with z | z
    · have : ixO l [32] k = none := ixO_none (by omega) (fun j h1 h2 => (st1_f h2).mpr (nb j h1 (by omega)))
      rw [this]
      exact z.symm
    · by_cases y : r < l.length
      · have : ixO l [32] k = some r := ixO_some (by omega) y ((st1_t y).mpr z) (fun j h1 h2 => (st1_f (by omega)).mpr (nb j h1 h2))
        rw [this]
      · have : ixO l [32] k = none := ixO_none (by omega) (fun j h1 h2 => (st1_f h2).mpr (nb j h1 (by omega)))
        rw [this]
        dsimp only
        omega
/-- the other way: what is a whole operand up to its end is one in the text -/
theorem opEnd_to {l : List Nat} {k : Nat} (hk : k < l.length) (hb : opEnd l k = l.length ∨ lF l (opEnd l k) = 32) : operE (lF l) l.length k = some (opEnd l k) ↔ operE (lF l) (opEnd l k) k = some (opEnd l k) := by
  obtain ⟨h1, h2⟩ := opEnd_le (l := l) (k := k) (by omega)
  by_cases z : opEnd l k = l.length
  · rw [z]
  · have hlt : opEnd l k < l.length := by omega
    have h32 : lF l (opEnd l k) = 32 := by
      rcases hb with y | y
      · exact absurd y z
      · exact y
    by_cases h34 : lF l k = 34
    · constructor
      · exact fun h => operE_cut h
      · intro h
        have hg := operE_gt h
        obtain ⟨a, b, c, d⟩ := (op_quP hg h34).mp h
        exact (op_quP hk h34).mpr ⟨a, by omega, c, d⟩
    · rw [op_ext hlt h32 h1 h34]
