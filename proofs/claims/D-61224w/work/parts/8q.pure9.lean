/-! PURE 9: numerals, quoted texts, operands in a longer text -/
set_option maxRecDepth 100000
theorem findF_bef {f : Nat → Nat} {e : Nat} {w : List Nat} : ∀ (n k j : Nat), k ≤ j → j < findF f e w n k → stB f e j w = false
  | 0, k, j, h1, h2 => by unfold findF at h2; omega
  | n + 1, k, j, h1, h2 => by
    unfold findF at h2
    split at h2
    · rename_i h3
      by_cases z : j = k
      · rw [z]; exact h3.2
      · exact findF_bef n (k + 1) j (by omega) h2
    · omega
theorem ixO_inv {l w : List Nat} {k i : Nat} (h : ixO l w k = some i) : k ≤ i ∧ i < l.length ∧ stB (fun i => l.getD i 0) l.length i w = true ∧ ∀ j, k ≤ j → j < i → stB (fun i => l.getD i 0) l.length j w = false := by
  unfold ixO at h
  split at h
  · rename_i h1
    have e := Option.some.inj h
    subst e
    exact ⟨findF_ge _ _, h1, findF_st _ _ (by omega) h1, fun j a b => findF_bef _ _ j a b⟩
  · cases h
theorem ixO_inv0 {l w : List Nat} {k : Nat} (h : ixO l w k = none) : ∀ j, k ≤ j → j < l.length → stB (fun i => l.getD i 0) l.length j w = false := by
  unfold ixO at h
  split at h
  · cases h
  · rename_i h1
    intro j a b
    exact findF_bef l.length k j a (by omega)
theorem st1_t {f : Nat → Nat} {e i c : Nat} (hi : i < e) : stB f e i [c] = true ↔ f i = c := by
  rw [stB_cons, cA_eq hi]
  show ((f i == c) && true) = true ↔ _
  rw [Bool.and_true, beq_iff_eq]
theorem st1_f {f : Nat → Nat} {e i c : Nat} (hi : i < e) : stB f e i [c] = false ↔ f i ≠ c := by
  rw [← Bool.not_eq_true, st1_t hi]
theorem sgF_all (l : List Nat) : sgF (fun i => l.getD i 0) 0 l.length = l := by
  apply list_ext0 sgF_len
  intro i hi
  rw [sgF_len] at hi
  rw [sgF_get hi, Nat.zero_add]
theorem sgF_sb {l : List Nat} {p j : Nat} : sgF (fun i => l.getD i 0) p (j - p) = sbL l p j := by
  apply list_ext0 (by rw [sgF_len, sbL_len])
  intro i hi
  rw [sgF_len] at hi
  rw [sgF_get hi, sbL_get hi]
theorem dgF_ok {f : Nat → Nat} {e : Nat} : ∀ {n k : Nat}, k ≤ e → e - k ≤ n → (∀ i, k ≤ i → i < e → isD (f i) = true) → dgF f e n k = e
  | 0, k, h1, h2, _ => by show k = e; omega
  | n + 1, k, h1, h2, h3 => by
    unfold dgF
    by_cases z : k = e
    · rw [if_neg (by rw [cA_ge (by omega)]; decide)]; exact z
    · rw [if_pos (by rw [cA_eq (by omega)]; exact h3 k (Nat.le_refl _) (by omega))]
      exact dgF_ok (by omega) (by omega) (fun i a b => h3 i (by omega) b)
theorem dgF_inv {f : Nat → Nat} {e : Nat} : ∀ {n k : Nat}, k ≤ e → dgF f e n k = e → e - k ≤ n ∧ ∀ i, k ≤ i → i < e → isD (f i) = true
  | 0, k, h1, h2 => by
    have : k = e := h2
    exact ⟨by omega, fun i a b => by omega⟩
  | n + 1, k, h1, h2 => by
    unfold dgF at h2
    split at h2
    · rename_i h3
      have hk := cA_lt (isD_pos h3)
      obtain ⟨a, b⟩ := dgF_inv (n := n) (k := k + 1) (by omega) h2
      refine ⟨by omega, fun i c d => ?_⟩
      by_cases z : i = k
      · rw [z, ← cA_eq (f := f) (e := e) hk]; exact h3
      · exact b i (by omega) d
    · exact ⟨by omega, fun i a b => by omega⟩
theorem op_num {f : Nat → Nat} {e : Nat} (h0 : 0 < e) (hd : isD (f 0) = true) : operE f e 0 = some e ↔ (∀ i, i < e → isD (f i) = true) ∧ e ≤ 5 := by
  have hn : cA f e 0 ≠ 34 := by rw [cA_eq h0]; intro z; rw [z] at hd; cases hd
  unfold operE
  rw [if_neg hn, cA_eq h0, if_pos hd]
  constructor
  · intro h
    obtain ⟨a, b⟩ := dgF_inv (Nat.zero_le _) (Option.some.inj h)
    exact ⟨fun i hi => b i (Nat.zero_le _) hi, by omega⟩
  · rintro ⟨a, b⟩
    rw [dgF_ok (Nat.zero_le _) (by omega) (fun i _ hi => a i hi)]
theorem quF_spec {f : Nat → Nat} {e : Nat} : ∀ {n k : Nat}, e - k ≤ n → k ≤ e → k ≤ quF f e n k ∧ quF f e n k ≤ e ∧ (∀ i, k ≤ i → i < quF f e n k → f i ≠ 34 ∧ f i ≠ 125) ∧ (quF f e n k = e ∨ f (quF f e n k) = 34 ∨ f (quF f e n k) = 125)
  | 0, k, h1, h2 => by
    have : quF f e 0 k = k := rfl
    rw [this]
    exact ⟨Nat.le_refl _, h2, fun i a b => by omega, Or.inl (by omega)⟩
  | n + 1, k, h1, h2 => by
    unfold quF
    split
    · rename_i h3
      obtain ⟨a, b, c, d⟩ := quF_spec (f := f) (e := e) (n := n) (k := k + 1) (by omega) (by omega)
      refine ⟨by omega, b, fun i x y => ?_, d⟩
      by_cases z : i = k
      · rw [z]; exact h3.2
      · exact c i (by omega) y
    · rename_i h3
      refine ⟨Nat.le_refl _, h2, fun i a b => by omega, ?_⟩
      by_cases z : k = e
      · exact Or.inl z
      · right
        by_cases y : f k = 34
        · exact Or.inl y
        · by_cases x : f k = 125
          · exact Or.inr x
          · exact absurd ⟨by omega, y, x⟩ h3
theorem op_quo {f : Nat → Nat} {e : Nat} (h0 : 0 < e) (hq : f 0 = 34) : operE f e 0 = some e ↔ 2 ≤ e ∧ f (e - 1) = 34 ∧ ∀ i, 1 ≤ i → i < e - 1 → f i ≠ 34 ∧ f i ≠ 125 := by
  unfold operE
  rw [if_pos (by rw [cA_eq h0]; exact hq)]
  dsimp only
  obtain ⟨a, b, c, d⟩ := quF_spec (f := f) (e := e) (n := e) (k := 1) (by omega) (by omega)
  rw [Nat.zero_add]
  generalize quF f e e 1 = k at a b c d
  constructor
  · intro h
    split at h
    · rename_i h1
      have hk := cA_lt (f := f) (e := e) (p := k) (by rw [h1]; decide)
      have e1 : k + 1 = e := Option.some.inj h
      rw [cA_eq hk] at h1
      rw [show e - 1 = k by omega]
      exact ⟨by omega, h1, c⟩
    · cases h
  · rintro ⟨h1, h2, h3⟩
    have hk : k = e - 1 := by
      rcases Nat.lt_trichotomy k (e - 1) with z | z | z
      · rcases d with y | y | y
        · omega
        · exact absurd y (h3 k a z).1
        · exact absurd y (h3 k a z).2
      · exact z
      · exact absurd h2 (c (e - 1) (by omega) z).1
    rw [hk, if_pos (by rw [cA_eq (by omega)]; exact h2)]
    congr 1
    omega
theorem stB_full {l w : List Nat} (hw : ∀ c ∈ w, c ≠ 0) (hw0 : w ≠ []) : l = w ↔ l.length = w.length ∧ stB (fun i => l.getD i 0) l.length 0 w = true := by
  constructor
  · intro h
    subst h
    refine ⟨rfl, (stB_iff (by omega)).mpr (fun t ht => by rw [Nat.zero_add])⟩
  · rintro ⟨h1, h2⟩
    apply list_ext0 h1
    intro i hi
    have := (stB_iff (by omega)).mp h2 i (by omega)
    rw [Nat.zero_add] at this
    exact this
