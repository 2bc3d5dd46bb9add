/-! PURE 3: what holds while a template is taken apart -/
def tgOK (n : Nat) (t : tGt) : Prop := t.1 + 2 ≤ t.2.1 ∧ t.2.1 ≤ t.2.2.1 ∧ t.2.2.1 + 2 ≤ t.2.2.2.1 ∧ t.2.2.2.1 ≤ n ∧ t.2.2.2.2 ≤ 10
theorem tkT_ok {f : Nat → Nat} {e p : Nat} {t : tGt} (h : tkT f e p = some (.inr t)) : p ≤ t.1 ∧ tgOK e t := by
  unfold tkT at h
  dsimp only at h
  generalize hk : findF f e [123, 123] e p = k at h
  have hk1 : p ≤ k := by rw [← hk]; exact findF_ge _ _
  split at h
  · cases h
  · rename_i hke
    generalize hth : stB f e k [123, 123, 123] = th at h
    generalize hn : (if th = true then 3 else 2) = n at h
    have hn2 : 2 ≤ n := by rw [← hn]; split <;> omega
    generalize hq : findF f e (if th = true then [125, 125, 125] else [125, 125]) e (k + n) = q at h
    have hq1 : k + n ≤ q := by rw [← hq]; exact findF_ge _ _
    split at h
    · cases h
    · rename_i hqe
      have hst := findF_st (f := f) (e := e) (w := if th = true then [125, 125, 125] else [125, 125]) e (k + n) (by omega) (by omega)
      rw [hq] at hst
      have hqn : q + n ≤ e := by
        cases th with
        | true =>
          have := stB_len (by simp) (by simp) hst
          simp at this hn
          omega
        | false =>
          have := stB_len (by simp) (by simp) hst
          simp at this hn
          omega
      split at h
      · cases h
      · rename_i s hs
        cases h
        exact ⟨hk1, by simp; omega, hq1, by simp; omega, hqn, sortN_le hs⟩
theorem tkT_fl {f : Nat → Nat} {e p k : Nat} (h : tkT f e p = some (.inl k)) : p ≤ k ∧ k < e := by
  unfold tkT at h
  dsimp only at h
  generalize hk : findF f e [123, 123] e p = k' at h
  have hk1 : p ≤ k' := by rw [← hk]; exact findF_ge _ _
  split at h
  · cases h
  · rename_i hke
    generalize stB f e k' [123, 123, 123] = th at h
    generalize (if th = true then 3 else 2) = n at h
    generalize findF f e (if th = true then [125, 125, 125] else [125, 125]) e (k' + n) = q at h
    split at h
    · cases h; exact ⟨hk1, by omega⟩
    · split at h
      · cases h; exact ⟨hk1, by omega⟩
      · cases h
/-- the table up to g -/
def tTok (n g p : Nat) (T : tTb) : Prop := (∀ j, j < g → tgOK n (T.1 j)) ∧ (∀ j, j < g → (T.1 j).2.2.2.1 ≤ p) ∧ (∀ i j, i < j → j < g → (T.1 i).2.2.2.1 ≤ (T.1 j).1) ∧ (∀ j m, T.2.1 j = some m → m < g) ∧ (∀ j m, T.2.2 j = some m → m < g) ∧ ∀ j, (T.1 j).2.2.2.2 ≤ 10
def tInv (n : Nat) (s : tPs) : Prop := s.1 ≤ n ∧ 4 * s.2.1 ≤ s.1 ∧ (∀ b ∈ s.2.2.1, b < s.2.1) ∧ s.2.2.1.length ≤ 4 ∧ tTok n s.2.1 s.1 s.2.2.2
def tP0 : tPs := (0, 0, [], (fun _ => (0, 0, 0, 0, 0)), (fun _ => none), fun _ => none)
theorem tInv_0 (n : Nat) : tInv n tP0 := by
  refine ⟨Nat.zero_le _, Nat.le_refl _, ?_, Nat.zero_le _, ?_, ?_, ?_, ?_, ?_, fun j => Nat.zero_le _⟩
  · intro b hb; cases hb
  · intro j hj; cases hj
  · intro j hj; cases hj
  · intro i j hi hj; cases hj
  · intro j m q; cases q
  · intro j m q; cases q
theorem upO_s {α : Type} (f : Nat → α) (k : Nat) (v : α) : upO f k v k = v := if_pos rfl
theorem upO_n {α : Type} {f : Nat → α} {k j : Nat} {v : α} (h : j ≠ k) : upO f k v j = f j := if_neg h
theorem tTok_new {n g p : Nat} {T : tTb} {t : tGt} (h : tTok n g p T) (h1 : p ≤ t.1) (h2 : tgOK n t) : tTok n (g + 1) t.2.2.2.1 (upO T.1 g t, upO T.2.1 g none, upO T.2.2 g none) := by
  obtain ⟨a, b, c, d, e, s⟩ := h
  have h3 := h2
  unfold tgOK at h3
  refine ⟨fun j hj => ?_, fun j hj => ?_, fun i j hi hj => ?_, fun j m q => ?_, fun j m q => ?_, fun j => ?_⟩ <;> dsimp only at *
  · by_cases z : j = g
    · subst z; rw [upO_s]; exact h2
    · rw [upO_n z]; exact a j (by omega)
  · by_cases z : j = g
    · subst z; rw [upO_s]; omega
    · rw [upO_n z]; have := b j (by omega); omega
  · by_cases z : j = g
    · subst z; rw [upO_s, upO_n (by omega)]; have := b i hi; omega
    · rw [upO_n z, upO_n (by omega)]; exact c i j hi (by omega)
  · by_cases z : j = g
    · subst z; rw [upO_s] at q; cases q
    · rw [upO_n z] at q; have := d j m q; omega
  · by_cases z : j = g
    · subst z; rw [upO_s] at q; cases q
    · rw [upO_n z] at q; have := e j m q; omega
  · by_cases z : j = g
    · subst z; rw [upO_s]; exact h3.2.2.2.2
    · rw [upO_n z]; exact s j
theorem upO_lt {f : Nat → Option Nat} {k g n : Nat} (hf : ∀ j m, f j = some m → m < n) (hg : g < n) : ∀ j m, upO f k (some g) j = some m → m < n := by
  intro j m q
  by_cases z : j = k
  · subst z; rw [upO_s] at q; cases q; exact hg
  · rw [upO_n z] at q; exact hf j m q
theorem fitT_ok {n g p : Nat} {T T' : tTb} {S S' : List Nat} (h : tTok n (g + 1) p T) (hS : ∀ b ∈ S, b < g) (hl : S.length ≤ 4) (hf : fitT T g S = some (S', T')) : (∀ b ∈ S', b < g + 1) ∧ S'.length ≤ 4 ∧ tTok n (g + 1) p T' := by
  obtain ⟨a, b, c, d, e, s⟩ := h
  unfold fitT at hf
  dsimp only at hf
  split at hf
  · split at hf
    · cases hf
    · cases hf
      refine ⟨fun x hx => ?_, by simp; omega, a, b, c, d, e, s⟩
      cases hx with
      | head => omega
      | tail _ hx => have := hS x hx; omega
  · split at hf
    · cases hf
      exact ⟨fun x hx => by have := hS x hx; omega, hl, a, b, c, d, e, s⟩
    · cases S with
      | nil => cases hf
      | cons x S0 =>
        have hx := hS x List.mem_cons_self
        unfold fitE at hf
        dsimp only at hf
        split at hf
        · split at hf
          · cases hf
          · cases hf
            exact ⟨fun y hy => by have := hS y hy; omega, hl, a, b, c, upO_lt d (by omega), upO_lt e (by omega), s⟩
        · split at hf
          · cases hf
            exact ⟨fun y hy => by have := hS y (List.mem_cons_of_mem _ hy); omega, by simp at hl; omega, a, b, c, d, upO_lt (upO_lt e (by omega)) (by omega), s⟩
          · cases hf
theorem tInv_step {f : Nat → Nat} {n : Nat} {s s' : tPs} (h : tInv n s) (hs : tpS f n s = .inl s') : tInv n s' := by
  obtain ⟨h1, h2, h3, h4, h5⟩ := h
  unfold tpS at hs
  split at hs
  · cases hs
  · cases hs
  · rename_i t ht
    obtain ⟨k1, k2⟩ := tkT_ok ht
    split at hs
    · cases hs
    · rename_i S' T' hf
      cases hs
      obtain ⟨a, b, c⟩ := fitT_ok (tTok_new h5 k1 k2) h3 h4 hf
      have := k2
      unfold tgOK at this
      exact ⟨this.2.2.2.1, by show 4 * (s.2.1 + 1) ≤ t.2.2.2.1; omega, a, b, c⟩
