/-! PURE 11: expressions taken apart at their blanks -/
set_option maxRecDepth 100000
/-- the helper of a name; 0: none -/
def hpNm (l : List Nat) : Nat := if l = nmH 1 then 1 else if l = nmH 2 then 2 else if l = nmH 3 then 3 else if l = nmH 4 then 4 else if l = nmH 5 then 5 else if l = nmH 6 then 6 else 0
def opN (l : List Nat) : Nat := if hpNm l = 0 then 0 else if hpNm l < 4 then 1 else 2
theorem hpNm_nm {l : List Nat} (h : hpNm l ≠ 0) : l = nmH (hpNm l) ∧ 1 ≤ hpNm l ∧ hpNm l ≤ 6 := by
  unfold hpNm at h ⊢
  split
  · rename_i z; exact ⟨z, by omega, by omega⟩
  · split
    · rename_i z; exact ⟨z, by omega, by omega⟩
    · split
      · rename_i z; exact ⟨z, by omega, by omega⟩
      · split
        · rename_i z; exact ⟨z, by omega, by omega⟩
        · split
          · rename_i z; exact ⟨z, by omega, by omega⟩
          · split
            · rename_i z; exact ⟨z, by omega, by omega⟩
            · rename_i a b c d e g
              rw [if_neg a, if_neg b, if_neg c, if_neg d, if_neg e, if_neg g] at h
              exact absurd rfl h
section EE
variable {l : List Nat}
theorem st_name {e0 : Nat} (h1 : opEnd l 0 = e0) (h2 : e0 < l.length) (h34 : lF l 0 ≠ 34) (h32 : lF l e0 = 32) (w : List Nat) (hw : ∀ c ∈ w, c ≠ 0 ∧ c ≠ 32) : stB (lF l) l.length 0 (w ++ [32]) = decide (sbL l 0 e0 = w) := by
  have nb : ∀ i, i < e0 → lF l i ≠ 32 := by
    unfold opEnd at h1
    rw [if_neg (fun z => h34 z.2)] at h1
    cases hx : ixO l [32] 0 with
    | none => rw [hx] at h1; dsimp only at h1; omega
    | some c =>
      rw [hx] at h1
      dsimp only at h1
      subst h1
      intro i hi
      have := (ixO_inv hx).2.2.2 i (Nat.zero_le _) hi
      rw [st1_f (by omega)] at this
      exact this
  rw [Bool.eq_iff_iff, decide_eq_true_iff]
  constructor
  · intro h
    have hl := stB_len (fun c hc => by
      rcases List.mem_append.mp hc with z | z
      · exact (hw c z).1
      · rw [List.mem_singleton.mp z]; decide) (by simp) h
    rw [List.length_append] at hl
    simp only [List.length_cons, List.length_nil] at hl
    have hs := (stB_iff (by rw [List.length_append]; simp only [List.length_cons, List.length_nil]; omega)).mp h
    have hs1 : ∀ t, t < w.length → lF l t = w.getD t 0 := fun t ht => by
      have := hs t (by rw [List.length_append]; omega)
      rw [Nat.zero_add, List.getD_eq_getElem?_getD, List.getElem?_append_left ht, ← List.getD_eq_getElem?_getD] at this
      exact this
    have hs2 : lF l w.length = 32 := by
      have := hs w.length (by rw [List.length_append]; simp)
      rw [Nat.zero_add, List.getD_eq_getElem?_getD, List.getElem?_append_right (Nat.le_refl _), Nat.sub_self] at this
      exact this
    have he : e0 = w.length := by
      rcases Nat.lt_trichotomy e0 w.length with z | z | z
      · have := hs1 e0 z
        rw [h32] at this
        exact absurd this.symm (hw _ (getD_mem z)).2
      · exact z
      · exact absurd hs2 (nb _ z)
    apply list_ext0 (by rw [sbL_len]; omega)
    intro i hi
    rw [sbL_len] at hi
    rw [sbL_get hi, Nat.zero_add]
    exact hs1 i (by omega)
  · intro h
    have he : e0 = w.length := by
      have := congrArg List.length h
      rw [sbL_len] at this
      omega
    refine (stB_iff (by rw [List.length_append]; simp only [List.length_cons, List.length_nil]; omega)).mpr (fun t ht => ?_)
    rw [List.length_append] at ht
    simp only [List.length_cons, List.length_nil] at ht
    rw [Nat.zero_add]
    by_cases z : t < w.length
    · rw [List.getD_eq_getElem?_getD, List.getElem?_append_left z, ← List.getD_eq_getElem?_getD, ← h, sbL_get (by omega), Nat.zero_add]
    · rw [show t = w.length by omega, List.getD_eq_getElem?_getD, List.getElem?_append_right (Nat.le_refl _), Nat.sub_self, ← he]
      exact h32
theorem help_nm {e0 : Nat} (h1 : opEnd l 0 = e0) (h2 : e0 < l.length) (h34 : lF l 0 ≠ 34) (h32 : lF l e0 = 32) : helpN (lF l) l.length 0 = hpNm (sbL l 0 e0) := by
  have k := st_name h1 h2 h34 h32
  unfold helpN hpNm
  rw [show stB (lF l) l.length 0 [117, 112, 32] = decide (sbL l 0 e0 = nmH 1) from k [117, 112] (by decide)]
  rw [show stB (lF l) l.length 0 [108, 101, 110, 32] = decide (sbL l 0 e0 = nmH 2) from k [108, 101, 110] (by decide)]
  rw [show stB (lF l) l.length 0 [110, 111, 116, 32] = decide (sbL l 0 e0 = nmH 3) from k [110, 111, 116] (by decide)]
  rw [show stB (lF l) l.length 0 [97, 100, 100, 32] = decide (sbL l 0 e0 = nmH 4) from k [97, 100, 100] (by decide)]
  rw [show stB (lF l) l.length 0 [101, 113, 32] = decide (sbL l 0 e0 = nmH 5) from k [101, 113] (by decide)]
  rw [show stB (lF l) l.length 0 [97, 116, 32] = decide (sbL l 0 e0 = nmH 6) from k [97, 116] (by decide)]
  simp only [decide_eq_true_eq]
theorem help_34 (h : lF l 0 = 34) : helpN (lF l) l.length 0 = 0 := by
  have n : ∀ (c : Nat) (w : List Nat), c ≠ 34 → c ≠ 0 → stB (lF l) l.length 0 (c :: w) = false := fun c w hc h0 => by
    rw [stB_cons]
    have : (cA (lF l) l.length 0 == c) = false := beq_eq_false_iff_ne.mpr (by
      unfold cA
      split
      · rw [h]; exact fun z => hc z.symm
      · exact fun z => h0 z.symm)
    rw [this]
    rfl
  unfold helpN
  rw [n 117 _ (by decide) (by decide), n 108 _ (by decide) (by decide), n 110 _ (by decide) (by decide), n 97 _ (by decide) (by decide), n 101 _ (by decide) (by decide), n 97 _ (by decide) (by decide)]
  rfl
/-- no blank is in it: no helper -/
theorem help_nb (h : ∀ i, i < l.length → lF l i ≠ 32) : helpN (lF l) l.length 0 = 0 := by
  have n : ∀ (w : List Nat), (∀ c ∈ w, c ≠ 0) → stB (lF l) l.length 0 (w ++ [32]) = false := fun w hw => by
    cases hb : stB (lF l) l.length 0 (w ++ [32]) with
    | false => rfl
    | true =>
      exfalso
      have hl := stB_len (fun c hc => by
        rcases List.mem_append.mp hc with z | z
        · exact hw c z
        · rw [List.mem_singleton.mp z]; decide) (by simp) hb
      rw [List.length_append] at hl
      simp only [List.length_cons, List.length_nil] at hl
      have hs := (stB_iff (by rw [List.length_append]; simp only [List.length_cons, List.length_nil]; omega)).mp hb
      have := hs w.length (by rw [List.length_append]; simp)
      rw [Nat.zero_add, List.getD_eq_getElem?_getD, List.getElem?_append_right (Nat.le_refl _), Nat.sub_self] at this
      exact h _ (by omega) this
  unfold helpN
  rw [show stB (lF l) l.length 0 [117, 112, 32] = false from n [117, 112] (by decide)]
  rw [show stB (lF l) l.length 0 [108, 101, 110, 32] = false from n [108, 101, 110] (by decide)]
  rw [show stB (lF l) l.length 0 [110, 111, 116, 32] = false from n [110, 111, 116] (by decide)]
  rw [show stB (lF l) l.length 0 [97, 100, 100, 32] = false from n [97, 100, 100] (by decide)]
  rw [show stB (lF l) l.length 0 [101, 113, 32] = false from n [101, 113] (by decide)]
  rw [show stB (lF l) l.length 0 [97, 116, 32] = false from n [97, 116] (by decide)]
  rfl
theorem isEx_0 (h : helpN (lF l) l.length 0 = 0) : (isEx (lF l) l.length 0 = true ↔ operE (lF l) l.length 0 = some l.length) ∧ exO (lF l) l.length 0 = .inl (opO (lF l) l.length 0) := by
  unfold isEx exO
  rw [if_pos h, if_pos h]
  refine ⟨?_, rfl⟩
  rw [Bool.and_eq_true, beq_iff_eq, decide_eq_true_iff]
  exact ⟨fun z => z.1, fun z => ⟨z, operE_gt z⟩⟩
theorem ex_1 (h : opEnd l 0 = l.length) : (isEx (lF l) l.length 0 = true ↔ operE (lF l) l.length 0 = some l.length) ∧ exO (lF l) l.length 0 = .inl (opO (lF l) l.length 0) := by
  apply isEx_0
  by_cases h34 : lF l 0 = 34
  · exact help_34 h34
  · unfold opEnd at h
    rw [if_neg (fun z => h34 z.2)] at h
    cases hx : ixO l [32] 0 with
    | none =>
      have hn := ixO_inv0 hx
      exact help_nb (fun i hi => by have := hn i (Nat.zero_le _) hi; rw [st1_f hi] at this; exact this)
    | some c =>
      rw [hx] at h
      dsimp only at h
      have := (ixO_inv hx).2.1
      omega
theorem ex_2 {e0 : Nat} (h1 : opEnd l 0 = e0) (h2 : e0 < l.length) (hn : opN (sbL l 0 e0) = 0 ∨ lF l e0 ≠ 32) : isEx (lF l) l.length 0 = false := by
  have key : helpN (lF l) l.length 0 = 0 → isEx (lF l) l.length 0 = false := fun h => by
    cases hb : isEx (lF l) l.length 0 with
    | false => rfl
    | true =>
      have := (isEx_0 h).1.mp hb
      have := opEnd_of (by omega) this (Or.inl rfl)
      omega
  by_cases h34 : lF l 0 = 34
  · exact key (help_34 h34)
  · have h32 : lF l e0 = 32 := by
      unfold opEnd at h1
      rw [if_neg (fun z => h34 z.2)] at h1
      cases hx : ixO l [32] 0 with
      | none => rw [hx] at h1; dsimp only at h1; omega
      | some c =>
        rw [hx] at h1
        dsimp only at h1
        subst h1
        exact (st1_t h2).mp (ixO_inv hx).2.2.1
    rcases hn with z | z
    · refine key ?_
      rw [help_nm h1 h2 h34 h32]
      unfold opN at z
      split at z
      · assumption
      · split at z <;> omega
    · exact absurd h32 z
theorem ex_3 {e0 : Nat} (h1 : opEnd l 0 = e0) (h2 : e0 < l.length) (hn : hpNm (sbL l 0 e0) ≠ 0) (h32 : lF l e0 = 32) : helpN (lF l) l.length 0 = hpNm (sbL l 0 e0) ∧ nameS (hpNm (sbL l 0 e0)) = e0 + 1 := by
  obtain ⟨a, b, c⟩ := hpNm_nm hn
  have hlen : e0 = (nmH (hpNm (sbL l 0 e0))).length := by
    have := congrArg List.length a
    rw [sbL_len] at this
    omega
  have h0 : lF l 0 = (nmH (hpNm (sbL l 0 e0))).getD 0 0 ∧ nameS (hpNm (sbL l 0 e0)) = (nmH (hpNm (sbL l 0 e0))).length + 1 ∧ (nmH (hpNm (sbL l 0 e0))).getD 0 0 ≠ 34 := by
    have e1 : 0 < e0 → lF l 0 = (sbL l 0 e0).getD 0 0 := fun z => by rw [sbL_get (by omega)]
    generalize hq : hpNm (sbL l 0 e0) = q at a b c hlen ⊢
    have hpos : 0 < e0 := by
      rcases (show q = 1 ∨ q = 2 ∨ q = 3 ∨ q = 4 ∨ q = 5 ∨ q = 6 by omega) with y | y | y | y | y | y <;> subst y <;> rw [hlen] <;> decide
    rw [e1 hpos, a]
    rcases (show q = 1 ∨ q = 2 ∨ q = 3 ∨ q = 4 ∨ q = 5 ∨ q = 6 by omega) with y | y | y | y | y | y <;> subst y <;> exact ⟨rfl, by decide, by decide⟩
  refine ⟨help_nm h1 h2 (by rw [h0.1]; exact h0.2.2) h32, ?_⟩
  rw [h0.2.1, ← hlen]
theorem ex_n1 {e0 : Nat} (h1 : opEnd l 0 = e0) (h2 : e0 < l.length) (hn : hpNm (sbL l 0 e0) ≠ 0) (h4 : hpNm (sbL l 0 e0) < 4) (h32 : lF l e0 = 32) : (isEx (lF l) l.length 0 = true ↔ opEnd l (e0 + 1) = l.length ∧ operE (lF l) (opEnd l (e0 + 1)) (e0 + 1) = some (opEnd l (e0 + 1))) ∧ (isEx (lF l) l.length 0 = true → exO (lF l) l.length 0 = .inr (hpNm (sbL l 0 e0), opO (lF l) (opEnd l (e0 + 1)) (e0 + 1), none)) := by
  obtain ⟨a, b⟩ := ex_3 h1 h2 hn h32
  have hi : isEx (lF l) l.length 0 = true ↔ operE (lF l) l.length (e0 + 1) = some l.length := by
    unfold isEx
    rw [a, if_neg hn, b, Nat.zero_add]
    cases hx : operE (lF l) l.length (e0 + 1) with
    | none => exact ⟨fun z => (by cases z), fun z => (by cases z)⟩
    | some k =>
      dsimp only
      rw [if_pos h4, beq_iff_eq]
      exact ⟨fun z => by rw [z], fun z => Option.some.inj z⟩
  have hi2 : operE (lF l) l.length (e0 + 1) = some l.length ↔ opEnd l (e0 + 1) = l.length ∧ operE (lF l) (opEnd l (e0 + 1)) (e0 + 1) = some (opEnd l (e0 + 1)) := by
    constructor
    · intro z
      have := opEnd_of (operE_gt z) z (Or.inl rfl)
      rw [this]
      exact ⟨rfl, z⟩
    · rintro ⟨z1, z2⟩
      rw [z1] at z2
      exact z2
  refine ⟨hi.trans hi2, fun z => ?_⟩
  have z1 := hi.mp z
  have z2 := hi2.mp z1
  unfold exO
  rw [a, if_neg hn, b, Nat.zero_add, z1, if_pos h4, z2.1]
  rfl
theorem ex_n2 {e0 : Nat} (h1 : opEnd l 0 = e0) (h2 : e0 < l.length) (hn : hpNm (sbL l 0 e0) ≠ 0) (h4 : ¬ hpNm (sbL l 0 e0) < 4) (h32 : lF l e0 = 32) : (isEx (lF l) l.length 0 = true ↔ operE (lF l) (opEnd l (e0 + 1)) (e0 + 1) = some (opEnd l (e0 + 1)) ∧ opEnd l (e0 + 1) < l.length ∧ lF l (opEnd l (e0 + 1)) = 32 ∧ opEnd l (opEnd l (e0 + 1) + 1) = l.length ∧ operE (lF l) l.length (opEnd l (e0 + 1) + 1) = some l.length) ∧ (isEx (lF l) l.length 0 = true → exO (lF l) l.length 0 = .inr (hpNm (sbL l 0 e0), opO (lF l) (opEnd l (e0 + 1)) (e0 + 1), some (opO (lF l) l.length (opEnd l (e0 + 1) + 1)))) := by
  obtain ⟨a, b⟩ := ex_3 h1 h2 hn h32
  have hi : isEx (lF l) l.length 0 = true ↔ ∃ k, operE (lF l) l.length (e0 + 1) = some k ∧ cA (lF l) l.length k = 32 ∧ operE (lF l) l.length (k + 1) = some l.length := by
    unfold isEx
    rw [a, if_neg hn, b, Nat.zero_add]
    cases hx : operE (lF l) l.length (e0 + 1) with
    | none => exact ⟨fun z => (by cases z), fun ⟨k, z, _⟩ => (by cases z)⟩
    | some k =>
      dsimp only
      rw [if_neg h4, Bool.and_eq_true, beq_iff_eq, beq_iff_eq]
      constructor
      · exact fun z => ⟨k, rfl, z⟩
      · rintro ⟨k', z, z'⟩
        cases z
        exact z'
  have hi2 : (∃ k, operE (lF l) l.length (e0 + 1) = some k ∧ cA (lF l) l.length k = 32 ∧ operE (lF l) l.length (k + 1) = some l.length) ↔ operE (lF l) (opEnd l (e0 + 1)) (e0 + 1) = some (opEnd l (e0 + 1)) ∧ opEnd l (e0 + 1) < l.length ∧ lF l (opEnd l (e0 + 1)) = 32 ∧ opEnd l (opEnd l (e0 + 1) + 1) = l.length ∧ operE (lF l) l.length (opEnd l (e0 + 1) + 1) = some l.length := by
    constructor
    · rintro ⟨k, z1, z2, z3⟩
      have hk := cA_lt (f := lF l) (e := l.length) (p := k) (by rw [z2]; decide)
      rw [cA_eq hk] at z2
      have hg := operE_gt z1
      have e1 := opEnd_of (by omega) z1 (Or.inr z2)
      have e2 := opEnd_of (operE_gt z3) z3 (Or.inl rfl)
      rw [e1]
      exact ⟨operE_cut z1, hk, z2, e2, z3⟩
    · rintro ⟨z1, z2, z3, z4, z5⟩
      have hg := operE_gt z1
      refine ⟨_, (opEnd_to (by omega) (Or.inr z3)).mpr z1, by rw [cA_eq z2]; exact z3, z5⟩
  refine ⟨hi.trans hi2, fun z => ?_⟩
  obtain ⟨k, z1, z2, z3⟩ := hi.mp z
  have hk := cA_lt (f := lF l) (e := l.length) (p := k) (by rw [z2]; decide)
  rw [cA_eq hk] at z2
  have hg := operE_gt z1
  have e1 := opEnd_of (by omega) z1 (Or.inr z2)
  unfold exO
  rw [a, if_neg hn, b, Nat.zero_add, z1, if_neg h4, e1]
  rfl
end EE
