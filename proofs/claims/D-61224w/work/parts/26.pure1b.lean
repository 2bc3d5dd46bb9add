/-! PURE 1b: bounds of the above -/
def oI : Option Nat → Int32
  | some k => nI k
  | none => -1
theorem upF_le {f : Nat → Nat} {e : Nat} : ∀ (n k : Nat), upF f e n k ≤ max k e
  | 0, k => Nat.le_max_left _ _
  | n + 1, k => by
    unfold upF
    split
    · rename_i h
      have h1 := stB_len (by simp) (by simp) h
      have h2 := upF_le (f := f) (e := e) n (k + 3)
      simp at h1
      omega
    · exact Nat.le_max_left _ _
theorem dtF_le {f : Nat → Nat} {e : Nat} : ∀ (n k r : Nat), dtF f e n k = some r → r ≤ max k e
  | 0, k, r, h => by
    cases h; exact Nat.le_max_left _ _
  | n + 1, k, r, h => by
    unfold dtF at h
    split at h
    · rename_i hc
      have hk : k < e := cA_lt (by rw [hc]; decide)
      dsimp only at h
      by_cases hm : lts f e (k + 1) = 0 ∧ isD (cA f e (k + 1)) = true
      · rw [if_pos hm] at h
        rw [if_neg (by omega)] at h
        have h1 := cA_lt (isD_pos hm.2)
        have h2 := dtF_le n (k + 1 + 1) r h
        omega
      · rw [if_neg hm] at h
        split at h
        · cases h
        · have h1 := lts_le (f := f) (e := e) (p := k + 1)
          have h2 := dtF_le n _ r h
          omega
    · cases h; exact Nat.le_max_left _ _
theorem pathE_le {f : Nat → Nat} {e p r : Nat} (h : pathE f e p = some r) : r ≤ e := by
  unfold pathE at h
  split at h
  · rename_i hc
    cases h
    rw [Bool.or_eq_true] at hc
    rcases hc with q | q
    · have := stB_len (by simp) (by simp) q; simpa using this
    · have := stB_len (by simp) (by simp) q; simpa using this
  · dsimp only at h
    split at h
    · cases h
    · rename_i hn
      have h1 := lts_le (f := f) (e := e) (p := upF f e e p)
      split at h
      · rename_i h4
        cases h
        omega
      · have h2 := dtF_le _ _ _ h
        omega
theorem quF_le {f : Nat → Nat} {e : Nat} : ∀ (n k : Nat), quF f e n k ≤ max k e
  | 0, k => Nat.le_max_left _ _
  | n + 1, k => by
    unfold quF
    split
    · have := quF_le (f := f) (e := e) n (k + 1)
      omega
    · exact Nat.le_max_left _ _
theorem dgF_le {f : Nat → Nat} {e : Nat} : ∀ (n k : Nat), dgF f e n k ≤ max k e
  | 0, k => Nat.le_max_left _ _
  | n + 1, k => by
    unfold dgF
    split
    · rename_i h
      have := cA_lt (isD_pos h)
      have := dgF_le (f := f) (e := e) n (k + 1)
      omega
    · exact Nat.le_max_left _ _
theorem operE_le {f : Nat → Nat} {e p r : Nat} (h : operE f e p = some r) : r ≤ e := by
  unfold operE at h
  split at h
  · dsimp only at h
    split at h
    · rename_i hc
      cases h
      have := cA_lt (f := f) (e := e) (p := quF f e e (p + 1)) (by rw [hc]; decide)
      omega
    · cases h
  · split at h
    · rename_i hd
      cases h
      have := cA_lt (isD_pos hd)
      have := dgF_le (f := f) (e := e) 5 p
      omega
    · exact pathE_le h
theorem helpN_le (f : Nat → Nat) (e p : Nat) : helpN f e p < 7 := by
  unfold helpN
  repeat' split
  all_goals omega
theorem nameS_le (h : Nat) : nameS h ≤ 4 := by
  unfold nameS
  split <;> omega
/-- the bytes of a word, from the highest; zeros left out -/
def wL (b : Nat → Nat) : Nat → List Nat
  | 0 => []
  | i + 1 => if b i = 0 then wL b i else b i :: wL b i
def wB (w : Int64) (i : Nat) : Int32 := ((w >>> ((nI (8 * i)).toInt64 &&& 63)) &&& 255).toInt32
/-- w spells l -/
def spells (w : Int64) (l : List Nat) : Prop := ∃ b : Nat → Nat, (∀ i, i < 8 → b i < 256 ∧ wB w i = nI (b i)) ∧ wL b 8 = l
theorem stB_cons (f : Nat → Nat) (e p c : Nat) (cs : List Nat) : stB f e p (c :: cs) = ((cA f e p == c) && stB f e (p + 1) cs) := rfl
theorem spells_31611 : spells 31611 [123, 123] := ⟨fun i => [123, 123, 0, 0, 0, 0, 0, 0].getD i 0, by decide +kernel, by decide +kernel⟩
theorem spells_8092539 : spells 8092539 [123, 123, 123] := ⟨fun i => [123, 123, 123, 0, 0, 0, 0, 0].getD i 0, by decide +kernel, by decide +kernel⟩
theorem spells_8224125 : spells 8224125 [125, 125, 125] := ⟨fun i => [125, 125, 125, 0, 0, 0, 0, 0].getD i 0, by decide +kernel, by decide +kernel⟩
theorem spells_32125 : spells 32125 [125, 125] := ⟨fun i => [125, 125, 0, 0, 0, 0, 0, 0].getD i 0, by decide +kernel, by decide +kernel⟩
theorem spells_7696416 : spells 7696416 [117, 112, 32] := ⟨fun i => [32, 112, 117, 0, 0, 0, 0, 0].getD i 0, by decide +kernel, by decide +kernel⟩
theorem spells_1818586656 : spells 1818586656 [108, 101, 110, 32] := ⟨fun i => [32, 110, 101, 108, 0, 0, 0, 0].getD i 0, by decide +kernel, by decide +kernel⟩
theorem spells_1852797984 : spells 1852797984 [110, 111, 116, 32] := ⟨fun i => [32, 116, 111, 110, 0, 0, 0, 0].getD i 0, by decide +kernel, by decide +kernel⟩
theorem spells_1633969184 : spells 1633969184 [97, 100, 100, 32] := ⟨fun i => [32, 100, 100, 97, 0, 0, 0, 0].getD i 0, by decide +kernel, by decide +kernel⟩
theorem spells_6648096 : spells 6648096 [101, 113, 32] := ⟨fun i => [32, 113, 101, 0, 0, 0, 0, 0].getD i 0, by decide +kernel, by decide +kernel⟩
theorem spells_6386720 : spells 6386720 [97, 116, 32] := ⟨fun i => [32, 116, 97, 0, 0, 0, 0, 0].getD i 0, by decide +kernel, by decide +kernel⟩
theorem spells_70821567817080 : spells 70821567817080 [64, 105, 110, 100, 101, 120] := ⟨fun i => [120, 101, 100, 110, 105, 64, 0, 0].getD i 0, by decide +kernel, by decide +kernel⟩
theorem spells_70808599950196 : spells 70808599950196 [64, 102, 105, 114, 115, 116] := ⟨fun i => [116, 115, 114, 105, 102, 64, 0, 0].getD i 0, by decide +kernel, by decide +kernel⟩
theorem spells_3026479 : spells 3026479 [46, 46, 47] := ⟨fun i => [47, 46, 46, 0, 0, 0, 0, 0].getD i 0, by decide +kernel, by decide +kernel⟩
theorem spells_1952999795 : spells 1952999795 [116, 104, 105, 115] := ⟨fun i => [115, 105, 104, 116, 0, 0, 0, 0].getD i 0, by decide +kernel, by decide +kernel⟩
theorem spells_594109984 : spells 594109984 [35, 105, 102, 32] := ⟨fun i => [32, 102, 105, 35, 0, 0, 0, 0].getD i 0, by decide +kernel, by decide +kernel⟩
theorem spells_2550551843551838208 : spells 2550551843551838208 [35, 101, 97, 99, 104, 32] := ⟨fun i => [0, 0, 32, 104, 99, 97, 101, 35].getD i 0, by decide +kernel, by decide +kernel⟩
theorem spells_2555627262240096256 : spells 2555627262240096256 [35, 119, 105, 116, 104, 32] := ⟨fun i => [0, 0, 32, 104, 116, 105, 119, 35].getD i 0, by decide +kernel, by decide +kernel⟩
theorem spells_1701606245 : spells 1701606245 [101, 108, 115, 101] := ⟨fun i => [101, 115, 108, 101, 0, 0, 0, 0].getD i 0, by decide +kernel, by decide +kernel⟩
theorem spells_3107174 : spells 3107174 [47, 105, 102] := ⟨fun i => [102, 105, 47, 0, 0, 0, 0, 0].getD i 0, by decide +kernel, by decide +kernel⟩
theorem spells_203564344168 : spells 203564344168 [47, 101, 97, 99, 104] := ⟨fun i => [104, 99, 97, 101, 47, 0, 0, 0].getD i 0, by decide +kernel, by decide +kernel⟩
theorem spells_203866862696 : spells 203866862696 [47, 119, 105, 116, 104] := ⟨fun i => [104, 116, 105, 119, 47, 0, 0, 0].getD i 0, by decide +kernel, by decide +kernel⟩
theorem spells_164843319355 : spells 164843319355 [38, 97, 109, 112, 59] := ⟨fun i => [59, 112, 109, 97, 38, 0, 0, 0].getD i 0, by decide +kernel, by decide +kernel⟩
theorem spells_644641851 : spells 644641851 [38, 108, 116, 59] := ⟨fun i => [59, 116, 108, 38, 0, 0, 0, 0].getD i 0, by decide +kernel, by decide +kernel⟩
theorem spells_644314171 : spells 644314171 [38, 103, 116, 59] := ⟨fun i => [59, 116, 103, 38, 0, 0, 0, 0].getD i 0, by decide +kernel, by decide +kernel⟩
theorem spells_42268743398459 : spells 42268743398459 [38, 113, 117, 111, 116, 59] := ⟨fun i => [59, 116, 111, 117, 113, 38, 0, 0].getD i 0, by decide +kernel, by decide +kernel⟩
