/-! PURE 1: how a template's text is taken apart (over a function of characters, places up to e) -/
def cA (f : Nat → Nat) (e p : Nat) : Nat := if p < e then f p else 0
def isL (c : Nat) : Bool := decide (97 ≤ c) && decide (c ≤ 122)
def isD (c : Nat) : Bool := decide (48 ≤ c) && decide (c ≤ 57)
/-- the characters w stand from p on -/
def stB (f : Nat → Nat) (e : Nat) : Nat → List Nat → Bool
  | _, [] => true
  | p, c :: cs => (cA f e p == c) && stB f e (p + 1) cs
def ltN (f : Nat → Nat) (e : Nat) : Nat → Nat → Nat
  | 0, _ => 0
  | n + 1, p => if isL (cA f e p) then ltN f e n (p + 1) + 1 else 0
/-- how many letters stand from p on -/
def lts (f : Nat → Nat) (e p : Nat) : Nat := ltN f e (e - p) p
def upF (f : Nat → Nat) (e : Nat) : Nat → Nat → Nat
  | 0, p => p
  | n + 1, p => if stB f e p [46, 46, 47] then upF f e n (p + 3) else p
def dtF (f : Nat → Nat) (e : Nat) : Nat → Nat → Option Nat
  | 0, k => some k
  | n + 1, k => if cA f e k = 46 then
      (let m := if lts f e (k + 1) = 0 ∧ isD (cA f e (k + 1)) = true then 1 else lts f e (k + 1)
       if m < 1 ∨ 8 < m then none else dtF f e n (k + 1 + m))
    else some k
/-- where the path that begins at p ends -/
def pathE (f : Nat → Nat) (e p : Nat) : Option Nat :=
  if stB f e p [64, 105, 110, 100, 101, 120] || stB f e p [64, 102, 105, 114, 115, 116] then some (p + 6)
  else
    let k := upF f e e p
    let n := lts f e k
    if n < 1 ∨ 8 < n then none
    else if n = 4 ∧ stB f e k [116, 104, 105, 115] = true then some (k + 4)
    else dtF f e e (k + n)
def quF (f : Nat → Nat) (e : Nat) : Nat → Nat → Nat
  | 0, k => k
  | n + 1, k => if k < e ∧ f k ≠ 34 ∧ f k ≠ 125 then quF f e n (k + 1) else k
def dgF (f : Nat → Nat) (e : Nat) : Nat → Nat → Nat
  | 0, k => k
  | n + 1, k => if isD (cA f e k) then dgF f e n (k + 1) else k
def operE (f : Nat → Nat) (e p : Nat) : Option Nat :=
  if cA f e p = 34 then
    let k := quF f e e (p + 1)
    if cA f e k = 34 then some (k + 1) else none
  else if isD (cA f e p) then some (dgF f e 5 p)
  else pathE f e p
/-- the helper whose name stands at p: 1 up, 2 len, 3 not, 4 add, 5 eq, 6 at; 0 none -/
def helpN (f : Nat → Nat) (e p : Nat) : Nat :=
  if stB f e p [117, 112, 32] then 1
  else if stB f e p [108, 101, 110, 32] then 2
  else if stB f e p [110, 111, 116, 32] then 3
  else if stB f e p [97, 100, 100, 32] then 4
  else if stB f e p [101, 113, 32] then 5
  else if stB f e p [97, 116, 32] then 6 else 0
def nameS (h : Nat) : Nat := if h = 1 ∨ 4 < h then 3 else 4
def isEx (f : Nat → Nat) (e p : Nat) : Bool :=
  if helpN f e p = 0 then operE f e p == some e && decide (p < e)
  else match operE f e (p + nameS (helpN f e p)) with
    | none => false
    | some k => if helpN f e p < 4 then k == e else cA f e k == 32 && operE f e (k + 1) == some e
/-- the sort of an inside: 0 shown, 1 raw, 2 remark, 3 if, 4 each, 5 with, 6 else, 7 to 9 their ends, 10 partial -/
def sortN (f : Nat → Nat) (e p : Nat) (three : Bool) : Option Nat :=
  if three then (if isEx f e p then some 1 else none)
  else if cA f e p = 33 then some 2
  else if stB f e p [35, 105, 102, 32] then (if isEx f e (p + 4) then some 3 else none)
  else if stB f e p [35, 101, 97, 99, 104, 32] then (if isEx f e (p + 6) then some 4 else none)
  else if stB f e p [35, 119, 105, 116, 104, 32] then (if isEx f e (p + 6) then some 5 else none)
  else if e = p + 4 ∧ stB f e p [101, 108, 115, 101] = true then some 6
  else if e = p + 3 ∧ stB f e p [47, 105, 102] = true then some 7
  else if e = p + 5 ∧ stB f e p [47, 101, 97, 99, 104] = true then some 8
  else if e = p + 5 ∧ stB f e p [47, 119, 105, 116, 104] = true then some 9
  else if cA f e p = 62 then (if e = p + 3 ∧ f (p + 1) = 32 ∧ 97 ≤ f (p + 2) ∧ f (p + 2) ≤ 100 then some 10 else none)
  else if isEx f e p then some 0 else none
/-- the first place from k on where w stands; e if nowhere -/
def findF (f : Nat → Nat) (e : Nat) (w : List Nat) : Nat → Nat → Nat
  | 0, k => k
  | n + 1, k => if k < e ∧ stB f e k w = false then findF f e w n (k + 1) else k
/-- facts -/
theorem stB_len {f : Nat → Nat} {e : Nat} : ∀ {w : List Nat} {p : Nat}, (∀ c ∈ w, c ≠ 0) → w ≠ [] → stB f e p w = true → p + w.length ≤ e
  | [], _, _, h, _ => absurd rfl h
  | c :: cs, p, hc, _, h => by
    unfold stB at h
    rw [Bool.and_eq_true] at h
    have h1 : cA f e p = c := by simpa using h.1
    have hp : p < e := by
      unfold cA at h1
      split at h1
      · assumption
      · exact absurd h1.symm (hc c List.mem_cons_self)
    by_cases hcs : cs = []
    · subst hcs; simp; omega
    · have := stB_len (fun c h => hc c (List.mem_cons_of_mem _ h)) hcs h.2
      simp; omega
theorem isL_pos {c : Nat} (h : isL c = true) : c ≠ 0 := by
  unfold isL at h
  simp at h
  omega
theorem isD_pos {c : Nat} (h : isD c = true) : c ≠ 0 := by
  unfold isD at h
  simp at h
  omega
theorem cA_lt {f : Nat → Nat} {e p : Nat} (h : cA f e p ≠ 0) : p < e := by
  unfold cA at h
  split at h
  · assumption
  · exact absurd rfl h
theorem cA_eq {f : Nat → Nat} {e p : Nat} (h : p < e) : cA f e p = f p := if_pos h
theorem cA_ge {f : Nat → Nat} {e p : Nat} (h : e ≤ p) : cA f e p = 0 := if_neg (Nat.not_lt.mpr h)
theorem ltN_le {f : Nat → Nat} {e : Nat} : ∀ (n p : Nat), ltN f e n p ≤ e - p
  | 0, _ => Nat.zero_le _
  | n + 1, p => by
    unfold ltN
    split
    · rename_i h
      have := cA_lt (isL_pos h)
      have := ltN_le (f := f) (e := e) n (p + 1)
      omega
    · exact Nat.zero_le _
theorem lts_le {f : Nat → Nat} {e p : Nat} : lts f e p ≤ e - p := ltN_le _ _
theorem ltN_fuel {f : Nat → Nat} {e : Nat} : ∀ (n p : Nat), e - p ≤ n → ltN f e n p = lts f e p
  | 0, p, h => by
    unfold lts
    rw [show e - p = 0 by omega]
  | n + 1, p, h => by
    unfold lts
    by_cases hp : p < e
    · obtain ⟨m, hm⟩ : ∃ m, e - p = m + 1 := ⟨e - p - 1, by omega⟩
      rw [hm]
      unfold ltN
      split
      · rw [ltN_fuel n (p + 1) (by omega)]
        unfold lts
        rw [show e - (p + 1) = m by omega]
      · rfl
    · rw [show e - p = 0 by omega]
      unfold ltN
      rw [cA_ge (by omega)]
      rfl
theorem lts_step {f : Nat → Nat} {e p : Nat} (h : isL (cA f e p) = true) : lts f e p = lts f e (p + 1) + 1 := by
  have hp := cA_lt (isL_pos h)
  obtain ⟨m, hm⟩ : ∃ m, e - p = m + 1 := ⟨e - p - 1, by omega⟩
  have e1 : lts f e p = ltN f e (m + 1) p := by unfold lts; rw [hm]
  have e2 : lts f e (p + 1) = ltN f e m (p + 1) := by unfold lts; rw [show e - (p + 1) = m by omega]
  rw [e1, e2]
  show (if isL (cA f e p) then ltN f e m (p + 1) + 1 else 0) = _
  rw [if_pos h]
theorem lts_stop {f : Nat → Nat} {e p : Nat} (h : isL (cA f e p) = false) : lts f e p = 0 := by
  unfold lts
  cases hm : e - p with
  | zero => rfl
  | succ m =>
    unfold ltN
    rw [h]; rfl
