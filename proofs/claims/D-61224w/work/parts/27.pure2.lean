/-! PURE 2: the text moved; tags; the machine that takes a template apart -/
theorem cA_sh {f f' : Nat → Nat} {b e : Nat} (H : ∀ i, i < e → f (b + i) = f' i) (p : Nat) : cA f (b + e) (b + p) = cA f' e p := by
  unfold cA
  by_cases h : p < e
  · rw [if_pos h, if_pos (by omega), H p h]
  · rw [if_neg h, if_neg (by omega)]
theorem stB_sh {f f' : Nat → Nat} {b e : Nat} (H : ∀ i, i < e → f (b + i) = f' i) : ∀ (w : List Nat) (p : Nat), stB f (b + e) (b + p) w = stB f' e p w
  | [], _ => rfl
  | c :: cs, p => by
    rw [stB_cons, stB_cons, cA_sh H, show b + p + 1 = b + (p + 1) by omega, stB_sh H cs (p + 1)]
theorem ltN_sh {f f' : Nat → Nat} {b e : Nat} (H : ∀ i, i < e → f (b + i) = f' i) : ∀ (n p : Nat), ltN f (b + e) n (b + p) = ltN f' e n p
  | 0, _ => rfl
  | n + 1, p => by
    unfold ltN
    rw [cA_sh H, show b + p + 1 = b + (p + 1) by omega, ltN_sh H n (p + 1)]
theorem lts_sh {f f' : Nat → Nat} {b e : Nat} (H : ∀ i, i < e → f (b + i) = f' i) (p : Nat) : lts f (b + e) (b + p) = lts f' e p := by
  unfold lts
  rw [ltN_sh H, show b + e - (b + p) = e - p by omega]
/-- more fuel does no harm -/
theorem upF_fuel {f : Nat → Nat} {e : Nat} : ∀ (n m k : Nat), e - k ≤ n → e - k ≤ m → upF f e n k = upF f e m k
  | 0, 0, _, _, _ => rfl
  | 0, m + 1, k, h, _ => by
    unfold upF
    rw [if_neg]
    intro q
    have := stB_len (by simp) (by simp) q
    simp at this
    omega
  | n + 1, 0, k, _, h => by
    unfold upF
    rw [if_neg]
    intro q
    have := stB_len (by simp) (by simp) q
    simp at this
    omega
  | n + 1, m + 1, k, h1, h2 => by
    unfold upF
    split
    · exact upF_fuel n m (k + 3) (by omega) (by omega)
    · rfl
theorem upF_sh {f f' : Nat → Nat} {b e : Nat} (H : ∀ i, i < e → f (b + i) = f' i) : ∀ (n p : Nat), upF f (b + e) n (b + p) = b + upF f' e n p
  | 0, _ => rfl
  | n + 1, p => by
    unfold upF
    rw [stB_sh H, show b + p + 3 = b + (p + 3) by omega, upF_sh H n (p + 3)]
    split <;> rfl
theorem dtF_fuel {f : Nat → Nat} {e : Nat} : ∀ (n m k : Nat), e - k ≤ n → e - k ≤ m → dtF f e n k = dtF f e m k
  | 0, 0, _, _, _ => rfl
  | 0, m + 1, k, h, _ => by
    unfold dtF
    rw [if_neg]
    intro q
    have := cA_lt (f := f) (e := e) (p := k) (by rw [q]; decide)
    omega
  | n + 1, 0, k, _, h => by
    unfold dtF
    rw [if_neg]
    intro q
    have := cA_lt (f := f) (e := e) (p := k) (by rw [q]; decide)
    omega
  | n + 1, m + 1, k, h1, h2 => by
    unfold dtF
    split
    · rename_i q
      dsimp only
      generalize (if lts f e (k + 1) = 0 ∧ isD (cA f e (k + 1)) = true then 1 else lts f e (k + 1)) = x
      rw [dtF_fuel n m (k + 1 + x) (by omega) (by omega)]
    · rfl
theorem dtF_sh {f f' : Nat → Nat} {b e : Nat} (H : ∀ i, i < e → f (b + i) = f' i) : ∀ (n p : Nat), dtF f (b + e) n (b + p) = (dtF f' e n p).map (b + ·)
  | 0, _ => rfl
  | n + 1, p => by
    unfold dtF
    rw [cA_sh H, show b + p + 1 = b + (p + 1) by omega, lts_sh H, cA_sh H]
    split
    · dsimp only
      generalize (if lts f' e (p + 1) = 0 ∧ isD (cA f' e (p + 1)) = true then 1 else lts f' e (p + 1)) = x
      rw [show b + (p + 1) + x = b + (p + 1 + x) by omega, dtF_sh H n]
      split <;> rfl
    · rfl
theorem pathE_sh {f f' : Nat → Nat} {b e : Nat} (H : ∀ i, i < e → f (b + i) = f' i) (p : Nat) : pathE f (b + e) (b + p) = (pathE f' e p).map (b + ·) := by
  unfold pathE
  rw [stB_sh H, stB_sh H]
  have e1 : upF f (b + e) (b + e) (b + p) = b + upF f' e e p := by
    rw [upF_sh H]
    congr 1
    exact upF_fuel _ _ _ (by omega) (by omega)
  rw [e1]
  split
  · simp; omega
  · dsimp only
    rw [lts_sh H, stB_sh H]
    split
    · rfl
    · split
      · simp; omega
      · rw [show ∀ m k, b + m + k = b + (m + k) from fun m k => by omega, dtF_sh H]
        rw [dtF_fuel (b + e) e _ (by omega) (by omega)]
theorem quF_fuel {f : Nat → Nat} {e : Nat} : ∀ (n m k : Nat), e - k ≤ n → e - k ≤ m → quF f e n k = quF f e m k
  | 0, 0, _, _, _ => rfl
  | 0, m + 1, k, h, _ => by
    unfold quF
    rw [if_neg (by omega)]
  | n + 1, 0, k, _, h => by
    unfold quF
    rw [if_neg (by omega)]
  | n + 1, m + 1, k, h1, h2 => by
    unfold quF
    split
    · exact quF_fuel n m _ (by omega) (by omega)
    · rfl
theorem quF_sh {f f' : Nat → Nat} {b e : Nat} (H : ∀ i, i < e → f (b + i) = f' i) : ∀ (n p : Nat), quF f (b + e) n (b + p) = b + quF f' e n p
  | 0, _ => rfl
  | n + 1, p => by
    unfold quF
    rw [show b + p + 1 = b + (p + 1) by omega, quF_sh H n (p + 1)]
    by_cases h : p < e ∧ f' p ≠ 34 ∧ f' p ≠ 125
    · rw [if_pos h, if_pos ⟨by omega, by rw [H p h.1]; exact h.2⟩]
    · rw [if_neg h, if_neg (fun q => h ⟨by omega, by rw [← H p (by omega)]; exact q.2⟩)]
theorem dgF_sh {f f' : Nat → Nat} {b e : Nat} (H : ∀ i, i < e → f (b + i) = f' i) : ∀ (n p : Nat), dgF f (b + e) n (b + p) = b + dgF f' e n p
  | 0, _ => rfl
  | n + 1, p => by
    unfold dgF
    rw [cA_sh H, show b + p + 1 = b + (p + 1) by omega, dgF_sh H n (p + 1)]
    split <;> rfl
theorem operE_sh {f f' : Nat → Nat} {b e : Nat} (H : ∀ i, i < e → f (b + i) = f' i) (p : Nat) : operE f (b + e) (b + p) = (operE f' e p).map (b + ·) := by
  unfold operE
  dsimp only
  rw [cA_sh H, show b + p + 1 = b + (p + 1) by omega, quF_sh H, quF_fuel (b + e) e _ (by omega) (by omega), cA_sh H, dgF_sh H, pathE_sh H]
  split
  · split
    · simp; omega
    · rfl
  · split <;> rfl
theorem beq_add (b k e : Nat) : (b + k == b + e) = (k == e) := by
  rw [Bool.eq_iff_iff]; simp
theorem helpN_sh {f f' : Nat → Nat} {b e : Nat} (H : ∀ i, i < e → f (b + i) = f' i) (p : Nat) : helpN f (b + e) (b + p) = helpN f' e p := by
  unfold helpN
  simp only [stB_sh H]
theorem oMap_eq (b e : Nat) (x : Option Nat) : (x.map (b + ·) == some (b + e)) = (x == some e) := by
  cases x with
  | none => rfl
  | some k =>
    show (b + k == b + e) = (k == e)
    exact beq_add b k e
theorem isEx_sh {f f' : Nat → Nat} {b e : Nat} (H : ∀ i, i < e → f (b + i) = f' i) (p : Nat) : isEx f (b + e) (b + p) = isEx f' e p := by
  unfold isEx
  rw [helpN_sh H, operE_sh H, oMap_eq, show b + p + nameS (helpN f' e p) = b + (p + nameS (helpN f' e p)) by omega, operE_sh H]
  split
  · congr 1
    simp
  · cases operE f' e (p + nameS (helpN f' e p)) with
    | none => rfl
    | some k =>
      simp only [Option.map]
      rw [cA_sh H, show b + k + 1 = b + (k + 1) by omega, operE_sh H, oMap_eq, beq_add]
theorem sortN_sh {f f' : Nat → Nat} {b e : Nat} (H : ∀ i, i < e → f (b + i) = f' i) (p : Nat) (t : Bool) : sortN f (b + e) (b + p) t = sortN f' e p t := by
  have hx : (e = p + 3 ∧ f (b + (p + 1)) = 32 ∧ 97 ≤ f (b + (p + 2)) ∧ f (b + (p + 2)) ≤ 100) = (e = p + 3 ∧ f' (p + 1) = 32 ∧ 97 ≤ f' (p + 2) ∧ f' (p + 2) ≤ 100) := by
    apply propext
    constructor
    · intro q
      have q1 := q.1
      rw [← H (p + 1) (by omega), ← H (p + 2) (by omega)]; exact q
    · intro q
      have q1 := q.1
      rw [H (p + 1) (by omega), H (p + 2) (by omega)]; exact q
  unfold sortN
  simp only [hx, stB_sh H, cA_sh H, isEx_sh H, show b + p + 4 = b + (p + 4) by omega, show b + p + 6 = b + (p + 6) by omega, show b + p + 3 = b + (p + 3) by omega, show b + p + 5 = b + (p + 5) by omega, show b + p + 1 = b + (p + 1) by omega, show b + p + 2 = b + (p + 2) by omega, Nat.add_left_cancel_iff]
theorem findF_fuel {f : Nat → Nat} {e : Nat} {w : List Nat} : ∀ (n m k : Nat), e - k ≤ n → e - k ≤ m → findF f e w n k = findF f e w m k
  | 0, 0, _, _, _ => rfl
  | 0, m + 1, k, h, _ => by
    unfold findF
    rw [if_neg (by omega)]
  | n + 1, 0, k, _, h => by
    unfold findF
    rw [if_neg (by omega)]
  | n + 1, m + 1, k, h1, h2 => by
    unfold findF
    split
    · exact findF_fuel n m _ (by omega) (by omega)
    · rfl
theorem findF_sh {f f' : Nat → Nat} {b e : Nat} (H : ∀ i, i < e → f (b + i) = f' i) (w : List Nat) : ∀ (n p : Nat), findF f (b + e) w n (b + p) = b + findF f' e w n p
  | 0, _ => rfl
  | n + 1, p => by
    unfold findF
    rw [stB_sh H, show b + p + 1 = b + (p + 1) by omega, findF_sh H w n (p + 1)]
    by_cases h : p < e ∧ stB f' e p w = false
    · rw [if_pos h, if_pos ⟨by omega, h.2⟩]
    · rw [if_neg h, if_neg (fun q => h ⟨by omega, q.2⟩)]
theorem findF_ge {f : Nat → Nat} {e : Nat} {w : List Nat} : ∀ (n k : Nat), k ≤ findF f e w n k
  | 0, k => Nat.le_refl _
  | n + 1, k => by
    unfold findF
    split
    · exact Nat.le_trans (Nat.le_succ k) (findF_ge n (k + 1))
    · exact Nat.le_refl _
theorem findF_le {f : Nat → Nat} {e : Nat} {w : List Nat} : ∀ (n k : Nat), findF f e w n k ≤ max k e
  | 0, k => Nat.le_max_left _ _
  | n + 1, k => by
    unfold findF
    split
    · have := findF_le (f := f) (e := e) (w := w) n (k + 1)
      omega
    · exact Nat.le_max_left _ _
/-- it stands there, if it is not at the end -/
theorem findF_st {f : Nat → Nat} {e : Nat} {w : List Nat} : ∀ (n k : Nat), e - k ≤ n → findF f e w n k < e → stB f e (findF f e w n k) w = true
  | 0, k, h, h2 => by
    unfold findF at h2
    omega
  | n + 1, k, h, h2 => by
    unfold findF at h2 ⊢
    split
    · rename_i q
      rw [if_pos q] at h2
      exact findF_st n (k + 1) (by omega) h2
    · rename_i q
      rw [if_neg q] at h2
      cases z : stB f e k w with
      | true => rfl
      | false => exact absurd ⟨h2, z⟩ q
/-- the next tag from p on: none; a fault at a place; or (begin, from, to, end, sort) -/
abbrev tGt : Type := Nat × Nat × Nat × Nat × Nat
def tkT (f : Nat → Nat) (e p : Nat) : Option (Nat ⊕ tGt) :=
  let k := findF f e [123, 123] e p
  if e ≤ k then none
  else
    let three := stB f e k [123, 123, 123]
    let n := if three then 3 else 2
    let q := findF f e (if three then [125, 125, 125] else [125, 125]) e (k + n)
    if e ≤ q then some (.inl k)
    else match sortN f q (k + n) three with
      | none => some (.inl k)
      | some s => some (.inr (k, k + n, q, q + n, s))
def mvT (b : Nat) : Nat ⊕ tGt → Nat ⊕ tGt
  | .inl k => .inl (b + k)
  | .inr (k, x, q, y, s) => .inr (b + k, b + x, b + q, b + y, s)
theorem tkT_sh {f f' : Nat → Nat} {b e : Nat} (H : ∀ i, i < e → f (b + i) = f' i) (p : Nat) : tkT f (b + e) (b + p) = (tkT f' e p).map (mvT b) := by
  unfold tkT
  dsimp only
  rw [findF_sh H, findF_fuel (b + e) e _ (by omega) (by omega), stB_sh H]
  generalize findF f' e [123, 123] e p = k
  rw [show ∀ n, b + k + n = b + (k + n) from fun n => by omega, findF_sh H, findF_fuel (b + e) e _ (by omega) (by omega)]
  generalize (if stB f' e k [123, 123, 123] = true then 3 else 2) = n
  generalize findF f' e (if stB f' e k [123, 123, 123] = true then [125, 125, 125] else [125, 125]) e (k + n) = q
  by_cases h1 : e ≤ k
  · rw [if_pos h1, if_pos (by omega)]; rfl
  · rw [if_neg h1, if_neg (by omega)]
    by_cases h2 : e ≤ q
    · rw [if_pos h2, if_pos (by omega)]; rfl
    · rw [if_neg h2, if_neg (by omega), sortN_sh (e := q) (fun i hi => H i (by omega))]
      cases sortN f' q (k + n) (stB f' e k [123, 123, 123]) with
      | none => rfl
      | some s => simp [mvT]; omega
/-- the table of tags: what a tag is, the else of a block, the block's end and an end's block -/
abbrev tTb : Type := (Nat → tGt) × (Nat → Option Nat) × (Nat → Option Nat)
def upO {α : Type} (f : Nat → α) (k : Nat) (v : α) : Nat → α := fun j => if j = k then v else f j
/-- an else or an end: of the block that is open last -/
def fitE (T : tTb) (g s : Nat) : List Nat → Option (List Nat × tTb)
  | [] => none
  | b :: S' =>
    if s = 6 then (if (T.2.1 b).isSome then none else some (b :: S', (T.1, upO T.2.1 b (some g), upO T.2.2 g (some b))))
    else if (T.1 b).2.2.2.2 + 4 = s then some (S', (T.1, T.2.1, upO (upO T.2.2 g (some b)) b (some g))) else none
/-- fits tag g into the blocks that are open -/
def fitT (T : tTb) (g : Nat) (S : List Nat) : Option (List Nat × tTb) :=
  let s := (T.1 g).2.2.2.2
  if 2 < s ∧ s < 6 then (if S.length = 4 then none else some (g :: S, T))
  else if s < 6 ∨ s = 10 then some (S, T)
  else fitE T g s S
/-- where it is: a place, the next tag's number, the blocks that are open, the table -/
abbrev tPs : Type := Nat × Nat × List Nat × tTb
def opB (T : tTb) : List Nat → Option Nat
  | [] => none
  | b :: _ => some (T.1 b).1
/-- one tag further; or the end: the fault's place, the number of tags, the table -/
def tpS (f : Nat → Nat) (e : Nat) (s : tPs) : tPs ⊕ (Option Nat × Nat × tTb) :=
  match tkT f e s.1 with
  | none => .inr (opB s.2.2.2 s.2.2.1, s.2.1, s.2.2.2)
  | some (.inl k) => .inr (some k, s.2.1, s.2.2.2)
  | some (.inr t) =>
    match fitT (upO s.2.2.2.1 s.2.1 t, upO s.2.2.2.2.1 s.2.1 none, upO s.2.2.2.2.2 s.2.1 none) s.2.1 s.2.2.1 with
    | none => .inr (some t.1, s.2.1, s.2.2.2)
    | some (S', T') => .inl (t.2.2.2.1, s.2.1 + 1, S', T')
theorem tpS_none {f : Nat → Nat} {e p g : Nat} {S : List Nat} {T : tTb} (h : tkT f e p = none) : tpS f e (p, g, S, T) = .inr (opB T S, g, T) := by
  unfold tpS
  rw [h]
theorem tpS_fl {f : Nat → Nat} {e p g k : Nat} {S : List Nat} {T : tTb} (h : tkT f e p = some (.inl k)) : tpS f e (p, g, S, T) = .inr (some k, g, T) := by
  unfold tpS
  rw [h]
theorem tpS_no {f : Nat → Nat} {e p g : Nat} {t : tGt} {S : List Nat} {T : tTb} (h : tkT f e p = some (.inr t)) (h2 : fitT (upO T.1 g t, upO T.2.1 g none, upO T.2.2 g none) g S = none) : tpS f e (p, g, S, T) = .inr (some t.1, g, T) := by
  unfold tpS
  simp only [h, h2]
theorem tpS_tg {f : Nat → Nat} {e p g : Nat} {t : tGt} {S S' : List Nat} {T T' : tTb} (h : tkT f e p = some (.inr t)) (h2 : fitT (upO T.1 g t, upO T.2.1 g none, upO T.2.2 g none) g S = some (S', T')) : tpS f e (p, g, S, T) = .inl (t.2.2.2.1, g + 1, S', T') := by
  unfold tpS
  simp only [h, h2]
def tpI (f : Nat → Nat) (e : Nat) : Nat → tPs → tPs ⊕ (Option Nat × Nat × tTb)
  | 0, s => .inl s
  | n + 1, s => match tpS f e s with
    | .inl s' => tpI f e n s'
    | .inr r => .inr r
theorem tpI_inl {f : Nat → Nat} {e n : Nat} {s s' : tPs} (h : tpS f e s = .inl s') : tpI f e (n + 1) s = tpI f e n s' := by
  show (match tpS f e s with | .inl s' => tpI f e n s' | .inr r => .inr r) = _
  rw [h]
theorem tpI_inr {f : Nat → Nat} {e n : Nat} {s : tPs} {r : Option Nat × Nat × tTb} (h : tpS f e s = .inr r) : tpI f e (n + 1) s = .inr r := by
  show (match tpS f e s with | .inl s' => tpI f e n s' | .inr r => .inr r) = _
  rw [h]
def sLe (x : Option Nat) : Prop := ∀ s, x = some s → s ≤ 10
theorem sLe_ite {c : Prop} {i : Decidable c} {x y : Option Nat} (h1 : sLe x) (h2 : sLe y) : sLe (@ite _ c i x y) := by
  cases i with
  | isTrue h => exact h1
  | isFalse h => exact h2
theorem sLe_none : sLe none := fun s h => by cases h
theorem sLe_some {k : Nat} (h : k ≤ 10) : sLe (some k) := fun s q => by cases q; exact h
theorem sortN_le {f : Nat → Nat} {e p s : Nat} {t : Bool} (h : sortN f e p t = some s) : s ≤ 10 := by
  have : sLe (sortN f e p t) := by
    unfold sortN
    repeat' (first | exact sLe_none | exact sLe_some (by decide) | apply sLe_ite)
  exact this s h
