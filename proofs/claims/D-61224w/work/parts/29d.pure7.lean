/-! PURE 7: the machine that renders -/
/-- a template: length, characters, number of tags, table -/
abbrev aT : Type := Nat × (Nat → Nat) × Nat × tTb
/-- under way: a template, come to from template t by its tag g; or a block g: in its other part?, turn, data -/
abbrev aU : Type := (Nat × Nat) ⊕ (Nat × Bool × Nat × Nat)
/-- where it is: template, place, what is under way, contexts, what came out, tags come to -/
abbrev aM : Type := Nat × Nat × List aU × List aV × List Nat × Nat
/-- the first tag from p on -/
def tgF (T : tTb) : Nat → Nat → Nat → Nat
  | 0, g, _ => g
  | n + 1, g, p => if p ≤ (T.1 g).1 then g else tgF T n (g + 1) p
/-- the turn of the innermost each of this template -/
def lpU (T : tTb) : List aU → Option Nat
  | [] => none
  | .inl _ :: _ => none
  | .inr (b, ot, k, _) :: U => if (T.1 b).2.2.2.2 = 4 ∧ ot = false then some k else lpU T U
/-- how many templates are under way -/
def cpU : List aU → Nat
  | [] => 1
  | .inl _ :: U => cpU U + 1
  | .inr _ :: U => cpU U
def shO (raw : Bool) (l : List Nat) : List Nat := if raw then l else escL l
abbrev aZ : Type := aM ⊕ (Nat ⊕ (List Nat × Nat))
/-- whether a block's first part is taken -/
def mFst (D : aD) (s : Nat) (v : aV) : Bool := if s = 3 then !(flV D v) else if s = 5 then v.isSome else (match v with | some (.inr (.inr x)) => decide (0 < (aPs (D.2 x)).length) | _ => false)
def mX (v : aV) : Nat := match v with
  | some (.inr (.inr x)) => x
  | _ => 0
/-- a block is come to (0: it can't go on, which never is) -/
def mBlk (D : aD) (T : tTb) (t j : Nat) (U : List aU) (C : List aV) (out : List Nat) (seen : Nat) (v : aV) : aZ :=
  if mFst D (T.1 j).2.2.2.2 v = true then
    (if 18 < U.length ∨ 13 < C.length then .inr (.inl 0)
     else if (T.1 j).2.2.2.2 = 3 then .inl (t, (T.1 j).2.2.2.1, .inr (j, false, 0, 0) :: U, C, out, seen)
     else if (T.1 j).2.2.2.2 = 5 then .inl (t, (T.1 j).2.2.2.1, .inr (j, false, 0, 0) :: U, v :: C, out, seen)
     else .inl (t, (T.1 j).2.2.2.1, .inr (j, false, 0, mX v) :: U, elX D (mX v) 0 :: C, out, seen))
  else match T.2.1 j, T.2.2 j with
    | none, none => .inr (.inl 0)
    | none, some m => .inl (t, (T.1 m).2.2.2.1, U, C, out, seen)
    | some m, _ => if 18 < U.length then .inr (.inl 0) else .inl (t, (T.1 m).2.2.2.1, .inr (j, true, 0, 0) :: U, C, out, seen)
/-- an else or an end is come to -/
def mEnd (D : aD) (T : tTb) (t : Nat) (U : List aU) (C : List aV) (out : List Nat) (seen : Nat) : aZ :=
  match U with
  | .inr (b, ot, k, x) :: U' =>
    if ot = false ∧ (T.1 b).2.2.2.2 ≠ 3 ∧ C = [] then .inr (.inl 0)
    else if ot = false ∧ (T.1 b).2.2.2.2 = 4 ∧ k + 1 < (aPs (D.2 x)).length then .inl (t, (T.1 b).2.2.2.1, .inr (b, false, k + 1, x) :: U', elX D x (k + 1) :: C.tail, out, seen)
    else (match T.2.2 b with
      | none => .inr (.inl 0)
      | some m => .inl (t, (T.1 m).2.2.2.1, U', (if ot = false ∧ (T.1 b).2.2.2.2 ≠ 3 then C.tail else C), out, seen))
  | _ => .inr (.inl 0)
/-- a tag is come to -/
def mTag (Tm : Nat → Option aT) (D : aD) (f : Nat → Nat) (T : tTb) (t j : Nat) (U : List aU) (C : List aV) (out : List Nat) (seen : Nat) : aZ :=
  let s := (T.1 j).2.2.2.2
  if 5 < s ∧ s < 10 then mEnd D T t U C out seen
  else if seen = 600 then .inr (.inl 4)
  else if 2 < s ∧ s < 6 then (match evE D C (lpU T U) (exO f (T.1 j).2.2.1 ((T.1 j).2.1 + (if s = 3 then 4 else 6))) with
    | none => .inr (.inl 4)
    | some v => mBlk D T t j U C out (seen + 1) v)
  else if s = 10 then (if (Tm (f ((T.1 j).2.1 + 2) - 97)).isNone then .inr (.inl 2) else if cpU U = 3 then .inr (.inl 3) else if 18 < U.length then .inr (.inl 0) else .inl (f ((T.1 j).2.1 + 2) - 97, 0, .inl (t, j) :: U, C, out, seen + 1))
  else if s < 2 then (match evE D C (lpU T U) (exO f (T.1 j).2.2.1 (T.1 j).2.1) with
    | none => .inr (.inl 4)
    | some v => if 400 < (shw D v).length ∨ 400 < out.length + (shO (decide (s = 1)) (shw D v)).length then .inr (.inl 4) else .inl (t, (T.1 j).2.2.2.1, U, C, out ++ shO (decide (s = 1)) (shw D v), seen + 1))
  else .inl (t, (T.1 j).2.2.2.1, U, C, out, seen + 1)
/-- one step: plain text, a tag, or a template's end -/
def mS (Tm : Nat → Option aT) (D : aD) (c : aM) : aM ⊕ (Nat ⊕ (List Nat × Nat)) :=
  match c with
  | (t, p, U, C, out, seen) =>
    match Tm t with
    | none => .inr (.inl 0)
    | some (n, f, g, T) =>
      let j := tgF T g 0 p
      let stop := if j < g then (T.1 j).1 else n
      if p < stop then (if 400 < out.length + (stop - p) then .inr (.inl 4) else .inl (t, stop, U, C, out ++ sgF f p (stop - p), seen))
      else if j < g then mTag Tm D f T t j U C out seen
      else match U with
        | [] => .inr (.inr (out, seen))
        | .inl (t', g') :: U' => (match Tm t' with
          | some (_, _, _, T') => .inl (t', (T'.1 g').2.2.2.1, U', C, out, seen)
          | none => .inr (.inl 0))
        | .inr _ :: _ => .inr (.inl 0)
def mI (Tm : Nat → Option aT) (D : aD) : Nat → aM → aM ⊕ (Nat ⊕ (List Nat × Nat))
  | 0, c => .inl c
  | n + 1, c => match mS Tm D c with
    | .inl c' => mI Tm D n c'
    | .inr r => .inr r
theorem mI_inl {Tm : Nat → Option aT} {D : aD} {n : Nat} {c c' : aM} (h : mS Tm D c = .inl c') : mI Tm D (n + 1) c = mI Tm D n c' := by
  show (match mS Tm D c with | .inl c' => mI Tm D n c' | .inr r => .inr r) = _
  rw [h]
theorem mI_inr {Tm : Nat → Option aT} {D : aD} {n : Nat} {c : aM} {r : Nat ⊕ (List Nat × Nat)} (h : mS Tm D c = .inr r) : mI Tm D (n + 1) c = .inr r := by
  show (match mS Tm D c with | .inl c' => mI Tm D n c' | .inr r => .inr r) = _
  rw [h]
theorem mI_add {Tm : Nat → Option aT} {D : aD} {c' : aM} {r : aM ⊕ (Nat ⊕ (List Nat × Nat))} : ∀ {n m : Nat} {c : aM}, mI Tm D n c = .inl c' → mI Tm D m c' = r → mI Tm D (n + m) c = r
  | 0, m, c, h, q => by
    have h : (Sum.inl c : aM ⊕ (Nat ⊕ (List Nat × Nat))) = .inl c' := h
    cases h
    rw [Nat.zero_add]; exact q
  | n + 1, m, c, h, q => by
    rw [show n + 1 + m = (n + m) + 1 by omega]
    cases hs : mS Tm D c with
    | inl c2 =>
      rw [mI_inl hs] at h ⊢
      exact mI_add h q
    | inr r2 =>
      rw [mI_inr hs] at h
      cases h
/-- from c it comes to c' -/
def mTo (Tm : Nat → Option aT) (D : aD) (c c' : aM) : Prop := ∃ n, mI Tm D n c = .inl c'
/-- from c it ends so -/
def mFn (Tm : Nat → Option aT) (D : aD) (c : aM) (r : Nat ⊕ (List Nat × Nat)) : Prop := ∃ n, mI Tm D n c = .inr r
theorem mTo.refl {Tm : Nat → Option aT} {D : aD} (c : aM) : mTo Tm D c c := ⟨0, rfl⟩
theorem mTo.trans {Tm : Nat → Option aT} {D : aD} {a b c : aM} (h : mTo Tm D a b) (g : mTo Tm D b c) : mTo Tm D a c := by
  obtain ⟨n, h⟩ := h
  obtain ⟨m, g⟩ := g
  exact ⟨n + m, mI_add h g⟩
theorem mTo.fin {Tm : Nat → Option aT} {D : aD} {a b : aM} {r : Nat ⊕ (List Nat × Nat)} (h : mTo Tm D a b) (g : mFn Tm D b r) : mFn Tm D a r := by
  obtain ⟨n, h⟩ := h
  obtain ⟨m, g⟩ := g
  exact ⟨n + m, mI_add h g⟩
theorem mTo.one {Tm : Nat → Option aT} {D : aD} {a b : aM} (h : mS Tm D a = .inl b) : mTo Tm D a b := ⟨1, by rw [mI_inl h]; rfl⟩
theorem mFn.one {Tm : Nat → Option aT} {D : aD} {a : aM} {r : Nat ⊕ (List Nat × Nat)} (h : mS Tm D a = .inr r) : mFn Tm D a r := ⟨1, by rw [mI_inr h]⟩
