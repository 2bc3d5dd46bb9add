/-! PURE 6: operands and expressions taken out of the text; what they come to -/
/-- an operand: a turn (first?); a fixed value; a path -/
abbrev aO : Type := Bool ⊕ (aV ⊕ (Nat × List (List Nat)))
/-- an expression: an operand; or a helper with its operands -/
abbrev aE : Type := aO ⊕ (Nat × aO × Option aO)
/-- n characters from p on -/
def sgF (f : Nat → Nat) : Nat → Nat → List Nat
  | _, 0 => []
  | p, n + 1 => f p :: sgF f (p + 1) n
theorem sgF_len {f : Nat → Nat} : ∀ {n p : Nat}, (sgF f p n).length = n
  | 0, _ => rfl
  | n + 1, p => by simp [sgF, sgF_len (n := n)]
theorem sgF_get {f : Nat → Nat} : ∀ {n p i : Nat}, i < n → (sgF f p n).getD i 0 = f (p + i)
  | 0, _, _, h => absurd h (Nat.not_lt_zero _)
  | n + 1, p, 0, _ => rfl
  | n + 1, p, i + 1, h => by
    show (sgF f (p + 1) n).getD i 0 = _
    rw [sgF_get (by omega), show p + 1 + i = p + (i + 1) by omega]
theorem sgF_snoc {f : Nat → Nat} : ∀ {n p : Nat}, sgF f p (n + 1) = sgF f p n ++ [f (p + n)]
  | 0, p => rfl
  | n + 1, p => by
    show f p :: sgF f (p + 1) (n + 1) = f p :: (sgF f (p + 1) n ++ [f (p + (n + 1))])
    rw [sgF_snoc, show p + 1 + n = p + (n + 1) by omega]
theorem sgF_app {f : Nat → Nat} : ∀ {n m p : Nat}, sgF f p (n + m) = sgF f p n ++ sgF f (p + n) m
  | 0, m, p => by simp [sgF]
  | n + 1, m, p => by
    rw [show n + 1 + m = (n + m) + 1 by omega]
    show f p :: sgF f (p + 1) (n + m) = f p :: (sgF f (p + 1) n ++ sgF f (p + (n + 1)) m)
    rw [sgF_app, show p + 1 + n = p + (n + 1) by omega]
theorem sgF_mem {f : Nat → Nat} {P : Nat → Prop} : ∀ {n p : Nat}, (∀ i, i < n → P (f (p + i))) → ∀ c ∈ sgF f p n, P c
  | 0, _, _, c, hc => nomatch hc
  | n + 1, p, h, c, hc => by
    cases hc with
    | head => exact h 0 (by omega)
    | tail _ hc => exact sgF_mem (n := n) (p := p + 1) (fun i hi => by rw [show p + 1 + i = p + (i + 1) by omega]; exact h (i + 1) (by omega)) c hc
theorem sgF_congr {f f' : Nat → Nat} : ∀ {n p p' : Nat}, (∀ i, i < n → f (p + i) = f' (p' + i)) → sgF f p n = sgF f' p' n
  | 0, _, _, _ => rfl
  | n + 1, p, p', h => by
    show f p :: sgF f (p + 1) n = f' p' :: sgF f' (p' + 1) n
    have h0 := h 0 (by omega)
    rw [Nat.add_zero, Nat.add_zero] at h0
    have h1 : sgF f (p + 1) n = sgF f' (p' + 1) n := sgF_congr (fun i hi => by
      have := h (i + 1) (by omega)
      rw [show p + 1 + i = p + (i + 1) by omega, show p' + 1 + i = p' + (i + 1) by omega]
      exact this)
    rw [h0, h1]
/-- the names behind dots from k on -/
def dnF (f : Nat → Nat) (e : Nat) : Nat → Nat → List (List Nat)
  | 0, _ => []
  | n + 1, k => if cA f e k = 46 then
      (let m := if lts f e (k + 1) = 0 ∧ isD (cA f e (k + 1)) = true then 1 else lts f e (k + 1)
       sgF f (k + 1) m :: dnF f e n (k + 1 + m))
    else []
def dcN (l : List Nat) : Nat := l.foldl (fun v c => v * 10 + (c - 48)) 0
theorem dcN_snoc (l : List Nat) (c : Nat) : dcN (l ++ [c]) = dcN l * 10 + (c - 48) := by
  unfold dcN
  rw [List.foldl_append]
  rfl
/-- the path that stands from p up to e -/
def pathO (f : Nat → Nat) (e p : Nat) : aO :=
  if f p = 64 then .inl (decide (f (p + 1) ≠ 105))
  else if lts f e (upF f e e p) = 4 ∧ stB f e (upF f e e p) [116, 104, 105, 115] = true then .inr (.inr ((upF f e e p - p) / 3, []))
  else .inr (.inr ((upF f e e p - p) / 3, sgF f (upF f e e p) (lts f e (upF f e e p)) :: dnF f e e (upF f e e p + lts f e (upF f e e p))))
/-- the operand that stands from p up to e -/
def opO (f : Nat → Nat) (e p : Nat) : aO :=
  if f p = 34 then .inr (.inl (some (.inr (.inl (sgF f (p + 1) (e - p - 2))))))
  else if isD (f p) then .inr (.inl (some (.inl (nI (dcN (sgF f p (e - p)))))))
  else pathO f e p
/-- the expression that stands from p up to e -/
def exO (f : Nat → Nat) (e p : Nat) : aE :=
  if helpN f e p = 0 then .inl (opO f e p)
  else .inr (helpN f e p, opO f ((operE f e (p + nameS (helpN f e p))).getD 0) (p + nameS (helpN f e p)),
    if helpN f e p < 4 then none else some (opO f e ((operE f e (p + nameS (helpN f e p))).getD 0 + 1)))
/-- element k of item x -/
def elX (D : aD) (x k : Nat) : aV := aVof D ((aPs (D.2 x)).getD k ([], 0)).2
def isLs (y : aX) : Bool := match y with
  | .inr (.inr (false, _)) => true
  | _ => false
def isMp (y : aX) : Bool := match y with
  | .inr (.inr (true, _)) => true
  | _ => false
/-- element k of a value, if that is a list -/
def elV (D : aD) (v : aV) (k : Int32) : aV := match v with
  | some (.inr (.inr x)) => if isLs (D.2 x) = true ∧ 0 ≤ k.toInt ∧ k.toInt < (aPs (D.2 x)).length then elX D x k.toInt.toNat else none
  | _ => none
/-- the place of a name -/
def fnP (n : List Nat) : List (List Nat × Nat) → Option Nat
  | [] => none
  | q :: r => if q.1 = n then some 0 else (fnP n r).map (· + 1)
/-- what is inside by a name or digit -/
def mbV (D : aD) (v : aV) (n : List Nat) : aV := match v with
  | some (.inr (.inr x)) =>
    if isMp (D.2 x) = true then (match fnP n (aPs (D.2 x)) with | some k => elX D x k | none => none)
    else if isD (n.getD 0 0) = true then elV D v (nI (n.getD 0 0 - 48)) else none
  | _ => none
def evO (D : aD) (C : List aV) (tn : Option Nat) : aO → aV
  | .inl b => tn.map (fun k => .inl (nI (if b then (if k = 0 then 1 else 0) else k)))
  | .inr (.inl v) => v
  | .inr (.inr (u, ns)) => ns.foldl (mbV D) (C.getD u none)
def lnV (D : aD) : aV → Nat
  | none => 0
  | some (.inl v) => (decI v).length
  | some (.inr (.inl l)) => l.length
  | some (.inr (.inr x)) => (aPs (D.2 x)).length
def flV (D : aD) : aV → Bool
  | none => true
  | some (.inl v) => v == 0
  | some (.inr (.inl l)) => l.length == 0
  | some (.inr (.inr x)) => isLs (D.2 x) && (aPs (D.2 x)).length == 0
def upc (c : Nat) : Nat := if isL c then c - 32 else c
def shw (D : aD) (v : aV) : List Nat := shV D D.1 v
def adV (x y : aV) : aV := match x, y with
  | some (.inl v), some (.inl w) => some (.inl (v + w))
  | _, _ => none
def atV (D : aD) (x y : aV) : aV := match y with
  | some (.inl k) => elV D x k
  | _ => none
/-- a helper's answer; none: too long -/
def hpV (D : aD) (h : Nat) (x y : aV) : Option aV :=
  if h = 1 then (if (shw D x).length ≤ 400 then some (some (.inr (.inl ((shw D x).map upc)))) else none)
  else if h = 2 then some (some (.inl (nI (lnV D x))))
  else if h = 3 then some (some (.inl (nI (flV D x).toNat)))
  else if h = 4 then some (adV x y)
  else if h = 5 then (if (shw D x).length ≤ 400 ∧ (shw D y).length ≤ 400 then some (some (.inl (nI (decide (shw D x = shw D y)).toNat))) else none)
  else some (atV D x y)
/-- an expression's value; none: too long -/
def evE (D : aD) (C : List aV) (tn : Option Nat) : aE → Option aV
  | .inl o => some (evO D C tn o)
  | .inr (h, a, b) => hpV D h (evO D C tn a) (match b with | some b => evO D C tn b | none => none)
/-- escaped -/
def esc (c : Nat) : List Nat := if c = 38 then [38, 97, 109, 112, 59] else if c = 60 then [38, 108, 116, 59] else if c = 62 then [38, 103, 116, 59] else if c = 34 then [38, 113, 117, 111, 116, 59] else [c]
def escL : List Nat → List Nat
  | [] => []
  | c :: l => esc c ++ escL l
