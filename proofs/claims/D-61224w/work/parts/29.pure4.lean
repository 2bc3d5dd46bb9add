/-! PURE 4: texts packed, four characters an int; data; what they are shown as -/
theorem or_nI (a b : Nat) : nI a ||| nI b = nI (a ||| b) := by
  apply Int32.toBitVec_inj.mp
  simp [nI, Int32.toBitVec_or]
theorem sh8 (j : Nat) (hj : j < 4) : ((nI (8 * j) &&& 31).toBitVec.smod 32).toNat = 8 * j := by
  rcases (show j = 0 ∨ j = 1 ∨ j = 2 ∨ j = 3 by omega) with q | q | q | q <;> subst q <;> rfl
theorem pk_put (a c j : Nat) (hj : j < 4) (ha : a < 256 ^ j) (hc : c < 128) : nI a ||| (nI c <<< (nI (8 * j) &&& 31)) = nI (a + c * 256 ^ j) := by
  have e : (256 : Nat) ^ j = 2 ^ (8 * j) := by
    rw [Nat.pow_mul]
  have hb : c * 2 ^ (8 * j) < 2 ^ 32 := by
    rcases (show j = 0 ∨ j = 1 ∨ j = 2 ∨ j = 3 by omega) with q | q | q | q <;> subst q <;> simp <;> omega
  rw [pk_shlN _ (8 * j) (sh8 j hj) hb, or_nI]
  congr 1
  rw [e] at ha ⊢
  rw [Nat.mul_comm, Nat.add_comm, Nat.two_pow_add_eq_or_of_lt ha, Nat.or_comm]
theorem pk_let (w j : Nat) (hj : j < 4) (hw : w < 2 ^ 31) : (nI w >>> (nI (8 * j) &&& 31)) &&& nI 255 = nI (w / 256 ^ j % 256) := by
  have e : (256 : Nat) ^ j = 2 ^ (8 * j) := by
    rw [Nat.pow_mul]
  rw [pk_shrN hw _ (8 * j) (sh8 j hj), pk_andN (Nat.lt_of_le_of_lt (Nat.div_le_self _ _) (by omega)) 8 rfl, e]
/-- the character i of the text whose words w holds from a on -/
def ltW (w : Nat → Nat) (a i : Nat) : Nat := w (a + i / 4) / 256 ^ (i % 4) % 256
/-- an item: a number; a text; or (map?, the parts with their names) -/
abbrev aX : Type := Int32 ⊕ (List Nat ⊕ (Bool × List (List Nat × Nat)))
/-- how many; which -/
abbrev aD : Type := Nat × (Nat → aX)
/-- a value: nothing; a number; a text; a list or map -/
abbrev aV : Type := Option (Int32 ⊕ (List Nat ⊕ Nat))
def aPs (x : aX) : List (List Nat × Nat) := match x with
  | .inr (.inr p) => p.2
  | _ => []
def aVof (D : aD) (x : Nat) : aV := match D.2 x with
  | .inl v => some (.inl v)
  | .inr (.inl l) => some (.inr (.inl l))
  | .inr (.inr _) => some (.inr (.inr x))
/-- decimal -/
def decF : Nat → Nat → List Nat
  | 0, _ => []
  | k + 1, n => if n < 10 then [48 + n] else decF k (n / 10) ++ [48 + n % 10]
def decI (v : Int32) : List Nat := if v.toInt < 0 then 45 :: decF 10 v.toInt.natAbs else decF 10 v.toInt.natAbs
/-- with commas between -/
def jn : Bool → List (List Nat) → List Nat
  | _, [] => []
  | true, a :: r => a ++ jn false r
  | false, a :: r => 44 :: a ++ jn false r
def shX (D : aD) : Nat → Nat → List Nat
  | 0, _ => []
  | n + 1, x => match D.2 x with
    | .inl v => decI v
    | .inr (.inl l) => l
    | .inr (.inr (true, _)) => [91, 109, 97, 112, 93]
    | .inr (.inr (false, ps)) => jn true (ps.map (fun q => shX D n q.2))
def hgt (D : aD) : Nat → Nat → Prop
  | 0, _ => False
  | n + 1, x => ∀ q ∈ aPs (D.2 x), hgt D n q.2
theorem hgt_mono {D : aD} : ∀ {n m x : Nat}, n ≤ m → hgt D n x → hgt D m x
  | 0, _, _, _, h => h.elim
  | n + 1, 0, _, h, _ => absurd h (by omega)
  | n + 1, m + 1, x, h, q => fun p hp => hgt_mono (by omega) (q p hp)
theorem shX_fuel {D : aD} : ∀ {n m x : Nat}, hgt D n x → n ≤ m → shX D m x = shX D n x
  | 0, _, _, h, _ => h.elim
  | n + 1, 0, _, _, h => absurd h (by omega)
  | n + 1, m + 1, x, h, q => by
    unfold shX
    unfold hgt at h
    cases hx : D.2 x with
    | inl v => rfl
    | inr y =>
      cases y with
      | inl l => rfl
      | inr p =>
        obtain ⟨b, ps⟩ := p
        cases b with
        | true => rfl
        | false =>
          dsimp only
          congr 1
          apply List.map_congr_left
          intro z hz
          exact shX_fuel (h z (by rw [hx]; exact hz)) (by omega)
/-- what a value is shown as raw -/
def shV (D : aD) (n : Nat) : aV → List Nat
  | none => []
  | some (.inl v) => decI v
  | some (.inr (.inl l)) => l
  | some (.inr (.inr x)) => shX D n x
