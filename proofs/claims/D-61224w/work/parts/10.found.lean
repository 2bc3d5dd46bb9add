/-! FOUNDATION: the heap as a pure function, one judgement hG for a frame, one contract hCt for a method -/
set_option maxRecDepth 100000
/-- a cell: kind (kind % 100: the number of its class or array type; kind / 100: a ghost tag, 9: old and read only), fields or (length, contents) -/
abbrev hC : Type := Nat × (List Value ⊕ (Nat × (Nat → Value)))
/-- a heap: its size, slots used since the law's start, its known cells -/
abbrev hP : Type := Nat × Nat × (Nat → Option hC)
/-- launch, the law's start, class numbers, slot numbers, the script's address -/
abbrev hE : Type := Launch × State × (Nat → ClassId) × (Nat → Nat → Nat) × Nat
abbrev hX : Type := Program × Env × State × MethodId × Array Value × List Frame × Method × Code
abbrev hM : Type := ByteArray × MethodName × Nat × Option FieldType × List (Nat × Nat × Nat × Nat)
abbrev hO : Type := Option Value ⊕ String
def hT16 : u_T := fun _ => ("", "", "", false)
def hCl : Nat → Option vw_C := fun k => match k with
  | 1 => some (RX1, TX1, 8)
  | 2 => some (RX2, TX2, 1)
  | 3 => some (RX3, TX3, 48)
  | 5 => some (RX5, TX5, 2)
  | 6 => some (RX6, TX6, 3)
  | 7 => some (RX7, TX7, 3)
  | 8 => some (RX8, TX8, 4)
  | 9 => some (RX9, TX9, 7)
  | 10 => some (RX10, TX10, 1)
  | 11 => some (RX11, TX11, 2)
  | 12 => some (RX12, TX12, 1)
  | 13 => some (RX13, TX13, 1)
  | 14 => some (RX14, TX14, 2)
  | 15 => some (RX15, TX15, 3)
  | 16 => some (RX16, hT16, 0)
  | 17 => some (RX17, TX17, 4)
  | 18 => some (RX18, TX18, 1)
  | 19 => some (RX19, TX19, 4)
  | 20 => some (RX20, TX20, 5)
  | 21 => some (RX21, TX21, 3)
  | 30 => some (RJ9, TJ9, 4)
  | 31 => some (RJ8, TJ8, 4)
  | 32 => some (RJ2, TJ2, 3)
  | 41 => some (RJ6, TJ6, 0)
  | 42 => some (RJ17, TJ17, 0)
  | 43 => some (RJ18, TJ18, 0)
  | 44 => some (RJ21, TJ21, 0)
  | 45 => some (RJ24, TJ24, 0)
  | _ => none
def hTy : Nat → Option FieldType := fun k => match k with
  | 60 => some .byte
  | 61 => some .boolean
  | 62 => some .char
  | 63 => some .int
  | 64 => some .long
  | 65 => some (.object "java/lang/Object")
  | 66 => some (.object "TemplateEngine$Part")
  | 67 => some (.array (.object "TemplateEngine$Part"))
  | 68 => some (.object "TemplateEngine$Data")
  | 69 => some (.object "java/lang/String")
  | 70 => some (.object "TemplateEngine$NumberData")
  | _ => none
theorem hIn : ∀ k r, hCl k = some r → ∀ w ∈ u_ws r.1 r.2.1 r.2.2, w ∈ lw_all := by
  intro k r h
  unfold hCl at h
  split at h
  · cases h; exact in_X1
  · cases h; exact in_X2
  · cases h; exact in_X3
  · cases h; exact in_X5
  · cases h; exact in_X6
  · cases h; exact in_X7
  · cases h; exact in_X8
  · cases h; exact in_X9
  · cases h; exact in_X10
  · cases h; exact in_X11
  · cases h; exact in_X12
  · cases h; exact in_X13
  · cases h; exact in_X14
  · cases h; exact in_X15
  · cases h; exact fun w hw => nomatch hw
  · cases h; exact in_X17
  · cases h; exact in_X18
  · cases h; exact in_X19
  · cases h; exact in_X20
  · cases h; exact in_X21
  · cases h; exact in_J9
  · cases h; exact in_J8
  · cases h; exact in_J2
  · cases h; exact fun w hw => nomatch hw
  · cases h; exact fun w hw => nomatch hw
  · cases h; exact fun w hw => nomatch hw
  · cases h; exact fun w hw => nomatch hw
  · cases h; exact fun w hw => nomatch hw
  · cases h
theorem hNm : ∀ k r, hCl k = some r → ∀ a, a < r.2.2 → ∀ b, b < r.2.2 → a ≠ b → (r.2.1 a).2.1 ≠ (r.2.1 b).2.1 := by
  intro k r h
  unfold hCl at h
  split at h
  · cases h; exact nmX1
  · cases h; exact nmX2
  · cases h; exact nmX3
  · cases h; exact nmX5
  · cases h; exact nmX6
  · cases h; exact nmX7
  · cases h; exact nmX8
  · cases h; exact nmX9
  · cases h; exact nmX10
  · cases h; exact nmX11
  · cases h; exact nmX12
  · cases h; exact nmX13
  · cases h; exact nmX14
  · cases h; exact nmX15
  · cases h; exact fun a ha => absurd ha (Nat.not_lt_zero a)
  · cases h; exact nmX17
  · cases h; exact nmX18
  · cases h; exact nmX19
  · cases h; exact nmX20
  · cases h; exact nmX21
  · cases h; exact nmJ9
  · cases h; exact nmJ8
  · cases h; exact nmJ2
  · cases h; exact fun a ha => absurd ha (Nat.not_lt_zero a)
  · cases h; exact fun a ha => absurd ha (Nat.not_lt_zero a)
  · cases h; exact fun a ha => absurd ha (Nat.not_lt_zero a)
  · cases h; exact fun a ha => absurd ha (Nat.not_lt_zero a)
  · cases h; exact fun a ha => absurd ha (Nat.not_lt_zero a)
  · cases h
def hFt (r : vw_C) (k : Nat) : FieldType := (parseFieldDescriptor (r.2.1 k).2.2.1).getD .int
theorem hFt_ok : ∀ k r, hCl k = some r → ∀ a, a < r.2.2 → parseFieldDescriptor (r.2.1 a).2.2.1 = some (hFt r a) := by
  intro k r h a ha
  have key : (parseFieldDescriptor (r.2.1 a).2.2.1).isSome = true := by
    unfold hCl at h
    have tt : ∀ {T : u_T} {n : Nat} {ty : Nat → FieldType}, (∀ k, k < n → parseFieldDescriptor (T k).2.2.1 = some (ty k)) → a < n → (parseFieldDescriptor (T a).2.2.1).isSome = true := fun q hq => by rw [q a hq]; rfl
    split at h
    · cases h; exact tt tyX1_ok ha
    · cases h; exact tt tyX2_ok ha
    · cases h; exact tt tyX3_ok ha
    · cases h; exact tt tyX5_ok ha
    · cases h; exact tt tyX6_ok ha
    · cases h; exact tt tyX7_ok ha
    · cases h; exact tt tyX8_ok ha
    · cases h; exact tt tyX9_ok ha
    · cases h; exact tt tyX10_ok ha
    · cases h; exact tt tyX11_ok ha
    · cases h; exact tt tyX12_ok ha
    · cases h; exact tt tyX13_ok ha
    · cases h; exact tt tyX14_ok ha
    · cases h; exact tt tyX15_ok ha
    · cases h; exact absurd ha (Nat.not_lt_zero a)
    · cases h; exact tt tyX17_ok ha
    · cases h; exact tt tyX18_ok ha
    · cases h; exact tt tyX19_ok ha
    · cases h; exact tt tyX20_ok ha
    · cases h; exact tt tyX21_ok ha
    · cases h; exact tt tyJ9_ok ha
    · cases h; exact tt tyJ8_ok ha
    · cases h; exact tt tyJ2_ok ha
    · cases h; exact absurd ha (Nat.not_lt_zero a)
    · cases h; exact absurd ha (Nat.not_lt_zero a)
    · cases h; exact absurd ha (Nat.not_lt_zero a)
    · cases h; exact absurd ha (Nat.not_lt_zero a)
    · cases h; exact absurd ha (Nat.not_lt_zero a)
    · cases h
  unfold hFt
  cases hp : parseFieldDescriptor (r.2.1 a).2.2.1 with
  | none => rw [hp] at key; cases key
  | some x => rfl
/-- what the tables say of an array's class -/
def hArr (U : State) (cA : ClassId) (ty : FieldType) : Prop := U.vm.findClass ("[" ++ ty.toString) = some cA ∧ ∃ (kA : Class) (comp : ClassId), U.vm.classes[cA]? = some kA ∧ kA.kind = .array comp ty ∧ (∀ C, ty = .object C → C ≠ "TemplateEngine$NumberData" → U.vm.findClass C = some comp) ∧ (∀ t, ty = .array t → U.vm.findClass (FieldType.array t).toString = some comp)
theorem hArr.moved {u U : State} (hvm : u.vm.Alike U.vm) {cA : ClassId} {ty : FieldType} (h : hArr u cA ty) : hArr U cA ty := by
  obtain ⟨h0, kA, comp, h1, h2, h3, h4⟩ := h
  obtain ⟨k', hk', he⟩ := hvm.2.2 _ _ h1
  exact ⟨by rw [hvm.findClass]; exact h0, k', comp, hk', by rw [he]; exact h2, fun C e ne => by rw [hvm.findClass]; exact h3 C e ne, fun t e => by rw [hvm.findClass]; exact h4 t e⟩
/-- the machine's cell is the pure cell c -/
def hAt (Z : hE) (c : hC) (cell : Cell) : Prop :=
  (c.1 < 900 → cell.vm = .none) ∧ cell.vm ≠ .unknown ∧ cell.vm.isStatics = false ∧ match c.2 with
  | .inl fs => ∃ r : vw_C, hCl (c.1 % 100) = some r ∧ cell.cls = Z.2.2.1 (c.1 % 100) ∧ fs.length = r.2.2 ∧ ∀ k v, fs[k]? = some v → cell.slots[Z.2.2.2.1 (c.1 % 100) k]? = some v
  | .inr nf => ∃ ty, hTy (c.1 % 100) = some ty ∧ hArr Z.2.1 cell.cls ty ∧ cell.slots.size = nf.1 ∧ nf.1 < 2 ^ 31 ∧ ∀ j, j < nf.1 → cell.slots[j]? = some (nf.2 j) ∧ fits ty (nf.2 j) = true
def hSum (H : Heap) : Nat := (H.toList.map (fun c => c.slots.size)).sum
/-- a cell of the law's start, read off the machine's -/
noncomputable def hRead (Z : hE) (cell : Cell) : hC :=
  if cell.cls = Z.2.2.1 30 then (930, .inl ((List.range 4).map fun k => cell.slots.getD (Z.2.2.2.1 30 k) .null))
  else if cell.cls = Z.2.2.1 5 then (905, .inl ((List.range 2).map fun k => cell.slots.getD (Z.2.2.2.1 5 k) .null))
  else if Z.2.1.vm.findClass "[B" = some cell.cls then (960, .inr (cell.slots.size, fun j => cell.slots.getD j .null))
  else if Z.2.1.vm.findClass "[I" = some cell.cls then (963, .inr (cell.slots.size, fun j => cell.slots.getD j .null))
  else if Z.2.1.vm.findClass "[Ljava/lang/Object;" = some cell.cls then (965, .inr (cell.slots.size, fun j => cell.slots.getD j .null))
  else if Z.2.1.vm.findClass "[LTemplateEngine$NumberData;" = some cell.cls then (970, .inr (cell.slots.size, fun j => cell.slots.getD j .null))
  else (999, .inl [])
/-- what is known of the law's start's heap: it stays so -/
noncomputable def hOld (Z : hE) (a : Nat) : Option hC := match Z.2.1.heap[a]? with
  | none => none
  | some c0 => @ite _ (hAt Z (hRead Z c0) c0) (Classical.propDecidable _) (some (hRead Z c0)) none
theorem hRead_old (Z : hE) (cell : Cell) : 900 ≤ (hRead Z cell).1 := by
  unfold hRead
  split
  · exact Nat.le_of_ble_eq_true rfl
  · split
    · exact Nat.le_of_ble_eq_true rfl
    · split
      · exact Nat.le_of_ble_eq_true rfl
      · split
        · exact Nat.le_of_ble_eq_true rfl
        · split
          · exact Nat.le_of_ble_eq_true rfl
          · split
            · exact Nat.le_of_ble_eq_true rfl
            · exact Nat.le_of_ble_eq_true rfl
theorem hOld_spec {Z : hE} {a : Nat} {c : hC} (h : hOld Z a = some c) : a < Z.2.1.heap.size ∧ 900 ≤ c.1 ∧ ∃ cell, Z.2.1.heap[a]? = some cell ∧ c = hRead Z cell ∧ hAt Z c cell := by
  unfold hOld at h
  cases hc : Z.2.1.heap[a]? with
  | none => rw [hc] at h; cases h
  | some c0 =>
    rw [hc] at h
    have h : (@ite _ (hAt Z (hRead Z c0) c0) (Classical.propDecidable _) (some (hRead Z c0)) none) = some c := h
    split at h
    · rename_i hq
      cases h
      exact ⟨(Array.getElem?_eq_some_iff.mp hc).1, hRead_old Z c0, c0, rfl, rfl, hq⟩
    · cases h
theorem hOld_of {Z : hE} {a : Nat} {cell : Cell} (hc : Z.2.1.heap[a]? = some cell) (h : hAt Z (hRead Z cell) cell) : hOld Z a = some (hRead Z cell) := by
  unfold hOld
  rw [hc]
  show (@ite _ (hAt Z (hRead Z cell) cell) (Classical.propDecidable _) (some (hRead Z cell)) none) = _
  rw [if_pos h]
def hLC (Z : hE) : Nat := Z.2.1.heap.size + 603072
def hLS : Nat := 7166058
/-- the machine's heap H is the pure heap h; what was there at the law's start is as it was -/
def hR (Z : hE) (h : hP) (H : Heap) : Prop :=
  H.size = h.1 ∧ Z.2.1.heap.size ≤ h.1 ∧ (∀ q, q < Z.2.1.heap.size → H[q]? = Z.2.1.heap[q]?) ∧ (∀ a c, h.2.2 a = some c → (900 ≤ c.1 ∨ Z.2.1.heap.size ≤ a) ∧ ∃ cell, H[a]? = some cell ∧ hAt Z c cell) ∧ h.1 ≤ hLC Z ∧ h.2.1 ≤ hLS ∧ ∀ a c, hOld Z a = some c → h.2.2 a = some c
/-- since hin only kinds of S have changed -/
def hFr (S : Nat → Prop) (hin h : hP) : Prop :=
  hin.1 ≤ h.1 ∧ hin.2.1 ≤ h.2.1 ∧ ∀ a c, hin.2.2 a = some c → (¬ S c.1 → h.2.2 a = some c) ∧ ∃ c', h.2.2 a = some c' ∧ c'.1 = c.1
def hRm (Z : hE) (d : Nat) (h : hP) : Room := { frames := d, cells := hLC Z - h.1, slots := hLS - h.2.1, locals := 46 * d + 192 }
def hEnv (Z : hE) : Prop :=
  (∀ w ∈ lw_tbl, w.before #[Value.ref Z.2.2.2.2] Z.2.1 = true) ∧ (∀ k r, hCl k = some r → u_Kn Z.2.1 r.1 r.2.1 r.2.2 (Z.2.2.1 k) (Z.2.2.2.1 k)) ∧ (Jvm.Cond.and given_1 narrow_1).before #[Value.ref Z.2.2.2.2] Z.2.1 = true ∧ Z.1.stackTraces = false
def hQc (Z : hE) (S : Nat → Prop) (hin : hP) (K : hO → hP → Prop) : Array Value → State → Outcome → State → Prop := fun _ st o t =>
  ∃ (v : Option Value) (h' : hP), o = .returned v ∧ hR Z h' t.heap ∧ hSum t.heap + hin.2.1 ≤ h'.2.1 + hSum st.heap ∧ hFr S hin h' ∧ K (.inl v) h'
def hXC (Z : hE) (S : Nat → Prop) (hin : hP) (K : hO → hP → Prop) : String → State → State → Prop := fun E st t =>
  ∃ h' : hP, hR Z h' t.heap ∧ hSum t.heap + hin.2.1 ≤ h'.2.1 + hSum st.heap ∧ hFr S hin h' ∧ K (.inr E) h'
def hPc (Z : hE) (av : List Value) (h : hP) : Array Value → State → Prop := va_Pc av (fun U => hR Z h U.heap ∧ Z.2.1.WarmedH U.vm)
/-- the words of the contract of M -/
def hWs (M : hM) : List Cond := match M.2.2.2.2 with
  | [] => ws_ M.2.1 M.1 M.2.2.1 M.2.2.2.1
  | xt => wsW_ M.2.1 M.1 M.2.2.1 M.2.2.2.1 xt
/-- the contract of M: called with av at the heap h, depth d left, it comes to K, and changes kinds of S alone -/
def hCt (Z : hE) (M : hM) (d : Nat) (S : Nat → Prop) (av : List Value) (h : hP) (K : hO → hP → Prop) : Prop :=
  hEnv Z → vx_Met Z.1 M.2.1 (hWs M) (hRm Z d h) (hPc Z av h) (hQc Z S h K) (hXC Z S h K) (hLC Z - h.1) (hLS - h.2.1) (fun q => Z.2.1.heap.size ≤ q)
def hOK (Z : hE) (X : hX) (M : hM) (d : Nat) (hin : hP) : Prop :=
  hEnv Z ∧ X.1.tables.exec = Jvm.exec ∧ X.2.2.2.2.2.2.2.code = M.1 ∧ X.2.2.2.2.2.2.2.maxLocals = M.2.2.1 ∧ X.2.2.1.vm.findClass M.2.1.cls = some X.2.2.2.1.cls ∧ Z.2.1.WarmedH X.2.2.1.vm ∧ hR Z hin X.2.2.1.heap ∧ X.2.2.2.2.2.2.1.locks = false ∧ X.2.2.2.2.2.2.1.sig.returnType = M.2.2.2.1 ∧ X.2.2.2.2.2.2.2.exceptionTable.toList = tableOf M.2.2.2.2 ∧ X.2.2.2.2.2.2.1.name = M.2.1.name
abbrev hWx (Z : hE) (X : hX) (d : Nat) (S : Nat → Prop) (hin : hP) (K : hO → hP → Prop) (H : Heap) (locs : List Loc) (c n : Nat) (g : JFrame) : Prop :=
  W X.1 Z.1 X.2.1 (hRm Z d hin) X.2.2.1 X.2.2.2.1 X.2.2.2.2.1 X.2.2.2.2.2.1 X.2.2.2.2.2.2.1 X.2.2.2.2.2.2.2 H locs c n (vx_MQ X.2.2.2.2.2.1 (hQc Z S hin K) (hXC Z S hin K) X.2.2.2.2.1 X.2.2.1 (hLC Z - hin.1) (hLS - hin.2.1) (fun q => Z.2.1.heap.size ≤ q)) g
/-- the frame of M at pc with locals ls, stack st, heap h comes to K -/
def hG (Z : hE) (X : hX) (M : hM) (d : Nat) (S : Nat → Prop) (hin : hP) (K : hO → hP → Prop) (pc : Nat) (ls : List (Nat × Value)) (st : List Value) (h : hP) : Prop :=
  hOK Z X M d hin → hFr S hin h → ∀ (H : Heap) (locs : List Loc) (la : Array Slot), hR Z h H → hSum H + hin.2.1 ≤ h.2.1 + hSum X.2.2.1.heap → hSum X.2.2.1.heap ≤ hSum H → (∀ q ∈ locs, Z.2.1.heap.size ≤ q.base) → lv_has la M.2.2.1 ls →
    hWx Z X d S hin K H locs (H.size - X.2.2.1.heap.size) (hSum H - hSum X.2.2.1.heap) (F0 X.2.2.2.1 pc la st)
/-- an exception of class E is thrown at pc -/
def hGX (Z : hE) (X : hX) (M : hM) (d : Nat) (S : Nat → Prop) (hin : hP) (K : hO → hP → Prop) (pc : Nat) (ls : List (Nat × Value)) (E : String) (h : hP) : Prop :=
  hOK Z X M d hin → hFr S hin h → ∀ (H : Heap) (locs : List Loc) (la : Array Slot) (st : List Value) (q : Addr) (ce : Cell), hR Z h H → hSum H + hin.2.1 ≤ h.2.1 + hSum X.2.2.1.heap → hSum X.2.2.1.heap ≤ hSum H → (∀ q ∈ locs, Z.2.1.heap.size ≤ q.base) → lv_has la M.2.2.1 ls →
    H[q]? = some ce → ce.vm = .none → X.2.2.1.vm.findClass E = some ce.cls →
    vx_W X.1 Z.1 X.2.1 (hRm Z d hin) X.2.2.1 X.2.2.2.1 X.2.2.2.2.1 X.2.2.2.2.2.1 X.2.2.2.2.2.2.1 X.2.2.2.2.2.2.2 H locs (H.size - X.2.2.1.heap.size) (hSum H - hSum X.2.2.1.heap) (vx_MQ X.2.2.2.2.2.1 (hQc Z S hin K) (hXC Z S hin K) X.2.2.2.2.1 X.2.2.1 (hLC Z - hin.1) (hLS - hin.2.1) (fun q => Z.2.1.heap.size ≤ q)) (F0 X.2.2.2.1 pc la st) q
/-! sums -/
theorem hSum_push (H : Heap) (c : Cell) : hSum (H.push c) = hSum H + c.slots.size := by
  simp [hSum]
theorem hSum_eq {H H' : Heap} (h : H'.size = H.size) (h2 : ∀ (q : Nat) (c : Cell), H[q]? = some c → ∃ c', H'[q]? = some c' ∧ c'.slots.size = c.slots.size) : hSum H' = hSum H := by
  unfold hSum
  congr 1
  apply List.ext_getElem?
  intro i
  rw [List.getElem?_map, List.getElem?_map, Array.getElem?_toList, Array.getElem?_toList]
  cases hc : H[i]? with
  | none =>
    have h3 : H.size ≤ i := by simpa using hc
    have h4 : H'[i]? = none := by
      simp; omega
    rw [h4]
  | some c =>
    obtain ⟨c', e1, e2⟩ := h2 i c hc
    rw [e1]; simp [e2]
section Tight
variable {p : Program} {l : Launch} {e : Env} {R : Room} {s : State} {m : MethodId} {args : Array Value} {below : List Frame} {meth : Method} {c : Code} {T : State} {locs : List Loc} {cells slots : Nat}
theorem hSum_same {s' : State} (h : s.sameButNew s' locs cells slots) : hSum s'.heap = hSum s.heap + ((s'.heap.toList.drop s.heap.size).map (fun c => c.slots.size)).sum := by
  obtain ⟨-, h2, -, -, -, h6⟩ := h
  have e1 : s'.heap.toList = s'.heap.toList.take s.heap.size ++ s'.heap.toList.drop s.heap.size := (List.take_append_drop _ _).symm
  have e2 : (s'.heap.toList.take s.heap.size).map (fun c => c.slots.size) = s.heap.toList.map (fun c => c.slots.size) := by
    apply List.ext_getElem?
    intro i
    rw [List.getElem?_map, List.getElem?_map, List.getElem?_take, Array.getElem?_toList, Array.getElem?_toList]
    by_cases hi : i < s.heap.size
    · rw [if_pos hi]
      obtain ⟨c', e3, -, e4, -⟩ := h6 i _ (Array.getElem?_eq_getElem hi)
      rw [e3, Array.getElem?_eq_getElem hi]
      simp [e4]
    · rw [if_neg hi]
      have : s.heap[i]? = none := by simp; omega
      rw [this]
  unfold hSum
  rw [e1, List.map_append, List.sum_append, e2]
  simp
theorem hTight (X : Stand p l e R s m args below meth c T locs cells slots) : Stand p l e R s m args below meth c T locs (T.heap.size - s.heap.size) (hSum T.heap - hSum s.heap) ∧ hSum s.heap ≤ hSum T.heap := by
  have hs := hSum_same X.same
  have hs' : hSum T.heap = hSum s.heap + ((T.heap.toList.drop s.heap.size).map (fun c => c.slots.size)).sum := hs
  obtain ⟨h1, h2, h3, h4, h5, h6⟩ := X.same
  refine ⟨{ X with same := ⟨h1, h2, ?_, h4, ?_, h6⟩ }, by omega⟩
  · show T.heap.size ≤ s.heap.size + (T.heap.size - s.heap.size)
    have : s.heap.size ≤ T.heap.size := h2
    omega
  · show ((T.heap.toList.drop s.heap.size).map (fun c => c.slots.size)).sum ≤ _
    omega
end Tight
section Canon
variable {p : Program} {l : Launch} {e : Env} {R : Room} {s : State} {m : MethodId} {args : Array Value} {below : List Frame} {meth : Method} {c : Code} {H : Heap} {locs : List Loc} {cells slots : Nat} {Q : State → Prop}
/-- any count of cells and slots will do -/
theorem hCanon {g : JFrame} (k : hSum s.heap ≤ hSum H → W p l e R s m args below meth c H locs (H.size - s.heap.size) (hSum H - hSum s.heap) Q g) : W p l e R s m args below meth c H locs cells slots Q g := by
  intro T hT X
  have h := hTight X
  rw [hT] at h
  exact k h.2 T hT h.1
theorem hCanonX {g : JFrame} {q : Addr} (k : hSum s.heap ≤ hSum H → vx_W p l e R s m args below meth c H locs (H.size - s.heap.size) (hSum H - hSum s.heap) Q g q) : vx_W p l e R s m args below meth c H locs cells slots Q g q := by
  intro T hT X
  have h := hTight X
  rw [hT] at h
  exact k h.2 T hT h.1
end Canon
/-! words -/
theorem hWord {Z : hE} (hZ : hEnv Z) {U : State} (hW : Z.2.1.WarmedH U.vm) {args : Array Value} {w : Cond} (hw : w ∈ lw_all) : w.before args U = true :=
  word_at hW (good_of_word (List.mem_filter.mp hw).2) (hZ.1 w (lw_all_tbl hw))
theorem hWordT {Z : hE} (hZ : hEnv Z) {U : State} (hW : Z.2.1.WarmedH U.vm) {args : Array Value} {w : Cond} (hw : w ∈ lw_tbl) (ho : w.onTables = true) (hk : w.keepsFace = true) : w.before args U = true := by
  have h1 : w.before #[Value.ref Z.2.2.2.2] (Z.2.1.setVm U.vm) = true := Cond.before_shiftedFace (State.Shifted.of_warmed hW) w hk (hZ.1 w hw)
  exact va_tabs ho (rfl : (Z.2.1.setVm U.vm).vm = U.vm) h1
theorem hKn {Z : hE} (hZ : hEnv Z) {U : State} (hW : Z.2.1.WarmedH U.vm) {k : Nat} {r : vw_C} (h : hCl k = some r) : u_Kn U r.1 r.2.1 r.2.2 (Z.2.2.1 k) (Z.2.2.2.1 k) := u_Kn_moved hW.alike (hZ.2.1 k r h)
/-! the pure heap -/
def hSet (h : hP) (a : Nat) (c : hC) : hP := (h.1, h.2.1, fun q => if q = a then some c else h.2.2 q)
def hNew (h : hP) (c : hC) (n : Nat) : hP := (h.1 + 1, h.2.1 + n, fun q => if q = h.1 then some c else h.2.2 q)
theorem hSet_1 (h : hP) (a : Nat) (c : hC) : (hSet h a c).1 = h.1 := rfl
theorem hSet_2 (h : hP) (a : Nat) (c : hC) : (hSet h a c).2.1 = h.2.1 := rfl
theorem hSet_s (h : hP) (a : Nat) (c : hC) : (hSet h a c).2.2 a = some c := if_pos rfl
theorem hSet_n {h : hP} {a b : Nat} {c : hC} (hn : b ≠ a) : (hSet h a c).2.2 b = h.2.2 b := if_neg hn
theorem hNew_1 (h : hP) (c : hC) (n : Nat) : (hNew h c n).1 = h.1 + 1 := rfl
theorem hNew_2 (h : hP) (c : hC) (n : Nat) : (hNew h c n).2.1 = h.2.1 + n := rfl
theorem hNew_s (h : hP) (c : hC) (n : Nat) : (hNew h c n).2.2 h.1 = some c := if_pos rfl
theorem hNew_n {h : hP} {b : Nat} {c : hC} {n : Nat} (hn : b ≠ h.1) : (hNew h c n).2.2 b = h.2.2 b := if_neg hn
theorem hFr.rf {S : Nat → Prop} (h : hP) : hFr S h h := ⟨Nat.le_refl _, Nat.le_refl _, fun a c e => ⟨fun _ => e, c, e, rfl⟩⟩
theorem hFr.tr {S : Nat → Prop} {h1 h2 h3 : hP} (a : hFr S h1 h2) (b : hFr S h2 h3) : hFr S h1 h3 := by
  refine ⟨Nat.le_trans a.1 b.1, Nat.le_trans a.2.1 b.2.1, fun q c e => ?_⟩
  obtain ⟨f1, c', e', k'⟩ := a.2.2 q c e
  obtain ⟨f2, c'', e'', k''⟩ := b.2.2 q c' e'
  exact ⟨fun hn => (b.2.2 q c (f1 hn)).1 hn, c'', e'', k''.trans k'⟩
theorem hFr.mono {S S' : Nat → Prop} {h1 h2 : hP} (hs : ∀ k, S k → S' k) (a : hFr S h1 h2) : hFr S' h1 h2 :=
  ⟨a.1, a.2.1, fun q c e => ⟨fun hn => (a.2.2 q c e).1 (fun z => hn (hs _ z)), (a.2.2 q c e).2⟩⟩
theorem hFr.set {S : Nat → Prop} {h1 h2 : hP} {a : Nat} {c c0 : hC} (hf : hFr S h1 h2) (h0 : h2.2.2 a = some c0) (hk : c.1 = c0.1) (hs : S c0.1) : hFr S h1 (hSet h2 a c) := by
  refine ⟨hf.1, hf.2.1, fun q c1 e => ?_⟩
  obtain ⟨f1, c', e', k'⟩ := hf.2.2 q c1 e
  by_cases hq : q = a
  · subst hq
    rw [h0] at e'; cases e'
    exact ⟨fun hn => absurd (k' ▸ hs) hn, c, hSet_s _ _ _, hk.trans k'⟩
  · exact ⟨fun hn => by rw [hSet_n hq]; exact f1 hn, c', by rw [hSet_n hq]; exact e', k'⟩
theorem hFr.new {S : Nat → Prop} {h1 h2 : hP} {c : hC} {n : Nat} (hf : hFr S h1 h2) (hw : ∀ a c, h2.2.2 a = some c → a < h2.1) : hFr S h1 (hNew h2 c n) := by
  refine ⟨Nat.le_succ_of_le hf.1, Nat.le_trans hf.2.1 (Nat.le_add_right _ _), fun q c1 e => ?_⟩
  obtain ⟨f1, c', e', k'⟩ := hf.2.2 q c1 e
  have hq : q ≠ h2.1 := Nat.ne_of_lt (hw q c' e')
  exact ⟨fun hn => by rw [hNew_n hq]; exact f1 hn, c', by rw [hNew_n hq]; exact e', k'⟩
theorem hR.wf {Z : hE} {h : hP} {H : Heap} (hr : hR Z h H) : ∀ a c, h.2.2 a = some c → a < h.1 := by
  intro a c e
  obtain ⟨-, cell, hc, -⟩ := hr.2.2.2.1 a c e
  rw [← hr.1]
  exact (Array.getElem?_eq_some_iff.mp hc).1
