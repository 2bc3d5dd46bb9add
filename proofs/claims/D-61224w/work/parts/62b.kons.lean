/-! What stands in the law's first heap: String constants, byte tables, DIGITS -/
set_option maxRecDepth 100000
theorem k_field {args : Array Value} {s : State} {t : Term} {a i : Nat} {o n dd : String} {v : Value} (ht : t.eval args s none [] s = some (.ref a)) (hs : SlotIs s o n dd i) (hv : (Term.field t o n dd).eval args s none [] s = some v) : ∃ cell, s.heap[a]? = some cell ∧ cell.vm ≠ .unknown ∧ cell.vm.isStatics = false ∧ cell.slots[i]? = some v := by
  obtain ⟨cf, kf, fi, fd, h1, h2⟩ := hs
  obtain ⟨-, cell, g1, g2, g3, -, g4⟩ := Term.field_spec h1 ht hv
  exact ⟨cell, g1, g2, g3, by rw [← h2]; exact g4⟩
theorem k_len {args : Array Value} {s : State} {t : Term} {N : Nat} (hN : N < 2147483648) (h : (Term.length t).eval args s none [] s = some (.int (Int32.ofNat N))) : ∃ a cell, t.eval args s none [] s = some (.ref a) ∧ s.arrayAt? a = some cell ∧ cell.slots.size = N := by
  simp only [Term.eval, Option.bind_eq_bind] at h
  cases ht : t.eval args s none [] s with
  | none => simp [ht] at h
  | some x =>
    cases x <;> simp [ht] at h
    case ref a =>
      obtain ⟨cell, hcell, h⟩ := Option.bind_eq_some_iff.mp h
      by_cases hn : cell.slots.size < 2147483648
      · rw [if_pos hn] at h
        refine ⟨a, cell, rfl, hcell, ?_⟩
        have e : cell.slots.size.toInt32 = Int32.ofNat N := Value.int.inj (Option.some.inj h)
        have e1 : (Int32.ofNat cell.slots.size).toNatClampNeg = (Int32.ofNat N).toNatClampNeg := congrArg Int32.toNatClampNeg e
        rw [Int32.toNatClampNeg_ofNat_of_lt hn, Int32.toNatClampNeg_ofNat_of_lt hN] at e1
        exact e1
      · rw [if_neg hn] at h; cases h
/-- an array of the first heap -/
theorem k_arr {Z : hE} {t : Term} {N κ : Nat} {ty : FieldType} {f : Nat → Value} (hty : hTy (κ % 100) = some ty) (hκ : 900 ≤ κ) (hN : N < 2147483648) (w3 : (Cond.arrayOf t ty).before #[Value.ref Z.2.2.2.2] Z.2.1 = true) (w4 : (Cond.exactly t ("[" ++ ty.toString)).before #[Value.ref Z.2.2.2.2] Z.2.1 = true) (hc : ∀ (cell : Cell) (comp : ClassId) (kA : Class), Z.2.1.vm.findClass ("[" ++ ty.toString) = some cell.cls → Z.2.1.vm.classes[cell.cls]? = some kA → kA.kind = .array comp ty → (∀ C, ty = .object C → C ≠ "TemplateEngine$NumberData" → Z.2.1.vm.findClass C = some comp) ∧ ∀ u, ty ≠ .array u) (hr : ∀ cell : Cell, Z.2.1.vm.findClass ("[" ++ ty.toString) = some cell.cls → (∃ comp kA, Z.2.1.vm.classes[cell.cls]? = some kA ∧ kA.kind = .array comp ty) → hRead Z cell = (κ, .inr (cell.slots.size, fun j => cell.slots.getD j .null)))
    (w5 : (Term.length t).eval #[Value.ref Z.2.2.2.2] Z.2.1 none [] Z.2.1 = some (.int (Int32.ofNat N))) (w6 : ∀ j, j < N → (Term.elem t (.int (Int32.ofNat j))).eval #[Value.ref Z.2.2.2.2] Z.2.1 none [] Z.2.1 = some (f j)) (hf : ∀ j, j < N → fits ty (f j) = true) : ∃ b g, t.eval #[Value.ref Z.2.2.2.2] Z.2.1 none [] Z.2.1 = some (.ref b) ∧ hOld Z b = some (κ, .inr (N, g)) ∧ ∀ j, j < N → g j = f j := by
  obtain ⟨b, cell, e1, e2, e3⟩ := k_len hN w5
  obtain ⟨hcell, hkn, hst, -⟩ := State.arrayAt?_spec e2
  obtain ⟨⟨-, kA, hkA, comp, hkind⟩, -⟩ := Cond.arrayOf_spec w3 e1 hcell
  obtain ⟨a', c', cell', k', q1, q2, q3, q4, q5, q6, -⟩ := Cond.exactly_spec (args := #[Value.ref Z.2.2.2.2]) (first := Z.2.1) (o := none) (s := Z.2.1) (idx := []) w4
  have ea : a' = b := Value.ref.inj (Option.some.inj (q1.symm.trans e1))
  subst ea
  have ec : cell' = cell := Option.some.inj (q3.symm.trans hcell)
  subst ec
  rw [← q6] at q2
  have key : ∀ j, j < N → cell'.slots[j]? = some (f j) := by
    intro j hj
    obtain ⟨a, i, cell2, h1, h2, h3, h4, h5⟩ := Term.elem_spec (w6 j hj)
    cases e1.symm.trans h1
    cases e2.symm.trans h3
    have hi : i = Int32.ofNat j := by
      have e : (Term.int (Int32.ofNat j)).eval #[Value.ref Z.2.2.2.2] Z.2.1 none [] Z.2.1 = some (.int (Int32.ofNat j)) := rfl
      cases h2.symm.trans e
      rfl
    have hc : i.toNatClampNeg = j := by rw [hi]; exact Int32.toNatClampNeg_ofNat_of_lt (Nat.lt_trans hj hN)
    rw [hc] at h5
    exact h5
  have hrd := hr cell' q2 ⟨comp, kA, hkA, hkind⟩
  have gg : ∀ j, j < N → cell'.slots.getD j .null = f j := fun j hj => by rw [Array.getD_eq_getD_getElem?, key j hj]; rfl
  have hat : hAt Z (hRead Z cell') cell' := by
    rw [hrd]
    refine ⟨fun z => absurd z (Nat.not_lt.mpr hκ), hkn, q5, ty, hty, ⟨q2, kA, comp, hkA, hkind, (hc cell' comp kA q2 hkA hkind).1, fun u e => absurd e ((hc cell' comp kA q2 hkA hkind).2 u)⟩, rfl, by show cell'.slots.size < _; rw [e3]; exact hN, fun j hj => ?_⟩
    have hj : j < N := by rw [← e3]; exact hj
    show cell'.slots[j]? = some (cell'.slots.getD j .null) ∧ fits ty (cell'.slots.getD j .null) = true
    rw [gg j hj]
    exact ⟨key j hj, hf j hj⟩
  refine ⟨a', fun j => cell'.slots.getD j .null, e1, ?_, gg⟩
  rw [hOld_of hcell hat, hrd, e3]
theorem fitB {c : Nat} (h : c < 128) : fits .byte (.int (nI c)) = true := by
  have : ∀ c, c < 128 → fits .byte (.int (nI c)) = true := by decide +kernel
  exact this c h
/-- the leaves that speak of a String constant, in their order -/
def kLv (own : String) (k : Nat) (l : List Nat) (hs hz : Int32) : List Cond :=
  [.exactly (.string own k) "java/lang/String", .eq (.field (.string own k) "java/lang/String" "coder" "B") (.int 0), .arrayOf (.field (.string own k) "java/lang/String" "value" "[B") .byte, .eq (.length (.field (.string own k) "java/lang/String" "value" "[B")) (.int (Int32.ofNat l.length))]
  ++ (List.range l.length).map (fun j => Cond.eq (.elem (.field (.string own k) "java/lang/String" "value" "[B") (.int (Int32.ofNat j))) (.int (nI (l.getD j 0))))
  ++ [.eq (.field (.string own k) "java/lang/String" "hash" "I") (.int hs), .eq (.field (.string own k) "java/lang/String" "hashIsZero" "Z") (.int hz)]
def hKon (own : String) (k : Nat) (tx : String) (l : List Nat) : Prop := hStrK own k tx ∧ ∀ Z, hEnv Z → ∀ h : hP, (∀ a c, hOld Z a = some c → h.2.2 a = some c) → jSt h 930 (hStrA own k Z) l
theorem hRead_str {Z : hE} {cell : Cell} (h : cell.cls = Z.2.2.1 30) : hRead Z cell = (930, .inl ((List.range 4).map fun k => cell.slots.getD (Z.2.2.2.1 30 k) .null)) := by
  unfold hRead
  rw [if_pos h]
theorem k_ord {Z : hE} {cell : Cell} {comp : ClassId} {ty : FieldType} {kA : Class} {n : Nat} {r : vw_C} (hZ : hEnv Z) (hk : Z.2.1.vm.classes[cell.cls]? = some kA) (hkd : kA.kind = .array comp ty) (hr : hCl n = some r) : cell.cls ≠ Z.2.2.1 n := by
  intro e
  obtain ⟨-, -, kC, g1, g2⟩ := hZ.2.1 n r hr
  rw [e] at hk
  rw [hk] at g1
  cases g1
  rw [hkd] at g2
  cases g2
theorem hRead_byte {Z : hE} (hZ : hEnv Z) (cell : Cell) (h : Z.2.1.vm.findClass ("[" ++ FieldType.byte.toString) = some cell.cls) (hk : ∃ comp kA, Z.2.1.vm.classes[cell.cls]? = some kA ∧ kA.kind = .array comp .byte) : hRead Z cell = (960, .inr (cell.slots.size, fun j => cell.slots.getD j .null)) := by
  obtain ⟨comp, kA, g1, g2⟩ := hk
  unfold hRead
  rw [if_neg (k_ord (n := 30) hZ g1 g2 rfl), if_neg (k_ord (n := 5) hZ g1 g2 rfl), if_pos (show Z.2.1.vm.findClass "[B" = some cell.cls from h)]
theorem hAt_obj {Z : hE} {κ m : Nat} {fs : List Value} {cell : Cell} {r : vw_C} (hκ : 900 ≤ κ) (hm : κ % 100 = m) (h2 : cell.vm ≠ .unknown) (h3 : cell.vm.isStatics = false) (hr : hCl m = some r) (hc : cell.cls = Z.2.2.1 m) (hn : fs.length = r.2.2) (hf : ∀ k v, fs[k]? = some v → cell.slots[Z.2.2.2.1 m k]? = some v) : hAt Z (κ, .inl fs) cell := by
  subst hm
  exact ⟨fun z => absurd z (Nat.not_lt.mpr hκ), h2, h3, r, hr, hc, hn, hf⟩
theorem hKon.of {own : String} {k : Nat} {tx : String} (l : List Nat) (hs hz : Int32) (i : Nat) (hq : Cond.stringRef own k tx ∈ lw_tbl) (hl : l.all (· < 128) = true ∧ l.length < 1000) (hh : hs = hsh l ∧ (hs = 0 → hz = nI 1)) (hp : (kLv own k l hs hz).isPrefixOf ((flatC (Jvm.Cond.and given_1 narrow_1)).drop i) = true) (h4 : Cond.exactly (.field (.string own k) "java/lang/String" "value" "[B") "[B" ∈ flatC (Jvm.Cond.and given_1 narrow_1)) : hKon own k tx l := by
  have hm : ∀ w ∈ kLv own k l hs hz, hLeaf w := fun w hw => hLeafOf (List.mem_of_mem_drop ((List.isPrefixOf_iff_prefix.mp hp).subset hw))
  have w1 := hm (.exactly (.string own k) "java/lang/String") (List.mem_append_left _ (List.mem_append_left _ List.mem_cons_self))
  have w2 := hm (.eq (.field (.string own k) "java/lang/String" "coder" "B") (.int 0)) (List.mem_append_left _ (List.mem_append_left _ (List.mem_cons_of_mem _ List.mem_cons_self)))
  have w3 := hm (.arrayOf (.field (.string own k) "java/lang/String" "value" "[B") .byte) (List.mem_append_left _ (List.mem_append_left _ (List.mem_cons_of_mem _ (List.mem_cons_of_mem _ List.mem_cons_self))))
  have w5 := hm (.eq (.length (.field (.string own k) "java/lang/String" "value" "[B")) (.int (Int32.ofNat l.length))) (List.mem_append_left _ (List.mem_append_left _ (List.mem_cons_of_mem _ (List.mem_cons_of_mem _ (List.mem_cons_of_mem _ List.mem_cons_self)))))
  have w6 : ∀ j, j < l.length → hLeaf (Cond.eq (.elem (.field (.string own k) "java/lang/String" "value" "[B") (.int (Int32.ofNat j))) (.int (nI (l.getD j 0)))) := fun j hj => hm _ (List.mem_append_left _ (List.mem_append_right _ (List.mem_map.mpr ⟨j, List.mem_range.mpr hj, rfl⟩)))
  have w7 := hm (.eq (.field (.string own k) "java/lang/String" "hash" "I") (.int hs)) (List.mem_append_right _ List.mem_cons_self)
  have w8 := hm (.eq (.field (.string own k) "java/lang/String" "hashIsZero" "Z") (.int hz)) (List.mem_append_right _ (List.mem_cons_of_mem _ List.mem_cons_self))
  have w4 := hLeafOf h4
  have hlc : ∀ c ∈ l, c < 128 := fun c hc => by simpa using List.all_eq_true.mp hl.1 c hc
  have ev : ∀ Z, hEnv Z → (Term.string own k).eval #[Value.ref Z.2.2.2.2] Z.2.1 none [] Z.2.1 = some (.ref (hStrA own k Z)) := by
    intro Z hZ
    obtain ⟨a, c, cell, kk, q1, -⟩ := Cond.exactly_spec (args := #[Value.ref Z.2.2.2.2]) (first := Z.2.1) (o := none) (s := Z.2.1) (idx := []) (w1 Z hZ)
    unfold hStrA
    rw [q1]
  refine ⟨fun Z hZ => vk_R.of (A := #[Value.ref Z.2.2.2.2]) (hZ.1 _ hq) (ev Z hZ), fun Z hZ h ho => ?_⟩
  obtain ⟨a, c, cell, kk, q1, q2, q3, -, q5, q6, -⟩ := Cond.exactly_spec (args := #[Value.ref Z.2.2.2.2]) (first := Z.2.1) (o := none) (s := Z.2.1) (idx := []) (w1 Z hZ)
  have ea : hStrA own k Z = a := Value.ref.inj (Option.some.inj ((ev Z hZ).symm.trans q1))
  obtain ⟨b, g, b1, b2, b3⟩ := k_arr (κ := 960) (f := fun j => .int (nI (l.getD j 0))) rfl (Nat.le_of_ble_eq_true rfl) (by omega) (w3 Z hZ) (w4 Z hZ) (fun _ _ _ _ _ _ => ⟨fun C e => (by cases e), fun u e => (by cases e)⟩) (hRead_byte hZ) (va_eqt (w5 Z hZ)) (fun j hj => va_eqt (w6 j hj Z hZ)) (fun j hj => by
    have := hlc _ (getD_mem (d := 0) hj)
    exact fitB this)
  obtain ⟨u1, uC⟩ := hZ.2.1 30 (RJ9, TJ9, 4) rfl
  have hcl : cell.cls = Z.2.2.1 30 := by rw [q6]; exact Option.some.inj (q2.symm.trans uC.1)
  obtain ⟨c0, x1, x2, x3, x4⟩ := k_field q1 (u1 0 (Nat.le_of_ble_eq_true rfl)) b1
  obtain ⟨c1, y1, -, -, y4⟩ := k_field q1 (u1 1 (Nat.le_of_ble_eq_true rfl)) (va_eqt (w2 Z hZ))
  obtain ⟨c2, z1, -, -, z4⟩ := k_field q1 (u1 2 (Nat.le_of_ble_eq_true rfl)) (va_eqt (w7 Z hZ))
  obtain ⟨c3, v1, -, -, v4⟩ := k_field q1 (u1 3 (Nat.le_of_ble_eq_true rfl)) (va_eqt (w8 Z hZ))
  cases Option.some.inj (x1.symm.trans q3)
  cases Option.some.inj (y1.symm.trans q3)
  cases Option.some.inj (z1.symm.trans q3)
  cases Option.some.inj (v1.symm.trans q3)
  have gd : ∀ {i : Nat} {v : Value}, cell.slots[i]? = some v → cell.slots.getD i .null = v := fun e => by rw [Array.getD_eq_getD_getElem?, e]; rfl
  have hrd : hRead Z cell = (930, .inl [.ref b, .int 0, .int hs, .int hz]) := by
    rw [hRead_str hcl]
    show (930, Sum.inl [cell.slots.getD (Z.2.2.2.1 30 0) .null, cell.slots.getD (Z.2.2.2.1 30 1) .null, cell.slots.getD (Z.2.2.2.1 30 2) .null, cell.slots.getD (Z.2.2.2.1 30 3) .null]) = _
    rw [gd x4, gd y4, gd z4, gd v4]
  have hat : hAt Z (hRead Z cell) cell := by
    rw [hrd]
    refine hAt_obj (m := 30) (r := (RJ9, TJ9, 4)) (by decide) (by decide) x2 x3 rfl hcl rfl (fun k v e => ?_)
    match k, e with
    | 0, e => cases e; exact x4
    | 1, e => cases e; exact y4
    | 2, e => cases e; exact z4
    | 3, e => cases e; exact v4
  have o1 := ho a _ ((hOld_of q3 hat).trans (by rw [hrd]))
  have o2 := ho b _ b2
  rw [ea]
  exact ⟨Or.inr (Or.inr rfl), hlc, b, 960, hs, hz, o1, Or.inr rfl, ⟨g, o2, rfl, Nat.le_refl _, by omega, b3⟩, Or.inr hh⟩
section GK
variable {Z : hE} {X : hX} {M : hM} {d : Nat} {S : Nat → Prop} {hin : hP} {K : hO → hP → Prop} {pc : Nat} {ls : List (Nat × Value)} {st : List Value} {h : hP}
theorem g_olds (k : hEnv Z → (∀ a c, hOld Z a = some c → h.2.2 a = some c) → hG Z X M d S hin K pc ls st h) : hG Z X M d S hin K pc ls st h :=
  fun O F H locs la a1 a2 a3 a4 a5 => k O.1 a1.2.2.2.2.2.2 O F H locs la a1 a2 a3 a4 a5
theorem g_ldcK {idx : Nat} {tx : String} {l : List Nat} (hd : decode M.1 pc = .ok (.ldc idx, 2)) (hz : hKon M.2.1.cls idx tx l) (k : jSt h 930 (hStrA M.2.1.cls idx Z) l → hG Z X M d S hin K (pc + 2) ls (.ref (hStrA M.2.1.cls idx Z) :: st) h) : hG Z X M d S hin K pc ls st h :=
  g_olds fun hZ ho => g_ldcS hd hz.1 (k (hz.2 Z hZ h ho))
end GK
