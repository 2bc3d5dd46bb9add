/-! Statics of the first heap: digit tables, empty arrays, DIGITS -/
set_option maxRecDepth 100000
/-- a static that holds an array of the first heap -/
def hStB (C n dd : String) (κ N : Nat) (f : hE → Nat → Value) : Prop := hStat C n dd (hSv C n dd) ∧ ∀ Z, hEnv Z → ∃ b g, hSv C n dd Z = .ref b ∧ hOld Z b = some (κ, .inr (N, g)) ∧ ∀ j, j < N → g j = f Z j
theorem hStB.mk {C n dd : String} {κ N : Nat} {f : hE → Nat → Value} (hl : Cond.laysStatic C n dd ∈ lw_tbl) (hi : Cond.initialized C ∈ lw_all) (hk : ∀ Z, hEnv Z → ∃ b g, (Term.static C n dd).eval #[Value.ref Z.2.2.2.2] Z.2.1 none [] Z.2.1 = some (.ref b) ∧ hOld Z b = some (κ, .inr (N, g)) ∧ ∀ j, j < N → g j = f Z j) : hStB C n dd κ N f := by
  refine ⟨fun Z hZ => ?_, fun Z hZ => ?_⟩
  · obtain ⟨b, g, e, -⟩ := hk Z hZ
    have e1 : hSv C n dd Z = .ref b := by unfold hSv; rw [e]; rfl
    rw [e1]
    exact va_Zof (hZ.1 _ hl) (hZ.1 _ (lw_all_tbl hi)) e (fun _ _ z => z)
  · obtain ⟨b, g, e, e2, e3⟩ := hk Z hZ
    have e1 : hSv C n dd Z = .ref b := by unfold hSv; rw [e]; rfl
    exact ⟨b, g, e1, e2, e3⟩
def kDg (n : String) (f : Nat → Nat) : List Cond := [.arrayOf (.static "java/lang/Integer" n "[B") .byte, .eq (.length (.static "java/lang/Integer" n "[B")) (.int (Int32.ofNat 100))] ++ (List.range 100).map (fun j => Cond.eq (.elem (.static "java/lang/Integer" n "[B") (.int (Int32.ofNat j))) (.int (nI (f j))))
theorem st_dg {n : String} {f : Nat → Nat} (i : Nat) (hf : ∀ j, j < 100 → f j < 128) (hl : Cond.laysStatic "java/lang/Integer" n "[B" ∈ lw_tbl) (hp : (kDg n f).isPrefixOf ((flatC (Jvm.Cond.and given_1 narrow_1)).drop i) = true) (h4 : Cond.exactly (.static "java/lang/Integer" n "[B") "[B" ∈ flatC (Jvm.Cond.and given_1 narrow_1)) : hStB "java/lang/Integer" n "[B" 960 100 (fun _ j => .int (nI (f j))) := by
  have hm : ∀ w ∈ kDg n f, hLeaf w := fun w hw => hLeafOf (List.mem_of_mem_drop ((List.isPrefixOf_iff_prefix.mp hp).subset hw))
  refine hStB.mk hl q91 (fun Z hZ => ?_)
  exact k_arr (κ := 960) (f := fun j => .int (nI (f j))) rfl (by decide) (by decide) (hm _ (List.mem_append_left _ List.mem_cons_self) Z hZ) (hLeafOf h4 Z hZ) (fun _ _ _ _ _ _ => ⟨fun C e => (by cases e), fun u e => (by cases e)⟩) (hRead_byte hZ) (va_eqt (hm _ (List.mem_append_left _ (List.mem_cons_of_mem _ List.mem_cons_self)) Z hZ)) (fun j hj => va_eqt (hm _ (List.mem_append_right _ (List.mem_map.mpr ⟨j, List.mem_range.mpr hj, rfl⟩)) Z hZ)) (fun j hj => fitB (hf j hj))
theorem st_ones : hStB "java/lang/Integer" "DigitOnes" "[B" 960 100 (fun _ j => .int (nI (48 + j % 10))) := st_dg 16 (fun j _ => by omega) q357 (by decide +kernel) (by decide +kernel)
theorem st_tens : hStB "java/lang/Integer" "DigitTens" "[B" 960 100 (fun _ j => .int (nI (48 + j / 10))) := st_dg 119 (fun j _ => by omega) q359 (by decide +kernel) (by decide +kernel)
theorem k_nm {vm : Vm} {a b : String} {c : ClassId} (h1 : vm.findClass a = some c) (h2 : vm.findClass b = some c) : a = b := by
  obtain ⟨k, g1, g2⟩ := Vm.findClass_spec h1
  obtain ⟨k', g3, g4⟩ := Vm.findClass_spec h2
  rw [g1] at g3
  cases g3
  exact g2.symm.trans g4
theorem hRead_obj {Z : hE} (hZ : hEnv Z) (cell : Cell) (h : Z.2.1.vm.findClass ("[" ++ (FieldType.object "java/lang/Object").toString) = some cell.cls) (hk : ∃ comp kA, Z.2.1.vm.classes[cell.cls]? = some kA ∧ kA.kind = .array comp (.object "java/lang/Object")) : hRead Z cell = (965, .inr (cell.slots.size, fun j => cell.slots.getD j .null)) := by
  obtain ⟨comp, kA, g1, g2⟩ := hk
  have h : Z.2.1.vm.findClass "[Ljava/lang/Object;" = some cell.cls := h
  unfold hRead
  rw [if_neg (k_ord (n := 30) hZ g1 g2 rfl), if_neg (k_ord (n := 5) hZ g1 g2 rfl), if_neg (fun z => absurd (k_nm z h) (by decide)), if_neg (fun z => absurd (k_nm z h) (by decide)), if_pos h]
theorem hRead_dig {Z : hE} (hZ : hEnv Z) (cell : Cell) (h : Z.2.1.vm.findClass ("[" ++ (FieldType.object "TemplateEngine$NumberData").toString) = some cell.cls) (hk : ∃ comp kA, Z.2.1.vm.classes[cell.cls]? = some kA ∧ kA.kind = .array comp (.object "TemplateEngine$NumberData")) : hRead Z cell = (970, .inr (cell.slots.size, fun j => cell.slots.getD j .null)) := by
  obtain ⟨comp, kA, g1, g2⟩ := hk
  have h : Z.2.1.vm.findClass "[LTemplateEngine$NumberData;" = some cell.cls := h
  unfold hRead
  rw [if_neg (k_ord (n := 30) hZ g1 g2 rfl), if_neg (k_ord (n := 5) hZ g1 g2 rfl), if_neg (fun z => absurd (k_nm z h) (by decide)), if_neg (fun z => absurd (k_nm z h) (by decide)), if_neg (fun z => absurd (k_nm z h) (by decide)), if_pos h]
theorem st_emp {n : String} (i : Nat) (hl : Cond.laysStatic "java/util/ArrayList" n "[Ljava/lang/Object;" ∈ lw_tbl) (hp : ([.arrayOf (.static "java/util/ArrayList" n "[Ljava/lang/Object;") (.object "java/lang/Object"), .exactly (.static "java/util/ArrayList" n "[Ljava/lang/Object;") "[Ljava/lang/Object;", .eq (.length (.static "java/util/ArrayList" n "[Ljava/lang/Object;")) (.int 0)] : List Cond).isPrefixOf ((flatC (Jvm.Cond.and given_1 narrow_1)).drop i) = true) : hStB "java/util/ArrayList" n "[Ljava/lang/Object;" 965 0 (fun _ _ => .null) := by
  have hm := fun w hw => hLeafOf (w := w) (List.mem_of_mem_drop ((List.isPrefixOf_iff_prefix.mp hp).subset hw))
  refine hStB.mk hl q75 (fun Z hZ => ?_)
  refine k_arr (κ := 965) (ty := .object "java/lang/Object") (f := fun j => .null) rfl (by decide) (by decide) (hm _ List.mem_cons_self Z hZ) (hm _ (List.mem_cons_of_mem _ List.mem_cons_self) Z hZ) (fun cell comp kA g1 g2 g3 => ⟨fun C e _ => ?_, fun u e => (by cases e)⟩) (hRead_obj hZ) (va_eqt (hm _ (List.mem_cons_of_mem _ (List.mem_cons_of_mem _ List.mem_cons_self)) Z hZ)) (fun j hj => absurd hj (Nat.not_lt_zero j)) (fun j hj => rfl)
  cases e
  obtain ⟨comp', c, k, h1, h2, h3, h4, h5⟩ := Cond.arrayOver_spec (hZ.1 _ q141)
  have ec : c = cell.cls := Option.some.inj (h5.symm.trans g1)
  rw [ec, g2] at h3
  cases h3
  rw [g3] at h4
  cases h4
  exact h1
theorem st_empty : hStB "java/util/ArrayList" "EMPTY_ELEMENTDATA" "[Ljava/lang/Object;" 965 0 (fun _ _ => .null) := st_emp 5 q143 (by decide +kernel)
theorem st_defcap : hStB "java/util/ArrayList" "DEFAULTCAPACITY_EMPTY_ELEMENTDATA" "[Ljava/lang/Object;" 965 0 (fun _ _ => .null) := st_emp 222 q648 (by decide +kernel)
theorem st_emp_ne : ∀ Z, hEnv Z → hSv "java/util/ArrayList" "EMPTY_ELEMENTDATA" "[Ljava/lang/Object;" Z ≠ hSv "java/util/ArrayList" "DEFAULTCAPACITY_EMPTY_ELEMENTDATA" "[Ljava/lang/Object;" Z := by
  intro Z hZ e
  have w : hLeaf (.not (.eq (.static "java/util/ArrayList" "EMPTY_ELEMENTDATA" "[Ljava/lang/Object;") (.static "java/util/ArrayList" "DEFAULTCAPACITY_EMPTY_ELEMENTDATA" "[Ljava/lang/Object;"))) := hLeafOf (by decide +kernel)
  have v1 := Cond.isRef_spec ((hLeafOf (by decide +kernel) : hLeaf (.isRef (.static "java/util/ArrayList" "EMPTY_ELEMENTDATA" "[Ljava/lang/Object;"))) Z hZ)
  have v2 := Cond.isRef_spec ((hLeafOf (by decide +kernel) : hLeaf (.isRef (.static "java/util/ArrayList" "DEFAULTCAPACITY_EMPTY_ELEMENTDATA" "[Ljava/lang/Object;"))) Z hZ)
  obtain ⟨b, g, e1, e2, -⟩ := st_empty.2 Z hZ
  obtain ⟨b', g', e3, e4, -⟩ := st_defcap.2 Z hZ
  obtain ⟨x, x1, -⟩ := v1
  obtain ⟨y, y1, -⟩ := v2
  have f1 : x = .ref b := by unfold hSv at e1; rw [x1] at e1; exact e1
  have f2 : y = .ref b' := by unfold hSv at e3; rw [y1] at e3; exact e3
  rw [f1] at x1
  rw [f2] at y1
  rw [e1, e3] at e
  exact va_neR (w Z hZ) x1 y1 (Value.ref.inj e)
/-- the address of DIGITS[k] -/
noncomputable def kDi (k : Nat) (Z : hE) : Nat := match (Term.elem (.static "TemplateEngine" "DIGITS" "[LTemplateEngine$NumberData;") (.int (Int32.ofNat k))).eval #[Value.ref Z.2.2.2.2] Z.2.1 none [] Z.2.1 with
  | some (.ref a) => a
  | _ => 0
def kDl : List Cond := [.arrayOf (.static "TemplateEngine" "DIGITS" "[LTemplateEngine$NumberData;") (.object "TemplateEngine$NumberData"), .eq (.length (.static "TemplateEngine" "DIGITS" "[LTemplateEngine$NumberData;")) (.int (Int32.ofNat 10))] ++ (List.range 10).flatMap (fun k => [Cond.exactly (.elem (.static "TemplateEngine" "DIGITS" "[LTemplateEngine$NumberData;") (.int (Int32.ofNat k))) "TemplateEngine$NumberData", .eq (.field (.elem (.static "TemplateEngine" "DIGITS" "[LTemplateEngine$NumberData;") (.int (Int32.ofNat k))) "TemplateEngine$NumberData" "v" "I") (.int (nI k)), .eq (.field (.elem (.static "TemplateEngine" "DIGITS" "[LTemplateEngine$NumberData;") (.int (Int32.ofNat k))) "TemplateEngine$Data" "asked" "I") (.int 0)])
theorem kDl_in : ∀ w ∈ kDl, hLeaf w := fun w hw => hLeafOf (List.mem_of_mem_drop ((List.isPrefixOf_iff_prefix.mp (show kDl.isPrefixOf ((flatC (Jvm.Cond.and given_1 narrow_1)).drop 228) = true by decide +kernel)).subset hw))
theorem hRead_num {Z : hE} (hZ : hEnv Z) {cell : Cell} (h : cell.cls = Z.2.2.1 5) : hRead Z cell = (905, .inl ((List.range 2).map fun k => cell.slots.getD (Z.2.2.2.1 5 k) .null)) := by
  unfold hRead
  rw [if_neg (fun e => ?_), if_pos h]
  obtain ⟨-, a1, -⟩ := hZ.2.1 30 (RJ9, TJ9, 4) rfl
  obtain ⟨-, b1, -⟩ := hZ.2.1 5 (RX5, TX5, 2) rfl
  rw [h] at e
  rw [← e] at a1
  exact absurd (k_nm a1 b1) (by decide)
theorem kDi_ev {k : Nat} (hk : k < 10) {Z : hE} (hZ : hEnv Z) : (Term.elem (.static "TemplateEngine" "DIGITS" "[LTemplateEngine$NumberData;") (.int (Int32.ofNat k))).eval #[Value.ref Z.2.2.2.2] Z.2.1 none [] Z.2.1 = some (.ref (kDi k Z)) ∧ hOld Z (kDi k Z) = some (905, .inl [.int 0, .int (nI k)]) := by
  have hm : ∀ w, w ∈ [Cond.exactly (.elem (.static "TemplateEngine" "DIGITS" "[LTemplateEngine$NumberData;") (.int (Int32.ofNat k))) "TemplateEngine$NumberData", .eq (.field (.elem (.static "TemplateEngine" "DIGITS" "[LTemplateEngine$NumberData;") (.int (Int32.ofNat k))) "TemplateEngine$NumberData" "v" "I") (.int (nI k)), .eq (.field (.elem (.static "TemplateEngine" "DIGITS" "[LTemplateEngine$NumberData;") (.int (Int32.ofNat k))) "TemplateEngine$Data" "asked" "I") (.int 0)] → hLeaf w := fun w hw => kDl_in w (List.mem_append_right _ (List.mem_flatMap.mpr ⟨k, List.mem_range.mpr hk, hw⟩))
  have w1 := hm _ List.mem_cons_self Z hZ
  have w2 := hm _ (List.mem_cons_of_mem _ List.mem_cons_self) Z hZ
  have w3 := hm _ (List.mem_cons_of_mem _ (List.mem_cons_of_mem _ List.mem_cons_self)) Z hZ
  obtain ⟨a, c, cell, kk, q1, q2, q3, -, q5, q6, -⟩ := Cond.exactly_spec (args := #[Value.ref Z.2.2.2.2]) (first := Z.2.1) (o := none) (s := Z.2.1) (idx := []) w1
  have ea : kDi k Z = a := by unfold kDi; rw [q1]
  obtain ⟨u1, uC⟩ := hZ.2.1 5 (RX5, TX5, 2) rfl
  have hcl : cell.cls = Z.2.2.1 5 := by rw [q6]; exact Option.some.inj (q2.symm.trans uC.1)
  obtain ⟨c0, x1, x2, x3, x4⟩ := k_field q1 (u1 0 (Nat.le_of_ble_eq_true rfl)) (va_eqt w3)
  obtain ⟨c1, y1, -, -, y4⟩ := k_field q1 (u1 1 (Nat.le_of_ble_eq_true rfl)) (va_eqt w2)
  cases Option.some.inj (x1.symm.trans q3)
  cases Option.some.inj (y1.symm.trans q3)
  have gd : ∀ {i : Nat} {v : Value}, cell.slots[i]? = some v → cell.slots.getD i .null = v := fun e => by rw [Array.getD_eq_getD_getElem?, e]; rfl
  have hrd : hRead Z cell = (905, .inl [.int 0, .int (nI k)]) := by
    rw [hRead_num hZ hcl]
    show (905, Sum.inl [cell.slots.getD (Z.2.2.2.1 5 0) .null, cell.slots.getD (Z.2.2.2.1 5 1) .null]) = _
    rw [gd x4, gd y4]
  have hat : hAt Z (hRead Z cell) cell := by
    rw [hrd]
    refine hAt_obj (m := 5) (r := (RX5, TX5, 2)) (by decide) (by decide) x2 x3 rfl hcl rfl (fun k v e => ?_)
    match k, e with
    | 0, e => cases e; exact x4
    | 1, e => cases e; exact y4
  rw [ea]
  exact ⟨q1, (hOld_of q3 hat).trans (by rw [hrd])⟩
theorem st_digits : hStB "TemplateEngine" "DIGITS" "[LTemplateEngine$NumberData;" 970 10 (fun Z j => .ref (kDi j Z)) := by
  refine hStB.mk q1549 q72 (fun Z hZ => ?_)
  exact k_arr (κ := 970) (ty := .object "TemplateEngine$NumberData") (f := fun j => .ref (kDi j Z)) rfl (by decide) (by decide) (kDl_in _ (List.mem_append_left _ List.mem_cons_self) Z hZ) ((hLeafOf (by decide +kernel) : hLeaf (.exactly (.static "TemplateEngine" "DIGITS" "[LTemplateEngine$NumberData;") "[LTemplateEngine$NumberData;")) Z hZ) (fun cell comp kA g1 g2 g3 => ⟨fun C e ne => absurd (by cases e; rfl) ne, fun u e => (by cases e)⟩) (hRead_dig hZ) (va_eqt (kDl_in _ (List.mem_append_left _ (List.mem_cons_of_mem _ List.mem_cons_self)) Z hZ)) (fun j hj => (kDi_ev hj hZ).1) (fun j hj => rfl)
