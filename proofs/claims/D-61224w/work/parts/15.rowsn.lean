/-! ROWS 5: new cells, references into arrays, casts, constants, statics, natives, exceptions -/
set_option maxRecDepth 100000
section G6
variable {Z : hE} {X : hX} {M : hM} {d : Nat} {S : Nat → Prop} {hin : hP} {K : hO → hP → Prop} {pc : Nat} {ls : List (Nat × Value)} {st : List Value} {h : hP}
theorem hCells {H : Heap} {s : State} {n : Nat} (a1 : hR Z h H) (b1 : hR Z hin s.heap) (a2 : hSum H + hin.2.1 ≤ h.2.1 + hSum s.heap) (F : hFr S hin h) (l1 : h.1 + 1 ≤ hLC Z) (l2 : h.2.1 + n ≤ hLS) : H.size - s.heap.size + 1 ≤ (hRm Z d hin).cells ∧ hSum H - hSum s.heap + n ≤ (hRm Z d hin).slots := by
  have e1 := a1.1
  have e2 := b1.1
  have e6 := b1.2.2.2.2.2.1
  have e7 := F.1
  have e8 := F.2.1
  show _ ≤ hLC Z - hin.1 ∧ _ ≤ hLS - hin.2.1
  constructor <;> omega
def hDef (r : vw_C) : List Value := (List.range r.2.2).map (fun j => defaultValue (hFt r j))
theorem hDef_get (r : vw_C) {k : Nat} {v : Value} (h : (hDef r)[k]? = some v) : k < r.2.2 ∧ v = defaultValue (hFt r k) := by
  unfold hDef at h
  rw [List.getElem?_map] at h
  by_cases hk : k < r.2.2
  · rw [List.getElem?_range hk] at h
    exact ⟨hk, (Option.some.inj h).symm⟩
  · rw [List.getElem?_eq_none (by simp; omega)] at h
    cases h
theorem g_new {idx : Nat} (κ : Nat) {r : vw_C} {fs : List Value} (hd : decode M.1 pc = .ok (.new idx, 3)) (hc : hCl (κ % 100) = some r) (hκ : κ < 900) (q1 : Cond.classLink M.2.1.cls idx r.1 ∈ lw_all) (q2 : Cond.instantiable r.1 r.2.2 ∈ lw_all) (q3 : Cond.initialized r.1 ∈ lw_all) (hfs : hDef r = fs) (l1 : h.1 + 1 ≤ hLC Z) (l2 : h.2.1 + r.2.2 ≤ hLS)
    (k : (∀ a c, h.2.2 a = some c → a < h.1) → hG Z X M d S hin K (pc + 3) ls (.ref h.1 :: st) (hNew h (κ, .inl fs) r.2.2)) : hG Z X M d S hin K pc ls st h := by
  subst hfs
  intro O F H locs la a1 a2 a3 a4 a5
  have hwf := a1.wf
  have hZ := O.1
  have hW := O.2.2.2.2.2.1
  have hts : ∀ w ∈ lw_all, w.before X.2.2.2.2.1 X.2.2.1 = true := fun w hw => hWord hZ hW hw
  have hkn := hKn hZ hW hc
  have hcs := hCells (d := d) a1 O.2.2.2.2.2.2.1 a2 F l1 l2
  have he := a1.1
  refine W.newcK O.2.1 O.2.2.1 O.2.2.2.2.1 (hts _ q1) (hts _ q2) (hts _ q3) rfl hd hcs.1 hcs.2 hkn.2.1 a1.1 fun H' kC hkC e1 e2 e3 => ?_
  rw [← a1.1] at e1 e2 e3
  have hob := u_born (args := X.2.2.2.2.1) (hFt r) hts (hIn _ _ hc) hkn hkC e1 (hFt_ok _ _ hc)
  obtain ⟨cell, c1, c2, c3, c4⟩ := hob
  have ec : cell = blank (Z.2.2.1 (κ % 100)) kC := Option.some.inj (c1.symm.trans e1)
  have hat : hAt Z (κ, .inl (hDef r)) cell := by
    refine ⟨fun _ => c3, by rw [c3]; exact fun z => (by cases z), by rw [c3]; rfl, r, hc, c2, by simp [hDef], fun k v hk => ?_⟩
    obtain ⟨k1, k2⟩ := hDef_get r hk
    rw [k2]; exact c4 k k1
  obtain ⟨cC', kC', f1, f2, f3, -, -, f4⟩ := Cond.instantiable_spec (hts _ q2)
  have hslots : cell.slots.size = r.2.2 := by
    have e9 : Z.2.2.1 (κ % 100) = cC' := Option.some.inj (hkn.2.1.symm.trans f1)
    rw [e9] at hkC
    have e10 : kC = kC' := Option.some.inj (hkC.symm.trans f2)
    rw [ec, e10]
    simp [blank]
    first | exact f4 | exact f4.1 | exact f4.symm
  have hsum := hSum_new e2 c1 e3
  rw [hslots] at hsum
  exact hCanon fun b3 => k hwf O (F.new hwf) H' locs la (hR_new a1 e2 c1 e3 hat l1 l2) (by
    show hSum H' + hin.2.1 ≤ h.2.1 + r.2.2 + _
    omega) b3 a4 a5
theorem hArr_of {ty : FieldType} {U : State} {cA : ClassId} {kA : Class} {comp : ClassId} (h1 : U.vm.findClass ("[" ++ ty.toString) = some cA) (h2 : U.vm.classes[cA]? = some kA) (h3 : kA.kind = .array comp ty) (h4 : ∀ C, ty = .object C → U.vm.findClass C = some comp) (h5 : ∀ t, ty = .array t → U.vm.findClass (FieldType.array t).toString = some comp) : hArr U cA ty := ⟨h1, kA, comp, h2, h3, fun C e _ => h4 C e, h5⟩
theorem hAt_arr {κ n : Nat} {ty : FieldType} {cA : ClassId} {v : Value} (hty : hTy (κ % 100) = some ty) (hA : hArr Z.2.1 cA ty) (hn : n < 2 ^ 31) (hf : fits ty v = true) : hAt Z (κ, .inr (n, fun _ => v)) { cls := cA, slots := Array.replicate n v, vm := .none } := by
  refine ⟨fun _ => rfl, fun z => (by cases z), rfl, ty, hty, hA, by simp, hn, fun j hj => ⟨?_, hf⟩⟩
  have hj' : j < n := hj
  show (Array.replicate n v)[j]? = some v
  simp [hj']
theorem hWback {s : State} (hW : Z.2.1.WarmedH s.vm) : s.vm.Alike Z.2.1.vm := hW.alike.symm
theorem hPush {H : Heap} {c : Cell} : (H.push c).size = H.size + 1 ∧ (H.push c)[H.size]? = some c ∧ ∀ q, q < H.size → (H.push c)[q]? = H[q]? :=
  ⟨Array.size_push _, Array.getElem?_push_size, fun q hq => by rw [Array.getElem?_push, if_neg (Nat.ne_of_lt hq)]⟩
theorem g_newa {at_ : ArrayType} {i : Int32} (κ n : Nat) {ty : FieldType} (hd : decode M.1 pc = .ok (.newarray at_, 2)) (hty : hTy (κ % 100) = some ty) (ht : newarray.typeOf at_ = ty) (hκ : κ < 900) (hi : i = nI n) (hn : n ≤ 67108864) (q1 : Cond.arrayClass ty ∈ lw_all) (hb : componentBytes ty ≤ 8) (hf : fits ty (defaultValue ty) = true) (hnr : ∀ C, ty ≠ .object C) (hna : ∀ t, ty ≠ .array t) (l1 : h.1 + 1 ≤ hLC Z) (l2 : h.2.1 + n ≤ hLS)
    (k : (∀ a c, h.2.2 a = some c → a < h.1) → hG Z X M d S hin K (pc + 2) ls (.ref h.1 :: st) (hNew h (κ, .inr (n, fun _ => defaultValue ty)) n)) : hG Z X M d S hin K pc ls (.int i :: st) h := by
  subst ht
  subst hi
  intro O F H locs la a1 a2 a3 a4 a5
  have hwf := a1.wf
  have hZ := O.1
  have hW := O.2.2.2.2.2.1
  have hcs := hCells (d := d) a1 O.2.2.2.2.2.2.1 a2 F l1 l2
  have hcl : (nI n).toNatClampNeg = n := nI_clamp (by omega)
  refine W.newa O.2.1 O.2.2.1 (hWord hZ hW q1) rfl hd rfl (nI_pos (by omega)) (by rw [hcl]; exact Nat.le_trans (Nat.mul_le_mul hn hb) (Nat.le_of_ble_eq_true rfl)) hcs.1 (by rw [hcl]; exact hcs.2) fun cA kA comp h1 h2 h3 => ?_
  rw [hcl, a1.1]
  have hA : hArr Z.2.1 cA (newarray.typeOf at_) := hArr.moved (hWback hW) (hArr_of h1 h2 h3 (fun C e => absurd e (hnr C)) (fun t e => absurd e (hna t)))
  have hat : hAt Z (κ, .inr (n, fun _ => defaultValue (newarray.typeOf at_))) { cls := cA, slots := Array.replicate n (defaultValue (newarray.typeOf at_)), vm := .none } := hAt_arr hty hA (by omega) hf
  obtain ⟨p1, p2, p3⟩ := hPush (H := H) (c := { cls := cA, slots := Array.replicate n (defaultValue (newarray.typeOf at_)), vm := .none })
  have hsum := hSum_new p1 p2 p3
  have hsz : ({ cls := cA, slots := Array.replicate n (defaultValue (newarray.typeOf at_)), vm := .none } : Cell).slots.size = n := by simp
  rw [hsz] at hsum
  exact hCanon fun b3 => k hwf O (F.new hwf) _ locs la (hR_new a1 p1 p2 p3 hat l1 l2) (by
    show hSum _ + hin.2.1 ≤ h.2.1 + n + _
    omega) b3 a4 a5
theorem hOver (hZ : hEnv Z) {U : State} (hW : Z.2.1.WarmedH U.vm) {args : Array Value} {C : String} (hl : Cond.arrayOver (.object C) ∈ lw_tbl) : (Cond.arrayOver (.object C)).before args U = true :=
  va_AO.moved hW.alike (va_AO.of (hZ.1 _ hl))
theorem g_anew {i : Int32} {idx : Nat} (κ n : Nat) {C : String} (hd : decode M.1 pc = .ok (.anewarray idx, 3)) (hty : hTy (κ % 100) = some (.object C)) (hκ : κ < 900) (hi : i = nI n) (hn : n ≤ 67108864) (q1 : Cond.classLink M.2.1.cls idx C ∈ lw_all) (q2 : Cond.arrayOver (.object C) ∈ lw_tbl) (l1 : h.1 + 1 ≤ hLC Z) (l2 : h.2.1 + n ≤ hLS)
    (k : (∀ a c, h.2.2 a = some c → a < h.1) → hG Z X M d S hin K (pc + 3) ls (.ref h.1 :: st) (hNew h (κ, .inr (n, fun _ => .null)) n)) : hG Z X M d S hin K pc ls (.int i :: st) h := by
  subst hi
  intro O F H locs la a1 a2 a3 a4 a5
  have hwf := a1.wf
  have hZ := O.1
  have hW := O.2.2.2.2.2.1
  have hcs := hCells (d := d) a1 O.2.2.2.2.2.2.1 a2 F l1 l2
  have hcl : (nI n).toNatClampNeg = n := nI_clamp (by omega)
  refine W.anew O.2.1 O.2.2.1 O.2.2.2.2.1 (hWord hZ hW q1) (hOver hZ hW q2) rfl hd rfl (nI_pos (by omega)) (by rw [hcl]; exact Nat.le_trans (Nat.mul_le_mul_right 4 hn) (Nat.le_of_ble_eq_true rfl)) hcs.1 (by rw [hcl]; exact hcs.2) fun cA kA comp h1 h2 h3 h4 => ?_
  rw [hcl, a1.1]
  have hA : hArr Z.2.1 cA (.object C) := hArr.moved (hWback hW) (hArr_of h1 h2 h3 (fun C' e => by cases e; exact h4) (fun t e => by cases e))
  have hat : hAt Z (κ, .inr (n, fun _ => .null)) { cls := cA, slots := Array.replicate n .null, vm := .none } := hAt_arr hty hA (by omega) rfl
  obtain ⟨p1, p2, p3⟩ := hPush (H := H) (c := { cls := cA, slots := Array.replicate n .null, vm := .none })
  have hsum := hSum_new p1 p2 p3
  have hsz : ({ cls := cA, slots := Array.replicate n .null, vm := .none } : Cell).slots.size = n := by simp
  rw [hsz] at hsum
  exact hCanon fun b3 => k hwf O (F.new hwf) _ locs la (hR_new a1 p1 p2 p3 hat l1 l2) (by
    show hSum _ + hin.2.1 ≤ h.2.1 + n + _
    omega) b3 a4 a5
/-- may a value of this cell lie in an array of ty -/
def hMay (Z : hE) (h : hP) (ty : FieldType) (v : Value) : Prop := v = .null ∨ ∃ a κ fs r C, v = .ref a ∧ h.2.2 a = some (κ, .inl fs) ∧ hCl (κ % 100) = some r ∧ ty = .object C ∧ C ≠ "TemplateEngine$NumberData" ∧ (r.1 = C ∨ Cond.castable r.1 C ∈ lw_tbl)
theorem g_aast {κ a n : Nat} {i : Int32} (j : Nat) {f : Nat → Value} {C : String} {v : Nat} {κv : Nat} {fv : List Value} {r : vw_C} (hd : decode M.1 pc = .ok (.aastore, 1)) (ha : h.2.2 a = some (κ, .inr (n, f))) (hty : hTy (κ % 100) = some (.object C)) (hj : j < n) (hi : i = nI j) (hκ : κ < 900) (hSκ : S κ) (hv : h.2.2 v = some (κv, .inl fv)) (hrv : hCl (κv % 100) = some r) (hcast : r.1 = C ∨ Cond.castable r.1 C ∈ lw_tbl) (hCn : C ≠ "TemplateEngine$NumberData") (k : hG Z X M d S hin K (pc + 1) ls st (hSet h a (κ, .inr (n, upV f j (.ref v))))) : hG Z X M d S hin K pc ls (.ref v :: .int i :: .ref a :: st) h := by
  intro O F H locs la a1 a2 a3 a4 a5
  have F' : hFr S hin (hSet h a (κ, .inr (n, upV f j (.ref v)))) := F.set ha rfl hSκ
  have hZ := O.1
  have hW := O.2.2.2.2.2.1
  have ht := a1.2.2.2.1 a _ ha
  have hba : Z.2.1.heap.size ≤ a := by
    rcases ht.1 with q | q
    · exact absurd hκ (Nat.not_lt.mpr q)
    · exact q
  obtain ⟨-, cell, hcell, hat⟩ := ht
  have hat' := hAt_store (v := .ref v) hty hj rfl hat
  obtain ⟨-, hkn, hst, ty, hty', hA, hlen, hlt, hsl⟩ := hat
  have ety := Option.some.inj (hty'.symm.trans hty)
  subst ety
  have hlen' : cell.slots.size = n := hlen
  have hlt' : n < 2 ^ 31 := hlt
  subst hi
  obtain ⟨-, kA, comp, k1, k2, k3, -⟩ := hA.moved hW.alike
  obtain ⟨kc, hkc, -⟩ := Vm.findClass_spec (k3 C rfl hCn)
  obtain ⟨cv, v1, v2, v3⟩ := hRecv O a1 hv hrv
  obtain ⟨kv, hkv, -⟩ := Vm.findClass_spec v3
  have hasg : X.2.2.1.vm.assignable cv.cls comp = true := by
    rcases hcast with e | e
    · rw [e] at v3
      have := Option.some.inj (v3.symm.trans (k3 C rfl hCn))
      rw [this]; exact va_asg _ _
    · obtain ⟨c0, t0, f1, f2, f3⟩ := Cond.castable_spec (hFace (args := #[]) hZ hW e rfl rfl)
      have e1 := Option.some.inj (v3.symm.trans f1)
      have e2 := Option.some.inj ((k3 C rfl hCn).symm.trans f2)
      rw [e1, e2]; exact f3
  refine W.aast O.2.1 O.2.2.1 hcell (fun q e => by rw [e] at hst; cases hst) hkn k1 k2 rfl hkc ⟨nI_pos (by omega), by rw [nI_clamp (by omega), hlen']; exact hj⟩ v1 (fun q e => by rw [e] at v2; cases v2) hkv hasg rfl rfl hd fun H' e1 e2 e3 => ?_
  rw [nI_clamp (by omega)] at e1 ⊢
  have hsum : hSum H' = hSum H := hSum_set e2 hcell e1 (k2_slotsz _ _ _) e3
  exact hCanon fun b3 => k O F' H' _ la (hR_set a1 e2 e1 e3 hat' hba) (by rw [hsum]; exact a2) b3 (fun q hq => by
    rcases List.mem_append.mp hq with z | z
    · exact a4 q z
    · rw [List.mem_singleton.mp z]; exact hba) a5
theorem g_cast {κ a idx : Nat} {fs : List Value} {r : vw_C} {nm : String} (hd : decode M.1 pc = .ok (.checkcast idx, 3)) (ha : h.2.2 a = some (κ, .inl fs)) (hc : hCl (κ % 100) = some r) (q1 : Cond.classLink M.2.1.cls idx nm ∈ lw_all) (q2 : r.1 = nm ∨ Cond.castable r.1 nm ∈ lw_tbl) (k : hG Z X M d S hin K (pc + 3) ls (.ref a :: st) h) : hG Z X M d S hin K pc ls (.ref a :: st) h := by
  intro O F H locs la a1 a2 a3 a4 a5
  have hk := k O F H locs la a1 a2 a3 a4 a5
  have hZ := O.1
  have hW := O.2.2.2.2.2.1
  have hrv := hRecv O a1 ha hc
  rcases q2 with e | e
  · rw [e] at hrv
    exact va_castE O.2.1 O.2.2.1 O.2.2.2.2.1 (hWord hZ hW q1) hrv hd hk
  · exact va_castY O.2.1 O.2.2.1 O.2.2.2.2.1 (hWord hZ hW q1) (va_Nw.warmC hW (va_Nw.of rfl (hZ.1 _ e))) hrv hd hk
theorem g_instY {κ a idx : Nat} {fs : List Value} {r : vw_C} {nm : String} (hd : decode M.1 pc = .ok (.instanceof idx, 3)) (ha : h.2.2 a = some (κ, .inl fs)) (hc : hCl (κ % 100) = some r) (q1 : Cond.classLink M.2.1.cls idx nm ∈ lw_all) (q2 : r.1 = nm ∨ Cond.castable r.1 nm ∈ lw_tbl) (k : hG Z X M d S hin K (pc + 3) ls (.int 1 :: st) h) : hG Z X M d S hin K pc ls (.ref a :: st) h := by
  intro O F H locs la a1 a2 a3 a4 a5
  have hk := k O F H locs la a1 a2 a3 a4 a5
  have hZ := O.1
  have hW := O.2.2.2.2.2.1
  have hrv := hRecv O a1 ha hc
  rcases q2 with e | e
  · rw [e] at hrv
    exact va_instE O.2.1 O.2.2.1 O.2.2.2.2.1 (hWord hZ hW q1) hrv hd hk
  · exact va_instY O.2.1 O.2.2.1 O.2.2.2.2.1 (hWord hZ hW q1) (va_Nw.warmC hW (va_Nw.of rfl (hZ.1 _ e))) hrv hd hk
/-- a leaf of the start's premises -/
def hLeaf (w : Cond) : Prop := ∀ Z : hE, hEnv Z → w.before #[Value.ref Z.2.2.2.2] Z.2.1 = true
theorem hNc (hZ : hEnv Z) {U : State} (hW : Z.2.1.WarmedH U.vm) {C T : String} (q : hLeaf (.not (.castable C T))) : va_Nc C T U := va_Nc.moved hW.alike (va_Nc.of (q Z hZ))
theorem g_instNo {κ a idx : Nat} {fs : List Value} {r : vw_C} {nm : String} (hd : decode M.1 pc = .ok (.instanceof idx, 3)) (ha : h.2.2 a = some (κ, .inl fs)) (hc : hCl (κ % 100) = some r) (q1 : Cond.classLink M.2.1.cls idx nm ∈ lw_all) (q2 : hLeaf (.not (.castable r.1 nm))) (k : hG Z X M d S hin K (pc + 3) ls (.int 0 :: st) h) : hG Z X M d S hin K pc ls (.ref a :: st) h := by
  intro O F H locs la a1 a2 a3 a4 a5
  have hk := k O F H locs la a1 a2 a3 a4 a5
  have hZ := O.1
  have hW := O.2.2.2.2.2.1
  exact va_instNo O.2.1 O.2.2.1 O.2.2.2.2.1 (hWord hZ hW q1) (hNc hZ hW q2) (hRecv O a1 ha hc) hd hk
theorem g_castA {κ a idx n : Nat} {f : Nat → Value} {ty : FieldType} {nm : String} (hd : decode M.1 pc = .ok (.checkcast idx, 3)) (ha : h.2.2 a = some (κ, .inr (n, f))) (hty : hTy (κ % 100) = some ty) (hnm : "[" ++ ty.toString = nm) (q1 : Cond.classLink M.2.1.cls idx nm ∈ lw_all) (k : hG Z X M d S hin K (pc + 3) ls (.ref a :: st) h) : hG Z X M d S hin K pc ls (.ref a :: st) h := by
  subst hnm
  intro O F H locs la a1 a2 a3 a4 a5
  have hk := k O F H locs la a1 a2 a3 a4 a5
  have hZ := O.1
  have hW := O.2.2.2.2.2.1
  obtain ⟨-, cell, hcell, -, hkn, hst, ty', hty', hA, hlen, hlt, hsl⟩ := a1.2.2.2.1 a _ ha
  have ety := Option.some.inj (hty'.symm.trans hty)
  subst ety
  exact va_castE O.2.1 O.2.2.1 O.2.2.2.2.1 (hWord hZ hW q1) ⟨cell, hcell, hst, (hA.moved hW.alike).1⟩ hd hk
theorem g_ldc {idx : Nat} {v : Int32} (hd : decode M.1 pc = .ok (.ldc idx, 2)) (q1 : Cond.constant M.2.1.cls idx v ∈ lw_all) (k : hG Z X M d S hin K (pc + 2) ls (.int v :: st) h) : hG Z X M d S hin K pc ls st h :=
  fun O F H locs la a1 a2 a3 a4 a5 => lv_ldc O.2.1 O.2.2.1 O.2.2.2.2.1 (hWord O.1 O.2.2.2.2.2.1 q1) hd (k O F H locs la a1 a2 a3 a4 a5)
theorem g_ldc2 {idx : Nat} {v : Int64} (hd : decode M.1 pc = .ok (.ldc2_w idx, 3)) (q1 : Cond.constantLong M.2.1.cls idx v ∈ lw_all) (k : hG Z X M d S hin K (pc + 3) ls (.long v :: st) h) : hG Z X M d S hin K pc ls st h :=
  fun O F H locs la a1 a2 a3 a4 a5 => lv_ldc2 O.2.1 O.2.2.1 O.2.2.2.2.1 (hWord O.1 O.2.2.2.2.2.1 q1) hd (k O F H locs la a1 a2 a3 a4 a5)
theorem g_lcmp {x y : Int64} (hd : decode M.1 pc = .ok (.lcmp, 1)) (k : hG Z X M d S hin K (pc + 1) ls (.int (lg_cmp x y) :: st) h) : hG Z X M d S hin K pc ls (.long y :: .long x :: st) h :=
  fun O F H locs la a1 a2 a3 a4 a5 => W.lcmp O.2.1 O.2.2.1 hd (k O F H locs la a1 a2 a3 a4 a5)
/-- a static field's value at the start, which stays -/
def hStat (C n dd : String) (v : hE → Value) : Prop := ∀ Z : hE, hEnv Z → va_Z C n dd (v Z) (fun _ => False) Z.2.1 Z.2.1.heap
theorem va_Z_moved {C n dd : String} {v : Value} {A : Nat → Prop} {u U : State} {H : Heap} (hvm : u.vm.Alike U.vm) (hz : va_Z C n dd v A u H) : va_Z C n dd v A U H := va_Z.moved hvm hz
theorem g_gets {idx : Nat} {C n dd ref : String} {v : hE → Value} (hd : decode M.1 pc = .ok (.getstatic idx, 3)) (hz : hStat C n dd v) (q1 : Cond.fieldLink M.2.1.cls idx ref n dd ∈ lw_all) (hs : hSame ref C n dd) (k : hG Z X M d S hin K (pc + 3) ls (v Z :: st) h) : hG Z X M d S hin K pc ls st h := by
  intro O F H locs la a1 a2 a3 a4 a5
  have hk := k O F H locs la a1 a2 a3 a4 a5
  have hZ := O.1
  have hW := O.2.2.2.2.2.1
  obtain ⟨cf, kf, fi, f, a, cell, h1, h2, h3, h4, h5, h6, h7, -⟩ := va_Z_moved hW.alike (hz Z hZ)
  exact W.gets O.2.1 O.2.2.1 O.2.2.2.2.1 (hWord hZ hW q1) (hs.found hZ hW h1) h2 h3 h4 (by rw [a1.2.2.1 a (Array.getElem?_eq_some_iff.mp h5).1]; exact h5) (fun e => by rw [e] at h6; cases h6) h7 rfl hd hk
theorem g_getsN {idx : Nat} {C n dd ref host : String} {v : hE → Value} (hd : decode M.1 pc = .ok (.getstatic idx, 3)) (hz : hStat C n dd v) (q1 : Cond.fieldLinkNest M.2.1.cls idx ref n dd host ∈ lw_tbl) (hs : hSame ref C n dd) (k : hG Z X M d S hin K (pc + 3) ls (v Z :: st) h) : hG Z X M d S hin K pc ls st h := by
  intro O F H locs la a1 a2 a3 a4 a5
  have hk := k O F H locs la a1 a2 a3 a4 a5
  have hZ := O.1
  have hW := O.2.2.2.2.2.1
  obtain ⟨cf, kf, fi, f, a, cell, h1, h2, h3, h4, h5, h6, h7, -⟩ := va_Z_moved hW.alike (hz Z hZ)
  exact va_WgetsN O.2.1 O.2.2.1 O.2.2.2.2.1 (hNest hZ hW q1) (hs.found hZ hW h1) h2 h3 h4 (by rw [a1.2.2.1 a (Array.getElem?_eq_some_iff.mp h5).1]; exact h5) (fun e => by rw [e] at h6; cases h6) h7 rfl hd hk
/-- a String constant's address -/
noncomputable def hStrA (own : String) (k : Nat) (Z : hE) : Nat := match (Term.string own k).eval #[Value.ref Z.2.2.2.2] Z.2.1 none [] Z.2.1 with
  | some (.ref a) => a
  | _ => 0
def hStrK (own : String) (k : Nat) (tx : String) : Prop := ∀ Z : hE, hEnv Z → vk_R own k tx (hStrA own k Z) Z.2.1
theorem g_ldcS {idx : Nat} {tx : String} (hd : decode M.1 pc = .ok (.ldc idx, 2)) (hz : hStrK M.2.1.cls idx tx) (k : hG Z X M d S hin K (pc + 2) ls (.ref (hStrA M.2.1.cls idx Z) :: st) h) : hG Z X M d S hin K pc ls st h :=
  fun O F H locs la a1 a2 a3 a4 a5 => va_ldcS O.2.1 O.2.2.1 O.2.2.2.2.1 (vk_R.warm O.2.2.2.2.2.1 (hz Z O.1)) hd (k O F H locs la a1 a2 a3 a4 a5)
end G6
