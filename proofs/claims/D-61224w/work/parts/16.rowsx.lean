/-! ROWS 6: natives and exceptions -/
set_option maxRecDepth 100000
def cpV (f g : Nat → Value) (sp dp n : Nat) : Nat → Value := va_cpy f g sp dp n
theorem cpV_in {f g : Nat → Value} {sp dp n j : Nat} (h : dp ≤ j) (h2 : j < dp + n) : cpV f g sp dp n j = f (sp + (j - dp)) := if_pos ⟨h, h2⟩
theorem cpV_out {f g : Nat → Value} {sp dp n j : Nat} (h : j < dp ∨ dp + n ≤ j) : cpV f g sp dp n j = g j := if_neg (fun q => by omega)
theorem hCopied {cs cd : Cell} {n0 n1 sp dp n : Nat} {f g : Nat → Value} (h0 : ∀ j, j < n0 → cs.slots[j]? = some (f j)) (h1 : cd.slots.size = n1) (h2 : ∀ j, j < n1 → cd.slots[j]? = some (g j)) (hs : sp + n ≤ n0) (hd : dp + n ≤ n1) : ∀ j, j < n1 → (cd.storeRun dp (cs.stretch sp n)).slots[j]? = some (cpV f g sp dp n j) := by
  intro j hj
  have hl : (cs.stretch sp n).length = n := by simp [Cell.stretch]
  rw [Cell.storeRun_get _ _ _ _ (by rw [hl, h1]; exact hd), hl]
  by_cases hc : dp ≤ j ∧ j < dp + n
  · rw [if_pos hc, cpV_in hc.1 hc.2]
    simp only [Cell.stretch, List.getElem?_map]
    rw [List.getElem?_range (by omega)]
    show some (cs.slots.getD (sp + (j - dp)) .null) = _
    rw [Array.getD_eq_getD_getElem?, h0 _ (by omega)]
    rfl
  · rw [if_neg hc, cpV_out (by omega)]
    exact h2 j hj
section G7
variable {Z : hE} {X : hX} {M : hM} {d : Nat} {S : Nat → Prop} {hin : hP} {K : hO → hP → Prop} {pc : Nat} {ls : List (Nat × Value)} {st : List Value} {h : hP}
theorem g_acopy {κ0 κ1 a b n0 n1 idx : Nat} {f g : Nat → Value} {ty : FieldType} {i j l : Int32} (sp dp n : Nat) (hd : decode M.1 pc = .ok (.invokestatic idx, 3)) (ha : h.2.2 a = some (κ0, .inr (n0, f))) (hb : h.2.2 b = some (κ1, .inr (n1, g))) (t0 : hTy (κ0 % 100) = some ty) (t1 : hTy (κ1 % 100) = some ty) (e1 : i = nI sp) (e2 : j = nI dp) (e3 : l = nI n) (h1 : sp + n ≤ n0) (h2 : dp + n ≤ n1) (hκ : κ1 < 900) (hSκ : S κ1) (hm : refKind ty = false ∨ ∀ q, q < n → hMay Z h ty (f (sp + q))) (q1 : Cond.methodLink M.2.1.cls idx arraycopyName ∈ lw_all) (q2 : Cond.native arraycopyName ∈ lw_all) (q3 : Cond.static arraycopyName ∈ lw_all) (q4 : Cond.initialized "java/lang/System" ∈ lw_all) (hw : (st.map fun v => v.category).sum ≤ 8)
    (k : hG Z X M (d + 1) S hin K (pc + 3) ls st (hSet h b (κ1, .inr (n1, cpV f g sp dp n)))) : hG Z X M (d + 1) S hin K pc ls (.int l :: .int j :: .ref b :: .int i :: .ref a :: st) h := by
  subst e1; subst e2; subst e3
  intro O F H locs la a1 a2 a3 a4 a5
  have F' : hFr S hin (hSet h b (κ1, .inr (n1, cpV f g sp dp n))) := F.set hb rfl hSκ
  have hZ := O.1
  have hW := O.2.2.2.2.2.1
  have hts : ∀ w ∈ lw_all, w.before X.2.2.2.2.1 X.2.2.1 = true := fun w hw => hWord hZ hW hw
  obtain ⟨-, cs, hcs, -, hkn0, hst0, ty0, hty0, hA0, hlen0, hlt0, hsl0⟩ := a1.2.2.2.1 a _ ha
  have ht := a1.2.2.2.1 b _ hb
  have hba : Z.2.1.heap.size ≤ b := by
    rcases ht.1 with q | q
    · exact absurd hκ (Nat.not_lt.mpr q)
    · exact q
  obtain ⟨-, cd, hcd, hvm1, hkn1, hst1, ty1, hty1, hA1, hlen1, hlt1, hsl1⟩ := ht
  have et0 := Option.some.inj (hty0.symm.trans t0)
  have et1 := Option.some.inj (hty1.symm.trans t1)
  subst et0; subst et1
  have hlen0' : cs.slots.size = n0 := hlen0
  have hlen1' : cd.slots.size = n1 := hlen1
  have hlt0' : n0 < 2 ^ 31 := hlt0
  have hlt1' : n1 < 2 ^ 31 := hlt1
  have hA1' := hA1
  obtain ⟨-, k0, cm0, hk0, hkk0, -, -⟩ := hA0.moved hW.alike
  obtain ⟨-, k1, cm1, hk1, hkk1, hk1o, hk1a⟩ := hA1.moved hW.alike
  have c1 : (nI sp).toNatClampNeg = sp := nI_clamp (by omega)
  have c2 : (nI dp).toNatClampNeg = dp := nI_clamp (by omega)
  have c3 : (nI n).toNatClampNeg = n := nI_clamp (by omega)
  have hcop := hCopied (f := f) (g := g) (fun j hj => (hsl0 j hj).1) hlen1' (fun j hj => (hsl1 j hj).1) h1 h2
  intro T hT Y
  obtain ⟨vm', Y', step⟩ := Y.arraycopy O.2.1 O.2.2.2.2.1 (hts _ q1) (hts _ q2) (hts _ q3) (hts _ q4) (src := a) (dst := b) (cs := cs) (cd := cd) (srcPos := nI sp) (destPos := nI dp) (n := nI n) (by rw [hT]; exact hcs) (by rw [hT]; exact hcd)
    (fun q e => by rw [e] at hst0; cases hst0) (fun q e => by rw [e] at hst1; cases hst1) hkn0 hkn1 hk0 hk1 hkk0 hkk1 (by simp) (nI_pos (by omega)) (nI_pos (by omega)) (nI_pos (by omega))
    (by rw [nI_toInt (by omega), nI_toInt (by omega), hlen0']; omega) (by rw [nI_toInt (by omega), nI_toInt (by omega), hlen1']; omega)
    (fun vm₁ hal q hq => by
      rw [c3] at hq
      rw [c1]
      have e : cs.slots.getD (sp + q) .null = f (sp + q) := by
        rw [Array.getD_eq_getD_getElem?, (hsl0 (sp + q) (show sp + q < n0 by omega)).1]
        rfl
      rw [e]
      have hfit : fits ty1 (f (sp + q)) = true := (hsl0 (sp + q) (show sp + q < n0 by omega)).2
      refine ⟨hfit, ?_⟩
      rcases hm with hm | hm
      · cases hv : f (sp + q) with
        | ref x => rw [hv] at hfit; cases ty1 <;> simp [fits] at hfit <;> simp [refKind] at hm
        | _ => exact trivial
      · rcases hm q hq with hv | ⟨x, κx, fx, rx, C, hv, hx, hrx, hC, hCn, hcast⟩
        · rw [hv]; exact trivial
        · rw [hv]
          obtain ⟨cv, v1, v2, v3⟩ := hRecv O a1 hx hrx
          obtain ⟨kv, hkv, -⟩ := Vm.findClass_spec v3
          obtain ⟨kc, hkc, -⟩ := Vm.findClass_spec (hk1o C hC hCn)
          have hasg : X.2.2.1.vm.assignable cv.cls cm1 = true := by
            rcases hcast with e | e
            · rw [e] at v3
              have := Option.some.inj (v3.symm.trans (hk1o C hC hCn))
              rw [this]; exact va_asg _ _
            · obtain ⟨c0, t0, f1, f2, f3⟩ := Cond.castable_spec (hFace (args := #[]) hZ hW e rfl rfl)
              have e1 := Option.some.inj (v3.symm.trans f1)
              have e2 := Option.some.inj ((hk1o C hC hCn).symm.trans f2)
              rw [e1, e2]; exact f3
          obtain ⟨kv', hkv', -⟩ := hal.2.2 _ _ hkv
          obtain ⟨kc', hkc', -⟩ := hal.2.2 _ _ hkc
          refine ⟨cv, (by show T.heap[x]? = some cv; rw [hT]; exact v1), (fun q e => by rw [e] at v2; cases v2), ⟨kv', hkv'⟩, ⟨kc', hkc'⟩, ?_⟩
          show vm₁.assignable cv.cls cm1 = true
          rw [hal.assignable]; exact hasg)
    (g := F0 X.2.2.2.1 pc la (.int (nI n) :: .int (nI dp) :: .ref b :: .int (nI sp) :: .ref a :: st)) rfl (by rw [O.2.2.2.1]; exact a5.1) (rest := st) rfl (by rw [O.2.2.1]; exact hd) (Nat.succ_le_succ (Nat.zero_le _)) (by
      have hnw : nativeFrameWords "java/lang/System" "arraycopy" 5 = 7 := by decide
      have hz : (F0 X.2.2.2.1 pc la (.int (nI n) :: .int (nI dp) :: .ref b :: .int (nI sp) :: .ref a :: st)).monitorRoom = 0 := rfl
      rw [hz, hnw]
      show _ ≤ 46 * (d + 1) + 192
      omega)
  have hcc : copied cs cd (nI sp) (nI dp) (nI n) = cd.storeRun dp (cs.stretch sp n) := by
    show cd.storeRun (nI dp).toNatClampNeg (cs.stretch (nI sp).toNatClampNeg (nI n).toNatClampNeg) = _
    rw [c1, c2, c3]
  rw [hcc] at Y' step
  obtain ⟨sf1, sf2, sf3, -, -⟩ := cd.storeRun_facts dp (cs.stretch sp n)
  have hat' : hAt Z (κ1, .inr (n1, cpV f g sp dp n)) (cd.storeRun dp (cs.stretch sp n)) := by
    refine ⟨fun z => by rw [sf2]; exact hvm1 z, by rw [sf2]; exact hkn1, by rw [sf2]; exact hst1, ty1, t1, by rw [sf1]; exact hA1', by rw [sf3]; exact hlen1', hlt1', fun q hq => ⟨hcop q hq, ?_⟩⟩
    show fits ty1 (cpV f g sp dp n q) = true
    by_cases hc : dp ≤ q ∧ q < dp + n
    · rw [cpV_in hc.1 hc.2]; exact (hsl0 _ (show sp + (q - dp) < n0 by omega)).2
    · rw [cpV_out (by omega)]; exact (hsl1 q hq).2
  have hTb : T.heap[b]? = some cd := by rw [hT]; exact hcd
  have hlb : b < T.heap.size := (Array.getElem?_eq_some_iff.mp hTb).1
  have g1 : ((T.setVm vm').setCell b (cd.storeRun dp (cs.stretch sp n))).heap[b]? = some (cd.storeRun dp (cs.stretch sp n)) := heapAt_setCell_self (s := T.setVm vm') _ hlb
  have g2 : ((T.setVm vm').setCell b (cd.storeRun dp (cs.stretch sp n))).heap.size = H.size := by rw [size_setCell]; show T.heap.size = _; rw [hT]
  have g3 : ∀ q, q ≠ b → ((T.setVm vm').setCell b (cd.storeRun dp (cs.stretch sp n))).heap[q]? = H[q]? := fun q hq => by rw [heapAt_setCell_ne _ (Ne.symm hq)]; show T.heap[q]? = _; rw [hT]
  have hsum : hSum ((T.setVm vm').setCell b (cd.storeRun dp (cs.stretch sp n))).heap = hSum H := hSum_set g2 hcd g1 sf3 g3
  obtain ⟨t, b1, b2⟩ := hCanon (fun b3 => k O F' _ _ la (hR_set a1 g2 g1 g3 hat' hba) (by rw [hsum]; exact a2) b3 (fun q hq => by
    rcases List.mem_append.mp hq with z | z
    · exact a4 q z
    · obtain ⟨y, -, hy⟩ := List.mem_map.mp z
      rw [← hy]; exact hba) a5) _ rfl Y'
  exact ⟨t, step t b1, b2⟩
theorem g_clone {κ κ' a n idx : Nat} {f : Nat → Value} {ty : FieldType} {ad : String} (hd : decode M.1 pc = .ok (.invokevirtual idx, 3)) (ha : h.2.2 a = some (κ, .inr (n, f))) (hty : hTy (κ % 100) = some ty) (hty' : hTy (κ' % 100) = some ty) (hnm : "[" ++ ty.toString = ad) (q1 : Cond.methodLink M.2.1.cls idx ⟨ad, "clone", "()Ljava/lang/Object;"⟩ ∈ lw_all) (q2 : Cond.sameMethod ad "java/lang/Object" "clone" "()Ljava/lang/Object;" ∈ lw_all) (q3 : Cond.native ⟨"java/lang/Object", "clone", "()Ljava/lang/Object;"⟩ ∈ lw_all) (q4 : Cond.instanceMethod ⟨"java/lang/Object", "clone", "()Ljava/lang/Object;"⟩ ∈ lw_all) (q5 : Cond.selects ad ⟨ad, "clone", "()Ljava/lang/Object;"⟩ ⟨"java/lang/Object", "clone", "()Ljava/lang/Object;"⟩ ∈ lw_all) (q6 : Cond.castable ad "java/lang/Cloneable" ∈ lw_tbl) (hw : (st.map fun v => v.category).sum ≤ 8) (l1 : h.1 + 1 ≤ hLC Z) (l2 : h.2.1 + n ≤ hLS)
    (k : (∀ a c, h.2.2 a = some c → a < h.1) → hG Z X M (d + 1) S hin K (pc + 3) ls (.ref h.1 :: st) (hNew h (κ', .inr (n, f)) n)) : hG Z X M (d + 1) S hin K pc ls (.ref a :: st) h := by
  subst hnm
  intro O F H locs la a1 a2 a3 a4 a5
  have hwf := a1.wf
  have hZ := O.1
  have hW := O.2.2.2.2.2.1
  have hts : ∀ w ∈ lw_all, w.before X.2.2.2.2.1 X.2.2.1 = true := fun w hw => hWord hZ hW hw
  have hcs := hCells (d := d + 1) a1 O.2.2.2.2.2.2.1 a2 F l1 l2
  obtain ⟨-, cell, hcell, -, hkn, hst, ty0, hty0, hA, hlen, hlt, hsl⟩ := a1.2.2.2.1 a _ ha
  have et0 := Option.some.inj (hty0.symm.trans hty)
  subst et0
  have hlen' : cell.slots.size = n := hlen
  have hA' := hA.moved hW.alike
  obtain ⟨n1, kA, comp, hkA, hkind, -, -⟩ := hA'
  obtain ⟨c0, t0', f1, f2, f3⟩ := Cond.castable_spec (hFace (args := X.2.2.2.2.1) hZ hW q6 rfl rfl)
  have ec := Option.some.inj (n1.symm.trans f1)
  intro T hT Y
  obtain ⟨kT, hkT, heT⟩ := Y.warmed.alike.2.2 _ _ hkA
  obtain ⟨vm', Y', sg⟩ := Y.cloneArray O.2.1 O.2.2.2.2.1 (hts _ q1) (hts _ q2) (hts _ q3) (hts _ q4) (hts _ q5) (a := a) (cell := cell) (by rw [hT]; exact hcell) (fun q e => by rw [e] at hst; cases hst) hkn n1 f2 (by rw [ec]; exact f3)
    (fun i v hv => by
      have hi : i < n := by
        have := (Array.getElem?_eq_some_iff.mp hv).1
        rw [hlen'] at this; exact this
      have hvf := (hsl i hi).1
      have hvf' : cell.slots[i]? = some (f i) := hvf
      have ev : v = f i := Option.some.inj (hv.symm.trans hvf')
      have hkk : kT.kind = .array comp ty0 := by rw [heT]; exact hkind
      have hff : fits ty0 v = true := by rw [ev]; exact (hsl i hi).2
      cases hvm : cell.vm <;> first | (rw [hvm] at hst; cases hst; done) | simpa [State.fitsSlot, State.slotType?, hkT, hkk] using hff)
    (g := F0 X.2.2.2.1 pc la (.ref a :: st)) rfl (by rw [O.2.2.2.1]; exact a5.1) rfl (by rw [O.2.2.1]; exact hd) (Nat.succ_le_succ (Nat.zero_le _)) (by
      have hz : (F0 X.2.2.2.1 pc la (.ref a :: st)).monitorRoom = 0 := rfl
      rw [hz]
      show _ ≤ 46 * (d + 1) + 192
      omega) hcs.1 (by rw [hlen']; exact hcs.2) (hloader := Vm.clonesLoader_of_array hkA hkind)
  have hat : hAt Z (κ', .inr (n, f)) { cls := cell.cls, slots := cell.slots } := ⟨fun _ => rfl, fun z => (by cases z), rfl, ty0, hty', hA, hlen, hlt, hsl⟩
  obtain ⟨p1, p2, p3⟩ := hPush (H := H) (c := { cls := cell.cls, slots := cell.slots })
  have hsum := hSum_new p1 p2 p3
  have hsz : ({ cls := cell.cls, slots := cell.slots } : Cell).slots.size = n := hlen'
  rw [hsz] at hsum
  have hheap : ((T.setVm vm').pushCell { cls := cell.cls, slots := cell.slots }).heap = H.push { cls := cell.cls, slots := cell.slots } := by rw [← hT]; rfl
  obtain ⟨t, b1, b2⟩ := hCanon (fun b3 => k hwf O (F.new hwf) _ locs la (hR_new a1 p1 p2 p3 hat l1 l2) (by
    show hSum _ + hin.2.1 ≤ h.2.1 + n + _
    omega) b3 a4 a5) _ hheap Y'
  refine ⟨t, sg t ?_, b2⟩
  rw [hT]
  rw [← a1.1] at b1
  exact b1
/-- a Class object's address -/
noncomputable def hMirA (C : String) (Z : hE) : Nat := match (Term.mirror C).eval #[Value.ref Z.2.2.2.2] Z.2.1 none [] Z.2.1 with
  | some (.ref a) => a
  | _ => 0
def hMirK (C : String) : Prop := ∀ Z : hE, hEnv Z → va_Mi C (hMirA C Z) Z.2.1
theorem hMirK.of {C : String} (q : hLeaf (.isRef (.mirror C))) : hMirK C := by
  intro Z hZ
  obtain ⟨v, hv, -⟩ := Cond.isRef_spec (q Z hZ)
  obtain ⟨c, k, a, h1, h2, h3, h4⟩ := Term.mirror_spec hv
  have e : hMirA C Z = a := by
    unfold hMirA
    have hv' : (Term.mirror C).eval #[Value.ref Z.2.2.2.2] Z.2.1 none [] Z.2.1 = some v := hv
    rw [hv', h4]
  rw [e]
  exact ⟨c, k, h1, h2, h3⟩
theorem g_ldcM {idx : Nat} {C : String} (hd : decode M.1 pc = .ok (.ldc idx, 2)) (hz : hMirK C) (q1 : Cond.classLink M.2.1.cls idx C ∈ lw_all) (k : hG Z X M d S hin K (pc + 2) ls (.ref (hMirA C Z) :: st) h) : hG Z X M d S hin K pc ls st h :=
  fun O F H locs la a1 a2 a3 a4 a5 => va_ldcM O.2.1 O.2.2.1 O.2.2.2.2.1 (hWord O.1 O.2.2.2.2.2.1 q1) ((hz Z O.1).moved O.2.2.2.2.2.1.alike) hd (k O F H locs la a1 a2 a3 a4 a5)
theorem g_getC {κ a n idx : Nat} {f : Nat → Value} {ty : FieldType} {C : String} (hd : decode M.1 pc = .ok (.invokevirtual idx, 3)) (ha : h.2.2 a = some (κ, .inr (n, f))) (hty : hTy (κ % 100) = some ty) (hnm : "[" ++ ty.toString = C) (hz : hMirK C) (q1 : Cond.methodLink M.2.1.cls idx ⟨"java/lang/Object", "getClass", "()Ljava/lang/Class;"⟩ ∈ lw_all) (q2 : Cond.declares ⟨"java/lang/Object", "getClass", "()Ljava/lang/Class;"⟩ ∈ lw_tbl) (q3 : Cond.selects C ⟨"java/lang/Object", "getClass", "()Ljava/lang/Class;"⟩ ⟨"java/lang/Object", "getClass", "()Ljava/lang/Class;"⟩ ∈ lw_all) (q4 : Cond.instanceMethod ⟨"java/lang/Object", "getClass", "()Ljava/lang/Class;"⟩ ∈ lw_all) (q5 : Cond.native ⟨"java/lang/Object", "getClass", "()Ljava/lang/Class;"⟩ ∈ lw_all) (hw : (st.map fun v => v.category).sum ≤ 8) (k : hG Z X M (d + 1) S hin K (pc + 3) ls (.ref (hMirA C Z) :: st) h) : hG Z X M (d + 1) S hin K pc ls (.ref a :: st) h := by
  subst hnm
  intro O F H locs la a1 a2 a3 a4 a5
  have hk := k O F H locs la a1 a2 a3 a4 a5
  have hZ := O.1
  have hW := O.2.2.2.2.2.1
  have hts : ∀ w ∈ lw_all, w.before X.2.2.2.2.1 X.2.2.1 = true := fun w hw => hWord hZ hW hw
  obtain ⟨-, cell, hcell, -, hkn, hst, ty0, hty0, hA, hlen, hlt, hsl⟩ := a1.2.2.2.1 a _ ha
  have et0 := Option.some.inj (hty0.symm.trans hty)
  subst et0
  exact va_getC O.2.1 O.2.2.1 (by rw [O.2.2.2.1]; exact a5.1.symm) O.2.2.2.2.1 (hts _ q1) (hFace hZ hW q2 rfl rfl) (hts _ q3) (hts _ q4) (hts _ q5) ((hz Z hZ).moved hW.alike) ⟨cell, hcell, hst, (hA.moved hW.alike).1⟩ (Nat.succ_le_succ (Nat.zero_le _)) (by
    show _ ≤ 46 * (d + 1) + 192
    omega) hd hk
theorem hOverA (hZ : hEnv Z) {U : State} (hW : Z.2.1.WarmedH U.vm) {args : Array Value} {C : String} (hl : Cond.arrayOver (.array (.object C)) ∈ lw_tbl) : (Cond.arrayOver (.array (.object C))).before args U = true := by
  have h1 : (Cond.arrayOver (.array (.object C))).before #[] Z.2.1 = true := hZ.1 _ hl
  obtain ⟨comp, c, k, r1, r2, r3, r4, r5⟩ := arrayOverA_spec (show (Cond.arrayOver (.array (.object C))).holds #[] Z.2.1 none Z.2.1 [] = true from h1)
  have hal := hW.alike
  obtain ⟨k', hk', he⟩ := hal.2.2 _ _ r3
  have e1 : U.vm.findClass (FieldType.array (.object C)).toString = some comp := by rw [hal.findClass]; exact r1
  have e2 : (U.vm.classes.findIdx? fun x => match x.kind with | .array component _ => component == comp | _ => false) = some c := by rw [hal.findIdx?_eq _ (fun _ => rfl)]; exact r2
  have e3 : U.vm.findClass ("[" ++ (FieldType.array (.object C)).toString) = some c := by rw [hal.findClass]; exact r5
  have e4 : k'.kind = .array comp (.array (.object C)) := by rw [he]; exact r4
  simp only [Cond.before, Cond.holds, Cond.value, e1, Option.bind_some, e3, beq_iff_eq]
  refine Eq.trans (congrArg (fun o => Option.bind o _) e2) ?_
  simp [hk', e4]
theorem g_anewA {i : Int32} {idx : Nat} (κ n : Nat) {C nm : String} (hd : decode M.1 pc = .ok (.anewarray idx, 3)) (hty : hTy (κ % 100) = some (.array (.object C))) (hκ : κ < 900) (hi : i = nI n) (hn : n ≤ 67108864) (hnm : (FieldType.array (.object C)).toString = nm) (q1 : Cond.classLink M.2.1.cls idx nm ∈ lw_all) (q2 : Cond.arrayOver (.array (.object C)) ∈ lw_tbl) (l1 : h.1 + 1 ≤ hLC Z) (l2 : h.2.1 + n ≤ hLS)
    (k : (∀ a c, h.2.2 a = some c → a < h.1) → hG Z X M d S hin K (pc + 3) ls (.ref h.1 :: st) (hNew h (κ, .inr (n, fun _ => .null)) n)) : hG Z X M d S hin K pc ls (.int i :: st) h := by
  subst hi
  subst hnm
  intro O F H locs la a1 a2 a3 a4 a5
  have hwf := a1.wf
  have hZ := O.1
  have hW := O.2.2.2.2.2.1
  have hcs := hCells (d := d) a1 O.2.2.2.2.2.2.1 a2 F l1 l2
  have hcl : (nI n).toNatClampNeg = n := nI_clamp (by omega)
  refine W.anewA O.2.1 O.2.2.1 O.2.2.2.2.1 (hWord hZ hW q1) (hOverA hZ hW q2) rfl hd rfl (nI_pos (by omega)) (by rw [hcl]; exact Nat.le_trans (Nat.mul_le_mul_right 4 hn) (Nat.le_of_ble_eq_true rfl)) hcs.1 (by rw [hcl]; exact hcs.2) fun cA kA comp h1 h2 h3 h4 => ?_
  rw [hcl, a1.1]
  have hA : hArr Z.2.1 cA (.array (.object C)) := hArr.moved (hWback hW) (hArr_of h1 h2 h3 (fun C' e => by cases e) (fun t e => by cases e; exact h4))
  have hat : hAt Z (κ, .inr (n, fun _ => .null)) { cls := cA, slots := Array.replicate n .null, vm := .none } := hAt_arr hty hA (by omega) rfl
  obtain ⟨p1, p2, p3⟩ := hPush (H := H) (c := { cls := cA, slots := Array.replicate n .null, vm := .none })
  have hsum := hSum_new p1 p2 p3
  have hsz : ({ cls := cA, slots := Array.replicate n .null, vm := .none } : Cell).slots.size = n := by simp
  rw [hsz] at hsum
  exact hCanon fun b3 => k hwf O (F.new hwf) _ locs la (hR_new a1 p1 p2 p3 hat l1 l2) (by
    show hSum _ + hin.2.1 ≤ h.2.1 + n + _
    omega) b3 a4 a5
/-- an array into an array of arrays -/
theorem g_aastA {κ a n : Nat} {i : Int32} (j : Nat) {f : Nat → Value} {t : FieldType} {v κv nv : Nat} {fv : Nat → Value} (hd : decode M.1 pc = .ok (.aastore, 1)) (ha : h.2.2 a = some (κ, .inr (n, f))) (hty : hTy (κ % 100) = some (.array t)) (hj : j < n) (hi : i = nI j) (hκ : κ < 900) (hSκ : S κ) (hv : h.2.2 v = some (κv, .inr (nv, fv))) (htv : hTy (κv % 100) = some t) (htn : "[" ++ t.toString = (FieldType.array t).toString) (k : hG Z X M d S hin K (pc + 1) ls st (hSet h a (κ, .inr (n, upV f j (.ref v))))) : hG Z X M d S hin K pc ls (.ref v :: .int i :: .ref a :: st) h := by
  intro O F H locs la a1 a2 a3 a4 a5
  have F' : hFr S hin (hSet h a (κ, .inr (n, upV f j (.ref v)))) := F.set ha rfl hSκ
  have hZ := O.1
  have hW := O.2.2.2.2.2.1
  have ht := a1.2.2.2.1 a _ ha
  have hba : Z.2.1.heap.size ≤ a := by
    rcases ht.1 with q | q
    · exact absurd hκ (Nat.not_lt.mpr q)
    · exact q
  obtain ⟨-, cell, hcell, hat⟩ := ht
  have hat' := hAt_store (v := .ref v) hty hj rfl hat
  obtain ⟨-, hkn, hst, ty, hty', hA, hlen, hlt, hsl⟩ := hat
  have ety := Option.some.inj (hty'.symm.trans hty)
  subst ety
  have hlen' : cell.slots.size = n := hlen
  have hlt' : n < 2 ^ 31 := hlt
  subst hi
  obtain ⟨-, kA, comp, k1, k2, -, k3⟩ := hA.moved hW.alike
  have k3' := k3 t rfl
  obtain ⟨kc, hkc, -⟩ := Vm.findClass_spec k3'
  obtain ⟨-, cv, hcv, -, hknv, hstv, tyv, htyv, hAv, -⟩ := a1.2.2.2.1 v _ hv
  have etv := Option.some.inj (htyv.symm.trans htv)
  subst etv
  have hfv := (hAv.moved hW.alike).1
  rw [htn] at hfv
  have ecv := Option.some.inj (hfv.symm.trans k3')
  refine W.aast O.2.1 O.2.2.1 hcell (fun q e => by rw [e] at hst; cases hst) hkn k1 k2 rfl hkc ⟨nI_pos (by omega), by rw [nI_clamp (by omega), hlen']; exact hj⟩ hcv (fun q e => by rw [e] at hstv; cases hstv) (by rw [ecv]; exact hkc) (by rw [ecv]; exact va_asg _ _) rfl rfl hd fun H' e1 e2 e3 => ?_
  rw [nI_clamp (by omega)] at e1 ⊢
  have hsum : hSum H' = hSum H := hSum_set e2 hcell e1 (k2_slotsz _ _ _) e3
  exact hCanon fun b3 => k O F' H' _ la (hR_set a1 e2 e1 e3 hat' hba) (by rw [hsum]; exact a2) b3 (fun q hq => by
    rcases List.mem_append.mp hq with z | z
    · exact a4 q z
    · rw [List.mem_singleton.mp z]; exact hba) a5
/-- caught here by the row x of the table -/
theorem gx_catch {E name : String} (pre : List ExceptionTableEntry) (x : ExceptionTableEntry) (suf : List ExceptionTableEntry) (hsplit : tableOf M.2.2.2.2 = pre ++ x :: suf) (hpass : ∀ z ∈ pre, covers z pc = false ∨ (z.catchType ≠ 0 ∧ ∃ nm : String, Cond.classLink M.2.1.cls z.catchType nm ∈ lw_all ∧ hLeaf (.not (.castable E nm)))) (hx : covers x pc = true) (h0 : x.catchType ≠ 0) (q1 : Cond.classLink M.2.1.cls x.catchType name ∈ lw_all) (q2 : Cond.castable E name ∈ lw_tbl) (k : ∀ q : Nat, hG Z X M d S hin K x.handlerPc ls [.ref q] h) : hGX Z X M d S hin K pc ls E h := by
  intro O F H locs la st q ce a1 a2 a3 a4 a5 b1 b2 b3
  have hZ := O.1
  have hW := O.2.2.2.2.2.1
  have hxt := O.2.2.2.2.2.2.2.2.2.1
  exact vx_catch (own := M.2.1.cls) (name := name) (E := E) O.2.2.2.2.1 pre x suf (by rw [hxt]; exact hsplit) (fun z hz => by
    rcases hpass z hz with e | ⟨e1, nm, e2, e3⟩
    · exact Or.inl e
    · exact Or.inr ⟨e1, nm, hWord hZ hW e2, hNc hZ hW e3⟩) hx h0 (hWord hZ hW q1) (hFace hZ hW q2 rfl rfl) b1 b2 b3 (k q O F H locs la a1 a2 a3 a4 a5)
/-- not caught here, past rows that name other exceptions -/
theorem gx_outP {E : String} (hpass : ∀ z ∈ tableOf M.2.2.2.2, covers z pc = false ∨ (z.catchType ≠ 0 ∧ ∃ nm : String, Cond.classLink M.2.1.cls z.catchType nm ∈ lw_all ∧ hLeaf (.not (.castable E nm)))) (k : K (.inr E) h) : hGX Z X M d S hin K pc ls E h := by
  intro O F H locs la st q ce a1 a2 a3 a4 a5 b1 b2 b3
  obtain ⟨w1, w2⟩ := hEnd a1 O.2.2.2.2.2.2.1 a2
  have hZ := O.1
  have hW := O.2.2.2.2.2.1
  have hxt := O.2.2.2.2.2.2.2.2.2.1
  exact vx_outP O.2.2.2.2.1 O.2.2.2.2.2.2.2.1 (fun z hz => by
    rw [hxt] at hz
    rcases hpass z hz with e | ⟨e1, nm, e2, e3⟩
    · exact Or.inl e
    · exact Or.inr ⟨e1, nm, hWord hZ hW e2, hNc hZ hW e3⟩) b1 b2 b3 (fun t ht hA => ⟨h, by rw [ht]; exact a1, by rw [ht]; exact a2, F, k⟩) a4 w1 w2
end G7
