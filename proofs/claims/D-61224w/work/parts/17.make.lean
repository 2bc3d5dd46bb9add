/-! ROWS 7: 'new E()' of an exception (follows vx_make0 of the kit's EXCEPTIONS text, with the whole heap kept in sight) -/
set_option maxRecDepth 100000
section HXM
variable {p : Program} {l : Launch} {e : Env} {R : Room} {s : State} {m : MethodId} {args : Array Value} {below : List Frame} {meth : Method} {c : Code} {H : Heap} {locs : List Loc} {cells slots : Nat} {Q : State → Prop}
variable {ls : Array Slot} {rest : List Value}
theorem hx_make0 {cc : ByteArray} {pc : Nat} (hexec : p.tables.exec = Jvm.exec) (hb : c.code = cc) (hl : l.stackTraces = false) {own cls : String} {names : List String} {ik ic : Nat} {A : Nat → Prop}
    (hown : s.vm.findClass own = some m.cls) (hcls : Bundle.fit cls = true) (hnames : ∀ n ∈ names, Bundle.fit n = true)
    (hk : (Cond.classLink own ik cls).before args s = true) (hini : (Cond.initialized cls).before args s = true) (hat : ∀ w ∈ vx_at0 own ic cls names, w.before args s = true)
    (hgood : ∀ w ∈ Cond.classLink own ik cls :: Cond.initialized cls :: vx_at0 own ic cls names, vx_ot w = true)
    (hU : vx_Zq Bundle.tN "UNASSIGNED_STACK" Bundle.steD A s s.heap) (hN : vx_Zq Bundle.tN "SUPPRESSED_SENTINEL" Bundle.listD A s s.heap) (hS : va_S A s.heap H locs) (hsize : ls.size = c.maxLocals)
    (d0 : decode cc pc = .ok (.new ik, 3)) (d3 : decode cc (pc + 3) = .ok (.dup, 1)) (d4 : decode cc (pc + 4) = .ok (.invokespecial ic, 3))
    (hRframes : names.length + 3 < R.frames) (hRlocals : (rest.map fun v => v.category).sum + (13 * (names.length + 1) + 42) ≤ R.locals) (hRcells : cells + 1 ≤ R.cells) (hRslots : slots + 6 ≤ R.slots)
    (kk : ∀ (H1 : Heap) (ce : Cell), H1.size = H.size + 1 → H1[H.size]? = some ce → (∀ q, q < H.size → H1[q]? = H[q]?) → s.vm.findClass cls = some ce.cls → ce.vm = .none → hSum H1 ≤ hSum H + 6 → W p l e R s m args below meth c H1 locs (cells + 1) (slots + 6) Q (F0 m (pc + 7) ls (.ref H.size :: rest))) :
    W p l e R s m args below meth c H locs cells slots Q (F0 m pc ls rest) := by
  intro T hT X
  subst hT
  have htr : e.platform.stackTraces = false := (show e.platform.stackTraces = l.stackTraces by rw [X.admits.platform]).trans hl
  have Y := vx_rebase X (R' := { frames := R.frames, locals := R.locals, cells := 1, slots := 6 }) (Nat.le_refl _) (Nat.le_refl _) hRcells hRslots
  obtain ⟨s', hA'⟩ : ∃ z, z = (T.setVm s.vm).setFrames (.invoking m args :: below) := ⟨_, rfl⟩
  rw [← hA'] at Y
  have hvm : s'.vm = s.vm := by rw [hA']; rfl
  have hhp : s'.heap = T.heap := by rw [hA']; rfl
  have hW0 : s.WarmedH s'.vm := by rw [hvm]; exact State.WarmedH.refl s
  have hat' : ∀ w ∈ vx_at0 own ic cls names, w.before args s' = true := fun w hw => vx_ot_at hW0 hvm.symm (hgood w (List.mem_cons_of_mem _ (List.mem_cons_of_mem _ hw))) (hat w hw)
  have hk' : (Cond.classLink own ik cls).before args s' = true := vx_ot_at hW0 hvm.symm (hgood _ List.mem_cons_self) hk
  have hini' : (Cond.initialized cls).before args s' = true := vx_ot_at hW0 hvm.symm (hgood _ (List.mem_cons_of_mem _ List.mem_cons_self)) hini
  have hU' : vx_Zq Bundle.tN "UNASSIGNED_STACK" Bundle.steD A s' s'.heap := by rw [hhp]; exact vx_Zq.moved hW0.alike (hU.kept hS.2.1)
  have hN' : vx_Zq Bundle.tN "SUPPRESSED_SENTINEL" Bundle.listD A s' s'.heap := by rw [hhp]; exact vx_Zq.moved hW0.alike (hN.kept hS.2.1)
  have h : ∀ w ∈ Bundle.ownAtoms0 own ic cls names, w.before args s' = true := vx_own hat' (vx_isRefq hU'.1) (vx_isRefq hN'.1) hU'.2.word hN'.2.word
  have hown' : s'.vm.findClass own = some m.cls := by rw [hvm]; exact hown
  have hins : (Cond.instantiable cls 6).before args s' = true := h _ (by simp [Bundle.ownAtoms0])
  obtain ⟨vm₁, cX, kX, hfX, hkX, -, -, X₁, st1⟩ := Y.newCold hexec (own := own) (C := cls) (index := ik) (n := 6) hown' hk' hins hini'
    (g := F0 m pc ls rest) rfl (by rw [hb]; exact d0) (Nat.le_refl _) (Nat.le_refl _)
  generalize hT1 : (T.setVm vm₁).pushCell { cls := cX, slots := kX.instanceTypes.map defaultValue, vm := .none } = T1 at X₁ st1
  have hcat : (Value.ref T.heap.size).category = 1 := rfl
  have hcellA : T1.heap[T.heap.size]? = some (freshCell cX kX) := by rw [← hT1]; exact State.heap_pushCell_size _ _
  have d3' : decode c.code (pc + 3) = .ok (.dup, 1) := by rw [hb]; exact d3
  obtain ⟨V, ce, L, Z, hL, hlt, hcl9, hvm9, st⟩ := vx_ctorMade0 X₁ hexec htr (own := own) (cls := cls) (names := names) (ic := ic) hown' hcls hnames h (fun x hx => nomatch hx) hfX hkX hcellA (by rw [hhp]; exact Nat.le_refl _)
    (g := { method := m, pc := pc + 4, locals := ls, stack := .ref T.heap.size :: .ref T.heap.size :: rest, locked := none }) rfl hsize (rest := rest) rfl
    (by rw [hb]; exact d4) hRframes (by simp only [List.map_cons, List.sum_cons, hcat]; omega)
  have Z0 := Stand.forget (locs := []) Z (fun y hy => by rw [hL y hy, hhp]; exact Nat.le_refl _)
  obtain ⟨f1, f2⟩ := vx_frame Z0.same
  have hsum := hSum_same Z0.same
  have hb5 := Z0.same.2.2.2.2.1
  have hb3 := Z0.same.2.2.1
  rw [hhp] at f1 f2 hsum hb5 hb3
  have hh : (V.setCell T.heap.size ce).heap[T.heap.size]? = some ce := heapAt_setCell_self (s := V) ce hlt
  have hcid : s.vm.findClass cls = some ce.cls := by
    rw [hcl9, ← hvm]; exact hfX
  subst hA'
  have X5 := vx_back9 X Y Z0
  have X6 : Stand p l e R s m args below meth c (V.setCell T.heap.size ce) locs (cells + 1) (slots + 6) := { X5 with same := X5.same.mono (by omega) (by omega) }
  have hsz : (V.setCell T.heap.size ce).heap.size = T.heap.size + 1 := by
    have g1 : (V.setCell T.heap.size ce).heap.size ≤ T.heap.size + 1 := Nat.le_trans hb3 (by omega)
    have g2 : T.heap.size < (V.setCell T.heap.size ce).heap.size := (Array.getElem?_eq_some_iff.mp hh).1
    omega
  obtain ⟨t, a1, b1⟩ := kk (V.setCell T.heap.size ce).heap ce hsz hh (fun q hq => f2 q hq (fun z hz => nomatch hz)) hcid hvm9 (by
    have e1 : hSum (V.setCell T.heap.size ce).heap = hSum T.heap + _ := hsum
    have e2 : ((List.drop T.heap.size (V.setCell T.heap.size ce).heap.toList).map (fun c => c.slots.size)).sum ≤ _ := hb5
    omega) _ rfl X6
  refine ⟨t, st1 _ ?_, b1⟩
  show Steps p.tables e below (T1.setTop { method := m, pc := pc + 3, locals := ls, stack := .ref T.heap.size :: rest, locked := none }) _
  jvm_step X₁.here [X₁.here.top, hexec, d3', Value.category]
  exact st _ a1
end HXM
section G8
variable {Z : hE} {X : hX} {M : hM} {d : Nat} {S : Nat → Prop} {hin : hP} {K : hO → hP → Prop} {pc : Nat} {ls : List (Nat × Value)} {st : List Value} {h : hP}
def hGw (w : Cond) : Bool := goodWord w || (w.onTables && w.keepsFace)
theorem hGwW (hZ : hEnv Z) {U : State} (hW : Z.2.1.WarmedH U.vm) {args : Array Value} {w : Cond} (hw : w ∈ lw_tbl) (hg : hGw w = true) : w.before args U = true := by
  unfold hGw at hg
  rw [Bool.or_eq_true] at hg
  rcases hg with q | q
  · exact word_at hW (good_of_word q) (hZ.1 w hw)
  · rw [Bool.and_eq_true] at q
    exact hWordT hZ hW hw q.1 q.2
/-- the words of 'new cls()' at a site -/
def hXs (own : String) (ik ic : Nat) (cls : String) (names : List String) : Prop :=
  Bundle.fit cls = true ∧ (∀ n ∈ names, Bundle.fit n = true) ∧ names.length ≤ 3 ∧ (∀ w ∈ Cond.classLink own ik cls :: Cond.initialized cls :: vx_at0 own ic cls names, w ∈ lw_tbl ∧ hGw w = true ∧ vx_ot w = true)
def hXst : Prop := (Cond.laysStatic Bundle.tN "UNASSIGNED_STACK" Bundle.steD ∈ lw_tbl ∧ Cond.laysStatic Bundle.tN "SUPPRESSED_SENTINEL" Bundle.listD ∈ lw_tbl ∧ Cond.initialized Bundle.tN ∈ lw_tbl) ∧ hLeaf (.isRef (.static Bundle.tN "UNASSIGNED_STACK" Bundle.steD)) ∧ hLeaf (.isRef (.static Bundle.tN "SUPPRESSED_SENTINEL" Bundle.listD))
theorem g_make0 {ik ic : Nat} {cls : String} {names : List String} (κ : Nat) {r : vw_C} (d0 : decode M.1 pc = .ok (.new ik, 3)) (d3 : decode M.1 (pc + 3) = .ok (.dup, 1)) (d4 : decode M.1 (pc + 4) = .ok (.invokespecial ic, 3)) (hs : hXs M.2.1.cls ik ic cls names) (hst : hXst) (hc : hCl (κ % 100) = some r) (hκ : κ < 900) (hr : r.1 = cls) (hr0 : r.2.2 = 0) (hw : (st.map fun v => v.category).sum ≤ 8) (l1 : h.1 + 1 ≤ hLC Z) (l2 : h.2.1 + 6 ≤ hLS)
    (k : (∀ a c, h.2.2 a = some c → a < h.1) → hG Z X M (d + 7) S hin K (pc + 7) ls (.ref h.1 :: st) (hNew h (κ, .inl []) 6)) : hG Z X M (d + 7) S hin K pc ls st h := by
  intro O F H locs la a1 a2 a3 a4 a5
  have hwf := a1.wf
  have hZ := O.1
  have hW := O.2.2.2.2.2.1
  have hrin := O.2.2.2.2.2.2.1
  have hcs := hCells (d := d + 7) a1 hrin a2 F l1 l2
  obtain ⟨s1, s2, s3, s4⟩ := hs
  obtain ⟨⟨t1, t2, t3⟩, t4, t5⟩ := hst
  have hA0 : ∀ a : Nat, a < Z.2.1.heap.size → ¬ (fun q => Z.2.1.heap.size ≤ q) a := fun a ha z => by
    have z : Z.2.1.heap.size ≤ a := z
    omega
  have kept : ∀ a : Nat, a < Z.2.1.heap.size → ¬ (fun q => Z.2.1.heap.size ≤ q) a → X.2.2.1.heap[a]? = Z.2.1.heap[a]? := fun a ha _ => hrin.2.2.1 a ha
  have hU : vx_Zq Bundle.tN "UNASSIGNED_STACK" Bundle.steD (fun q => Z.2.1.heap.size ≤ q) X.2.2.1 X.2.2.1.heap := vx_Zq.moved hW.alike ((vx_Zqof (hZ.1 _ t1) (hZ.1 _ t3) (t4 Z hZ) hA0).kept kept)
  have hN : vx_Zq Bundle.tN "SUPPRESSED_SENTINEL" Bundle.listD (fun q => Z.2.1.heap.size ≤ q) X.2.2.1 X.2.2.1.heap := vx_Zq.moved hW.alike ((vx_Zqof (hZ.1 _ t2) (hZ.1 _ t3) (t5 Z hZ) hA0).kept kept)
  have hword : ∀ w ∈ Cond.classLink M.2.1.cls ik cls :: Cond.initialized cls :: vx_at0 M.2.1.cls ic cls names, w.before X.2.2.2.2.1 X.2.2.1 = true := fun w hw => hGwW hZ hW (s4 w hw).1 (s4 w hw).2.1
  refine hx_make0 (A := fun q => Z.2.1.heap.size ≤ q) O.2.1 O.2.2.1 hZ.2.2.2 O.2.2.2.2.1 s1 s2 (hword _ List.mem_cons_self) (hword _ (List.mem_cons_of_mem _ List.mem_cons_self)) (fun w hw => hword w (List.mem_cons_of_mem _ (List.mem_cons_of_mem _ hw))) (fun w hw => (s4 w hw).2.2) hU hN ⟨by rw [a1.1, hrin.1]; exact F.1, fun q _ hq => by
      have hq' : q < Z.2.1.heap.size := Nat.not_le.mp hq
      rw [a1.2.2.1 q hq', hrin.2.2.1 q hq'], a4⟩ (by rw [O.2.2.2.1]; exact a5.1) d0 d3 d4 (by show _ < d + 7; omega) (by show _ ≤ 46 * (d + 7) + 192; omega) hcs.1 hcs.2 fun H1 ce e1 e2 e3 e4 e5 e6 => ?_
  have hat : hAt Z (κ, .inl []) ce := by
    refine ⟨fun _ => e5, by rw [e5]; exact fun z => (by cases z), by rw [e5]; rfl, r, hc, ?_, by rw [hr0]; rfl, fun k v hk => by cases hk⟩
    have h9 := (hKn hZ hW hc).2.1
    rw [hr] at h9
    exact Option.some.inj (e4.symm.trans h9)
  rw [a1.1]
  exact hCanon fun b3 => k hwf O (F.new hwf) H1 locs la (hR_new a1 e1 e2 e3 hat l1 l2) (by
    show hSum H1 + hin.2.1 ≤ h.2.1 + 6 + _
    omega) b3 a4 a5
end G8
