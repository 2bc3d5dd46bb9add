/-! ROWS 4: calls -/
set_option maxRecDepth 100000
/-- what is asked of a callee's tables -/
def hMe (M : hM) (n : Nat) : Prop := Cond.initialized M.2.1.cls ∈ lw_all ∧ (M.2.1.cls ≠ "java/lang/invoke/MethodHandle" ∧ M.2.1.cls ≠ "java/lang/invoke/VarHandle") ∧ (parseMethodDescriptor M.2.1.desc).map (fun d => d.parameters.length) = some n ∧ M.2.2.1 ≤ 27 ∧ plainName M.2.1.cls = true ∧ M.2.2.2.2 = [] ∧ Cond.code M.2.1 M.1 M.2.2.1 M.2.2.2.1 ∈ lw_all
def hMeX (M : hM) (n : Nat) : Prop := Cond.initialized M.2.1.cls ∈ lw_all ∧ (M.2.1.cls ≠ "java/lang/invoke/MethodHandle" ∧ M.2.1.cls ≠ "java/lang/invoke/VarHandle") ∧ (parseMethodDescriptor M.2.1.desc).map (fun d => d.parameters.length) = some n ∧ M.2.2.1 ≤ 27 ∧ plainName M.2.1.cls = true ∧ M.2.2.2.2 ≠ [] ∧ Cond.codeWith M.2.1 M.1 M.2.2.1 M.2.2.2.1 M.2.2.2.2 ∈ lw_all
theorem hMe.ws {M : hM} {n : Nat} (h : hMe M n) : hWs M = Cond.code M.2.1 M.1 M.2.2.1 M.2.2.2.1 :: lw_all := by
  unfold hWs; rw [h.2.2.2.2.2.1]
theorem hMeX.ws {M : hM} {n : Nat} (h : hMeX M n) : hWs M = Cond.codeWith M.2.1 M.1 M.2.2.1 M.2.2.2.1 M.2.2.2.2 :: lw_all := by
  unfold hWs
  split
  · rename_i e; exact absurd e h.2.2.2.2.2.1
  · rfl
theorem hMe.len {M : hM} {n : Nat} (h : (parseMethodDescriptor M.2.1.desc).map (fun d => d.parameters.length) = some n) : ∀ sig, parseMethodDescriptor M.2.1.desc = some sig → n = sig.parameters.length := by
  intro sig hs
  rw [hs] at h
  exact (Option.some.inj h).symm
theorem hLen {x : MethodName} {n : Nat} (h : (parseMethodDescriptor x.desc).map (fun d => d.parameters.length) = some n) : ∀ sig, parseMethodDescriptor x.desc = some sig → n = sig.parameters.length := by
  intro sig hs
  rw [hs] at h
  exact (Option.some.inj h).symm
theorem hPay {Z : hE} (hZ : hEnv Z) {s : State} (hW : Z.2.1.WarmedH s.vm) {w0 : Cond} (h0 : w0 ∈ lw_all) : ∀ w ∈ w0 :: lw_all, ∀ (a' : Array Value) (U : State), s.WarmedH U.vm → w.before a' U = true := by
  intro w hw a' U hU
  have hm : w ∈ lw_all := by
    rcases List.mem_cons.mp hw with e | e
    · rw [e]; exact h0
    · exact e
  exact word_at hU (good_of_word (List.mem_filter.mp hm).2) (hWord (args := #[]) hZ hW hm)
theorem hRoom {Z : hE} {d n : Nat} {hin h : hP} (hn : n ≤ 27) : (hRm Z d h).frames + 1 ≤ (hRm Z (d + 1) hin).frames ∧ 8 + (n + 11) + (hRm Z d h).locals ≤ (hRm Z (d + 1) hin).locals := by
  show d + 1 ≤ d + 1 ∧ 8 + (n + 11) + (46 * d + 192) ≤ 46 * (d + 1) + 192
  omega
section G5
variable {Z : hE} {X : hX} {M : hM} {d : Nat} {S : Nat → Prop} {hin : hP} {K : hO → hP → Prop} {pc : Nat} {ls : List (Nat × Value)} {st : List Value} {h : hP}
variable {M' : hM} {S' : Nat → Prop} {K' : hO → hP → Prop} {As rest : List Value} {n idx : Nat}
theorem hFit {H : Heap} {s : State} (a1 : hR Z h H) (b1 : hR Z hin s.heap) (a2 : hSum H + hin.2.1 ≤ h.2.1 + hSum s.heap) (F : hFr S hin h) (a3 : hSum s.heap ≤ hSum H) : H.size - s.heap.size + (hLC Z - h.1) ≤ (hRm Z d hin).cells ∧ hSum H - hSum s.heap + (hLS - h.2.1) ≤ (hRm Z d hin).slots := by
  have e1 := a1.1
  have e2 := b1.1
  have e3 := a1.2.2.2.2.1
  have e4 := a1.2.2.2.2.2.1
  have e5 := b1.2.2.2.2.1
  have e6 := b1.2.2.2.2.2.1
  have e7 := F.1
  have e8 := F.2.1
  show _ ≤ hLC Z - hin.1 ∧ _ ≤ hLS - hin.2.1
  constructor <;> omega
theorem hAfter {H : Heap} {locs : List Loc} {la : Array Slot} {st0 : List Value} {cells slots mc ms : Nat} {av : Array Value} (O : hOK Z X M d hin) (F : hFr S hin h) (a2 : hSum H + hin.2.1 ≤ h.2.1 + hSum X.2.2.1.heap) (a4 : ∀ q ∈ locs, Z.2.1.heap.size ≤ q.base) (a5 : lv_has la M.2.2.1 ls) (hS : ∀ κ, S' κ → S κ)
    (hr : vx_Run X.1 Z.1 X.2.1 (hRm Z d hin) X.2.2.1 X.2.2.2.1 X.2.2.2.2.1 X.2.2.2.2.2.1 X.2.2.2.2.2.2.1 X.2.2.2.2.2.2.2 H locs cells slots mc ms (F0 X.2.2.2.1 pc la st0) rest (hQc Z S' h K' av) (hXC Z S' h K') (fun q => Z.2.1.heap.size ≤ q))
    (kn : ∀ v h', K' (.inl v) h' → hFr S' h h' → hG Z X M d S hin K (pc + 3) ls (v.toList ++ rest) h')
    (kx : ∀ E h', K' (.inr E) h' → hFr S' h h' → hGX Z X M d S hin K pc ls E h') : hWx Z X d S hin K H locs cells slots (F0 X.2.2.2.1 pc la st0) := by
  intro T hT Y
  rcases hr T hT Y with ⟨v, st₀, t, T', L, e0, Y', hL, e1, e2, ⟨v', h', ev, r1, r2, r3, r4⟩, sg⟩ | ⟨q, st₀, t, T', L, E, ce, e0, Y', hL, e1, e2, ⟨h', r1, r2, r3, r4⟩, hce, hcv, hcl, sg⟩
  · cases ev
    have hl' : ∀ q ∈ locs ++ L, Z.2.1.heap.size ≤ q.base := fun q hq => by
      rcases List.mem_append.mp hq with z | z
      · exact a4 q z
      · exact hL q z
    have r2' : hSum T'.heap + hin.2.1 ≤ h'.2.1 + hSum X.2.2.1.heap := by rw [e1]; rw [e0] at r2; omega
    obtain ⟨t2, b1, b2⟩ := hCanon (fun b3 => kn v h' r4 r3 O (F.tr (r3.mono hS)) T'.heap (locs ++ L) la (by rw [e1]; exact r1) r2' b3 hl' a5) T' rfl Y'
    exact ⟨t2, sg t2 b1, b2⟩
  · have hl' : ∀ q ∈ locs ++ L, Z.2.1.heap.size ≤ q.base := fun q hq => by
      rcases List.mem_append.mp hq with z | z
      · exact a4 q z
      · exact hL q z
    have r2' : hSum T'.heap + hin.2.1 ≤ h'.2.1 + hSum X.2.2.1.heap := by rw [e1]; rw [e0] at r2; omega
    obtain ⟨t2, b1, b2⟩ := hCanonX (fun b3 => kx E h' r4 r3 O (F.tr (r3.mono hS)) T'.heap (locs ++ L) la rest q ce (by rw [e1]; exact r1) r2' b3 hl' a5 (by rw [e1]; exact hce) hcv hcl) T' rfl Y'
    exact ⟨t2, sg.trans b1, b2⟩
theorem hAfter5 {H : Heap} {locs : List Loc} {la : Array Slot} {st0 : List Value} {cells slots mc ms : Nat} {av : Array Value} (O : hOK Z X M d hin) (F : hFr S hin h) (a2 : hSum H + hin.2.1 ≤ h.2.1 + hSum X.2.2.1.heap) (a4 : ∀ q ∈ locs, Z.2.1.heap.size ≤ q.base) (a5 : lv_has la M.2.2.1 ls) (hS : ∀ κ, S' κ → S κ)
    (hr : vx_Run5 X.1 Z.1 X.2.1 (hRm Z d hin) X.2.2.1 X.2.2.2.1 X.2.2.2.2.1 X.2.2.2.2.2.1 X.2.2.2.2.2.2.1 X.2.2.2.2.2.2.2 H locs cells slots mc ms (F0 X.2.2.2.1 pc la st0) rest (hQc Z S' h K' av) (hXC Z S' h K') (fun q => Z.2.1.heap.size ≤ q))
    (kn : ∀ v h', K' (.inl v) h' → hFr S' h h' → hG Z X M d S hin K (pc + 5) ls (v.toList ++ rest) h')
    (kx : ∀ E h', K' (.inr E) h' → hFr S' h h' → hGX Z X M d S hin K pc ls E h') : hWx Z X d S hin K H locs cells slots (F0 X.2.2.2.1 pc la st0) := by
  intro T hT Y
  rcases hr T hT Y with ⟨v, st₀, t, T', L, e0, Y', hL, e1, e2, ⟨v', h', ev, r1, r2, r3, r4⟩, sg⟩ | ⟨q, st₀, t, T', L, E, ce, e0, Y', hL, e1, e2, ⟨h', r1, r2, r3, r4⟩, hce, hcv, hcl, sg⟩
  · cases ev
    have hl' : ∀ q ∈ locs ++ L, Z.2.1.heap.size ≤ q.base := fun q hq => by
      rcases List.mem_append.mp hq with z | z
      · exact a4 q z
      · exact hL q z
    have r2' : hSum T'.heap + hin.2.1 ≤ h'.2.1 + hSum X.2.2.1.heap := by rw [e1]; rw [e0] at r2; omega
    obtain ⟨t2, b1, b2⟩ := hCanon (fun b3 => kn v h' r4 r3 O (F.tr (r3.mono hS)) T'.heap (locs ++ L) la (by rw [e1]; exact r1) r2' b3 hl' a5) T' rfl Y'
    exact ⟨t2, sg t2 b1, b2⟩
  · have hl' : ∀ q ∈ locs ++ L, Z.2.1.heap.size ≤ q.base := fun q hq => by
      rcases List.mem_append.mp hq with z | z
      · exact a4 q z
      · exact hL q z
    have r2' : hSum T'.heap + hin.2.1 ≤ h'.2.1 + hSum X.2.2.1.heap := by rw [e1]; rw [e0] at r2; omega
    obtain ⟨t2, b1, b2⟩ := hCanonX (fun b3 => kx E h' r4 r3 O (F.tr (r3.mono hS)) T'.heap (locs ++ L) la rest q ce (by rw [e1]; exact r1) r2' b3 hl' a5 (by rw [e1]; exact hce) hcv hcl) T' rfl Y'
    exact ⟨t2, sg.trans b1, b2⟩
theorem hRecv {κ b : Nat} {r : vw_C} {fs : List Value} {H : Heap} (O : hOK Z X M d hin) (a1 : hR Z h H) (hb : h.2.2 b = some (κ, .inl fs)) (hc : hCl (κ % 100) = some r) : ∃ cellB : Cell, H[b]? = some cellB ∧ cellB.vm.isStatics = false ∧ X.2.2.1.vm.findClass r.1 = some cellB.cls := by
  obtain ⟨-, cell, hcell, -, hkn, hst, r', hr', hcls, -⟩ := a1.2.2.2.1 b _ hb
  exact ⟨cell, hcell, hst, by rw [hcls]; exact (hKn O.1 O.2.2.2.2.2.1 hc).2.1⟩
theorem hPreS {H : Heap} (O : hOK Z X M d hin) (a1 : hR Z h H) : PreS X.2.2.1 H (hPc Z As h) As :=
  ⟨hPc_blind, fun U hU hW => ⟨rfl, by rw [hU]; exact a1, State.WarmedH.trans O.2.2.2.2.2.1 hW⟩⟩
theorem g_invS {st0 : List Value} (hd : decode M.1 pc = .ok (.invokestatic idx, 3)) (hc : hCt Z M' d S' As h K') (me : hMe M' n) (q1 : Cond.methodLink M.2.1.cls idx M'.2.1 ∈ lw_all) (q2 : Cond.static M'.2.1 ∈ lw_all) (hn : As.length = n) (hst : st0 = As.reverse ++ rest) (hw : (rest.map fun v => v.category).sum ≤ 8) (hS : ∀ κ, S' κ → S κ)
    (kn : ∀ v h', K' (.inl v) h' → hFr S' h h' → hG Z X M (d + 1) S hin K (pc + 3) ls (v.toList ++ rest) h')
    (kx : ∀ E h', K' (.inr E) h' → hFr S' h h' → hGX Z X M (d + 1) S hin K pc ls E h') : hG Z X M (d + 1) S hin K pc ls st0 h := by
  intro O F H locs la a1 a2 a3 a4 a5
  have hZ := O.1
  have hW := O.2.2.2.2.2.1
  have hts : ∀ w ∈ lw_all, w.before X.2.2.2.2.1 X.2.2.1 = true := fun w hw => hWord hZ hW hw
  have hM := hc hZ
  rw [me.ws] at hM
  obtain ⟨m1, m2, m3, m4, m5, m6, m7⟩ := me
  refine hAfter (av := As.toArray) O F a2 a4 a5 hS (vx_runS (Ts := lw_all) (As := As) (rest := rest) (n := n) (maxL := M'.2.2.1) (bytes := M'.1) (ret := M'.2.2.2.1) ⟨O.2.1, O.2.2.1, O.2.2.2.1, O.2.2.2.2.1, hts⟩ hM ⟨⟨rfl, rfl, (hRoom m4).1, (hRoom m4).2, hPay hZ hW m7, List.mem_cons_self, hts _ m7, hts _ m1, m2, hMe.len m3, hts _ q1⟩, hts _ q2⟩ (hPreS O a1) rfl hn a5.1 hst (lv_room hw) hd (hFit (d := d + 1) a1 O.2.2.2.2.2.2.1 a2 F a3)) kn kx
theorem g_invSX {st0 : List Value} (hd : decode M.1 pc = .ok (.invokestatic idx, 3)) (hc : hCt Z M' d S' As h K') (me : hMeX M' n) (q1 : Cond.methodLink M.2.1.cls idx M'.2.1 ∈ lw_all) (q2 : Cond.static M'.2.1 ∈ lw_all) (hn : As.length = n) (hst : st0 = As.reverse ++ rest) (hw : (rest.map fun v => v.category).sum ≤ 8) (hS : ∀ κ, S' κ → S κ)
    (kn : ∀ v h', K' (.inl v) h' → hFr S' h h' → hG Z X M (d + 1) S hin K (pc + 3) ls (v.toList ++ rest) h')
    (kx : ∀ E h', K' (.inr E) h' → hFr S' h h' → hGX Z X M (d + 1) S hin K pc ls E h') : hG Z X M (d + 1) S hin K pc ls st0 h := by
  intro O F H locs la a1 a2 a3 a4 a5
  have hZ := O.1
  have hW := O.2.2.2.2.2.1
  have hts : ∀ w ∈ lw_all, w.before X.2.2.2.2.1 X.2.2.1 = true := fun w hw => hWord hZ hW hw
  have hM := hc hZ
  rw [me.ws] at hM
  obtain ⟨m1, m2, m3, m4, m5, m6, m7⟩ := me
  refine hAfter (av := As.toArray) O F a2 a4 a5 hS (vx_runSX (Ts := lw_all) (As := As) (rest := rest) (n := n) (maxL := M'.2.2.1) (bytes := M'.1) (ret := M'.2.2.2.1) (hh := M'.2.2.2.2) ⟨O.2.1, O.2.2.1, O.2.2.2.1, O.2.2.2.2.1, hts⟩ hM ⟨⟨rfl, rfl, (hRoom m4).1, (hRoom m4).2, hPay hZ hW m7, List.mem_cons_self⟩, hts _ m7, hts _ m1, m2, hMe.len m3, hts _ q1, hts _ q2⟩ (hPreS O a1) rfl hn a5.1 hst (lv_room hw) hd (hFit (d := d + 1) a1 O.2.2.2.2.2.2.1 a2 F a3)) kn kx
theorem hNestM (hZ : hEnv Z) {U : State} (hW : Z.2.1.WarmedH U.vm) {args : Array Value} {a : String} {i : Nat} {x : MethodName} {hh : String} (hl : Cond.methodLinkNest a i x hh ∈ lw_tbl) : (Cond.methodLinkNest a i x hh).before args U = true :=
  va_Nw.use rfl (va_Nw.warmM hW (va_Nw.of rfl (hZ.1 _ hl)))
theorem g_invSN {st0 : List Value} {host : String} (hd : decode M.1 pc = .ok (.invokestatic idx, 3)) (hc : hCt Z M' d S' As h K') (me : hMe M' n) (q1 : Cond.methodLinkNest M.2.1.cls idx M'.2.1 host ∈ lw_tbl) (q2 : Cond.static M'.2.1 ∈ lw_all) (hn : As.length = n) (hst : st0 = As.reverse ++ rest) (hw : (rest.map fun v => v.category).sum ≤ 8) (hS : ∀ κ, S' κ → S κ)
    (kn : ∀ v h', K' (.inl v) h' → hFr S' h h' → hG Z X M (d + 1) S hin K (pc + 3) ls (v.toList ++ rest) h')
    (kx : ∀ E h', K' (.inr E) h' → hFr S' h h' → hGX Z X M (d + 1) S hin K pc ls E h') : hG Z X M (d + 1) S hin K pc ls st0 h := by
  intro O F H locs la a1 a2 a3 a4 a5
  have hZ := O.1
  have hW := O.2.2.2.2.2.1
  have hts : ∀ w ∈ lw_all, w.before X.2.2.2.2.1 X.2.2.1 = true := fun w hw => hWord hZ hW hw
  have hM := hc hZ
  rw [me.ws] at hM
  obtain ⟨m1, m2, m3, m4, m5, m6, m7⟩ := me
  refine hAfter (av := As.toArray) O F a2 a4 a5 hS (vx_runSN (Ts := lw_all) (As := As) (rest := rest) (n := n) (maxL := M'.2.2.1) (bytes := M'.1) (ret := M'.2.2.2.1) ⟨O.2.1, O.2.2.1, O.2.2.2.1, O.2.2.2.2.1, hts⟩ hM ⟨⟨⟨rfl, rfl, (hRoom m4).1, (hRoom m4).2, hPay hZ hW m7, List.mem_cons_self⟩, hts _ m7, hts _ m1, m2, hMe.len m3, hNestM hZ hW q1⟩, hts _ q2, trivial⟩ (hPreS O a1) rfl hn a5.1 hst (lv_room hw) hd (hFit (d := d + 1) a1 O.2.2.2.2.2.2.1 a2 F a3)) kn kx
variable {κ b : Nat} {r : vw_C} {fs : List Value}
theorem hPreV {H : Heap} (O : hOK Z X M d hin) (a1 : hR Z h H) (hb : h.2.2 b = some (κ, .inl fs)) (hc : hCl (κ % 100) = some r) : PreV X.2.2.1 H r.1 b (hPc Z (.ref b :: As) h) As :=
  ⟨hPc_blind, hRecv O a1 hb hc, fun U hU hW => ⟨rfl, by rw [hU]; exact a1, State.WarmedH.trans O.2.2.2.2.2.1 hW⟩⟩
theorem g_invV {st0 : List Value} (hd : decode M.1 pc = .ok (.invokevirtual idx, 3)) (hb : h.2.2 b = some (κ, .inl fs)) (hr : hCl (κ % 100) = some r) (hc : hCt Z M' d S' (.ref b :: As) h K') (me : hMe M' n) (q1 : Cond.methodLink M.2.1.cls idx M'.2.1 ∈ lw_all) (q2 : Cond.instanceMethod M'.2.1 ∈ lw_all) (q3 : Cond.selects r.1 M'.2.1 M'.2.1 ∈ lw_all) (hn : As.length = n) (hst : st0 = As.reverse ++ .ref b :: rest) (hw : (rest.map fun v => v.category).sum ≤ 8) (hS : ∀ κ, S' κ → S κ)
    (kn : ∀ v h', K' (.inl v) h' → hFr S' h h' → hG Z X M (d + 1) S hin K (pc + 3) ls (v.toList ++ rest) h')
    (kx : ∀ E h', K' (.inr E) h' → hFr S' h h' → hGX Z X M (d + 1) S hin K pc ls E h') : hG Z X M (d + 1) S hin K pc ls st0 h := by
  intro O F H locs la a1 a2 a3 a4 a5
  have hZ := O.1
  have hW := O.2.2.2.2.2.1
  have hts : ∀ w ∈ lw_all, w.before X.2.2.2.2.1 X.2.2.1 = true := fun w hw => hWord hZ hW hw
  have hM := hc hZ
  rw [me.ws] at hM
  obtain ⟨m1, m2, m3, m4, m5, m6, m7⟩ := me
  refine hAfter (av := (Value.ref b :: As).toArray) O F a2 a4 a5 hS (vx_runV (C := r.1) (Ts := lw_all) (As := As) (rest := rest) (n := n) (maxL := M'.2.2.1) (bytes := M'.1) (ret := M'.2.2.2.1) ⟨O.2.1, O.2.2.1, O.2.2.2.1, O.2.2.2.2.1, hts⟩ hM ⟨⟨rfl, rfl, (hRoom m4).1, (hRoom m4).2, hPay hZ hW m7, List.mem_cons_self, hts _ m7, hts _ m1, m2, hMe.len m3, hts _ q1⟩, hts _ q2, hts _ q3⟩ (hPreV O a1 hb hr) rfl hn a5.1 hst (lv_room hw) hd (hFit (d := d + 1) a1 O.2.2.2.2.2.2.1 a2 F a3)) kn kx
theorem g_invVX {st0 : List Value} (hd : decode M.1 pc = .ok (.invokevirtual idx, 3)) (hb : h.2.2 b = some (κ, .inl fs)) (hr : hCl (κ % 100) = some r) (hc : hCt Z M' d S' (.ref b :: As) h K') (me : hMeX M' n) (q1 : Cond.methodLink M.2.1.cls idx M'.2.1 ∈ lw_all) (q2 : Cond.instanceMethod M'.2.1 ∈ lw_all) (q3 : Cond.selects r.1 M'.2.1 M'.2.1 ∈ lw_all) (hn : As.length = n) (hst : st0 = As.reverse ++ .ref b :: rest) (hw : (rest.map fun v => v.category).sum ≤ 8) (hS : ∀ κ, S' κ → S κ)
    (kn : ∀ v h', K' (.inl v) h' → hFr S' h h' → hG Z X M (d + 1) S hin K (pc + 3) ls (v.toList ++ rest) h')
    (kx : ∀ E h', K' (.inr E) h' → hFr S' h h' → hGX Z X M (d + 1) S hin K pc ls E h') : hG Z X M (d + 1) S hin K pc ls st0 h := by
  intro O F H locs la a1 a2 a3 a4 a5
  have hZ := O.1
  have hW := O.2.2.2.2.2.1
  have hts : ∀ w ∈ lw_all, w.before X.2.2.2.2.1 X.2.2.1 = true := fun w hw => hWord hZ hW hw
  have hM := hc hZ
  rw [me.ws] at hM
  obtain ⟨m1, m2, m3, m4, m5, m6, m7⟩ := me
  refine hAfter (av := (Value.ref b :: As).toArray) O F a2 a4 a5 hS (vx_runVX (C := r.1) (Ts := lw_all) (As := As) (rest := rest) (n := n) (maxL := M'.2.2.1) (bytes := M'.1) (ret := M'.2.2.2.1) (hh := M'.2.2.2.2) ⟨O.2.1, O.2.2.1, O.2.2.2.1, O.2.2.2.2.1, hts⟩ hM ⟨⟨rfl, rfl, (hRoom m4).1, (hRoom m4).2, hPay hZ hW m7, List.mem_cons_self⟩, hts _ m7, hts _ m1, m2, hMe.len m3, hts _ q1, hts _ q2, hts _ q3⟩ (hPreV O a1 hb hr) rfl hn a5.1 hst (lv_room hw) hd (hFit (d := d + 1) a1 O.2.2.2.2.2.2.1 a2 F a3)) kn kx
theorem g_invVN {st0 : List Value} {host : String} (hd : decode M.1 pc = .ok (.invokevirtual idx, 3)) (hb : h.2.2 b = some (κ, .inl fs)) (hr : hCl (κ % 100) = some r) (hc : hCt Z M' d S' (.ref b :: As) h K') (me : hMe M' n) (q1 : Cond.methodLinkNest M.2.1.cls idx M'.2.1 host ∈ lw_tbl) (q2 : Cond.instanceMethod M'.2.1 ∈ lw_all) (q3 : Cond.selects r.1 M'.2.1 M'.2.1 ∈ lw_all) (hn : As.length = n) (hst : st0 = As.reverse ++ .ref b :: rest) (hw : (rest.map fun v => v.category).sum ≤ 8) (hS : ∀ κ, S' κ → S κ)
    (kn : ∀ v h', K' (.inl v) h' → hFr S' h h' → hG Z X M (d + 1) S hin K (pc + 3) ls (v.toList ++ rest) h')
    (kx : ∀ E h', K' (.inr E) h' → hFr S' h h' → hGX Z X M (d + 1) S hin K pc ls E h') : hG Z X M (d + 1) S hin K pc ls st0 h := by
  intro O F H locs la a1 a2 a3 a4 a5
  have hZ := O.1
  have hW := O.2.2.2.2.2.1
  have hts : ∀ w ∈ lw_all, w.before X.2.2.2.2.1 X.2.2.1 = true := fun w hw => hWord hZ hW hw
  have hM := hc hZ
  rw [me.ws] at hM
  obtain ⟨m1, m2, m3, m4, m5, m6, m7⟩ := me
  refine hAfter (av := (Value.ref b :: As).toArray) O F a2 a4 a5 hS (vx_runVN (C := r.1) (Ts := lw_all) (As := As) (rest := rest) (n := n) (maxL := M'.2.2.1) (bytes := M'.1) (ret := M'.2.2.2.1) ⟨O.2.1, O.2.2.1, O.2.2.2.1, O.2.2.2.2.1, hts⟩ hM ⟨⟨⟨rfl, rfl, (hRoom m4).1, (hRoom m4).2, hPay hZ hW m7, List.mem_cons_self⟩, hts _ m7, hts _ m1, m2, hMe.len m3, hNestM hZ hW q1⟩, hts _ q2, hts _ q3⟩ (hPreV O a1 hb hr) rfl hn a5.1 hst (lv_room hw) hd (hFit (d := d + 1) a1 O.2.2.2.2.2.2.1 a2 F a3)) kn kx
/-- a virtual call, x named, y chosen -/
theorem g_invU {st0 : List Value} {x : MethodName} (hd : decode M.1 pc = .ok (.invokevirtual idx, 3)) (hb : h.2.2 b = some (κ, .inl fs)) (hr : hCl (κ % 100) = some r) (hc : hCt Z M' d S' (.ref b :: As) h K') (me : hMe M' n) (q1 : Cond.methodLink M.2.1.cls idx x ∈ lw_all) (q5 : Cond.sameMethod x.cls x.cls x.name x.desc ∈ lw_all) (q6 : Cond.declares x ∈ lw_tbl ∨ ∃ c9 n9 r9, Cond.instanceMethod x ∈ lw_all ∧ Cond.code x c9 n9 r9 ∈ lw_all) (q2 : Cond.instanceMethod M'.2.1 ∈ lw_all) (q3 : Cond.selects r.1 x M'.2.1 ∈ lw_all) (hx : (x.cls ≠ "java/lang/invoke/MethodHandle" ∧ x.cls ≠ "java/lang/invoke/VarHandle") ∧ x.desc = M'.2.1.desc) (hn : As.length = n) (hst : st0 = As.reverse ++ .ref b :: rest) (hw : (rest.map fun v => v.category).sum ≤ 8) (hS : ∀ κ, S' κ → S κ)
    (kn : ∀ v h', K' (.inl v) h' → hFr S' h h' → hG Z X M (d + 1) S hin K (pc + 3) ls (v.toList ++ rest) h')
    (kx : ∀ E h', K' (.inr E) h' → hFr S' h h' → hGX Z X M (d + 1) S hin K pc ls E h') : hG Z X M (d + 1) S hin K pc ls st0 h := by
  intro O F H locs la a1 a2 a3 a4 a5
  have hZ := O.1
  have hW := O.2.2.2.2.2.1
  have hts : ∀ w ∈ lw_all, w.before X.2.2.2.2.1 X.2.2.1 = true := fun w hw => hWord hZ hW hw
  have hM := hc hZ
  rw [me.ws] at hM
  obtain ⟨m1, m2, m3, m4, m5, m6, m7⟩ := me
  have hdecl : va_Decl X.2.2.1 ⟨x.cls, x.name, x.desc⟩ := by
    rcases q6 with q | ⟨c9, n9, r9, qa, qb⟩
    · exact va_Decl.abs (va_Nw.warmD hW (va_Nw.of rfl (hZ.1 _ q)))
    · exact va_Decl.of (hts _ qa) (hts _ qb)
  rw [← hx.2] at m3
  refine hAfter (av := (Value.ref b :: As).toArray) O F a2 a4 a5 hS (vx_runU (x := x) (owner := x.cls) (C := r.1) (Ts := lw_all) (As := As) (rest := rest) (n := n) (maxL := M'.2.2.1) (bytes := M'.1) (ret := M'.2.2.2.1) ⟨O.2.1, O.2.2.1, O.2.2.2.1, O.2.2.2.2.1, hts⟩ hM ⟨⟨rfl, rfl, (hRoom m4).1, (hRoom m4).2, hPay hZ hW m7, List.mem_cons_self⟩, hts _ m7, hts _ m1, hx.1, hLen m3, hts _ q1, hts _ q5, hdecl, hts _ q3, hts _ q2⟩ (hPreV O a1 hb hr) rfl hn a5.1 hst (lv_room hw) hd (hFit (d := d + 1) a1 O.2.2.2.2.2.2.1 a2 F a3)) kn kx
/-- a constructor -/
theorem g_invI {st0 : List Value} (hd : decode M.1 pc = .ok (.invokespecial idx, 3)) (hc : hCt Z M' d S' (.ref b :: As) h K') (me : hMe M' n) (hini : M'.2.1.name = "<init>") (hret : M'.2.2.2.1 = none) (q1 : Cond.methodLink M.2.1.cls idx M'.2.1 ∈ lw_all) (q2 : Cond.instanceMethod M'.2.1 ∈ lw_all) (hn : As.length = n) (hst : st0 = As.reverse ++ .ref b :: rest) (hw : (rest.map fun v => v.category).sum ≤ 8) (hS : ∀ κ, S' κ → S κ)
    (kn : ∀ v h', K' (.inl v) h' → hFr S' h h' → hG Z X M (d + 1) S hin K (pc + 3) ls (v.toList ++ rest) h')
    (kx : ∀ E h', K' (.inr E) h' → hFr S' h h' → hGX Z X M (d + 1) S hin K pc ls E h') : hG Z X M (d + 1) S hin K pc ls st0 h := by
  intro O F H locs la a1 a2 a3 a4 a5
  have hZ := O.1
  have hW := O.2.2.2.2.2.1
  have hts : ∀ w ∈ lw_all, w.before X.2.2.2.2.1 X.2.2.1 = true := fun w hw => hWord hZ hW hw
  have hM := hc hZ
  rw [me.ws] at hM
  obtain ⟨m1, m2, m3, m4, m5, m6, m7⟩ := me
  rw [hret] at hM m7
  refine hAfter (av := (Value.ref b :: As).toArray) O F a2 a4 a5 hS (vx_runI (Ts := lw_all) (As := As) (rest := rest) (n := n) (maxL := M'.2.2.1) (bytes := M'.1) ⟨O.2.1, O.2.2.1, O.2.2.2.1, O.2.2.2.2.1, hts⟩ hM ⟨⟨rfl, rfl, (hRoom m4).1, (hRoom m4).2, hPay hZ hW m7, List.mem_cons_self, hts _ m7, hts _ m1, m2, hMe.len m3, hts _ q1⟩, hini, hts _ q2⟩ (hPreS (As := .ref b :: As) O a1) rfl hn a5.1 hst (lv_room hw) hd (hFit (d := d + 1) a1 O.2.2.2.2.2.2.1 a2 F a3)) kn kx
theorem g_invIN {st0 : List Value} {host : String} (hd : decode M.1 pc = .ok (.invokespecial idx, 3)) (hc : hCt Z M' d S' (.ref b :: As) h K') (me : hMe M' n) (hini : M'.2.1.name = "<init>") (hret : M'.2.2.2.1 = none) (q1 : Cond.methodLinkNest M.2.1.cls idx M'.2.1 host ∈ lw_tbl) (q2 : Cond.instanceMethod M'.2.1 ∈ lw_all) (hn : As.length = n) (hst : st0 = As.reverse ++ .ref b :: rest) (hw : (rest.map fun v => v.category).sum ≤ 8) (hS : ∀ κ, S' κ → S κ)
    (kn : ∀ v h', K' (.inl v) h' → hFr S' h h' → hG Z X M (d + 1) S hin K (pc + 3) ls (v.toList ++ rest) h')
    (kx : ∀ E h', K' (.inr E) h' → hFr S' h h' → hGX Z X M (d + 1) S hin K pc ls E h') : hG Z X M (d + 1) S hin K pc ls st0 h := by
  intro O F H locs la a1 a2 a3 a4 a5
  have hZ := O.1
  have hW := O.2.2.2.2.2.1
  have hts : ∀ w ∈ lw_all, w.before X.2.2.2.2.1 X.2.2.1 = true := fun w hw => hWord hZ hW hw
  have hM := hc hZ
  rw [me.ws] at hM
  obtain ⟨m1, m2, m3, m4, m5, m6, m7⟩ := me
  rw [hret] at hM m7
  refine hAfter (av := (Value.ref b :: As).toArray) O F a2 a4 a5 hS (vx_runIN (Ts := lw_all) (As := As) (rest := rest) (n := n) (maxL := M'.2.2.1) (bytes := M'.1) ⟨O.2.1, O.2.2.1, O.2.2.2.1, O.2.2.2.2.1, hts⟩ hM ⟨⟨⟨rfl, rfl, (hRoom m4).1, (hRoom m4).2, hPay hZ hW m7, List.mem_cons_self⟩, hts _ m7, hts _ m1, m2, hMe.len m3, hNestM hZ hW q1⟩, hini, hts _ q2⟩ (hPreS (As := .ref b :: As) O a1) rfl hn a5.1 hst (lv_room hw) hd (hFit (d := d + 1) a1 O.2.2.2.2.2.2.1 a2 F a3)) kn kx
/-- super.y() -/
theorem g_invSU {st0 : List Value} (hd : decode M.1 pc = .ok (.invokespecial idx, 3)) (hb : h.2.2 b = some (κ, .inl fs)) (hr : hCl (κ % 100) = some r) (hc : hCt Z M' d S' (.ref b :: As) h K') (me : hMe M' n) (hini : M'.2.1.name ≠ "<init>") (q1 : Cond.methodLink M.2.1.cls idx M'.2.1 ∈ lw_all) (q2 : Cond.instanceMethod M'.2.1 ∈ lw_all) (q3 : Cond.sameMethod M'.2.1.cls M'.2.1.cls M'.2.1.name M'.2.1.desc ∈ lw_all) (q4 : Cond.superclass M.2.1.cls M'.2.1.cls ∈ lw_all) (hn : As.length = n) (hst : st0 = As.reverse ++ .ref b :: rest) (hw : (rest.map fun v => v.category).sum ≤ 8) (hS : ∀ κ, S' κ → S κ)
    (kn : ∀ v h', K' (.inl v) h' → hFr S' h h' → hG Z X M (d + 1) S hin K (pc + 3) ls (v.toList ++ rest) h')
    (kx : ∀ E h', K' (.inr E) h' → hFr S' h h' → hGX Z X M (d + 1) S hin K pc ls E h') : hG Z X M (d + 1) S hin K pc ls st0 h := by
  intro O F H locs la a1 a2 a3 a4 a5
  have hZ := O.1
  have hW := O.2.2.2.2.2.1
  have hts : ∀ w ∈ lw_all, w.before X.2.2.2.2.1 X.2.2.1 = true := fun w hw => hWord hZ hW hw
  have hM := hc hZ
  rw [me.ws] at hM
  obtain ⟨m1, m2, m3, m4, m5, m6, m7⟩ := me
  refine hAfter (av := (Value.ref b :: As).toArray) O F a2 a4 a5 hS (vx_runSU (C := r.1) (Ts := lw_all) (As := As) (rest := rest) (n := n) (maxL := M'.2.2.1) (bytes := M'.1) (ret := M'.2.2.2.1) (hKn hZ hW hr).2 ⟨O.2.1, O.2.2.1, O.2.2.2.1, O.2.2.2.2.1, hts⟩ hM ⟨⟨rfl, rfl, (hRoom m4).1, (hRoom m4).2, hPay hZ hW m7, List.mem_cons_self⟩, hts _ q1, hts _ q3, hts _ q4, hts _ q2, hts _ m1, hts _ m7, hini, hMe.len m3⟩ (hPreV O a1 hb hr) rfl hn a5.1 hst (lv_room hw) hd (hFit (d := d + 1) a1 O.2.2.2.2.2.2.1 a2 F a3)) kn kx
theorem hFace (hZ : hEnv Z) {U : State} (hW : Z.2.1.WarmedH U.vm) {args : Array Value} {w : Cond} (hw : w ∈ lw_tbl) (h1 : w.onTables = true) (h2 : w.faceAtom = true) : w.before args U = true :=
  hWordT hZ hW hw h1 (by cases w <;> first | (simp [Cond.keepsFace, h2]; done) | (simp [Cond.faceAtom] at h2))
/-- an interface's method -/
theorem g_invF {st0 : List Value} {x : MethodName} {cnt : Nat} (hd : decode M.1 pc = .ok (.invokeinterface idx cnt, 5)) (hb : h.2.2 b = some (κ, .inl fs)) (hr : hCl (κ % 100) = some r) (hc : hCt Z M' d S' (.ref b :: As) h K') (me : hMe M' n) (q1 : Cond.methodLink M.2.1.cls idx x ∈ lw_all) (q2 : Cond.instanceMethod M'.2.1 ∈ lw_all) (q3 : Cond.selects r.1 x M'.2.1 ∈ lw_all) (f1 : Cond.declares x ∈ lw_tbl) (f2 : Cond.interfaceMethod x.cls x.cls x.name x.desc ∈ lw_tbl) (f3 : Cond.publicMethod M'.2.1 ∈ lw_tbl) (f4 : Cond.unhidden r.1 x.name x.desc ∈ lw_tbl) (f5 : Cond.castable r.1 x.cls ∈ lw_tbl) (hx : (x.cls ≠ "java/lang/invoke/MethodHandle" ∧ x.cls ≠ "java/lang/invoke/VarHandle") ∧ x.desc = M'.2.1.desc) (hn : As.length = n) (hst : st0 = As.reverse ++ .ref b :: rest) (hw : (rest.map fun v => v.category).sum ≤ 8) (hS : ∀ κ, S' κ → S κ)
    (kn : ∀ v h', K' (.inl v) h' → hFr S' h h' → hG Z X M (d + 1) S hin K (pc + 5) ls (v.toList ++ rest) h')
    (kx : ∀ E h', K' (.inr E) h' → hFr S' h h' → hGX Z X M (d + 1) S hin K pc ls E h') : hG Z X M (d + 1) S hin K pc ls st0 h := by
  intro O F H locs la a1 a2 a3 a4 a5
  have hZ := O.1
  have hW := O.2.2.2.2.2.1
  have hts : ∀ w ∈ lw_all, w.before X.2.2.2.2.1 X.2.2.1 = true := fun w hw => hWord hZ hW hw
  have hM := hc hZ
  rw [me.ws] at hM
  obtain ⟨m1, m2, m3, m4, m5, m6, m7⟩ := me
  rw [← hx.2] at m3
  have hfm : (Cond.interfaceMethod x.cls x.cls x.name x.desc).faceAtom = true := by
    simp [Cond.faceAtom, hx.1.1, hx.1.2]
  refine hAfter5 (av := (Value.ref b :: As).toArray) O F a2 a4 a5 hS (vx_runF (x := x) (C := r.1) (Ts := lw_all) (As := As) (rest := rest) (n := n) (maxL := M'.2.2.1) (bytes := M'.1) (ret := M'.2.2.2.1) (hKn hZ hW hr).2 ⟨O.2.1, O.2.2.1, O.2.2.2.1, O.2.2.2.2.1, hts⟩ hM ⟨⟨rfl, rfl, (hRoom m4).1, (hRoom m4).2, hPay hZ hW m7, List.mem_cons_self⟩, hts _ q1, hFace hZ hW f1 rfl rfl, hFace hZ hW f2 rfl hfm, hts _ q3, hts _ q2, hFace hZ hW f3 rfl rfl, hFace hZ hW f4 rfl rfl, hFace hZ hW f5 rfl rfl, hts _ m1, hts _ m7, hx.1, hLen m3⟩ (hPreV O a1 hb hr) rfl hn a5.1 hst (lv_room hw) hd (hFit (d := d + 1) a1 O.2.2.2.2.2.2.1 a2 F a3)) kn kx
/-- java.lang.Object's constructor -/
theorem g_objInit (hd : decode M.1 pc = .ok (.invokespecial idx, 3)) (q1 : Cond.methodLink M.2.1.cls idx Lib.objectInit ∈ lw_all) (q2 : Cond.instanceMethod Lib.objectInit ∈ lw_all) (q3 : Cond.code Lib.objectInit ⟨#[0xb1]⟩ 1 none ∈ lw_all) (hw : (rest.map fun v => v.category).sum ≤ 8) (k : hG Z X M (d + 1) S hin K (pc + 3) ls rest h) : hG Z X M (d + 1) S hin K pc ls (.ref b :: rest) h := by
  intro O F H locs la a1 a2 a3 a4 a5
  have hk := k O F H locs la a1 a2 a3 a4 a5
  have hZ := O.1
  have hW := O.2.2.2.2.2.1
  have hts : ∀ w ∈ lw_all, w.before X.2.2.2.2.1 X.2.2.1 = true := fun w hw => hWord hZ hW hw
  refine W.objInit O.2.1 O.2.2.1 O.2.2.2.2.1 (hts _ q1) (hts _ q2) (hts _ q3) rfl (by rw [O.2.2.2.1]; exact a5.1) rfl hd (Nat.succ_le_succ (Nat.zero_le _)) ?_ hk
  have h0 := lv_room (m := X.2.2.2.1) (pc := pc) (ls := la) (rest := .ref b :: rest) hw
  show _ ≤ 46 * (d + 1) + 192
  omega
end G5
