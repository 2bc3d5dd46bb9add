/-! JDK 1: Math (its class has rows of natives: entry by plainFor) -/
set_option maxRecDepth 100000
def hMeF (M : hM) (n : Nat) : Prop := Cond.initialized M.2.1.cls ∈ lw_all ∧ (M.2.1.cls ≠ "java/lang/invoke/MethodHandle" ∧ M.2.1.cls ≠ "java/lang/invoke/VarHandle") ∧ (parseMethodDescriptor M.2.1.desc).map (fun d => d.parameters.length) = some n ∧ M.2.2.1 ≤ 27 ∧ M.2.2.2.2 = [] ∧ Cond.code M.2.1 M.1 M.2.2.1 M.2.2.2.1 ∈ lw_all
theorem meJ12_max : hMeF mJ12_max 2 := ⟨q85, nhJ12, by decide +kernel, Nat.le_of_ble_eq_true rfl, rfl, q247⟩
theorem meJ12_min : hMeF mJ12_min 2 := ⟨q85, nhJ12, by decide +kernel, Nat.le_of_ble_eq_true rfl, rfl, q265⟩
theorem meJ12_clamp : hMeF mJ12_clamp 3 := ⟨q85, nhJ12, by decide +kernel, Nat.le_of_ble_eq_true rfl, rfl, q1061⟩
theorem meJ12_max_2 : hMeF mJ12_max_2 2 := ⟨q85, nhJ12, by decide +kernel, Nat.le_of_ble_eq_true rfl, rfl, q1072⟩
theorem meJ12_min_2 : hMeF mJ12_min_2 2 := ⟨q85, nhJ12, by decide +kernel, Nat.le_of_ble_eq_true rfl, rfl, q1075⟩
theorem pfJ12_max : plainFor yJ12_max = true := by decide +kernel
theorem pfJ12_min : plainFor yJ12_min = true := by decide +kernel
theorem pfJ12_max_2 : plainFor yJ12_max_2 = true := by decide +kernel
theorem pfJ12_min_2 : plainFor yJ12_min_2 = true := by decide +kernel
theorem pfJ12_clamp : plainFor yJ12_clamp = true := by decide +kernel
theorem hCt.ofF {Z : hE} {M : hM} {d : Nat} {S : Nat → Prop} {av : List Value} {h : hP} {K : hO → hP → Prop} {ls : List (Nat × Value)} (hy : plainFor M.2.1 = true) (hx : M.2.2.2.2 = []) (hn : (lg_sl av).length ≤ M.2.2.1) (hl : lv_args 0 av = ls) (body : ∀ X : hX, hG Z X M d S h K 0 ls [] h) : hCt Z M d S av h K := by
  subst hl
  intro hZ
  have hws : hWs M = Cond.code M.2.1 M.1 M.2.2.1 M.2.2.2.1 :: lw_all := by
    unfold hWs; rw [hx]
  refine MetFree.of_bodySF (code := M.1) (maxLocals := M.2.2.1) (ret := M.2.2.2.1) hy ?_ ?_
  · intro args s m h hn
    obtain ⟨meth, c, h1, h2, h3, h4, h5, h6, -, -⟩ := Cond.code_spec hn (atoms_spec (ws := hWs M) h _ (by rw [hws]; exact List.mem_cons_self))
    exact ⟨meth, c, h1, h2, h3, h4, h5, h6⟩
  · intro p e s m args below meth c s₁ B hml hv _
    have hh0 : s₁.heap = s.heap := by rw [B.state]; rfl
    have ht : c.exceptionTable.toList = [] := by
      obtain ⟨meth9, c9, h1, h2, -, -, -, -, h7, -⟩ := Cond.code_spec B.named (atoms_spec (ws := hWs M) B.pre _ (by rw [hws]; exact List.mem_cons_self))
      cases Option.some.inj (h1.symm.trans B.method)
      cases Option.some.inj (h2.symm.trans (Stand.of_body B).code)
      rw [Array.isEmpty_iff.mp h7]
    obtain ⟨rfl, hr, hW⟩ := hv
    have hlv := lv_entry av (n := M.2.2.1) hn
    have hOK : hOK Z (p, e, s, m, av.toArray, below, meth, c) M d h :=
      ⟨hZ, B.exec, B.bytes, hml, findClass_of_methodNamed B.named, hW, hr, B.notSynchronized, B.returns, by rw [hx]; exact ht, (name_of_methodNamed B.named B.method).1⟩
    have := hCanon (cells := 0) (slots := 0) fun b3 => body (p, e, s, m, av.toArray, below, meth, c) hOK (hFr.rf h) s.heap [] _ hr (Nat.le_of_eq (Nat.add_comm _ _)) b3 (fun q hq => nomatch hq) hlv
    obtain ⟨t, a1, o, b1, b2, b3⟩ := this s₁ hh0 (Stand.of_body B)
    refine ⟨t, o, ?_, b1, b2, b3⟩
    rw [lg_entry_eq]
    exact a1
section JM
variable {Z : hE} {X : hX} {M : hM} {d : Nat} {S : Nat → Prop} {hin : hP} {K : hO → hP → Prop} {pc : Nat} {ls : List (Nat × Value)} {st : List Value} {h : hP}
variable {M' : hM} {S' : Nat → Prop} {K' : hO → hP → Prop} {As rest : List Value} {n idx : Nat}
theorem g_invSF {st0 : List Value} (hd : decode M.1 pc = .ok (.invokestatic idx, 3)) (hc : hCt Z M' d S' As h K') (me : hMeF M' n) (q1 : Cond.methodLink M.2.1.cls idx M'.2.1 ∈ lw_all) (q2 : Cond.static M'.2.1 ∈ lw_all) (hn : As.length = n) (hst : st0 = As.reverse ++ rest) (hw : (rest.map fun v => v.category).sum ≤ 8) (hS : ∀ κ, S' κ → S κ)
    (kn : ∀ v h', K' (.inl v) h' → hFr S' h h' → hG Z X M (d + 1) S hin K (pc + 3) ls (v.toList ++ rest) h')
    (kx : ∀ E h', K' (.inr E) h' → hFr S' h h' → hGX Z X M (d + 1) S hin K pc ls E h') : hG Z X M (d + 1) S hin K pc ls st0 h := by
  intro O F H locs la a1 a2 a3 a4 a5
  have hZ := O.1
  have hW := O.2.2.2.2.2.1
  have hts : ∀ w ∈ lw_all, w.before X.2.2.2.2.1 X.2.2.1 = true := fun w hw => hWord hZ hW hw
  have hM := hc hZ
  obtain ⟨m1, m2, m3, m4, m6, m7⟩ := me
  have hws : hWs M' = Cond.code M'.2.1 M'.1 M'.2.2.1 M'.2.2.2.1 :: lw_all := by unfold hWs; rw [m6]
  rw [hws] at hM
  refine hAfter (av := As.toArray) O F a2 a4 a5 hS (vx_runS (Ts := lw_all) (As := As) (rest := rest) (n := n) (maxL := M'.2.2.1) (bytes := M'.1) (ret := M'.2.2.2.1) ⟨O.2.1, O.2.2.1, O.2.2.2.1, O.2.2.2.2.1, hts⟩ hM ⟨⟨rfl, rfl, (hRoom m4).1, (hRoom m4).2, hPay hZ hW m7, List.mem_cons_self, hts _ m7, hts _ m1, m2, hMe.len m3, hts _ q1⟩, hts _ q2⟩ (hPreS O a1) rfl hn a5.1 hst (lv_room hw) hd (hFit (d := d + 1) a1 O.2.2.2.2.2.2.1 a2 F a3)) kn kx
theorem g_iretK {P : Option Value → hP → Prop} {v : Int32} (hd : decode M.1 pc = .ok (.ireturn, 1)) (hr : M.2.2.2.1 = some .int) (k : P (some (.int v)) h) : hG Z X M d S hin (jK P) pc ls [.int v] h := g_iret hd hr ⟨_, rfl, k⟩
/-- Math.max, Math.min of naturals -/
theorem jc_max (d a b : Nat) (ha : a < 2147483648) (hb : b < 2147483648) : jP Z mJ12_max d [.int (nI a), .int (nI b)] h (some (.int (nI (max a b)))) := by
  refine hCt.ofF pfJ12_max rfl (Nat.le_of_ble_eq_true rfl) rfl (fun X => ?_)
  refine g_iload_n (pc := 0) dJ12_max_0 rfl rfl ?_
  refine g_iload_n (pc := 1) dJ12_max_1 rfl rfl ?_
  refine g_icmp_ltN (pc := 2) (tgt := 9) dJ12_max_2 rfl (by omega) (by omega) (fun q => ?_) (fun q => ?_)
  · refine g_iload_n (pc := 9) dJ12_max_9 rfl rfl ?_
    exact g_iret (pc := 10) dJ12_max_10 rfl ⟨_, rfl, by rw [Nat.max_eq_right (by omega)], rfl⟩
  · refine g_iload_n (pc := 5) dJ12_max_5 rfl rfl ?_
    refine g_goto (pc := 6) (tgt := 10) dJ12_max_6 rfl ?_
    exact g_iret (pc := 10) dJ12_max_10 rfl ⟨_, rfl, by rw [Nat.max_eq_left (by omega)], rfl⟩
theorem jc_min (d a b : Nat) (ha : a < 2147483648) (hb : b < 2147483648) : jP Z mJ12_min d [.int (nI a), .int (nI b)] h (some (.int (nI (min a b)))) := by
  refine hCt.ofF pfJ12_min rfl (Nat.le_of_ble_eq_true rfl) rfl (fun X => ?_)
  refine g_iload_n (pc := 0) dJ12_min_0 rfl rfl ?_
  refine g_iload_n (pc := 1) dJ12_min_1 rfl rfl ?_
  refine g_icmp_gtN (pc := 2) (tgt := 9) dJ12_min_2 rfl (by omega) (by omega) (fun q => ?_) (fun q => ?_)
  · refine g_iload_n (pc := 9) dJ12_min_9 rfl rfl ?_
    exact g_iret (pc := 10) dJ12_min_10 rfl ⟨_, rfl, by rw [Nat.min_eq_right (by omega)], rfl⟩
  · refine g_iload_n (pc := 5) dJ12_min_5 rfl rfl ?_
    refine g_goto (pc := 6) (tgt := 10) dJ12_min_6 rfl ?_
    exact g_iret (pc := 10) dJ12_min_10 rfl ⟨_, rfl, by rw [Nat.min_eq_left (by omega)], rfl⟩
theorem lgN_lt {a b : Nat} (ha : a < 2 ^ 63) (hb : b < 2 ^ 63) : lg_cmp (lN a) (lN b) < 0 ↔ a < b := by
  unfold lg_cmp
  by_cases h : b < a
  · rw [if_pos ((pk_lLT hb ha).mpr h)]
    constructor
    · intro z; exact absurd z (by decide)
    · intro z; omega
  · rw [if_neg (fun z => h ((pk_lLT hb ha).mp z))]
    by_cases e : a = b
    · rw [if_pos (by rw [e])]
      constructor
      · intro z; exact absurd z (by decide)
      · intro z; omega
    · rw [if_neg (fun z => e ((pk_lEQ ha hb).mp z))]
      constructor
      · intro _; omega
      · intro _; decide
theorem jc_lmax (d a b : Nat) (ha : a < 2 ^ 63) (hb : b < 2 ^ 63) : jP Z mJ12_max_2 d [.long (lN a), .long (lN b)] h (some (.long (lN (max a b)))) := by
  refine hCt.ofF pfJ12_max_2 rfl (Nat.le_of_ble_eq_true rfl) rfl (fun X => ?_)
  refine g_lload_n (pc := 0) dJ12_max_2_0 rfl rfl ?_
  refine g_lload_n (pc := 1) dJ12_max_2_1 rfl rfl ?_
  refine g_lcmp (pc := 2) dJ12_max_2_2 ?_
  refine g_if_lt (pc := 3) (tgt := 10) dJ12_max_2_3 rfl (fun q => ?_) (fun q => ?_)
  · have q := (lgN_lt ha hb).mp q
    refine g_lload_n (pc := 10) dJ12_max_2_10 rfl rfl ?_
    exact g_lret (pc := 11) dJ12_max_2_11 rfl ⟨_, rfl, by rw [Nat.max_eq_right (by omega)], rfl⟩
  · have q : ¬ a < b := fun z => q ((lgN_lt ha hb).mpr z)
    refine g_lload_n (pc := 6) dJ12_max_2_6 rfl rfl ?_
    refine g_goto (pc := 7) (tgt := 11) dJ12_max_2_7 rfl ?_
    exact g_lret (pc := 11) dJ12_max_2_11 rfl ⟨_, rfl, by rw [Nat.max_eq_left (by omega)], rfl⟩
theorem jc_lmin (d a b : Nat) (ha : a < 2 ^ 63) (hb : b < 2 ^ 63) : jP Z mJ12_min_2 d [.long (lN a), .long (lN b)] h (some (.long (lN (min a b)))) := by
  refine hCt.ofF pfJ12_min_2 rfl (Nat.le_of_ble_eq_true rfl) rfl (fun X => ?_)
  refine g_lload_n (pc := 0) dJ12_min_2_0 rfl rfl ?_
  refine g_lload_n (pc := 1) dJ12_min_2_1 rfl rfl ?_
  refine g_lcmp (pc := 2) dJ12_min_2_2 ?_
  refine g_if_gt (pc := 3) (tgt := 10) dJ12_min_2_3 rfl (fun q => ?_) (fun q => ?_)
  · have q : ¬ a ≤ b := fun z => absurd ((lgN_gt ha hb).mpr z) (Int32.not_le.mpr q)
    refine g_lload_n (pc := 10) dJ12_min_2_10 rfl rfl ?_
    exact g_lret (pc := 11) dJ12_min_2_11 rfl ⟨_, rfl, by rw [Nat.min_eq_right (by omega)], rfl⟩
  · have q : a ≤ b := (lgN_gt ha hb).mp (Int32.not_lt.mp q)
    refine g_lload_n (pc := 6) dJ12_min_2_6 rfl rfl ?_
    refine g_goto (pc := 7) (tgt := 11) dJ12_min_2_7 rfl ?_
    exact g_lret (pc := 11) dJ12_min_2_11 rfl ⟨_, rfl, by rw [Nat.min_eq_left (by omega)], rfl⟩
theorem jc_clamp (d a b : Nat) (ha : a < 2147483648) (hb : b < 2147483648) : jP Z mJ12_clamp (d + 1) [.long (lN a), .int (nI 0), .int (nI b)] h (some (.int (nI (min b a)))) := by
  refine hCt.ofF pfJ12_clamp rfl (Nat.le_of_ble_eq_true rfl) rfl (fun X => ?_)
  refine g_iload_n (pc := 0) dJ12_clamp_0 rfl rfl ?_
  refine g_iload_n (pc := 1) dJ12_clamp_1 rfl rfl ?_
  refine g_icmp_leN (pc := 2) (tgt := 36) dJ12_clamp_2 rfl (by omega) (by omega) (fun _ => ?_) (fun q_ => absurd q_ (by omega))
  refine g_iload_n (pc := 36) dJ12_clamp_36 rfl rfl ?_
  first | refine g_i2lN (pc := 37) dJ12_clamp_37 (by omega) ?_ | refine g_i2l (pc := 37) dJ12_clamp_37 ?_
  refine g_lload_n (pc := 38) dJ12_clamp_38 rfl rfl ?_
  refine g_iload_n (pc := 39) dJ12_clamp_39 rfl rfl ?_
  first | refine g_i2lN (pc := 40) dJ12_clamp_40 (by omega) ?_ | refine g_i2l (pc := 40) dJ12_clamp_40 ?_
  refine g_invSF (pc := 41) dJ12_clamp_41 (jc_lmax _ a 0 (by omega) (by decide)) meJ12_max_2 q1070 q1071 rfl rfl (Nat.le_of_ble_eq_true rfl) (by first | exact jF | exact fun _ z => z | assumption | (intro κ z; simp_all)) (jk_e ?_) jk_x
  rw [Nat.max_eq_left (Nat.zero_le a)]
  refine g_invSF (pc := 44) dJ12_clamp_44 (jc_lmin _ b a (by omega) (by omega)) meJ12_min_2 q1073 q1074 rfl rfl (Nat.le_of_ble_eq_true rfl) (by first | exact jF | exact fun _ z => z | assumption | (intro κ z; simp_all)) (jk_e ?_) jk_x
  first | refine g_l2iN (pc := 47) dJ12_clamp_47 ?_ | refine g_l2i (pc := 47) dJ12_clamp_47 ?_
  exact g_iret (pc := 48) dJ12_clamp_48 rfl ⟨_, rfl, rfl, rfl⟩
end JM
