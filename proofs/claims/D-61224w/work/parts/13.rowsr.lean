/-! ROWS 3: ends, contracts, calls -/
set_option maxRecDepth 100000
section G4
variable {Z : hE} {X : hX} {M : hM} {d : Nat} {S : Nat → Prop} {hin : hP} {K : hO → hP → Prop} {pc : Nat} {ls : List (Nat × Value)} {st : List Value} {h : hP}
theorem hEnd {H : Heap} {s : State} (a1 : hR Z h H) (b1 : hR Z hin s.heap) (a2 : hSum H + hin.2.1 ≤ h.2.1 + hSum s.heap) : H.size - s.heap.size ≤ hLC Z - hin.1 ∧ hSum H - hSum s.heap ≤ hLS - hin.2.1 := by
  have e1 := a1.1
  have e2 := b1.1
  have e3 := a1.2.2.2.2.1
  have e4 := a1.2.2.2.2.2.1
  have e5 := b1.2.2.2.2.2.1
  constructor <;> omega
theorem g_iret {v : Int32} (hd : decode M.1 pc = .ok (.ireturn, 1)) (hr : M.2.2.2.1 = some .int) (k : K (.inl (some (.int v))) h) : hG Z X M d S hin K pc ls [.int v] h := by
  intro O F H locs la a1 a2 a3 a4 a5
  obtain ⟨hZ, hx, hb, hml, hown, hW, hrin, hlk, hret, hxt, hnm⟩ := O
  obtain ⟨w1, w2⟩ := hEnd a1 hrin a2
  refine W.widen w1 w2 (vx_ret ?_)
  exact W.iret (v := v) hx hb (hret.trans hr) (fun t ht hW => ⟨some (.int v), h, rfl, by rw [ht]; exact a1, by rw [ht]; exact a2, F, k⟩) a4 hd hlk
theorem g_zret {v : Int32} {ty : FieldType} (hd : decode M.1 pc = .ok (.ireturn, 1)) (hr : M.2.2.2.1 = some ty) (hn : narrow ty (.int v) = .int v) (k : K (.inl (some (.int v))) h) : hG Z X M d S hin K pc ls [.int v] h := by
  intro O F H locs la a1 a2 a3 a4 a5
  obtain ⟨hZ, hx, hb, hml, hown, hW, hrin, hlk, hret, hxt, hnm⟩ := O
  obtain ⟨w1, w2⟩ := hEnd a1 hrin a2
  refine W.widen w1 w2 (vx_ret ?_)
  exact W.zret (v := v) hx hb (hret.trans hr) hn (fun t ht hW => ⟨some (.int v), h, rfl, by rw [ht]; exact a1, by rw [ht]; exact a2, F, k⟩) a4 hd hlk
theorem g_lret {v : Int64} (hd : decode M.1 pc = .ok (.lreturn, 1)) (hr : M.2.2.2.1 = some .long) (k : K (.inl (some (.long v))) h) : hG Z X M d S hin K pc ls [.long v] h := by
  intro O F H locs la a1 a2 a3 a4 a5
  obtain ⟨hZ, hx, hb, hml, hown, hW, hrin, hlk, hret, hxt, hnm⟩ := O
  obtain ⟨w1, w2⟩ := hEnd a1 hrin a2
  refine W.widen w1 w2 (vx_ret ?_)
  exact W.lret (v := v) hx hb (hret.trans hr) (fun t ht hW => ⟨some (.long v), h, rfl, by rw [ht]; exact a1, by rw [ht]; exact a2, F, k⟩) a4 hd hlk
theorem g_vret (hd : decode M.1 pc = .ok (.return_, 1)) (hr : M.2.2.2.1 = none) (k : K (.inl none) h) : hG Z X M d S hin K pc ls [] h := by
  intro O F H locs la a1 a2 a3 a4 a5
  obtain ⟨hZ, hx, hb, hml, hown, hW, hrin, hlk, hret, hxt, hnm⟩ := O
  obtain ⟨w1, w2⟩ := hEnd a1 hrin a2
  refine W.widen w1 w2 (vx_ret ?_)
  exact W.vret hx hb (hret.trans hr) (fun t ht hW => ⟨none, h, rfl, by rw [ht]; exact a1, by rw [ht]; exact a2, F, k⟩) a4 hd hlk
theorem g_aret {v : Value} {rt : FieldType} (hd : decode M.1 pc = .ok (.areturn, 1)) (hr : M.2.2.2.1 = some rt) (hrt : (∃ n, rt = .object n) ∨ ∃ t, rt = .array t) (hv : v = .null ∨ ∃ a, v = .ref a) (k : K (.inl (some v)) h) : hG Z X M d S hin K pc ls [v] h := by
  intro O F H locs la a1 a2 a3 a4 a5
  obtain ⟨hZ, hx, hb, hml, hown, hW, hrin, hlk, hret, hxt, hnm⟩ := O
  obtain ⟨w1, w2⟩ := hEnd a1 hrin a2
  refine W.widen w1 w2 (vx_ret ?_)
  exact W.aret (v := v) hx hb (hret.trans hr) hrt hv (fun t ht hW => ⟨some v, h, rfl, by rw [ht]; exact a1, by rw [ht]; exact a2, F, k⟩) a4 hd hlk
theorem gx_out (hc : ∀ x ∈ tableOf M.2.2.2.2, covers x pc = false) {E : String} (k : K (.inr E) h) : hGX Z X M d S hin K pc ls E h := by
  intro O F H locs la st q ce a1 a2 a3 a4 a5 b1 b2 b3
  obtain ⟨hZ, hx, hb, hml, hown, hW, hrin, hlk, hret, hxt, hnm⟩ := O
  obtain ⟨w1, w2⟩ := hEnd a1 hrin a2
  exact vx_out (by rw [hxt]; exact hc) hlk b1 b2 b3 (fun t ht hA => ⟨h, by rw [ht]; exact a1, by rw [ht]; exact a2, F, k⟩) a4 w1 w2
theorem g_athrow {κ q : Nat} {fs : List Value} {r : vw_C} (hd : decode M.1 pc = .ok (.athrow, 1)) (ha : h.2.2 q = some (κ, .inl fs)) (hκ : κ < 900) (hc : hCl (κ % 100) = some r) (k : hGX Z X M d S hin K pc ls r.1 h) : hG Z X M d S hin K pc ls (.ref q :: st) h := by
  intro O F H locs la a1 a2 a3 a4 a5
  have O' := O
  obtain ⟨hZ, hx, hb, hml, hown, hW, hrin, hlk, hret, hxt, hnm⟩ := O
  obtain ⟨-, cell, hcell, hvm, hkn, hst, r', hr', hcls, -⟩ := a1.2.2.2.1 q _ ha
  refine vx_athrow hx hb hd ?_
  exact k O' F H locs la st q cell a1 a2 a3 a4 a5 hcell (hvm hκ) (by rw [hcls]; exact (hKn hZ hW hc).2.1)
end G4
/-- a body walked from its entry is a contract -/
theorem hCt.of {Z : hE} {M : hM} {d : Nat} {S : Nat → Prop} {av : List Value} {h : hP} {K : hO → hP → Prop} {ls : List (Nat × Value)} (hy : plainName M.2.1.cls = true) (hx : M.2.2.2.2 = []) (hn : (lg_sl av).length ≤ M.2.2.1) (hl : lv_args 0 av = ls) (body : ∀ X : hX, hG Z X M d S h K 0 ls [] h) : hCt Z M d S av h K := by
  subst hl
  intro hZ
  have hws : hWs M = Cond.code M.2.1 M.1 M.2.2.1 M.2.2.2.1 :: lw_all := by
    unfold hWs; rw [hx]
  refine vx_ofW (cc := M.1) (maxL := M.2.2.1) (ret := M.2.2.2.1) hy hws ?_
  intro p e s m args below meth c s₁ B hml ht hv
  obtain ⟨rfl, hr, hW⟩ := hv
  have hlv := lv_entry av (n := M.2.2.1) hn
  rw [lg_entry_eq]
  have hOK : hOK Z (p, e, s, m, av.toArray, below, meth, c) M d h :=
    ⟨hZ, B.exec, B.bytes, hml, findClass_of_methodNamed B.named, hW, hr, B.notSynchronized, B.returns, by
      rw [hx]
      show c.exceptionTable.toList = []
      exact List.eq_nil_iff_forall_not_mem.mpr (fun x hx => ht x hx), (name_of_methodNamed B.named B.method).1⟩
  exact hCanon fun b3 => body (p, e, s, m, av.toArray, below, meth, c) hOK (hFr.rf h) s.heap [] _ hr (Nat.le_of_eq (Nat.add_comm _ _)) b3 (fun q hq => nomatch hq) hlv
theorem hCt.ofH {Z : hE} {M : hM} {d : Nat} {S : Nat → Prop} {av : List Value} {h : hP} {K : hO → hP → Prop} {ls : List (Nat × Value)} (hy : plainName M.2.1.cls = true) (x0 : Nat × Nat × Nat × Nat) (xs : List (Nat × Nat × Nat × Nat)) (hx : M.2.2.2.2 = x0 :: xs) (hn : (lg_sl av).length ≤ M.2.2.1) (hl : lv_args 0 av = ls) (body : ∀ X : hX, hG Z X M d S h K 0 ls [] h) : hCt Z M d S av h K := by
  subst hl
  intro hZ
  have hws : hWs M = Cond.codeWith M.2.1 M.1 M.2.2.1 M.2.2.2.1 M.2.2.2.2 :: lw_all := by
    unfold hWs; rw [hx]
  refine vx_ofWH (cc := M.1) (maxL := M.2.2.1) (ret := M.2.2.2.1) (hh := M.2.2.2.2) hy hws ?_
  intro p e s m args below meth c s₁ B hml hv
  obtain ⟨rfl, hr, hW⟩ := hv
  have hlv := lv_entry av (n := M.2.2.1) hn
  rw [lg_entry_eq]
  have hcw : (Cond.codeWith M.2.1 M.1 M.2.2.1 M.2.2.2.1 M.2.2.2.2).before av.toArray s = true := atoms_spec (ws := hWs M) B.pre _ (by rw [hws]; exact List.mem_cons_self)
  have hOK : hOK Z (p, e, s, m, av.toArray, below, meth, c) M d h :=
    ⟨hZ, B.exec, B.bytes, hml, findClass_of_methodNamed B.named, hW, hr, B.notSynchronized, B.returns, vx_table (x := M.2.1) B hcw, (name_of_methodNamed B.named B.method).1⟩
  exact hCanon fun b3 => body (p, e, s, m, av.toArray, below, meth, c) hOK (hFr.rf h) s.heap [] _ hr (Nat.le_of_eq (Nat.add_comm _ _)) b3 (fun q hq => nomatch hq) hlv
theorem hPc_blind {Z : hE} {av : List Value} {h : hP} : FrameBlind (hPc Z av h) := fun a U g mk q => by
  obtain ⟨q0, q1, q2⟩ := q
  exact ⟨q0, q1, q2⟩
theorem hCt.mono {Z : hE} {M : hM} {d : Nat} {S : Nat → Prop} {av : List Value} {h : hP} {K K' : hO → hP → Prop} (c : hCt Z M d S av h K) (hk : ∀ r h', K r h' → K' r h') : hCt Z M d S av h K' := by
  intro hZ
  have hM := c hZ
  intro p e x1 x2 x3 s m args below y1 y2 y3 y4
  obtain ⟨k, o, z1, z2, z3, z4⟩ := hM p e x1 x2 x3 s m args below y1 y2 y3 y4
  refine ⟨k, o, z1, z2, z3, ?_⟩
  rcases z4 with ⟨⟨v, h', g1, g2, g3, g4, g5⟩, z5⟩ | ⟨q, w1, E, ce, L, ⟨h', g2, g3, g4, g5⟩, w3⟩
  · exact Or.inl ⟨⟨v, h', g1, g2, g3, g4, hk _ _ g5⟩, z5⟩
  · exact Or.inr ⟨q, w1, E, ce, L, ⟨h', g2, g3, g4, hk _ _ g5⟩, w3⟩
