/-! COMPONENT 30: faultAt, need, isEnd, toTag -/
set_option maxRecDepth 100000
def IAE : String := "java/lang/IllegalArgumentException"
/-- the engine's cell -/
abbrev eC (e0 e1 e2 e3 : Value) (ea : Int32) (e5 e6 e7 : Value) : hC := (1, .inl [e0, e1, e2, e3, .int ea, e5, e6, e7])
section PT
variable {Z : hE} {h : hP} {κ a E P s : Nat} {l : List Nat} {e0 e1 e2 e3 e5 e6 e7 : Value} {ea : Int32}
theorem pt_fault (d : Nat) (pl : Int32) (hE : h.2.2 E = some (eC e0 e1 e2 e3 ea e5 e6 e7)) (l1 : h.1 + 1 ≤ hLC Z) (l2 : h.2.1 + 6 ≤ hLS) : jC Z mX1_faultAt (d + 7) (fun κ => κ = 1) [.ref E, .int pl] h (fun r h' => r = some (.ref h.1) ∧ h' = hNew (hSet h E (eC e0 e1 e2 e3 pl e5 e6 e7)) (41, .inl []) 6 ∧ (∀ a c, h.2.2 a = some c → a < h.1)) := by
  refine jC.of pnX1 rfl (Nat.le_of_ble_eq_true rfl) rfl (fun X => ?_)
  refine g_wf (fun hwf0 => ?_)
  refine g_aload_n (pc := 0) dX1_faultAt_0 rfl rfl ?_
  refine g_iload_n (pc := 1) dX1_faultAt_1 rfl rfl ?_
  refine g_put (pc := 2) (r := (RX1, TX1, 8)) 4 dX1_faultAt_2 hE rfl (Nat.le_of_ble_eq_true rfl) q499 (Or.inl rfl) rfl (by decide) rfl (tyX1_ok 4 (Nat.le_of_ble_eq_true rfl)) rfl rfl ?_
  refine g_make0 (pc := 5) 41 dX1_faultAt_5 dX1_faultAt_8 dX1_faultAt_9 xX1_13 x_st rfl (by decide) rfl rfl (Nat.le_of_ble_eq_true rfl) l1 l2 (fun hwf => ?_)
  exact g_aret (pc := 12) dX1_faultAt_12 rfl (Or.inl ⟨_, rfl⟩) (Or.inr ⟨_, rfl⟩) ⟨_, rfl, rfl, rfl, hwf0⟩
/-- isEnd -/
def enB (l : List Nat) : Bool := decide (l = [101, 108, 115, 101]) || decide (l = [47, 105, 102]) || decide (l = [47, 101, 97, 99, 104]) || decide (l = [47, 119, 105, 116, 104])
theorem pt_isEnd (d : Nat) (hs : jSt h κ a l) : jP Z mX9_isEnd (d + 2) [.ref a] h (some (.int (nI (enB l).toNat))) := by
  have kw := hs.cl
  have hs0 := hs
  obtain ⟨-, -, bw, κb, hs1, hz, hsw, -⟩ := hs0
  refine jC.of pnX9 rfl (Nat.le_of_ble_eq_true rfl) rfl (fun X => ?_)
  have yes : enB l = true → hG Z X mX9_isEnd (d + 2) (fun _ => False) h (jK (fun v h' => v = some (.int (nI (enB l).toNat)) ∧ h' = h)) 36 [(0, .ref a)] [] h := by
    intro hb
    rw [hb]
    refine g_iconst (pc := 36) (v := nI 1) dX9_isEnd_36 rfl ?_
    refine g_goto (pc := 37) (tgt := 41) dX9_isEnd_37 rfl ?_
    exact g_zret (pc := 41) dX9_isEnd_41 rfl (by first | exact bz_n _ | rfl) ⟨_, rfl, rfl, rfl⟩
  refine g_aload_n (pc := 0) dX9_isEnd_0 rfl rfl ?_
  refine g_ldcK (pc := 1) dX9_isEnd_1 ksX9_66 (fun hk1 => ?_)
  refine g_invV (pc := 3) dX9_isEnd_3 hsw kw (jc_equals d 930 _ _ hs hk1) meJ9_equals q1148 q965 q966 rfl rfl (Nat.le_of_ble_eq_true rfl) (by first | exact jF | exact fun _ z => z | assumption | (intro κ z; simp_all)) (jk_e ?_) jk_x
  by_cases c1 : l = [101, 108, 115, 101]
  · rw [decide_eq_true c1]
    refine g_if_ne (pc := 6) (tgt := 36) dX9_isEnd_6 rfl (fun _ => yes ?_) (fun q_ => absurd q_ (by decide))
    rw [c1]; decide
  rw [decide_eq_false c1]
  refine g_if_ne (pc := 6) (tgt := 36) dX9_isEnd_6 rfl (fun q_ => absurd rfl q_) (fun _ => ?_)
  refine g_aload_n (pc := 9) dX9_isEnd_9 rfl rfl ?_
  refine g_ldcK (pc := 10) dX9_isEnd_10 ksX9_72 (fun hk2 => ?_)
  refine g_invV (pc := 12) dX9_isEnd_12 hsw kw (jc_equals d 930 _ _ hs hk2) meJ9_equals q1148 q965 q966 rfl rfl (Nat.le_of_ble_eq_true rfl) (by first | exact jF | exact fun _ z => z | assumption | (intro κ z; simp_all)) (jk_e ?_) jk_x
  by_cases c2 : l = [47, 105, 102]
  · rw [decide_eq_true c2]
    refine g_if_ne (pc := 15) (tgt := 36) dX9_isEnd_15 rfl (fun _ => yes ?_) (fun q_ => absurd q_ (by decide))
    rw [c2]; decide
  rw [decide_eq_false c2]
  refine g_if_ne (pc := 15) (tgt := 36) dX9_isEnd_15 rfl (fun q_ => absurd rfl q_) (fun _ => ?_)
  refine g_aload_n (pc := 18) dX9_isEnd_18 rfl rfl ?_
  refine g_ldcK (pc := 19) dX9_isEnd_19 ksX9_74 (fun hk3 => ?_)
  refine g_invV (pc := 21) dX9_isEnd_21 hsw kw (jc_equals d 930 _ _ hs hk3) meJ9_equals q1148 q965 q966 rfl rfl (Nat.le_of_ble_eq_true rfl) (by first | exact jF | exact fun _ z => z | assumption | (intro κ z; simp_all)) (jk_e ?_) jk_x
  by_cases c3 : l = [47, 101, 97, 99, 104]
  · rw [decide_eq_true c3]
    refine g_if_ne (pc := 24) (tgt := 36) dX9_isEnd_24 rfl (fun _ => yes ?_) (fun q_ => absurd q_ (by decide))
    rw [c3]; decide
  rw [decide_eq_false c3]
  refine g_if_ne (pc := 24) (tgt := 36) dX9_isEnd_24 rfl (fun q_ => absurd rfl q_) (fun _ => ?_)
  refine g_aload_n (pc := 27) dX9_isEnd_27 rfl rfl ?_
  refine g_ldcK (pc := 28) dX9_isEnd_28 ksX9_76 (fun hk4 => ?_)
  refine g_invV (pc := 30) dX9_isEnd_30 hsw kw (jc_equals d 930 _ _ hs hk4) meJ9_equals q1148 q965 q966 rfl rfl (Nat.le_of_ble_eq_true rfl) (by first | exact jF | exact fun _ z => z | assumption | (intro κ z; simp_all)) (jk_e ?_) jk_x
  by_cases c4 : l = [47, 119, 105, 116, 104]
  · rw [decide_eq_true c4]
    refine g_if_eq (pc := 33) (tgt := 40) dX9_isEnd_33 rfl (fun q_ => absurd q_ (by decide)) (fun _ => yes ?_)
    rw [c4]; decide
  rw [decide_eq_false c4]
  refine g_if_eq (pc := 33) (tgt := 40) dX9_isEnd_33 rfl (fun _ => ?_) (fun q_ => absurd rfl q_)
  have hb : enB l = false := by
    unfold enB
    rw [decide_eq_false c1, decide_eq_false c2, decide_eq_false c3, decide_eq_false c4]
    rfl
  rw [hb]
  refine g_iconst (pc := 40) (v := nI 0) dX9_isEnd_40 rfl ?_
  exact g_zret (pc := 41) dX9_isEnd_41 rfl (by first | exact bz_n _ | rfl) ⟨_, rfl, rfl, rfl⟩
end PT
/-- after a try to come to the next tag: no tag; no end of it; a tag -/
def tgQ (h : hP) (E P s p : Nat) (l : List Nat) (ev : Int32 → hC) (tg tr ins : Value) : hO → hP → Prop := fun r h' =>
  jRm h h' 5 (20 + 2 * l.length) ∧ (
  (ixO l [123, 123] p = none ∧ ∃ q κq, r = .inl (some (.ref q)) ∧ jSt h' κq q (sbL l p l.length) ∧ kK κq ∧ h'.2.2 P = some (9, .inl [.ref E, .ref s, .int (nI l.length), tg, .int (-1), tr, ins]) ∧ hFr (fun κ => κ = 9) h h') ∨
  (∃ k, ixO l [123, 123] p = some k ∧ ixO l (if stB (lF l) l.length k [123, 123, 123] = true then [125, 125, 125] else [125, 125]) (k + (if stB (lF l) l.length k [123, 123, 123] = true then 3 else 2)) = none ∧ r = .inr IAE ∧ h'.2.2 E = some (ev (nI k)) ∧ hFr (fun κ => κ = 9 ∨ κ = 1) h h') ∨
  (∃ k q0, ixO l [123, 123] p = some k ∧ ixO l (if stB (lF l) l.length k [123, 123, 123] = true then [125, 125, 125] else [125, 125]) (k + (if stB (lF l) l.length k [123, 123, 123] = true then 3 else 2)) = some q0 ∧ ∃ q κq i κi, r = .inl (some (.ref q)) ∧ jSt h' κq q (sbL l p k) ∧ kK κq ∧ jSt h' κi i (sbL l (k + (if stB (lF l) l.length k [123, 123, 123] = true then 3 else 2)) q0) ∧ kK κi ∧ h'.2.2 P = some (9, .inl [.ref E, .ref s, .int (nI (q0 + (if stB (lF l) l.length k [123, 123, 123] = true then 3 else 2))), tg, .int (nI k), .int (nI (stB (lF l) l.length k [123, 123, 123]).toNat), .ref i]) ∧ hFr (fun κ => κ = 9) h h'))
