/-! COMPONENT 32: the engine's exceptions; need; any; small ones -/
set_option maxRecDepth 100000
def IOOB : String := "java/lang/IndexOutOfBoundsException"
/-- the engine's cell, all of it -/
abbrev eF (dl ta ln rd : Nat) (ea : Int32) (tg th sr : Nat) : hC := (1, .inl [.ref dl, .ref ta, .ref ln, .ref rd, .int ea, .int (nI tg), .int (nI th), .int (nI sr)])
section EN
variable {Z : hE} {h : hP} {E dl ta ln rd tg th sr : Nat} {ea : Int32}
theorem en_badArgument (d : Nat) (hE : h.2.2 E = some (eF dl ta ln rd ea tg th sr)) (l1 : h.1 + 1 ≤ hLC Z) (l2 : h.2.1 + 6 ≤ hLS) : jC Z mX1_badArgument (d + 7) (fun κ => κ = 1) [.ref E] h (fun r h' => r = some (.ref h.1) ∧ h' = hNew (hSet h E (eF dl ta ln rd ea tg (th + 1) sr)) (41, .inl []) 6 ∧ (∀ a c, h.2.2 a = some c → a < h.1)) := by
  refine jC.of pnX1 rfl (Nat.le_of_ble_eq_true rfl) rfl (fun X => ?_)
  refine g_wf (fun hwf0 => ?_)
  refine g_aload_n (pc := 0) dX1_badArgument_0 rfl rfl ?_
  refine g_dup (pc := 1) dX1_badArgument_1 rfl ?_
  refine g_get (pc := 2) (r := (RX1, TX1, 8)) 6 dX1_badArgument_2 hE rfl (Nat.le_of_ble_eq_true rfl) q501 (Or.inl rfl) rfl ?_
  refine g_iconst (pc := 5) (v := nI 1) dX1_badArgument_5 rfl ?_
  first | refine g_iaddN (pc := 6) dX1_badArgument_6 ?_ | refine g_iadd (pc := 6) dX1_badArgument_6 ?_
  refine g_put (pc := 7) (r := (RX1, TX1, 8)) 6 dX1_badArgument_7 hE rfl (Nat.le_of_ble_eq_true rfl) q501 (Or.inl rfl) rfl (by decide) rfl (tyX1_ok 6 (Nat.le_of_ble_eq_true rfl)) rfl rfl ?_
  refine g_make0 (pc := 10) 41 dX1_badArgument_10 dX1_badArgument_13 dX1_badArgument_14 xX1_13 x_st rfl (by decide) rfl rfl (Nat.le_of_ble_eq_true rfl) l1 l2 (fun hwf => ?_)
  exact g_aret (pc := 17) dX1_badArgument_17 rfl (Or.inl ⟨_, rfl⟩) (Or.inr ⟨_, rfl⟩) ⟨_, rfl, rfl, rfl, hwf0⟩
theorem en_badState (d : Nat) (hE : h.2.2 E = some (eF dl ta ln rd ea tg th sr)) (l1 : h.1 + 1 ≤ hLC Z) (l2 : h.2.1 + 6 ≤ hLS) : jC Z mX1_badState (d + 7) (fun κ => κ = 1) [.ref E] h (fun r h' => r = some (.ref h.1) ∧ h' = hNew (hSet h E (eF dl ta ln rd ea tg (th + 1) sr)) (42, .inl []) 6 ∧ (∀ a c, h.2.2 a = some c → a < h.1)) := by
  refine jC.of pnX1 rfl (Nat.le_of_ble_eq_true rfl) rfl (fun X => ?_)
  refine g_wf (fun hwf0 => ?_)
  refine g_aload_n (pc := 0) dX1_badState_0 rfl rfl ?_
  refine g_dup (pc := 1) dX1_badState_1 rfl ?_
  refine g_get (pc := 2) (r := (RX1, TX1, 8)) 6 dX1_badState_2 hE rfl (Nat.le_of_ble_eq_true rfl) q501 (Or.inl rfl) rfl ?_
  refine g_iconst (pc := 5) (v := nI 1) dX1_badState_5 rfl ?_
  first | refine g_iaddN (pc := 6) dX1_badState_6 ?_ | refine g_iadd (pc := 6) dX1_badState_6 ?_
  refine g_put (pc := 7) (r := (RX1, TX1, 8)) 6 dX1_badState_7 hE rfl (Nat.le_of_ble_eq_true rfl) q501 (Or.inl rfl) rfl (by decide) rfl (tyX1_ok 6 (Nat.le_of_ble_eq_true rfl)) rfl rfl ?_
  refine g_make0 (pc := 10) 42 dX1_badState_10 dX1_badState_13 dX1_badState_14 xX1_67 x_st rfl (by decide) rfl rfl (Nat.le_of_ble_eq_true rfl) l1 l2 (fun hwf => ?_)
  exact g_aret (pc := 17) dX1_badState_17 rfl (Or.inl ⟨_, rfl⟩) (Or.inr ⟨_, rfl⟩) ⟨_, rfl, rfl, rfl, hwf0⟩
theorem en_none (d : Nat) (hE : h.2.2 E = some (eF dl ta ln rd ea tg th sr)) (l1 : h.1 + 1 ≤ hLC Z) (l2 : h.2.1 + 6 ≤ hLS) : jC Z mX1_none (d + 7) (fun κ => κ = 1) [.ref E] h (fun r h' => r = some (.ref h.1) ∧ h' = hNew (hSet h E (eF dl ta ln rd ea tg (th + 1) sr)) (44, .inl []) 6 ∧ (∀ a c, h.2.2 a = some c → a < h.1)) := by
  refine jC.of pnX1 rfl (Nat.le_of_ble_eq_true rfl) rfl (fun X => ?_)
  refine g_wf (fun hwf0 => ?_)
  refine g_aload_n (pc := 0) dX1_none_0 rfl rfl ?_
  refine g_dup (pc := 1) dX1_none_1 rfl ?_
  refine g_get (pc := 2) (r := (RX1, TX1, 8)) 6 dX1_none_2 hE rfl (Nat.le_of_ble_eq_true rfl) q501 (Or.inl rfl) rfl ?_
  refine g_iconst (pc := 5) (v := nI 1) dX1_none_5 rfl ?_
  first | refine g_iaddN (pc := 6) dX1_none_6 ?_ | refine g_iadd (pc := 6) dX1_none_6 ?_
  refine g_put (pc := 7) (r := (RX1, TX1, 8)) 6 dX1_none_7 hE rfl (Nat.le_of_ble_eq_true rfl) q501 (Or.inl rfl) rfl (by decide) rfl (tyX1_ok 6 (Nat.le_of_ble_eq_true rfl)) rfl rfl ?_
  refine g_make0 (pc := 10) 44 dX1_none_10 dX1_none_13 dX1_none_14 xX1_70 x_st rfl (by decide) rfl rfl (Nat.le_of_ble_eq_true rfl) l1 l2 (fun hwf => ?_)
  exact g_aret (pc := 17) dX1_none_17 rfl (Or.inl ⟨_, rfl⟩) (Or.inr ⟨_, rfl⟩) ⟨_, rfl, rfl, rfl, hwf0⟩
theorem en_outside (d : Nat) (hE : h.2.2 E = some (eF dl ta ln rd ea tg th sr)) (l1 : h.1 + 1 ≤ hLC Z) (l2 : h.2.1 + 6 ≤ hLS) : jC Z mX1_outside (d + 7) (fun κ => κ = 1) [.ref E] h (fun r h' => r = some (.ref h.1) ∧ h' = hNew (hSet h E (eF dl ta ln rd ea tg (th + 1) sr)) (43, .inl []) 6 ∧ (∀ a c, h.2.2 a = some c → a < h.1)) := by
  refine jC.of pnX1 rfl (Nat.le_of_ble_eq_true rfl) rfl (fun X => ?_)
  refine g_wf (fun hwf0 => ?_)
  refine g_aload_n (pc := 0) dX1_outside_0 rfl rfl ?_
  refine g_dup (pc := 1) dX1_outside_1 rfl ?_
  refine g_get (pc := 2) (r := (RX1, TX1, 8)) 6 dX1_outside_2 hE rfl (Nat.le_of_ble_eq_true rfl) q501 (Or.inl rfl) rfl ?_
  refine g_iconst (pc := 5) (v := nI 1) dX1_outside_5 rfl ?_
  first | refine g_iaddN (pc := 6) dX1_outside_6 ?_ | refine g_iadd (pc := 6) dX1_outside_6 ?_
  refine g_put (pc := 7) (r := (RX1, TX1, 8)) 6 dX1_outside_7 hE rfl (Nat.le_of_ble_eq_true rfl) q501 (Or.inl rfl) rfl (by decide) rfl (tyX1_ok 6 (Nat.le_of_ble_eq_true rfl)) rfl rfl ?_
  refine g_make0 (pc := 10) 43 dX1_outside_10 dX1_outside_13 dX1_outside_14 xX1_73 x_st rfl (by decide) rfl rfl (Nat.le_of_ble_eq_true rfl) l1 l2 (fun hwf => ?_)
  exact g_aret (pc := 17) dX1_outside_17 rfl (Or.inl ⟨_, rfl⟩) (Or.inr ⟨_, rfl⟩) ⟨_, rfl, rfl, rfl, hwf0⟩
/-- after the engine has thrown -/
def eTh (h : hP) (E : Nat) (c : hC) (h' : hP) : Prop := h'.2.2 E = some c ∧ hFr (fun κ => κ = 1) h h' ∧ jRm h h' 1 6
theorem eTh.mk {c c0 : hC} {k : Nat} (hE : h.2.2 E = some c0) (hc : c.1 = c0.1) (h1 : c0.1 = 1) (hwf : ∀ a c, h.2.2 a = some c → a < h.1) : eTh h E c (hNew (hSet h E c) (k, .inl []) 6) := by
  have hne : E ≠ (hSet h E c).1 := Nat.ne_of_lt (hwf _ _ hE)
  refine ⟨(hNew_n (h := hSet h E c) hne).trans (hSet_s _ _ _), ?_, ⟨Nat.le_refl _, Nat.le_refl _⟩⟩
  have f1 : hFr (fun κ => κ = 1) h (hSet h E c) := (hFr.rf h).set hE hc h1
  refine f1.new (fun a c' hc' => ?_)
  by_cases z : a = E
  · rw [z]; exact hwf _ _ hE
  · rw [hSet_n z] at hc'; exact hwf _ _ hc'
theorem en_errorAt (d : Nat) (hE : h.2.2 E = some (eF dl ta ln rd ea tg th sr)) : jP Z mX1_errorAt d [.ref E] h (some (.int ea)) := by
  refine jC.of pnX1 rfl (Nat.le_of_ble_eq_true rfl) rfl (fun X => ?_)
  refine g_aload_n (pc := 0) dX1_errorAt_0 rfl rfl ?_
  refine g_get (pc := 1) (r := (RX1, TX1, 8)) 4 dX1_errorAt_1 hE rfl (Nat.le_of_ble_eq_true rfl) q499 (Or.inl rfl) rfl ?_
  exact g_iret (pc := 4) dX1_errorAt_4 rfl ⟨_, rfl, rfl, rfl⟩
theorem en_template (d : Nat) (k : Int32) : jP Z mX1_template d [.int k] h (some (.int (if 0 ≤ k.toInt ∧ k.toInt < 4 then k else -1))) := by
  refine jC.of pnX1 rfl (Nat.le_of_ble_eq_true rfl) rfl (fun X => ?_)
  have bad : ¬ (0 ≤ k.toInt ∧ k.toInt < 4) → hG Z X mX1_template d (fun _ => False) h (jK (fun v h' => v = some (.int (if 0 ≤ k.toInt ∧ k.toInt < 4 then k else -1)) ∧ h' = h)) 13 [(0, .int k)] [] h := by
    intro hb
    refine g_iconst (pc := 13) (v := (-1)) dX1_template_13 rfl ?_
    rw [if_neg hb]
    exact g_iret (pc := 14) dX1_template_14 rfl ⟨_, rfl, rfl, rfl⟩
  refine g_iload_n (pc := 0) dX1_template_0 rfl rfl ?_
  refine g_if_lt (pc := 1) (tgt := 13) dX1_template_1 rfl (fun q => ?_) (fun q => ?_)
  · refine bad (fun z => ?_)
    have := Int32.lt_iff_toInt_lt.mp q
    simp at this
    omega
  · obtain ⟨i, hi, rfl⟩ := nI_of q
    refine g_iload_n (pc := 4) dX1_template_4 rfl rfl ?_
    refine g_iconst (pc := 5) (v := nI 4) dX1_template_5 rfl ?_
    refine g_icmp_geN (pc := 6) (tgt := 13) dX1_template_6 rfl (by omega) (by omega) (fun q2 => ?_) (fun q2 => ?_)
    · refine bad (fun z => ?_)
      rw [nI_toInt hi] at z
      omega
    · refine g_iload_n (pc := 9) dX1_template_9 rfl rfl ?_
      refine g_goto (pc := 10) (tgt := 14) dX1_template_10 rfl ?_
      rw [if_pos (by rw [nI_toInt hi]; omega)]
      exact g_iret (pc := 14) dX1_template_14 rfl ⟨_, rfl, rfl, rfl⟩
/-- Parser.need -/
theorem pt_need (d : Nat) {P s p tg0 : Nat} {pl : Int32} {tr ins x e0 e1 e2 e3 e5 e6 e7 : Value} {ea' : Int32} (hx : x = .null ∨ ∃ c, x = .ref c) (hQ : h.2.2 P = some (9, .inl [.ref E, .ref s, .int (nI p), .int (nI tg0), .int pl, tr, ins])) (hE : h.2.2 E = some (eC e0 e1 e2 e3 ea' e5 e6 e7)) (l1 : h.1 + 1 ≤ hLC Z) (l2 : h.2.1 + 6 ≤ hLS) : hCt Z mX9_need (d + 8) (fun κ => κ = 1) [.ref P, x] h (fun r h' => (∃ c, x = .ref c ∧ r = .inl (some (.ref c)) ∧ h' = h) ∨ (x = .null ∧ r = .inr IAE ∧ h' = hNew (hSet h E (eC e0 e1 e2 e3 pl e5 e6 e7)) (41, .inl []) 6 ∧ (∀ a c, h.2.2 a = some c → a < h.1))) := by
  rcases hx with rfl | ⟨c, rfl⟩
  · refine hCt.of pnX9 rfl (Nat.le_of_ble_eq_true rfl) rfl (fun X => ?_)
    refine g_aload_nN (pc := 0) dX9_need_0 rfl rfl ?_
    refine g_ifnonnullN (pc := 1) dX9_need_1 ?_
    refine g_aload_n (pc := 4) dX9_need_4 rfl rfl ?_
    refine g_get (pc := 5) (r := (RX9, TX9, 7)) 0 dX9_need_5 hQ rfl (Nat.le_of_ble_eq_true rfl) q1015 (Or.inl rfl) rfl ?_
    refine g_aload_n (pc := 8) dX9_need_8 rfl rfl ?_
    refine g_get (pc := 9) (r := (RX9, TX9, 7)) 4 dX9_need_9 hQ rfl (Nat.le_of_ble_eq_true rfl) q1020 (Or.inl rfl) rfl ?_
    refine g_invSN (pc := 12) dX9_need_12 (pt_fault d pl hE l1 l2) meX1_faultAt q1125 q1126 rfl rfl (Nat.le_of_ble_eq_true rfl) (fun κ z => z) (jk_n (fun v h1 hp fr => ?_)) jk_x
    obtain ⟨rfl, rfl, hwf⟩ := hp
    refine g_athrow (pc := 15) dX9_need_15 (hNew_s _ _ _) (by decide) rfl ?_
    refine gx_out (fun x hx => by cases hx) ?_
    exact Or.inr ⟨rfl, rfl, rfl, hwf⟩
  · refine hCt.of pnX9 rfl (Nat.le_of_ble_eq_true rfl) rfl (fun X => ?_)
    refine g_aload_n (pc := 0) dX9_need_0 rfl rfl ?_
    refine g_ifnonnull (pc := 1) (tgt := 16) dX9_need_1 rfl ?_
    refine g_aload_n (pc := 16) dX9_need_16 rfl rfl ?_
    exact g_aret (pc := 17) dX9_need_17 rfl (Or.inl ⟨_, rfl⟩) (Or.inr ⟨_, rfl⟩) (Or.inl ⟨c, rfl, rfl, rfl⟩)
end EN
