/-! TWIN 1: the small ones -/
set_option maxRecDepth 100000
section TW1
variable {Z : hE} {o : Nat} {τ : tT}
theorem tc_thrown (d : Nat) : tC Z mX3_thrown d o [.ref o] τ (fun v τ' => v = some (.int (nI (τ.1 0))) ∧ τ' = τ) := by
  refine tC.of rfl rfl (Nat.le_of_ble_eq_true rfl) rfl (fun X hin h hR => ?_)
  refine g_aload_n (pc := 0) dX3_thrown_0 rfl rfl ?_
  refine t_get (pc := 1) (v := .int (nI _)) 0 dX3_thrown_1 hR rfl q1799 (Nat.le_of_ble_eq_true rfl) rfl rfl ?_
  exact t_iret (pc := 4) dX3_thrown_4 hR rfl (⟨rfl, rfl⟩)
theorem tc_refuse (d c : Nat) : tC Z mX3_refuse d o [.ref o, .int (nI c)] τ (fun v τ' => v = some (.int (nI 0)) ∧ τ' = tFN (tFN τ 0 c) 1 (τ.1 1 + 1)) := by
  refine tC.of rfl rfl (Nat.le_of_ble_eq_true rfl) rfl (fun X hin h hR => ?_)
  refine g_aload_n (pc := 0) dX3_refuse_0 rfl rfl ?_
  refine g_iload_n (pc := 1) dX3_refuse_1 rfl rfl ?_
  refine t_put (pc := 2) 0 dX3_refuse_2 hR rfl q1799 (Nat.le_of_ble_eq_true rfl) rfl rfl (by decide) rfl rfl (fun h hR => ?_)
  refine g_aload_n (pc := 5) dX3_refuse_5 rfl rfl ?_
  refine g_dup (pc := 6) dX3_refuse_6 rfl ?_
  refine t_get (pc := 7) (v := .int (nI _)) 1 dX3_refuse_7 hR rfl q1800 (Nat.le_of_ble_eq_true rfl) rfl rfl ?_
  refine g_iconst (pc := 10) (v := nI 1) dX3_refuse_10 rfl ?_
  first | refine g_iaddN (pc := 11) dX3_refuse_11 ?_ | refine g_iadd (pc := 11) dX3_refuse_11 ?_
  refine t_put (pc := 12) 1 dX3_refuse_12 hR rfl q1800 (Nat.le_of_ble_eq_true rfl) rfl rfl (by decide) rfl rfl (fun h hR => ?_)
  refine g_iconst (pc := 15) (v := nI 0) dX3_refuse_15 rfl ?_
  exact t_iret (pc := 16) dX3_refuse_16 hR rfl (⟨rfl, rfl⟩)
theorem tc_fine (d : Nat) (v : Int32) : tC Z mX3_fine d o [.ref o, .int v] τ (fun r τ' => r = some (.int v) ∧ τ' = tFN τ 0 0) := by
  refine tC.of rfl rfl (Nat.le_of_ble_eq_true rfl) rfl (fun X hin h hR => ?_)
  refine g_aload_n (pc := 0) dX3_fine_0 rfl rfl ?_
  refine g_iconst (pc := 1) (v := nI 0) dX3_fine_1 rfl ?_
  refine t_put (pc := 2) 0 dX3_fine_2 hR rfl q1799 (Nat.le_of_ble_eq_true rfl) rfl rfl (by decide) rfl rfl (fun h hR => ?_)
  refine g_iload_n (pc := 5) dX3_fine_5 rfl rfl ?_
  exact t_iret (pc := 6) dX3_fine_6 hR rfl (⟨rfl, rfl⟩)
/-- refusals -/
def tRf (τ : tT) (c : Nat) : tT := tFN (tFN τ 0 c) 1 (τ.1 1 + 1)
theorem tc_type (d : Nat) (c : Int32) (hn : τ.1 2 < 200) : tC Z mX3_type (d + 1) o [.ref o, .int c] τ (fun r τ' => (¬ (0 ≤ c.toInt ∧ c.toInt ≤ 127) ∧ r = some (.int (nI 0)) ∧ τ' = tRf τ 1) ∨ ∃ k : Nat, k < 128 ∧ c = nI k ∧ r = some (.int (nI (τ.1 2 + 1))) ∧ τ' = tFN (tFN (tAN τ 7 (τ.1 2) k) 2 (τ.1 2 + 1)) 0 0) := by
  refine tC.of rfl rfl (Nat.le_of_ble_eq_true rfl) rfl (fun X hin h hR => ?_)
  have kref : ∀ h, tH o τ hin h → (¬ (0 ≤ c.toInt ∧ c.toInt ≤ 127)) → hG Z X mX3_type (d + 1) tS hin (tK o hin (fun r τ' => (¬ (0 ≤ c.toInt ∧ c.toInt ≤ 127) ∧ r = some (.int (nI 0)) ∧ τ' = tRf τ 1) ∨ ∃ k : Nat, k < 128 ∧ c = nI k ∧ r = some (.int (nI (τ.1 2 + 1))) ∧ τ' = tFN (tFN (tAN τ 7 (τ.1 2) k) 2 (τ.1 2 + 1)) 0 0)) 10 [(0, .ref o), (1, .int c)] [] h := by
    intro h hR hc
    refine g_aload_n (pc := 10) dX3_type_10 rfl rfl ?_
    refine g_iconst (pc := 11) (v := nI 1) dX3_type_11 rfl ?_
    refine t_inv (pc := 12) dX3_type_12 hR (tc_refuse d 1) meX3_refuse q1956 q1958 qs16 rfl rfl (Nat.le_of_ble_eq_true rfl) (fun v τ1 h hp hR => ?_)
    obtain ⟨rfl, rfl⟩ := hp
    exact t_iret (pc := 15) dX3_type_15 hR rfl (Or.inl ⟨hc, rfl, rfl⟩)
  refine g_iload_n (pc := 0) dX3_type_0 rfl rfl ?_
  refine g_if_lt (pc := 1) (tgt := 10) dX3_type_1 rfl (fun c1 => ?_) (fun c1 => ?_)
  · exact kref h hR (fun q => by
      have := Int32.lt_iff_toInt_lt.mp c1
      simp at this
      omega)
  · refine g_iload_n (pc := 4) dX3_type_4 rfl rfl ?_
    refine g_bipush (pc := 5) (v := nI 127) dX3_type_5 rfl ?_
    refine g_icmp_le (pc := 7) (tgt := 16) dX3_type_7 rfl (fun c2 => ?_) (fun c2 => ?_)
    · obtain ⟨k, hk, rfl⟩ := nI_of2 (M := nI 127) (n := 127) (by decide) c1 c2
      refine g_aload_n (pc := 16) dX3_type_16 rfl rfl ?_
      refine t_get (pc := 17) (v := .int (nI _)) 2 dX3_type_17 hR rfl q1801 (Nat.le_of_ble_eq_true rfl) rfl rfl ?_
      refine g_sipush (pc := 20) (v := nI 200) dX3_type_20 rfl ?_
      refine g_icmp_neN (pc := 23) (tgt := 32) dX3_type_23 rfl (by omega) (by omega) (fun c3 => ?_) (fun c3 => ?_)
      · refine g_aload_n (pc := 32) dX3_type_32 rfl rfl ?_
        refine t_get (pc := 33) (v := .ref (tAd _ 7)) 7 dX3_type_33 hR rfl q1806 (Nat.le_of_ble_eq_true rfl) rfl rfl ?_
        refine g_aload_n (pc := 36) dX3_type_36 rfl rfl ?_
        refine t_get (pc := 37) (v := .int (nI _)) 2 dX3_type_37 hR rfl q1801 (Nat.le_of_ble_eq_true rfl) rfl rfl ?_
        refine g_iload_n (pc := 40) dX3_type_40 rfl rfl ?_
        refine g_i2cN (pc := 41) dX3_type_41 (by omega) ?_
        refine t_cast (pc := 42) dX3_type_42 hR rfl (by decide) rfl (by decide) (by show _ < 200; omega) (by omega) (fun h hR => ?_)
        refine g_aload_n (pc := 43) dX3_type_43 rfl rfl ?_
        refine g_dup (pc := 44) dX3_type_44 rfl ?_
        refine t_get (pc := 45) (v := .int (nI _)) 2 dX3_type_45 hR rfl q1801 (Nat.le_of_ble_eq_true rfl) rfl rfl ?_
        refine g_iconst (pc := 48) (v := nI 1) dX3_type_48 rfl ?_
        first | refine g_iaddN (pc := 49) dX3_type_49 ?_ | refine g_iadd (pc := 49) dX3_type_49 ?_
        refine t_put (pc := 50) 2 dX3_type_50 hR rfl q1801 (Nat.le_of_ble_eq_true rfl) rfl rfl (by decide) rfl rfl (fun h hR => ?_)
        refine g_aload_n (pc := 53) dX3_type_53 rfl rfl ?_
        refine g_aload_n (pc := 54) dX3_type_54 rfl rfl ?_
        refine t_get (pc := 55) (v := .int (nI _)) 2 dX3_type_55 hR rfl q1801 (Nat.le_of_ble_eq_true rfl) rfl rfl ?_
        refine t_inv (pc := 58) dX3_type_58 hR (tc_fine d _) meX3_fine q1960 q1962 qs17 rfl rfl (Nat.le_of_ble_eq_true rfl) (fun v τ1 h hp hR => ?_)
        obtain ⟨rfl, rfl⟩ := hp
        exact t_iret (pc := 61) dX3_type_61 hR rfl (Or.inr ⟨k, by omega, rfl, rfl, rfl⟩)
      · exact absurd c3 (by omega)
    · exact kref h hR (fun q => by
        have := mt Int32.le_iff_toInt_le.mpr c2
        have e : (nI 127).toInt = 127 := by decide
        rw [e] at this
        omega)
end TW1
