/-! TWIN 10: the small calls -/
set_option maxRecDepth 100000
section TW10
variable {Z : hE} {o : Nat} {τ : tT}
theorem tz_AN1 (τ : tT) (k i v : Nat) : (tAN τ k i v).1 = τ.1 := rfl
theorem tz_AI1 (τ : tT) (k i : Nat) (v : Int32) : (tAI τ k i v).1 = τ.1 := rfl
theorem tz_AL1 (τ : tT) (i : Nat) (v : Int64) : (tAL τ i v).1 = τ.1 := rfl
theorem tz_E1 (τ : tT) (v : Int32) : (tEr τ v).1 = τ.1 := rfl
theorem tz_FN1 (τ : tT) (k v : Nat) : (tFN τ k v).1 = upN τ.1 k v := rfl
theorem tz_FN2 (τ : tT) (k v : Nat) : (tFN τ k v).2 = τ.2 := rfl
theorem tz_E2 (τ : tT) (v : Int32) : (tEr τ v).2.2 = τ.2.2 := rfl
theorem tz_E3 (τ : tT) (v : Int32) : (tEr τ v).2.1 = v := rfl
theorem tz_AN2 (τ : tT) (k i v : Nat) : (tAN τ k i v).2.2.1 = up2 τ.2.2.1 k i v := rfl
theorem tz_AI2 (τ : tT) (k i : Nat) (v : Int32) : (tAI τ k i v).2.2.1 = τ.2.2.1 := rfl
theorem tz_AN3 (τ : tT) (k i v : Nat) : (tAN τ k i v).2.2.2 = τ.2.2.2 := rfl
theorem tz_AI3 (τ : tT) (k i : Nat) (v : Int32) : (tAI τ k i v).2.2.2.1 = up2 τ.2.2.2.1 k i v := rfl
theorem tz_AL2 (τ : tT) (i : Nat) (v : Int64) : (tAL τ i v).2.2.1 = τ.2.2.1 := rfl
theorem tz_AL3 (τ : tT) (i : Nat) (v : Int64) : (tAL τ i v).2.2.2.1 = τ.2.2.2.1 := rfl
theorem tz_AN4 (τ : tT) (k i v : Nat) : (tAN τ k i v).2.1 = τ.2.1 := rfl
theorem tz_AI4 (τ : tT) (k i : Nat) (v : Int32) : (tAI τ k i v).2.1 = τ.2.1 := rfl
theorem tz_AL4 (τ : tT) (i : Nat) (v : Int64) : (tAL τ i v).2.1 = τ.2.1 := rfl
theorem tc_compileX (d : Nat) (c : Int32) (hc : ¬ (0 ≤ c.toInt ∧ c.toInt ≤ 3)) : tC Z mX3_compile (d + 1) o [.ref o, .int c] τ (fun r τ' => r = some (.int (nI 0)) ∧ τ' = tRf τ 1) := by
  refine tC.of rfl rfl (Nat.le_of_ble_eq_true rfl) rfl (fun X hin h hR => ?_)
  refine g_iload_n (pc := 0) dX3_compile_0 rfl rfl ?_
  refine g_if_lt (pc := 1) (tgt := 9) dX3_compile_1 rfl (fun c1 => ?_) (fun c1 => ?_)
  · refine g_aload_n (pc := 9) dX3_compile_9 rfl rfl ?_
    refine g_iconst (pc := 10) (v := nI 1) dX3_compile_10 rfl ?_
    refine t_invE (pc := 11) dX3_compile_11 hR (tc_refuse _ 1) meX3_refuse q1956 q1958 qs16 rfl rfl (Nat.le_of_ble_eq_true rfl) (fun h hR => ?_)
    exact t_iret (pc := 14) dX3_compile_14 hR rfl (⟨rfl, rfl⟩)
  · refine g_iload_n (pc := 4) dX3_compile_4 rfl rfl ?_
    refine g_iconst (pc := 5) (v := nI 3) dX3_compile_5 rfl ?_
    refine g_icmp_le (pc := 6) (tgt := 15) dX3_compile_6 rfl (fun c2 => ?_) (fun c2 => ?_)
    · obtain ⟨k, hk, rfl⟩ := nI_of2 (M := nI 3) (n := 3) (by decide) c1 c2
      exact absurd ⟨by rw [nI_toInt (by omega)]; omega, by rw [nI_toInt (by omega)]; omega⟩ hc
    · refine g_aload_n (pc := 9) dX3_compile_9 rfl rfl ?_
      refine g_iconst (pc := 10) (v := nI 1) dX3_compile_10 rfl ?_
      refine t_invE (pc := 11) dX3_compile_11 hR (tc_refuse _ 1) meX3_refuse q1956 q1958 qs16 rfl rfl (Nat.le_of_ble_eq_true rfl) (fun h hR => ?_)
      exact t_iret (pc := 14) dX3_compile_14 hR rfl (⟨rfl, rfl⟩)
def tMk (τ : tT) (k : Nat) (v : Int32) : tT := tFN (tFN (tAI (tAN τ 8 (τ.1 4) k) 9 (τ.1 4) v) 4 (τ.1 4 + 1)) 0 0
theorem tc_make (d k : Nat) (v : Int32) (hn : τ.1 4 ≤ 60) : tC Z mX3_make (d + 1) o [.ref o, .int (nI k), .int v] τ (fun r τ' => if τ.1 4 = 60 then r = some (.int (nI 0)) ∧ τ' = tRf τ 1 else r = some (.int (nI (τ.1 4))) ∧ τ' = tMk τ k v) := by
  refine tC.of rfl rfl (Nat.le_of_ble_eq_true rfl) rfl (fun X hin h hR => ?_)
  refine g_aload_n (pc := 0) dX3_make_0 rfl rfl ?_
  refine t_get (pc := 1) (v := .int (nI _)) 4 dX3_make_1 hR rfl q1803 (Nat.le_of_ble_eq_true rfl) rfl rfl ?_
  refine g_bipush (pc := 4) (v := nI 60) dX3_make_4 rfl ?_
  refine g_icmp_neN (pc := 6) (tgt := 15) dX3_make_6 rfl (by omega) (by omega) (fun c1 => ?_) (fun c1 => ?_)
  · simp only [if_neg c1]
    refine g_aload_n (pc := 15) dX3_make_15 rfl rfl ?_
    refine t_get (pc := 16) (v := .ref (tAd _ 8)) 8 dX3_make_16 hR rfl q1807 (Nat.le_of_ble_eq_true rfl) rfl rfl ?_
    refine g_aload_n (pc := 19) dX3_make_19 rfl rfl ?_
    refine t_get (pc := 20) (v := .int (nI _)) 4 dX3_make_20 hR rfl q1803 (Nat.le_of_ble_eq_true rfl) rfl rfl ?_
    refine g_iload_n (pc := 23) dX3_make_23 rfl rfl ?_
    refine t_iast (pc := 24) dX3_make_24 hR rfl (by decide) rfl (by decide) (by show _ < 60; omega) (fun h hR => ?_)
    refine g_aload_n (pc := 25) dX3_make_25 rfl rfl ?_
    refine t_get (pc := 26) (v := .ref (tAd _ 9)) 9 dX3_make_26 hR rfl q1808 (Nat.le_of_ble_eq_true rfl) rfl rfl ?_
    refine g_aload_n (pc := 29) dX3_make_29 rfl rfl ?_
    refine t_get (pc := 30) (v := .int (nI _)) 4 dX3_make_30 hR rfl q1803 (Nat.le_of_ble_eq_true rfl) rfl rfl ?_
    simp only [tz_AN1, tz_AI1, tz_AL1, tz_E1, tz_FN1, tz_FN2, tz_E2, tz_AN2, tz_AI2, tz_AN3, tz_AI3, tz_AL2, tz_AL3, tz_E3, tz_AN4, tz_AI4, tz_AL4, upN, up2, reduceIte, Nat.reduceEqDiff, Nat.reduceEqDiff]
    refine g_iload_n (pc := 33) dX3_make_33 rfl rfl ?_
    refine t_iastI (pc := 34) dX3_make_34 hR rfl (by decide) rfl (by decide) (by show _ < 60; omega) (fun h hR => ?_)
    refine g_aload_n (pc := 35) dX3_make_35 rfl rfl ?_
    refine g_dup (pc := 36) dX3_make_36 rfl ?_
    refine t_get (pc := 37) (v := .int (nI _)) 4 dX3_make_37 hR rfl q1803 (Nat.le_of_ble_eq_true rfl) rfl rfl ?_
    simp only [tz_AN1, tz_AI1, tz_AL1, tz_E1, tz_FN1, tz_FN2, tz_E2, tz_AN2, tz_AI2, tz_AN3, tz_AI3, tz_AL2, tz_AL3, tz_E3, tz_AN4, tz_AI4, tz_AL4, upN, up2, reduceIte, Nat.reduceEqDiff, Nat.reduceEqDiff]
    refine g_iconst (pc := 40) (v := nI 1) dX3_make_40 rfl ?_
    first | refine g_iaddN (pc := 41) dX3_make_41 ?_ | refine g_iadd (pc := 41) dX3_make_41 ?_
    refine t_put (pc := 42) 4 dX3_make_42 hR rfl q1803 (Nat.le_of_ble_eq_true rfl) rfl rfl (by decide) rfl rfl (fun h hR => ?_)
    refine g_aload_n (pc := 45) dX3_make_45 rfl rfl ?_
    refine g_aload_n (pc := 46) dX3_make_46 rfl rfl ?_
    refine t_get (pc := 47) (v := .int (nI _)) 4 dX3_make_47 hR rfl q1803 (Nat.le_of_ble_eq_true rfl) rfl rfl ?_
    simp only [tz_AN1, tz_AI1, tz_AL1, tz_E1, tz_FN1, tz_FN2, tz_E2, tz_AN2, tz_AI2, tz_AN3, tz_AI3, tz_AL2, tz_AL3, tz_E3, tz_AN4, tz_AI4, tz_AL4, upN, up2, reduceIte, Nat.reduceEqDiff, Nat.reduceEqDiff]
    refine g_iconst (pc := 50) (v := nI 1) dX3_make_50 rfl ?_
    first | refine g_isubN (pc := 51) dX3_make_51 (by omega) ?_ | refine g_isub (pc := 51) dX3_make_51 ?_
    rw [Nat.add_sub_cancel]
    refine t_invE (pc := 52) dX3_make_52 hR (tc_fine _ _) meX3_fine q1960 q1962 qs17 rfl rfl (Nat.le_of_ble_eq_true rfl) (fun h hR => ?_)
    exact t_iret (pc := 55) dX3_make_55 hR rfl (⟨rfl, rfl⟩)
  · simp only [if_pos c1]
    refine g_aload_n (pc := 9) dX3_make_9 rfl rfl ?_
    refine g_iconst (pc := 10) (v := nI 1) dX3_make_10 rfl ?_
    refine t_invE (pc := 11) dX3_make_11 hR (tc_refuse _ 1) meX3_refuse q1956 q1958 qs16 rfl rfl (Nat.le_of_ble_eq_true rfl) (fun h hR => ?_)
    exact t_iret (pc := 14) dX3_make_14 hR rfl (⟨rfl, rfl⟩)
theorem tc_number (d : Nat) (v : Int32) (hn : τ.1 4 ≤ 60) : tC Z mX3_number (d + 2) o [.ref o, .int v] τ (fun r τ' => if τ.1 4 = 60 then r = some (.int (nI 0)) ∧ τ' = tRf τ 1 else r = some (.int (nI (τ.1 4))) ∧ τ' = tMk τ 0 v) := by
  refine tC.of rfl rfl (Nat.le_of_ble_eq_true rfl) rfl (fun X hin h hR => ?_)
  refine g_aload_n (pc := 0) dX3_number_0 rfl rfl ?_
  refine g_iconst (pc := 1) (v := nI 0) dX3_number_1 rfl ?_
  refine g_iload_n (pc := 2) dX3_number_2 rfl rfl ?_
  refine t_inv (pc := 3) dX3_number_3 hR (tc_make d 0 v hn) meX3_make q1968 q1970 qs18 rfl rfl (Nat.le_of_ble_eq_true rfl) (fun r τ1 h hp hR => ?_)
  split at hp <;> obtain ⟨rfl, e⟩ := hp
  · exact t_iret (pc := 6) dX3_number_6 hR rfl (by rename_i c; rw [if_pos c]; exact ⟨rfl, e⟩)
  · exact t_iret (pc := 6) dX3_number_6 hR rfl (by rename_i c; rw [if_neg c]; exact ⟨rfl, e⟩)
theorem tc_list (d : Nat) (hn : τ.1 4 ≤ 60) : tC Z mX3_list (d + 2) o [.ref o] τ (fun r τ' => if τ.1 4 = 60 then r = some (.int (nI 0)) ∧ τ' = tRf τ 1 else r = some (.int (nI (τ.1 4))) ∧ τ' = tMk τ 2 0) := by
  refine tC.of rfl rfl (Nat.le_of_ble_eq_true rfl) rfl (fun X hin h hR => ?_)
  refine g_aload_n (pc := 0) dX3_list_0 rfl rfl ?_
  refine g_iconst (pc := 1) (v := nI 2) dX3_list_1 rfl ?_
  refine g_iconst (pc := 2) (v := nI 0) dX3_list_2 rfl ?_
  refine t_inv (pc := 3) dX3_list_3 hR (tc_make d 2 0 hn) meX3_make q1968 q1970 qs18 rfl rfl (Nat.le_of_ble_eq_true rfl) (fun r τ1 h hp hR => ?_)
  split at hp <;> obtain ⟨rfl, e⟩ := hp
  · exact t_iret (pc := 6) dX3_list_6 hR rfl (by rename_i c; rw [if_pos c]; exact ⟨rfl, e⟩)
  · exact t_iret (pc := 6) dX3_list_6 hR rfl (by rename_i c; rw [if_neg c]; exact ⟨rfl, e⟩)
theorem tc_map (d : Nat) (hn : τ.1 4 ≤ 60) : tC Z mX3_map (d + 2) o [.ref o] τ (fun r τ' => if τ.1 4 = 60 then r = some (.int (nI 0)) ∧ τ' = tRf τ 1 else r = some (.int (nI (τ.1 4))) ∧ τ' = tMk τ 3 0) := by
  refine tC.of rfl rfl (Nat.le_of_ble_eq_true rfl) rfl (fun X hin h hR => ?_)
  refine g_aload_n (pc := 0) dX3_map_0 rfl rfl ?_
  refine g_iconst (pc := 1) (v := nI 3) dX3_map_1 rfl ?_
  refine g_iconst (pc := 2) (v := nI 0) dX3_map_2 rfl ?_
  refine t_inv (pc := 3) dX3_map_3 hR (tc_make d 3 0 hn) meX3_make q1968 q1970 qs18 rfl rfl (Nat.le_of_ble_eq_true rfl) (fun r τ1 h hp hR => ?_)
  split at hp <;> obtain ⟨rfl, e⟩ := hp
  · exact t_iret (pc := 6) dX3_map_6 hR rfl (by rename_i c; rw [if_pos c]; exact ⟨rfl, e⟩)
  · exact t_iret (pc := 6) dX3_map_6 hR rfl (by rename_i c; rw [if_neg c]; exact ⟨rfl, e⟩)
theorem tc_errorAt (d : Nat) : tC Z mX3_errorAt (d + 1) o [.ref o] τ (fun r τ' => r = some (.int τ.2.1) ∧ τ' = tFN τ 0 0) := by
  refine tC.of rfl rfl (Nat.le_of_ble_eq_true rfl) rfl (fun X hin h hR => ?_)
  refine g_aload_n (pc := 0) dX3_errorAt_0 rfl rfl ?_
  refine g_aload_n (pc := 1) dX3_errorAt_1 rfl rfl ?_
  refine t_get (pc := 2) (v := .int _) 3 dX3_errorAt_2 hR rfl q1802 (Nat.le_of_ble_eq_true rfl) rfl rfl ?_
  refine t_invE (pc := 5) dX3_errorAt_5 hR (tc_fine _ _) meX3_fine q1960 q1962 qs17 rfl rfl (Nat.le_of_ble_eq_true rfl) (fun h hR => ?_)
  exact t_iret (pc := 8) dX3_errorAt_8 hR rfl (⟨rfl, rfl⟩)
theorem tc_kind (d : Nat) (x : Int32) (hn : τ.1 4 ≤ 60) : tC Z mX3_kind (d + 1) o [.ref o, .int x] τ (fun r τ' => (¬ (0 ≤ x.toInt ∧ x.toInt < τ.1 4) ∧ r = some (.int (nI 0)) ∧ τ' = tRf τ 1) ∨ ∃ k, k < τ.1 4 ∧ x = nI k ∧ r = some (.int (nI (τ.2.2.1 8 k))) ∧ τ' = tFN τ 0 0) := by
  refine tC.of rfl rfl (Nat.le_of_ble_eq_true rfl) rfl (fun X hin h hR => ?_)
  refine g_aload_n (pc := 0) dX3_kind_0 rfl rfl ?_
  refine g_iload_n (pc := 1) dX3_kind_1 rfl rfl ?_
  refine t_inv (pc := 2) dX3_kind_2 hR (tc_no _ x (by omega)) meX3_no q1988 q1990 qs19 rfl rfl (Nat.le_of_ble_eq_true rfl) (fun r τ1 h hp hR => ?_)
  obtain ⟨e0, hp⟩ := hp
  rw [e0] at hR
  rcases hp with ⟨h1, rfl⟩ | ⟨k, h1, rfl, rfl⟩
  · refine g_if_eqN (pc := 5) (tgt := 16) dX3_kind_5 rfl (by omega) (fun q => ?_) (fun q => ?_)
    · exact absurd q (by decide)
    · refine g_aload_n (pc := 8) dX3_kind_8 rfl rfl ?_
      refine g_iconst (pc := 9) (v := nI 1) dX3_kind_9 rfl ?_
      refine t_invE (pc := 10) dX3_kind_10 hR (tc_refuse _ 1) meX3_refuse q1956 q1958 qs16 rfl rfl (Nat.le_of_ble_eq_true rfl) (fun h hR => ?_)
      refine g_goto (pc := 13) (tgt := 26) dX3_kind_13 rfl ?_
      exact t_iret (pc := 26) dX3_kind_26 hR rfl (Or.inl ⟨h1, rfl, rfl⟩)
  · refine g_if_eqN (pc := 5) (tgt := 16) dX3_kind_5 rfl (by omega) (fun q => ?_) (fun q => ?_)
    · refine g_aload_n (pc := 16) dX3_kind_16 rfl rfl ?_
      refine g_aload_n (pc := 17) dX3_kind_17 rfl rfl ?_
      refine t_get (pc := 18) (v := .ref (tAd _ 8)) 8 dX3_kind_18 hR rfl q1807 (Nat.le_of_ble_eq_true rfl) rfl rfl ?_
      refine g_iload_n (pc := 21) dX3_kind_21 rfl rfl ?_
      refine t_iald (pc := 22) dX3_kind_22 hR rfl (by decide) rfl (by decide) (by show _ < 60; omega) ?_
      refine t_invE (pc := 23) dX3_kind_23 hR (tc_fine _ _) meX3_fine q1960 q1962 qs17 rfl rfl (Nat.le_of_ble_eq_true rfl) (fun h hR => ?_)
      exact t_iret (pc := 26) dX3_kind_26 hR rfl (Or.inr ⟨k, h1, rfl, rfl, rfl⟩)
    · exact absurd q (by decide)
theorem tc_at (d : Nat) (x : Int32) (hn : τ.1 35 ≤ 400) : tC Z mX3_at (d + 1) o [.ref o, .int x] τ (fun r τ' => (¬ (0 ≤ x.toInt ∧ x.toInt < τ.1 35) ∧ r = some (.int (nI 0)) ∧ τ' = tRf τ 1) ∨ ∃ k, k < τ.1 35 ∧ x = nI k ∧ r = some (.int (nI (τ.2.2.1 32 k))) ∧ τ' = tFN τ 0 0) := by
  refine tC.of rfl rfl (Nat.le_of_ble_eq_true rfl) rfl (fun X hin h hR => ?_)
  refine g_iload_n (pc := 0) dX3_at_0 rfl rfl ?_
  refine g_if_lt (pc := 1) (tgt := 12) dX3_at_1 rfl (fun c1 => ?_) (fun c1 => ?_)
  · refine g_aload_n (pc := 12) dX3_at_12 rfl rfl ?_
    refine g_iconst (pc := 13) (v := nI 1) dX3_at_13 rfl ?_
    refine t_invE (pc := 14) dX3_at_14 hR (tc_refuse _ 1) meX3_refuse q1956 q1958 qs16 rfl rfl (Nat.le_of_ble_eq_true rfl) (fun h hR => ?_)
    refine g_goto (pc := 17) (tgt := 30) dX3_at_17 rfl ?_
    refine t_iret (pc := 30) dX3_at_30 hR rfl (Or.inl ⟨fun q => ?_, rfl, rfl⟩)
    have := Int32.lt_iff_toInt_lt.mp c1
    simp at this
    omega
  · obtain ⟨k, hk, rfl⟩ := nI_of c1
    refine g_iload_n (pc := 4) dX3_at_4 rfl rfl ?_
    refine g_aload_n (pc := 5) dX3_at_5 rfl rfl ?_
    refine t_get (pc := 6) (v := .int (nI _)) 35 dX3_at_6 hR rfl q1834 (Nat.le_of_ble_eq_true rfl) rfl rfl ?_
    refine g_icmp_ltN (pc := 9) (tgt := 20) dX3_at_9 rfl (by omega) (by omega) (fun c2 => ?_) (fun c2 => ?_)
    · refine g_aload_n (pc := 20) dX3_at_20 rfl rfl ?_
      refine g_aload_n (pc := 21) dX3_at_21 rfl rfl ?_
      refine t_get (pc := 22) (v := .ref (tAd _ 32)) 32 dX3_at_22 hR rfl q1831 (Nat.le_of_ble_eq_true rfl) rfl rfl ?_
      refine g_iload_n (pc := 25) dX3_at_25 rfl rfl ?_
      refine t_cald (pc := 26) dX3_at_26 hR rfl (by decide) rfl (by decide) (by show _ < 400; omega) ?_
      refine t_invE (pc := 27) dX3_at_27 hR (tc_fine _ _) meX3_fine q1960 q1962 qs17 rfl rfl (Nat.le_of_ble_eq_true rfl) (fun h hR => ?_)
      exact t_iret (pc := 30) dX3_at_30 hR rfl (Or.inr ⟨k, c2, rfl, rfl, rfl⟩)
    · refine g_aload_n (pc := 12) dX3_at_12 rfl rfl ?_
      refine g_iconst (pc := 13) (v := nI 1) dX3_at_13 rfl ?_
      refine t_invE (pc := 14) dX3_at_14 hR (tc_refuse _ 1) meX3_refuse q1956 q1958 qs16 rfl rfl (Nat.le_of_ble_eq_true rfl) (fun h hR => ?_)
      refine g_goto (pc := 17) (tgt := 30) dX3_at_17 rfl ?_
      refine t_iret (pc := 30) dX3_at_30 hR rfl (Or.inl ⟨fun q => ?_, rfl, rfl⟩)
      rw [nI_toInt hk] at q
      omega
def cnN (τ : tT) (n : Nat) : Nat := match n with
  | 0 => 0
  | k + 1 => cnN τ k + (if τ.2.2.1 17 k = 0 then 0 else 1)
def cnT (τ : tT) (w : Int32) : Int32 := if w = 0 then nI (τ.1 4) else if w = nI 1 then nI (τ.1 2) else if w = nI 2 then nI (cnN τ 4) else if w = nI 3 then nI (τ.1 35) else if w = nI 4 then nI (τ.1 6) else if w = nI 5 then nI (τ.1 1) else -1
theorem tc_count (d : Nat) (w : Int32) (hn : ∀ k, k < 4 → τ.2.2.1 17 k < 2) : tC Z mX3_count d o [.ref o, .int w] τ (fun r τ' => r = some (.int (cnT τ w)) ∧ τ' = tFN τ 0 0) := by
  refine tC.of rfl rfl (Nat.le_of_ble_eq_true rfl) rfl (fun X hin h hR => ?_)
  have fin : ∀ h, tH o (tFN τ 0 0) hin h → hG Z X mX3_count d tS hin (tK o hin (fun r τ' => r = some (.int (cnT τ w)) ∧ τ' = tFN τ 0 0)) 32 [(0, .ref o), (1, .int w), (2, .int (nI (cnN τ 4)))] [] h := by
    intro h hR
    refine g_iload_n (pc := 32) dX3_count_32 rfl rfl ?_
    refine g_if_ne (pc := 33) (tgt := 43) dX3_count_33 rfl (fun c33 => ?_) (fun c33 => ?_)
    · refine g_iload_n (pc := 43) dX3_count_43 rfl rfl ?_
      refine g_iconst (pc := 44) (v := nI 1) dX3_count_44 rfl ?_
      refine g_icmp_ne (pc := 45) (tgt := 55) dX3_count_45 rfl (fun c45 => ?_) (fun c45 => ?_)
      · refine g_iload_n (pc := 55) dX3_count_55 rfl rfl ?_
        refine g_iconst (pc := 56) (v := nI 2) dX3_count_56 rfl ?_
        refine g_icmp_ne (pc := 57) (tgt := 64) dX3_count_57 rfl (fun c57 => ?_) (fun c57 => ?_)
        · refine g_iload_n (pc := 64) dX3_count_64 rfl rfl ?_
          refine g_iconst (pc := 65) (v := nI 3) dX3_count_65 rfl ?_
          refine g_icmp_ne (pc := 66) (tgt := 76) dX3_count_66 rfl (fun c66 => ?_) (fun c66 => ?_)
          · refine g_iload_n (pc := 76) dX3_count_76 rfl rfl ?_
            refine g_iconst (pc := 77) (v := nI 4) dX3_count_77 rfl ?_
            refine g_icmp_ne (pc := 78) (tgt := 88) dX3_count_78 rfl (fun c78 => ?_) (fun c78 => ?_)
            · refine g_iload_n (pc := 88) dX3_count_88 rfl rfl ?_
              refine g_iconst (pc := 89) (v := nI 5) dX3_count_89 rfl ?_
              refine g_icmp_ne (pc := 90) (tgt := 100) dX3_count_90 rfl (fun c90 => ?_) (fun c90 => ?_)
              · refine g_iconst (pc := 100) (v := (-1)) dX3_count_100 rfl ?_
                exact t_iret (pc := 101) dX3_count_101 hR rfl (⟨by first | (simp only [cnT, *, if_true, if_false]; done) | (simp only [cnT, *, if_true, if_false]; rfl) | (simp [cnT, *]; done), rfl⟩)
              · refine g_aload_n (pc := 93) dX3_count_93 rfl rfl ?_
                refine t_get (pc := 94) (v := .int (nI _)) 1 dX3_count_94 hR rfl q1800 (Nat.le_of_ble_eq_true rfl) rfl rfl ?_
                refine g_goto (pc := 97) (tgt := 101) dX3_count_97 rfl ?_
                exact t_iret (pc := 101) dX3_count_101 hR rfl (⟨by first | (simp only [cnT, *, if_true, if_false]; done) | (simp only [cnT, *, if_true, if_false]; rfl) | (simp [cnT, *]; done), rfl⟩)
            · refine g_aload_n (pc := 81) dX3_count_81 rfl rfl ?_
              refine t_get (pc := 82) (v := .int (nI _)) 6 dX3_count_82 hR rfl q1805 (Nat.le_of_ble_eq_true rfl) rfl rfl ?_
              refine g_goto (pc := 85) (tgt := 101) dX3_count_85 rfl ?_
              exact t_iret (pc := 101) dX3_count_101 hR rfl (⟨by first | (simp only [cnT, *, if_true, if_false]; done) | (simp only [cnT, *, if_true, if_false]; rfl) | (simp [cnT, *]; done), rfl⟩)
          · refine g_aload_n (pc := 69) dX3_count_69 rfl rfl ?_
            refine t_get (pc := 70) (v := .int (nI _)) 35 dX3_count_70 hR rfl q1834 (Nat.le_of_ble_eq_true rfl) rfl rfl ?_
            refine g_goto (pc := 73) (tgt := 101) dX3_count_73 rfl ?_
            exact t_iret (pc := 101) dX3_count_101 hR rfl (⟨by first | (simp only [cnT, *, if_true, if_false]; done) | (simp only [cnT, *, if_true, if_false]; rfl) | (simp [cnT, *]; done), rfl⟩)
        · refine g_iload_n (pc := 60) dX3_count_60 rfl rfl ?_
          refine g_goto (pc := 61) (tgt := 101) dX3_count_61 rfl ?_
          exact t_iret (pc := 101) dX3_count_101 hR rfl (⟨by first | (simp only [cnT, *, if_true, if_false]; done) | (simp only [cnT, *, if_true, if_false]; rfl) | (simp [cnT, *]; done), rfl⟩)
      · refine g_aload_n (pc := 48) dX3_count_48 rfl rfl ?_
        refine t_get (pc := 49) (v := .int (nI _)) 2 dX3_count_49 hR rfl q1801 (Nat.le_of_ble_eq_true rfl) rfl rfl ?_
        refine g_goto (pc := 52) (tgt := 101) dX3_count_52 rfl ?_
        exact t_iret (pc := 101) dX3_count_101 hR rfl (⟨by first | (simp only [cnT, *, if_true, if_false]; done) | (simp only [cnT, *, if_true, if_false]; rfl) | (simp [cnT, *]; done), rfl⟩)
    · refine g_aload_n (pc := 36) dX3_count_36 rfl rfl ?_
      refine t_get (pc := 37) (v := .int (nI _)) 4 dX3_count_37 hR rfl q1803 (Nat.le_of_ble_eq_true rfl) rfl rfl ?_
      refine g_goto (pc := 40) (tgt := 101) dX3_count_40 rfl ?_
      exact t_iret (pc := 101) dX3_count_101 hR rfl (⟨by first | (simp only [cnT, *, if_true, if_false]; done) | (simp only [cnT, *, if_true, if_false]; rfl) | (simp [cnT, *]; done), rfl⟩)
  have loop : ∀ (j i : Nat), i + j = 4 → ∀ h, tH o (tFN τ 0 0) hin h → hG Z X mX3_count d tS hin (tK o hin (fun r τ' => r = some (.int (cnT τ w)) ∧ τ' = tFN τ 0 0)) 9 [(0, .ref o), (1, .int w), (2, .int (nI (cnN τ i))), (3, .int (nI i))] [] h := by
    intro j
    induction j with
    | zero =>
      intro i hi h hR
      have e : i = 4 := by omega
      rw [e]
      refine g_iload_n (pc := 9) dX3_count_9 rfl rfl ?_
      refine g_iconst (pc := 10) (v := nI 4) dX3_count_10 rfl ?_
      refine g_icmp_geN (pc := 11) (tgt := 32) dX3_count_11 rfl (by omega) (by omega) (fun c1 => ?_) (fun c1 => ?_)
      · refine g_drop [0, 1, 2] rfl ?_
        exact fin h hR
      · exact absurd c1 (by omega)
    | succ j ih =>
      intro i hi h hR
      have h1 := hn i (by omega)
      refine g_iload_n (pc := 9) dX3_count_9 rfl rfl ?_
      refine g_iconst (pc := 10) (v := nI 4) dX3_count_10 rfl ?_
      refine g_icmp_geN (pc := 11) (tgt := 32) dX3_count_11 rfl (by omega) (by omega) (fun c1 => ?_) (fun c1 => ?_)
      · exact absurd c1 (by omega)
      · refine g_aload_n (pc := 14) dX3_count_14 rfl rfl ?_
        refine t_get (pc := 15) (v := .ref (tAd _ 17)) 17 dX3_count_15 hR rfl q1816 (Nat.le_of_ble_eq_true rfl) rfl rfl ?_
        refine g_iload_n (pc := 18) dX3_count_18 rfl rfl ?_
        refine t_zald (pc := 19) dX3_count_19 hR rfl (by decide) rfl (by decide) (by show _ < 4; omega) ?_
        rw [show (tFN τ 0 0).2.2.1 17 i = τ.2.2.1 17 i from rfl]
        refine g_if_eqN (pc := 20) (tgt := 26) dX3_count_20 rfl (by omega) (fun c2 => ?_) (fun c2 => ?_)
        · refine g_iincN (pc := 26) (k0 := 1) (ls' := [(0, _), (1, _), (2, _), (3, _)]) dX3_count_26 rfl (Nat.le_of_ble_eq_true rfl) rfl ?_
          refine g_goto (pc := 29) (tgt := 9) dX3_count_29 rfl ?_
          have e1 : cnN τ i = cnN τ (i + 1) := by
            show _ = cnN τ i + _
            rw [if_pos c2, Nat.add_zero]
          rw [e1]
          exact ih (i + 1) (by omega) h hR
        · refine g_iincN (pc := 23) (k0 := 1) (ls' := [(0, _), (1, _), (2, _), (3, _)]) dX3_count_23 rfl (Nat.le_of_ble_eq_true rfl) rfl ?_
          refine g_iincN (pc := 26) (k0 := 1) (ls' := [(0, _), (1, _), (2, _), (3, _)]) dX3_count_26 rfl (Nat.le_of_ble_eq_true rfl) rfl ?_
          refine g_goto (pc := 29) (tgt := 9) dX3_count_29 rfl ?_
          have e1 : cnN τ i + 1 = cnN τ (i + 1) := by
            show _ = cnN τ i + _
            rw [if_neg (by omega)]
          rw [e1]
          exact ih (i + 1) (by omega) h hR
  refine g_aload_n (pc := 0) dX3_count_0 rfl rfl ?_
  refine g_iconst (pc := 1) (v := nI 0) dX3_count_1 rfl ?_
  refine t_put (pc := 2) 0 dX3_count_2 hR rfl q1799 (Nat.le_of_ble_eq_true rfl) rfl rfl (by decide) rfl rfl (fun h hR => ?_)
  refine g_iconst (pc := 5) (v := nI 0) dX3_count_5 rfl ?_
  refine g_istore_n (pc := 6) (ls' := [(0, _), (1, _), (2, _)]) dX3_count_6 rfl (Nat.le_of_ble_eq_true rfl) rfl ?_
  refine g_iconst (pc := 7) (v := nI 0) dX3_count_7 rfl ?_
  refine g_istore_n (pc := 8) (ls' := [(0, _), (1, _), (2, _), (3, _)]) dX3_count_8 rfl (Nat.le_of_ble_eq_true rfl) rfl ?_
  exact loop 4 0 rfl h hR
end TW10
