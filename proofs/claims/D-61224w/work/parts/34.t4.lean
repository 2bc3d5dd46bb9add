/-! TWIN 4: operands, helpers, expressions, sorts -/
set_option maxRecDepth 100000
section TW4
variable {Z : hE} {o : Nat} {τ : tT}
theorem tc_operandEnd (d p e : Nat) (hp : p < 1090) (he : e ≤ 1000) (hf : ∀ i, τ.2.2.1 14 i < 65536) : tC Z mX3_operandEnd (d + 3) o [.ref o, .int (nI p), .int (nI e)] τ (fun r τ' => r = some (.int (oI (operE (τ.2.2.1 14) e p))) ∧ τ' = τ) := by
  refine tC.of rfl rfl (Nat.le_of_ble_eq_true rfl) rfl (fun X hin h hR => ?_)
  have hcb : ∀ k, cA (τ.2.2.1 14) e k < 65536 := fun k => cA_bd hf
  have lq : ∀ (n k c : Nat), e - k ≤ n → k ≤ 1100 → ∀ h, tH o τ hin h → hG Z X mX3_operandEnd (d + 3) tS hin (tK o hin (fun r τ' => r = some (.int (oI (if cA (τ.2.2.1 14) e (quF (τ.2.2.1 14) e n k) = 34 then some (quF (τ.2.2.1 14) e n k + 1) else none))) ∧ τ' = τ)) 19 [(0, .ref o), (1, .int (nI p)), (2, .int (nI e)), (3, .int (nI c)), (4, .int (nI k))] [] h := by
    intro n
    induction n with
    | zero =>
      intro k c h1 h2 h hR
      have hc := hcb k
      have e1 : quF (τ.2.2.1 14) e 0 k = k := rfl
      rw [e1]
      refine g_iload (pc := 19) dX3_operandEnd_19 rfl ?_
      refine g_iload_n (pc := 21) dX3_operandEnd_21 rfl rfl ?_
      refine g_icmp_geN (pc := 22) (tgt := 55) dX3_operandEnd_22 rfl (by omega) (by omega) (fun c1 => ?_) (fun c1 => ?_)
      · refine g_aload_n (pc := 55) dX3_operandEnd_55 rfl rfl ?_
        refine g_iload (pc := 56) dX3_operandEnd_56 rfl ?_
        refine g_iload_n (pc := 58) dX3_operandEnd_58 rfl rfl ?_
        refine t_invE (pc := 59) dX3_operandEnd_59 hR (tc_at0 _ _ e (by omega) he) meX3_at0 q2032 q2034 qs27 rfl rfl (Nat.le_of_ble_eq_true rfl) (fun h hR => ?_)
        refine g_bipush (pc := 62) (v := nI 34) dX3_operandEnd_62 rfl ?_
        refine g_icmp_neN (pc := 64) (tgt := 74) dX3_operandEnd_64 rfl (by omega) (by omega) (fun c64 => ?_) (fun c64 => ?_)
        · refine g_iconst (pc := 74) (v := (-1)) dX3_operandEnd_74 rfl ?_
          exact t_iret (pc := 75) dX3_operandEnd_75 hR rfl (⟨by simp [*]; first | done | rfl, rfl⟩)
        · refine g_iload (pc := 67) dX3_operandEnd_67 rfl ?_
          refine g_iconst (pc := 69) (v := nI 1) dX3_operandEnd_69 rfl ?_
          first | refine g_iaddN (pc := 70) dX3_operandEnd_70 ?_ | refine g_iadd (pc := 70) dX3_operandEnd_70 ?_
          refine g_goto (pc := 71) (tgt := 75) dX3_operandEnd_71 rfl ?_
          exact t_iret (pc := 75) dX3_operandEnd_75 hR rfl (⟨by simp [*]; first | done | rfl, rfl⟩)
      · exact absurd c1 (by omega)
    | succ n ih =>
      intro k c h1 h2 h hR
      have hc := hcb k
      have fin : (¬ (k < e ∧ τ.2.2.1 14 k ≠ 34 ∧ τ.2.2.1 14 k ≠ 125)) → ∀ h, tH o τ hin h → hG Z X mX3_operandEnd (d + 3) tS hin (tK o hin (fun r τ' => r = some (.int (oI (if cA (τ.2.2.1 14) e (quF (τ.2.2.1 14) e (n + 1) k) = 34 then some (quF (τ.2.2.1 14) e (n + 1) k + 1) else none))) ∧ τ' = τ)) 55 [(0, .ref o), (1, .int (nI p)), (2, .int (nI e)), (3, .int (nI c)), (4, .int (nI k))] [] h := by
        intro hn h hR
        have e1 : quF (τ.2.2.1 14) e (n + 1) k = k := by unfold quF; rw [if_neg hn]
        rw [e1]
        refine g_aload_n (pc := 55) dX3_operandEnd_55 rfl rfl ?_
        refine g_iload (pc := 56) dX3_operandEnd_56 rfl ?_
        refine g_iload_n (pc := 58) dX3_operandEnd_58 rfl rfl ?_
        refine t_invE (pc := 59) dX3_operandEnd_59 hR (tc_at0 _ _ e (by omega) he) meX3_at0 q2032 q2034 qs27 rfl rfl (Nat.le_of_ble_eq_true rfl) (fun h hR => ?_)
        refine g_bipush (pc := 62) (v := nI 34) dX3_operandEnd_62 rfl ?_
        refine g_icmp_neN (pc := 64) (tgt := 74) dX3_operandEnd_64 rfl (by omega) (by omega) (fun c64 => ?_) (fun c64 => ?_)
        · refine g_iconst (pc := 74) (v := (-1)) dX3_operandEnd_74 rfl ?_
          exact t_iret (pc := 75) dX3_operandEnd_75 hR rfl (⟨by simp [*]; first | done | rfl, rfl⟩)
        · refine g_iload (pc := 67) dX3_operandEnd_67 rfl ?_
          refine g_iconst (pc := 69) (v := nI 1) dX3_operandEnd_69 rfl ?_
          first | refine g_iaddN (pc := 70) dX3_operandEnd_70 ?_ | refine g_iadd (pc := 70) dX3_operandEnd_70 ?_
          refine g_goto (pc := 71) (tgt := 75) dX3_operandEnd_71 rfl ?_
          exact t_iret (pc := 75) dX3_operandEnd_75 hR rfl (⟨by simp [*]; first | done | rfl, rfl⟩)
      have hfk := hf k
      refine g_iload (pc := 19) dX3_operandEnd_19 rfl ?_
      refine g_iload_n (pc := 21) dX3_operandEnd_21 rfl rfl ?_
      refine g_icmp_geN (pc := 22) (tgt := 55) dX3_operandEnd_22 rfl (by omega) (by omega) (fun c1 => ?_) (fun c1 => ?_)
      · exact fin (by omega) h hR
      · refine g_aload_n (pc := 25) dX3_operandEnd_25 rfl rfl ?_
        refine t_get (pc := 26) (v := .ref (tAd _ 14)) 14 dX3_operandEnd_26 hR rfl q1813 (Nat.le_of_ble_eq_true rfl) rfl rfl ?_
        refine g_iload (pc := 29) dX3_operandEnd_29 rfl ?_
        refine t_cald (pc := 31) dX3_operandEnd_31 hR rfl (by decide) rfl (by decide) (by show _ < 1000; omega) ?_
        refine g_bipush (pc := 32) (v := nI 34) dX3_operandEnd_32 rfl ?_
        refine g_icmp_eqN (pc := 34) (tgt := 55) dX3_operandEnd_34 rfl (by omega) (by omega) (fun c2 => ?_) (fun c2 => ?_)
        · exact fin (by omega) h hR
        · refine g_aload_n (pc := 37) dX3_operandEnd_37 rfl rfl ?_
          refine t_get (pc := 38) (v := .ref (tAd _ 14)) 14 dX3_operandEnd_38 hR rfl q1813 (Nat.le_of_ble_eq_true rfl) rfl rfl ?_
          refine g_iload (pc := 41) dX3_operandEnd_41 rfl ?_
          refine t_cald (pc := 43) dX3_operandEnd_43 hR rfl (by decide) rfl (by decide) (by show _ < 1000; omega) ?_
          refine g_bipush (pc := 44) (v := nI 125) dX3_operandEnd_44 rfl ?_
          refine g_icmp_eqN (pc := 46) (tgt := 55) dX3_operandEnd_46 rfl (by omega) (by omega) (fun c3 => ?_) (fun c3 => ?_)
          · exact fin (by omega) h hR
          · refine g_iincN (pc := 49) (k0 := 1) (ls' := [(0, _), (1, _), (2, _), (3, _), (4, _)]) dX3_operandEnd_49 rfl (Nat.le_of_ble_eq_true rfl) rfl ?_
            refine g_goto (pc := 52) (tgt := 19) dX3_operandEnd_52 rfl ?_
            have e1 : quF (τ.2.2.1 14) e (n + 1) k = quF (τ.2.2.1 14) e n (k + 1) := by
              show (if _ then _ else _) = _
              rw [if_pos ⟨c1, c2, c3⟩]
            rw [e1]
            exact ih (k + 1) c (by omega) (by omega) h hR
  have ld : ∀ (n k c : Nat), k + n = p + 5 → p ≤ k → ∀ h, tH o τ hin h → hG Z X mX3_operandEnd (d + 3) tS hin (tK o hin (fun r τ' => r = some (.int (nI (dgF (τ.2.2.1 14) e n k))) ∧ τ' = τ)) 91 [(0, .ref o), (1, .int (nI p)), (2, .int (nI e)), (3, .int (nI c)), (4, .int (nI k))] [] h := by
    intro n
    induction n with
    | zero =>
      intro k c h1 hpk h hR
      refine g_aload_n (pc := 91) dX3_operandEnd_91 rfl rfl ?_
      refine g_aload_n (pc := 92) dX3_operandEnd_92 rfl rfl ?_
      refine g_iload (pc := 93) dX3_operandEnd_93 rfl ?_
      refine g_iload_n (pc := 95) dX3_operandEnd_95 rfl rfl ?_
      refine t_invE (pc := 96) dX3_operandEnd_96 hR (tc_at0 _ _ e (by omega) he) meX3_at0 q2032 q2034 qs27 rfl rfl (Nat.le_of_ble_eq_true rfl) (fun h hR => ?_)
      refine t_invE (pc := 99) dX3_operandEnd_99 hR (tc_digit _ _ (hcb _)) meX3_digit q2061 q2063 qs32 rfl rfl (Nat.le_of_ble_eq_true rfl) (fun h hR => ?_)
      refine g_if_eqB (pc := 102) (tgt := 119) dX3_operandEnd_102 rfl (fun c102 => ?_) (fun c102 => ?_)
      · refine g_iload (pc := 119) dX3_operandEnd_119 rfl ?_
        exact t_iret (pc := 121) dX3_operandEnd_121 hR rfl (⟨rfl, rfl⟩)
      · refine g_iload (pc := 105) dX3_operandEnd_105 rfl ?_
        refine g_iload_n (pc := 107) dX3_operandEnd_107 rfl rfl ?_
        first | refine g_isubN (pc := 108) dX3_operandEnd_108 (by omega) ?_ | refine g_isub (pc := 108) dX3_operandEnd_108 ?_
        refine g_iconst (pc := 109) (v := nI 5) dX3_operandEnd_109 rfl ?_
        refine g_icmp_geN (pc := 110) (tgt := 119) dX3_operandEnd_110 rfl (by omega) (by omega) (fun c110 => ?_) (fun c110 => ?_)
        · refine g_iload (pc := 119) dX3_operandEnd_119 rfl ?_
          exact t_iret (pc := 121) dX3_operandEnd_121 hR rfl (⟨rfl, rfl⟩)
        · exact absurd c110 (by omega)
    | succ n ih =>
      intro k c h1 hpk h hR
      refine g_aload_n (pc := 91) dX3_operandEnd_91 rfl rfl ?_
      refine g_aload_n (pc := 92) dX3_operandEnd_92 rfl rfl ?_
      refine g_iload (pc := 93) dX3_operandEnd_93 rfl ?_
      refine g_iload_n (pc := 95) dX3_operandEnd_95 rfl rfl ?_
      refine t_invE (pc := 96) dX3_operandEnd_96 hR (tc_at0 _ k e (by omega) he) meX3_at0 q2032 q2034 qs27 rfl rfl (Nat.le_of_ble_eq_true rfl) (fun h hR => ?_)
      refine t_invE (pc := 99) dX3_operandEnd_99 hR (tc_digit _ _ (hcb _)) meX3_digit q2061 q2063 qs32 rfl rfl (Nat.le_of_ble_eq_true rfl) (fun h hR => ?_)
      refine g_if_eqB (pc := 102) (tgt := 119) dX3_operandEnd_102 rfl (fun c1 => ?_) (fun c1 => ?_)
      · refine g_iload (pc := 119) dX3_operandEnd_119 rfl ?_
        exact t_iret (pc := 121) dX3_operandEnd_121 hR rfl (⟨by unfold dgF; rw [c1]; rfl, rfl⟩)
      · refine g_iload (pc := 105) dX3_operandEnd_105 rfl ?_
        refine g_iload_n (pc := 107) dX3_operandEnd_107 rfl rfl ?_
        first | refine g_isubN (pc := 108) dX3_operandEnd_108 (by omega) ?_ | refine g_isub (pc := 108) dX3_operandEnd_108 ?_
        refine g_iconst (pc := 109) (v := nI 5) dX3_operandEnd_109 rfl ?_
        refine g_icmp_geN (pc := 110) (tgt := 119) dX3_operandEnd_110 rfl (by omega) (by omega) (fun c2 => ?_) (fun c2 => ?_)
        · exact absurd c2 (by omega)
        · refine g_iincN (pc := 113) (k0 := 1) (ls' := [(0, _), (1, _), (2, _), (3, _), (4, _)]) dX3_operandEnd_113 rfl (Nat.le_of_ble_eq_true rfl) rfl ?_
          refine g_goto (pc := 116) (tgt := 91) dX3_operandEnd_116 rfl ?_
          have e1 : dgF (τ.2.2.1 14) e (n + 1) k = dgF (τ.2.2.1 14) e n (k + 1) := by
            show (if _ then _ else _) = _
            rw [if_pos c1]
          rw [e1]
          exact ih (k + 1) c (by omega) (by omega) h hR
  have hc := hcb p
  refine g_aload_n (pc := 0) dX3_operandEnd_0 rfl rfl ?_
  refine g_iload_n (pc := 1) dX3_operandEnd_1 rfl rfl ?_
  refine g_iload_n (pc := 2) dX3_operandEnd_2 rfl rfl ?_
  refine t_invE (pc := 3) dX3_operandEnd_3 hR (tc_at0 _ p e (by omega) he) meX3_at0 q2032 q2034 qs27 rfl rfl (Nat.le_of_ble_eq_true rfl) (fun h hR => ?_)
  refine g_istore_n (pc := 6) (ls' := [(0, _), (1, _), (2, _), (3, _)]) dX3_operandEnd_6 rfl (Nat.le_of_ble_eq_true rfl) rfl ?_
  refine g_iload_n (pc := 7) dX3_operandEnd_7 rfl rfl ?_
  refine g_istore (pc := 8) (ls' := [(0, _), (1, _), (2, _), (3, _), (4, _)]) dX3_operandEnd_8 (Nat.le_of_ble_eq_true rfl) rfl ?_
  refine g_iload_n (pc := 10) dX3_operandEnd_10 rfl rfl ?_
  refine g_bipush (pc := 11) (v := nI 34) dX3_operandEnd_11 rfl ?_
  refine g_icmp_neN (pc := 13) (tgt := 76) dX3_operandEnd_13 rfl (by omega) (by omega) (fun c1 => ?_) (fun c1 => ?_)
  · refine g_aload_n (pc := 76) dX3_operandEnd_76 rfl rfl ?_
    refine g_iload_n (pc := 77) dX3_operandEnd_77 rfl rfl ?_
    refine t_invE (pc := 78) dX3_operandEnd_78 hR (tc_digit _ _ (hcb _)) meX3_digit q2061 q2063 qs32 rfl rfl (Nat.le_of_ble_eq_true rfl) (fun h hR => ?_)
    refine g_if_neB (pc := 81) (tgt := 91) dX3_operandEnd_81 rfl (fun c2 => ?_) (fun c2 => ?_)
    · have e1 : operE (τ.2.2.1 14) e p = some (dgF (τ.2.2.1 14) e 5 p) := by
        unfold operE
        rw [if_neg c1, if_pos c2]
      rw [e1]
      exact ld 5 p _ rfl (Nat.le_refl _) h hR
    · have e1 : operE (τ.2.2.1 14) e p = pathE (τ.2.2.1 14) e p := by
        unfold operE
        rw [if_neg c1, if_neg (by rw [c2]; decide)]
      rw [e1]
      refine g_aload_n (pc := 84) dX3_operandEnd_84 rfl rfl ?_
      refine g_iload_n (pc := 85) dX3_operandEnd_85 rfl rfl ?_
      refine g_iload_n (pc := 86) dX3_operandEnd_86 rfl rfl ?_
      refine t_invE (pc := 87) dX3_operandEnd_87 hR (tc_pathEnd d p e (by omega) he hf) meX3_pathEnd q2065 q2067 qs33 rfl rfl (Nat.le_of_ble_eq_true rfl) (fun h hR => ?_)
      exact t_iret (pc := 90) dX3_operandEnd_90 hR rfl (⟨rfl, rfl⟩)
  · have e1 : operE (τ.2.2.1 14) e p = (if cA (τ.2.2.1 14) e (quF (τ.2.2.1 14) e e (p + 1)) = 34 then some (quF (τ.2.2.1 14) e e (p + 1) + 1) else none) := by
      unfold operE
      rw [if_pos c1]
    rw [e1]
    refine g_iincN (pc := 16) (k0 := 1) (ls' := [(0, _), (1, _), (2, _), (3, _), (4, _)]) dX3_operandEnd_16 rfl (Nat.le_of_ble_eq_true rfl) rfl ?_
    exact lq e (p + 1) _ (by omega) (by omega) h hR
theorem tc_helper (d p e : Nat) (hp : p < 1090) (he : e ≤ 1000) (hf : ∀ i, τ.2.2.1 14 i < 65536) : tC Z mX3_helper (d + 2) o [.ref o, .int (nI p), .int (nI e)] τ (fun r τ' => r = some (.int (nI (helpN (τ.2.2.1 14) e p))) ∧ τ' = τ) := by
  refine tC.of rfl rfl (Nat.le_of_ble_eq_true rfl) rfl (fun X hin h hR => ?_)
  refine g_aload_n (pc := 0) dX3_helper_0 rfl rfl ?_
  refine g_iload_n (pc := 1) dX3_helper_1 rfl rfl ?_
  refine g_iload_n (pc := 2) dX3_helper_2 rfl rfl ?_
  refine g_ldc2 (pc := 3) dX3_helper_3 q2051 ?_
  refine t_invE (pc := 6) dX3_helper_6 hR (tc_stands _ p e _ _ spells_7696416 (by omega) he hf) meX3_stands q2027 q2029 qs26 rfl rfl (Nat.le_of_ble_eq_true rfl) (fun h hR => ?_)
  refine g_if_eqB (pc := 9) (tgt := 14) dX3_helper_9 rfl (fun c9 => ?_) (fun c9 => ?_)
  · refine g_aload_n (pc := 14) dX3_helper_14 rfl rfl ?_
    refine g_iload_n (pc := 15) dX3_helper_15 rfl rfl ?_
    refine g_iload_n (pc := 16) dX3_helper_16 rfl rfl ?_
    refine g_ldc2 (pc := 17) dX3_helper_17 q2052 ?_
    refine t_invE (pc := 20) dX3_helper_20 hR (tc_stands _ p e _ _ spells_1818586656 (by omega) he hf) meX3_stands q2027 q2029 qs26 rfl rfl (Nat.le_of_ble_eq_true rfl) (fun h hR => ?_)
    refine g_if_eqB (pc := 23) (tgt := 28) dX3_helper_23 rfl (fun c23 => ?_) (fun c23 => ?_)
    · refine g_aload_n (pc := 28) dX3_helper_28 rfl rfl ?_
      refine g_iload_n (pc := 29) dX3_helper_29 rfl rfl ?_
      refine g_iload_n (pc := 30) dX3_helper_30 rfl rfl ?_
      refine g_ldc2 (pc := 31) dX3_helper_31 q2053 ?_
      refine t_invE (pc := 34) dX3_helper_34 hR (tc_stands _ p e _ _ spells_1852797984 (by omega) he hf) meX3_stands q2027 q2029 qs26 rfl rfl (Nat.le_of_ble_eq_true rfl) (fun h hR => ?_)
      refine g_if_eqB (pc := 37) (tgt := 42) dX3_helper_37 rfl (fun c37 => ?_) (fun c37 => ?_)
      · refine g_aload_n (pc := 42) dX3_helper_42 rfl rfl ?_
        refine g_iload_n (pc := 43) dX3_helper_43 rfl rfl ?_
        refine g_iload_n (pc := 44) dX3_helper_44 rfl rfl ?_
        refine g_ldc2 (pc := 45) dX3_helper_45 q2054 ?_
        refine t_invE (pc := 48) dX3_helper_48 hR (tc_stands _ p e _ _ spells_1633969184 (by omega) he hf) meX3_stands q2027 q2029 qs26 rfl rfl (Nat.le_of_ble_eq_true rfl) (fun h hR => ?_)
        refine g_if_eqB (pc := 51) (tgt := 56) dX3_helper_51 rfl (fun c51 => ?_) (fun c51 => ?_)
        · refine g_aload_n (pc := 56) dX3_helper_56 rfl rfl ?_
          refine g_iload_n (pc := 57) dX3_helper_57 rfl rfl ?_
          refine g_iload_n (pc := 58) dX3_helper_58 rfl rfl ?_
          refine g_ldc2 (pc := 59) dX3_helper_59 q2055 ?_
          refine t_invE (pc := 62) dX3_helper_62 hR (tc_stands _ p e _ _ spells_6648096 (by omega) he hf) meX3_stands q2027 q2029 qs26 rfl rfl (Nat.le_of_ble_eq_true rfl) (fun h hR => ?_)
          refine g_if_eqB (pc := 65) (tgt := 70) dX3_helper_65 rfl (fun c65 => ?_) (fun c65 => ?_)
          · refine g_aload_n (pc := 70) dX3_helper_70 rfl rfl ?_
            refine g_iload_n (pc := 71) dX3_helper_71 rfl rfl ?_
            refine g_iload_n (pc := 72) dX3_helper_72 rfl rfl ?_
            refine g_ldc2 (pc := 73) dX3_helper_73 q2056 ?_
            refine t_invE (pc := 76) dX3_helper_76 hR (tc_stands _ p e _ _ spells_6386720 (by omega) he hf) meX3_stands q2027 q2029 qs26 rfl rfl (Nat.le_of_ble_eq_true rfl) (fun h hR => ?_)
            refine g_if_eqB (pc := 79) (tgt := 87) dX3_helper_79 rfl (fun c79 => ?_) (fun c79 => ?_)
            · refine g_iconst (pc := 87) (v := nI 0) dX3_helper_87 rfl ?_
              exact t_iret (pc := 88) dX3_helper_88 hR rfl (⟨by simp [helpN, *], rfl⟩)
            · refine g_bipush (pc := 82) (v := nI 6) dX3_helper_82 rfl ?_
              refine g_goto (pc := 84) (tgt := 88) dX3_helper_84 rfl ?_
              exact t_iret (pc := 88) dX3_helper_88 hR rfl (⟨by simp [helpN, *], rfl⟩)
          · refine g_iconst (pc := 68) (v := nI 5) dX3_helper_68 rfl ?_
            exact t_iret (pc := 69) dX3_helper_69 hR rfl (⟨by simp [helpN, *], rfl⟩)
        · refine g_iconst (pc := 54) (v := nI 4) dX3_helper_54 rfl ?_
          exact t_iret (pc := 55) dX3_helper_55 hR rfl (⟨by simp [helpN, *], rfl⟩)
      · refine g_iconst (pc := 40) (v := nI 3) dX3_helper_40 rfl ?_
        exact t_iret (pc := 41) dX3_helper_41 hR rfl (⟨by simp [helpN, *], rfl⟩)
    · refine g_iconst (pc := 26) (v := nI 2) dX3_helper_26 rfl ?_
      exact t_iret (pc := 27) dX3_helper_27 hR rfl (⟨by simp [helpN, *], rfl⟩)
  · refine g_iconst (pc := 12) (v := nI 1) dX3_helper_12 rfl ?_
    exact t_iret (pc := 13) dX3_helper_13 hR rfl (⟨by simp [helpN, *], rfl⟩)
theorem g_if_geO {X : hX} {M : hM} {d : Nat} {S : Nat → Prop} {hin : hP} {K : hO → hP → Prop} {pc : Nat} {ls : List (Nat × Value)} {st : List Value} {h : hP} {x : Option Nat} {off : Int} {tgt : Nat} (hd : decode M.1 pc = .ok (.ifCond .ge off, 3)) (ht : (pc : Int) + off = (tgt : Int)) (hx : ∀ k, x = some k → k < 2147483648) (kt : ∀ k, x = some k → hG Z X M d S hin K tgt ls st h) (kf : x = none → hG Z X M d S hin K (pc + 3) ls st h) : hG Z X M d S hin K pc ls (.int (oI x) :: st) h := by
  cases x with
  | none => exact g_if_ge hd ht (fun q => absurd q (by decide)) (fun _ => kf rfl)
  | some k => exact g_if_geN hd ht (hx k rfl) (kt k rfl)
theorem oI_eq {x : Option Nat} {e : Nat} (hx : ∀ k, x = some k → k < 2147483648) (he : e < 2147483648) : oI x = nI e ↔ x = some e := by
  cases x with
  | none =>
    constructor
    · intro q
      have : nI e = -1 := q.symm
      exact absurd (by rw [this]; decide) (nI_pos he)
    · intro q; cases q
  | some k =>
    have h1 := hx k rfl
    show nI k = nI e ↔ _
    rw [nI_eq h1 he]
    simp
theorem g_icmp_neO {X : hX} {M : hM} {d : Nat} {S : Nat → Prop} {hin : hP} {K : hO → hP → Prop} {pc : Nat} {ls : List (Nat × Value)} {st : List Value} {h : hP} {x : Option Nat} {b : Nat} {off : Int} {tgt : Nat} (hd : decode M.1 pc = .ok (.if_icmp .ne off, 3)) (ht : (pc : Int) + off = (tgt : Int)) (hx : ∀ k, x = some k → k < 2147483648) (hb : b < 2147483648) (kt : ¬ x = some b → hG Z X M d S hin K tgt ls st h) (kf : x = some b → hG Z X M d S hin K (pc + 3) ls st h) : hG Z X M d S hin K pc ls (.int (nI b) :: .int (oI x) :: st) h :=
  g_icmp_ne hd ht (fun q => kt (fun z => q ((oI_eq hx hb).mpr z))) (fun q => kf ((oI_eq hx hb).mp q))
theorem tc_isExpr (d p e : Nat) (hp : p < 1080) (he : e ≤ 1000) (hf : ∀ i, τ.2.2.1 14 i < 65536) : tC Z mX3_isExpr (d + 4) o [.ref o, .int (nI p), .int (nI e)] τ (fun r τ' => r = some (.int (nI (isEx (τ.2.2.1 14) e p).toNat)) ∧ τ' = τ) := by
  refine tC.of rfl rfl (Nat.le_of_ble_eq_true rfl) rfl (fun X hin h hR => ?_)
  have hh := helpN_le (τ.2.2.1 14) e p
  have hs := nameS_le (helpN (τ.2.2.1 14) e p)
  have hop : ∀ q k, operE (τ.2.2.1 14) e q = some k → k < 2147483648 := fun q k z => by
    have := operE_le z
    omega
  refine g_aload_n (pc := 0) dX3_isExpr_0 rfl rfl ?_
  refine g_iload_n (pc := 1) dX3_isExpr_1 rfl rfl ?_
  refine g_iload_n (pc := 2) dX3_isExpr_2 rfl rfl ?_
  refine t_invE (pc := 3) dX3_isExpr_3 hR (tc_helper _ p e (by omega) he hf) meX3_helper q2047 q2049 qs30 rfl rfl (Nat.le_of_ble_eq_true rfl) (fun h hR => ?_)
  refine g_istore_n (pc := 6) (ls' := [(0, _), (1, _), (2, _), (3, _)]) dX3_isExpr_6 rfl (Nat.le_of_ble_eq_true rfl) rfl ?_
  refine g_iload_n (pc := 7) dX3_isExpr_7 rfl rfl ?_
  refine g_if_neN (pc := 8) (tgt := 32) dX3_isExpr_8 rfl (by omega) (fun c1 => ?_) (fun c1 => ?_)
  · refine g_aload_n (pc := 32) dX3_isExpr_32 rfl rfl ?_
    refine g_iload_n (pc := 33) dX3_isExpr_33 rfl rfl ?_
    refine g_aload_n (pc := 34) dX3_isExpr_34 rfl rfl ?_
    refine g_iload_n (pc := 35) dX3_isExpr_35 rfl rfl ?_
    refine t_invE (pc := 36) dX3_isExpr_36 hR (tc_nameSize _ _ hh) meX3_nameSize q2077 q2079 qs35 rfl rfl (Nat.le_of_ble_eq_true rfl) (fun h hR => ?_)
    first | refine g_iaddN (pc := 39) dX3_isExpr_39 ?_ | refine g_iadd (pc := 39) dX3_isExpr_39 ?_
    refine g_iload_n (pc := 40) dX3_isExpr_40 rfl rfl ?_
    refine t_invE (pc := 41) dX3_isExpr_41 hR (tc_operandEnd _ _ e (by omega) he hf) meX3_operandEnd q2057 q2059 qs31 rfl rfl (Nat.le_of_ble_eq_true rfl) (fun h hR => ?_)
    have e1 : isEx (τ.2.2.1 14) e p = (match operE (τ.2.2.1 14) e (p + nameS (helpN (τ.2.2.1 14) e p)) with | none => false | some k => if helpN (τ.2.2.1 14) e p < 4 then k == e else cA (τ.2.2.1 14) e k == 32 && operE (τ.2.2.1 14) e (k + 1) == some e) := by
      unfold isEx
      rw [if_neg (by omega)]
      cases operE (τ.2.2.1 14) e (p + nameS (helpN (τ.2.2.1 14) e p)) <;> rfl
    rw [e1]
    have hb := hop (p + nameS (helpN (τ.2.2.1 14) e p))
    have hb2 : ∀ k, operE (τ.2.2.1 14) e (p + nameS (helpN (τ.2.2.1 14) e p)) = some k → k ≤ e := fun k z => operE_le z
    generalize operE (τ.2.2.1 14) e (p + nameS (helpN (τ.2.2.1 14) e p)) = x at hb hb2
    refine g_istore (pc := 44) (ls' := [(0, _), (1, _), (2, _), (3, _), (4, _)]) dX3_isExpr_44 (Nat.le_of_ble_eq_true rfl) rfl ?_
    refine g_iload_n (pc := 46) dX3_isExpr_46 rfl rfl ?_
    refine g_iconst (pc := 47) (v := nI 4) dX3_isExpr_47 rfl ?_
    refine g_icmp_ltN (pc := 48) (tgt := 56) dX3_isExpr_48 rfl (by omega) (by omega) (fun c2 => ?_) (fun c2 => ?_)
    · refine g_iload (pc := 56) dX3_isExpr_56 rfl ?_
      refine g_iload_n (pc := 58) dX3_isExpr_58 rfl rfl ?_
      refine g_icmp_neO (pc := 59) (tgt := 66) dX3_isExpr_59 rfl hb (by omega) (fun c3 => ?_) (fun c3 => ?_)
      · refine g_iconst (pc := 66) (v := nI 0) dX3_isExpr_66 rfl ?_
        exact t_zret (pc := 67) dX3_isExpr_67 hR rfl rfl (⟨by cases x with | none => rfl | some k => simp [c2]; simp at c3; rw [beq_eq_false_iff_ne.mpr c3]; rfl, rfl⟩)
      · refine g_iconst (pc := 62) (v := nI 1) dX3_isExpr_62 rfl ?_
        refine g_goto (pc := 63) (tgt := 67) dX3_isExpr_63 rfl ?_
        exact t_zret (pc := 67) dX3_isExpr_67 hR rfl rfl (⟨by rw [c3]; simp [c2], rfl⟩)
    · refine g_iload (pc := 51) dX3_isExpr_51 rfl ?_
      refine g_if_geO (pc := 53) (tgt := 68) dX3_isExpr_53 rfl hb (fun k hk => ?_) (fun hk => ?_)
      · subst hk
        have hke := hb2 k rfl
        have hck := cA_bd (e := e) (k := k) hf
        rw [show oI (some k) = nI k from rfl]
        refine g_aload_n (pc := 68) dX3_isExpr_68 rfl rfl ?_
        refine g_iload (pc := 69) dX3_isExpr_69 rfl ?_
        refine g_iload_n (pc := 71) dX3_isExpr_71 rfl rfl ?_
        refine t_invE (pc := 72) dX3_isExpr_72 hR (tc_at0 _ k e (by omega) he) meX3_at0 q2032 q2034 qs27 rfl rfl (Nat.le_of_ble_eq_true rfl) (fun h hR => ?_)
        refine g_bipush (pc := 75) (v := nI 32) dX3_isExpr_75 rfl ?_
        refine g_icmp_neN (pc := 77) (tgt := 97) dX3_isExpr_77 rfl (by omega) (by omega) (fun c4 => ?_) (fun c4 => ?_)
        · refine g_iconst (pc := 97) (v := nI 0) dX3_isExpr_97 rfl ?_
          exact t_zret (pc := 98) dX3_isExpr_98 hR rfl rfl (⟨by simp only [if_neg (show ¬ helpN (τ.2.2.1 14) e p < 4 by omega), beq_eq_false_iff_ne.mpr c4]; rfl, rfl⟩)
        · refine g_aload_n (pc := 80) dX3_isExpr_80 rfl rfl ?_
          refine g_iload (pc := 81) dX3_isExpr_81 rfl ?_
          refine g_iconst (pc := 83) (v := nI 1) dX3_isExpr_83 rfl ?_
          first | refine g_iaddN (pc := 84) dX3_isExpr_84 ?_ | refine g_iadd (pc := 84) dX3_isExpr_84 ?_
          refine g_iload_n (pc := 85) dX3_isExpr_85 rfl rfl ?_
          refine t_invE (pc := 86) dX3_isExpr_86 hR (tc_operandEnd _ (k + 1) e (by omega) he hf) meX3_operandEnd q2057 q2059 qs31 rfl rfl (Nat.le_of_ble_eq_true rfl) (fun h hR => ?_)
          refine g_iload_n (pc := 89) dX3_isExpr_89 rfl rfl ?_
          refine g_icmp_neO (pc := 90) (tgt := 97) dX3_isExpr_90 rfl (hop (k + 1)) (by omega) (fun c3 => ?_) (fun c3 => ?_)
          · refine g_iconst (pc := 97) (v := nI 0) dX3_isExpr_97 rfl ?_
            exact t_zret (pc := 98) dX3_isExpr_98 hR rfl rfl (⟨by simp only [if_neg (show ¬ helpN (τ.2.2.1 14) e p < 4 by omega), beq_eq_false_iff_ne.mpr c3]; simp, rfl⟩)
          · refine g_iconst (pc := 93) (v := nI 1) dX3_isExpr_93 rfl ?_
            refine g_goto (pc := 94) (tgt := 98) dX3_isExpr_94 rfl ?_
            exact t_zret (pc := 98) dX3_isExpr_98 hR rfl rfl (⟨by simp [show ¬ helpN (τ.2.2.1 14) e p < 4 by omega, c4, c3], rfl⟩)
      · subst hk
        refine g_iload (pc := 56) dX3_isExpr_56 rfl ?_
        refine g_iload_n (pc := 58) dX3_isExpr_58 rfl rfl ?_
        refine g_icmp_neO (pc := 59) (tgt := 66) dX3_isExpr_59 rfl (fun k z => by cases z) (by omega) (fun c3 => ?_) (fun c3 => ?_)
        · refine g_iconst (pc := 66) (v := nI 0) dX3_isExpr_66 rfl ?_
          exact t_zret (pc := 67) dX3_isExpr_67 hR rfl rfl (⟨rfl, rfl⟩)
        · cases c3
  · refine g_aload_n (pc := 11) dX3_isExpr_11 rfl rfl ?_
    refine g_iload_n (pc := 12) dX3_isExpr_12 rfl rfl ?_
    refine g_iload_n (pc := 13) dX3_isExpr_13 rfl rfl ?_
    refine t_invE (pc := 14) dX3_isExpr_14 hR (tc_operandEnd _ p e (by omega) he hf) meX3_operandEnd q2057 q2059 qs31 rfl rfl (Nat.le_of_ble_eq_true rfl) (fun h hR => ?_)
    refine g_iload_n (pc := 17) dX3_isExpr_17 rfl rfl ?_
    refine g_icmp_neO (pc := 18) (tgt := 30) dX3_isExpr_18 rfl (hop p) (by omega) (fun c3 => ?_) (fun c3 => ?_)
    · refine g_iconst (pc := 30) (v := nI 0) dX3_isExpr_30 rfl ?_
      exact t_zret (pc := 31) dX3_isExpr_31 hR rfl rfl (⟨by unfold isEx; rw [if_pos c1, beq_eq_false_iff_ne.mpr c3]; rfl, rfl⟩)
    · refine g_iload_n (pc := 21) dX3_isExpr_21 rfl rfl ?_
      refine g_iload_n (pc := 22) dX3_isExpr_22 rfl rfl ?_
      refine g_icmp_geN (pc := 23) (tgt := 30) dX3_isExpr_23 rfl (by omega) (by omega) (fun c23 => ?_) (fun c23 => ?_)
      · refine g_iconst (pc := 30) (v := nI 0) dX3_isExpr_30 rfl ?_
        exact t_zret (pc := 31) dX3_isExpr_31 hR rfl rfl (⟨by unfold isEx; rw [if_pos c1, c3]; first | (rw [decide_eq_true c23]; simp) | (rw [decide_eq_false (Nat.not_lt.mpr c23)]; simp), rfl⟩)
      · refine g_iconst (pc := 26) (v := nI 1) dX3_isExpr_26 rfl ?_
        refine g_goto (pc := 27) (tgt := 31) dX3_isExpr_27 rfl ?_
        exact t_zret (pc := 31) dX3_isExpr_31 hR rfl rfl (⟨by unfold isEx; rw [if_pos c1, c3]; first | (rw [decide_eq_true c23]; simp) | (rw [decide_eq_false (Nat.not_lt.mpr c23)]; simp), rfl⟩)
end TW4
