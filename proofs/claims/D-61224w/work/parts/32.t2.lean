/-! TWIN 2: characters -/
set_option maxRecDepth 100000
theorem bz_n (b : Bool) : narrow .boolean (.int (nI b.toNat)) = .int (nI b.toNat) := by cases b <;> rfl
section TW2
variable {Z : hE} {o : Nat} {τ : tT}
theorem t_bret {X : hX} {M : hM} {d : Nat} {hin : hP} {pc : Nat} {ls : List (Nat × Value)} {h : hP} {P : Option Value → tT → Prop} {v : Int32} (b : Bool) (hd : decode M.1 pc = .ok (.ireturn, 1)) (hR : tH o τ hin h) (hr : M.2.2.2.1 = some .boolean) (hv : v = nI b.toNat) (p : P (some (.int (nI b.toNat))) τ) : hG Z X M d tS hin (tK o hin P) pc ls [.int v] h := by
  subst hv
  exact t_zret hd hR hr (bz_n b) p
theorem tc_no (d : Nat) (x : Int32) (hn : τ.1 4 < 2147483648) : tC Z mX3_no d o [.ref o, .int x] τ (fun r τ' => τ' = τ ∧ ((¬ (0 ≤ x.toInt ∧ x.toInt < τ.1 4) ∧ r = some (.int (nI 1))) ∨ ∃ k, k < τ.1 4 ∧ x = nI k ∧ r = some (.int (nI 0)))) := by
  refine tC.of rfl rfl (Nat.le_of_ble_eq_true rfl) rfl (fun X hin h hR => ?_)
  refine g_iload_n (pc := 0) dX3_no_0 rfl rfl ?_
  refine g_if_lt (pc := 1) (tgt := 12) dX3_no_1 rfl (fun c1 => ?_) (fun c1 => ?_)
  · refine g_iconst (pc := 12) (v := nI 1) dX3_no_12 rfl ?_
    refine g_goto (pc := 13) (tgt := 17) dX3_no_13 rfl ?_
    refine t_zret (pc := 17) dX3_no_17 hR rfl rfl ⟨rfl, Or.inl ⟨fun q => ?_, rfl⟩⟩
    have := Int32.lt_iff_toInt_lt.mp c1
    simp at this
    omega
  · obtain ⟨k, hk, rfl⟩ := nI_of c1
    refine g_iload_n (pc := 4) dX3_no_4 rfl rfl ?_
    refine g_aload_n (pc := 5) dX3_no_5 rfl rfl ?_
    refine t_get (pc := 6) (v := .int (nI _)) 4 dX3_no_6 hR rfl q1803 (Nat.le_of_ble_eq_true rfl) rfl rfl ?_
    refine g_icmp_ltN (pc := 9) (tgt := 16) dX3_no_9 rfl (by omega) (by omega) (fun c2 => ?_) (fun c2 => ?_)
    · refine g_iconst (pc := 16) (v := nI 0) dX3_no_16 rfl ?_
      exact t_zret (pc := 17) dX3_no_17 hR rfl rfl (⟨rfl, Or.inr ⟨k, c2, rfl, rfl⟩⟩)
    · refine g_iconst (pc := 12) (v := nI 1) dX3_no_12 rfl ?_
      refine g_goto (pc := 13) (tgt := 17) dX3_no_13 rfl ?_
      refine t_zret (pc := 17) dX3_no_17 hR rfl rfl ⟨rfl, Or.inl ⟨fun q => ?_, rfl⟩⟩
      rw [nI_toInt hk] at q
      omega
theorem tc_letter (d c : Nat) (hc : c < 65536) : tC Z mX3_letter d o [.ref o, .int (nI c)] τ (fun r τ' => r = some (.int (nI (isL c).toNat)) ∧ τ' = τ) := by
  refine tC.of rfl rfl (Nat.le_of_ble_eq_true rfl) rfl (fun X hin h hR => ?_)
  refine g_iload_n (pc := 0) dX3_letter_0 rfl rfl ?_
  refine g_bipush (pc := 1) (v := nI 97) dX3_letter_1 rfl ?_
  refine g_icmp_ltN (pc := 3) (tgt := 16) dX3_letter_3 rfl (by omega) (by omega) (fun c1 => ?_) (fun c1 => ?_)
  · refine g_iconst (pc := 16) (v := nI 0) dX3_letter_16 rfl ?_
    refine t_bret (pc := 17) (isL c) dX3_letter_17 hR rfl ?_ ⟨rfl, rfl⟩
    simp [isL, show ¬ 97 ≤ c by omega]
  · refine g_iload_n (pc := 6) dX3_letter_6 rfl rfl ?_
    refine g_bipush (pc := 7) (v := nI 122) dX3_letter_7 rfl ?_
    refine g_icmp_gtN (pc := 9) (tgt := 16) dX3_letter_9 rfl (by omega) (by omega) (fun c2 => ?_) (fun c2 => ?_)
    · refine g_iconst (pc := 16) (v := nI 0) dX3_letter_16 rfl ?_
      refine t_bret (pc := 17) (isL c) dX3_letter_17 hR rfl ?_ ⟨rfl, rfl⟩
      simp [isL, show ¬ c ≤ 122 by omega]
    · refine g_iconst (pc := 12) (v := nI 1) dX3_letter_12 rfl ?_
      refine g_goto (pc := 13) (tgt := 17) dX3_letter_13 rfl ?_
      refine t_bret (pc := 17) (isL c) dX3_letter_17 hR rfl ?_ ⟨rfl, rfl⟩
      simp [isL, c1, c2]
theorem tc_digit (d c : Nat) (hc : c < 65536) : tC Z mX3_digit d o [.ref o, .int (nI c)] τ (fun r τ' => r = some (.int (nI (isD c).toNat)) ∧ τ' = τ) := by
  refine tC.of rfl rfl (Nat.le_of_ble_eq_true rfl) rfl (fun X hin h hR => ?_)
  refine g_iload_n (pc := 0) dX3_digit_0 rfl rfl ?_
  refine g_bipush (pc := 1) (v := nI 48) dX3_digit_1 rfl ?_
  refine g_icmp_ltN (pc := 3) (tgt := 16) dX3_digit_3 rfl (by omega) (by omega) (fun c1 => ?_) (fun c1 => ?_)
  · refine g_iconst (pc := 16) (v := nI 0) dX3_digit_16 rfl ?_
    refine t_bret (pc := 17) (isD c) dX3_digit_17 hR rfl ?_ ⟨rfl, rfl⟩
    simp [isD, show ¬ 48 ≤ c by omega]
  · refine g_iload_n (pc := 6) dX3_digit_6 rfl rfl ?_
    refine g_bipush (pc := 7) (v := nI 57) dX3_digit_7 rfl ?_
    refine g_icmp_gtN (pc := 9) (tgt := 16) dX3_digit_9 rfl (by omega) (by omega) (fun c2 => ?_) (fun c2 => ?_)
    · refine g_iconst (pc := 16) (v := nI 0) dX3_digit_16 rfl ?_
      refine t_bret (pc := 17) (isD c) dX3_digit_17 hR rfl ?_ ⟨rfl, rfl⟩
      simp [isD, show ¬ c ≤ 57 by omega]
    · refine g_iconst (pc := 12) (v := nI 1) dX3_digit_12 rfl ?_
      refine g_goto (pc := 13) (tgt := 17) dX3_digit_13 rfl ?_
      refine t_bret (pc := 17) (isD c) dX3_digit_17 hR rfl ?_ ⟨rfl, rfl⟩
      simp [isD, c1, c2]
theorem tc_at0 (d p e : Nat) (hp : p < 2147483648) (he : e ≤ 1000) : tC Z mX3_at0 d o [.ref o, .int (nI p), .int (nI e)] τ (fun r τ' => r = some (.int (nI (cA (τ.2.2.1 14) e p))) ∧ τ' = τ) := by
  refine tC.of rfl rfl (Nat.le_of_ble_eq_true rfl) rfl (fun X hin h hR => ?_)
  refine g_iload_n (pc := 0) dX3_at0_0 rfl rfl ?_
  refine g_iload_n (pc := 1) dX3_at0_1 rfl rfl ?_
  refine g_icmp_geN (pc := 2) (tgt := 14) dX3_at0_2 rfl (by omega) (by omega) (fun c1 => ?_) (fun c1 => ?_)
  · refine g_iconst (pc := 14) (v := nI 0) dX3_at0_14 rfl ?_
    exact t_iret (pc := 15) dX3_at0_15 hR rfl (⟨by rw [cA_ge c1], rfl⟩)
  · refine g_aload_n (pc := 5) dX3_at0_5 rfl rfl ?_
    refine t_get (pc := 6) (v := .ref (tAd _ 14)) 14 dX3_at0_6 hR rfl q1813 (Nat.le_of_ble_eq_true rfl) rfl rfl ?_
    refine g_iload_n (pc := 9) dX3_at0_9 rfl rfl ?_
    refine t_cald (pc := 10) dX3_at0_10 hR rfl (by decide) rfl (by decide) (by show _ < 1000; omega) ?_
    refine g_goto (pc := 11) (tgt := 15) dX3_at0_11 rfl ?_
    exact t_iret (pc := 15) dX3_at0_15 hR rfl (⟨by rw [cA_eq c1], rfl⟩)
theorem tc_nameSize (d n : Nat) (hn : n < 7) : tC Z mX3_nameSize d o [.ref o, .int (nI n)] τ (fun r τ' => r = some (.int (nI (nameS n))) ∧ τ' = τ) := by
  refine tC.of rfl rfl (Nat.le_of_ble_eq_true rfl) rfl (fun X hin h hR => ?_)
  refine g_iload_n (pc := 0) dX3_nameSize_0 rfl rfl ?_
  refine g_iconst (pc := 1) (v := nI 1) dX3_nameSize_1 rfl ?_
  refine g_icmp_eqN (pc := 2) (tgt := 10) dX3_nameSize_2 rfl (by omega) (by omega) (fun c1 => ?_) (fun c1 => ?_)
  · refine g_iconst (pc := 10) (v := nI 3) dX3_nameSize_10 rfl ?_
    refine g_goto (pc := 11) (tgt := 15) dX3_nameSize_11 rfl ?_
    exact t_iret (pc := 15) dX3_nameSize_15 hR rfl (⟨by simp [nameS, c1], rfl⟩)
  · refine g_iload_n (pc := 5) dX3_nameSize_5 rfl rfl ?_
    refine g_iconst (pc := 6) (v := nI 4) dX3_nameSize_6 rfl ?_
    refine g_icmp_leN (pc := 7) (tgt := 14) dX3_nameSize_7 rfl (by omega) (by omega) (fun c2 => ?_) (fun c2 => ?_)
    · refine g_iconst (pc := 14) (v := nI 4) dX3_nameSize_14 rfl ?_
      exact t_iret (pc := 15) dX3_nameSize_15 hR rfl (⟨by simp [nameS, c1]; rw [if_neg (by omega)], rfl⟩)
    · refine g_iconst (pc := 10) (v := nI 3) dX3_nameSize_10 rfl ?_
      refine g_goto (pc := 11) (tgt := 15) dX3_nameSize_11 rfl ?_
      exact t_iret (pc := 15) dX3_nameSize_15 hR rfl (⟨by simp [nameS, c2], rfl⟩)
theorem tc_nothing (d r : Nat) (hr : r < 18) : tC Z mX3_nothing d o [.ref o, .int (nI r)] τ (fun v τ' => v = none ∧ τ' = tAI τ 26 r (-1)) := by
  refine tC.of rfl rfl (Nat.le_of_ble_eq_true rfl) rfl (fun X hin h hR => ?_)
  refine g_aload_n (pc := 0) dX3_nothing_0 rfl rfl ?_
  refine t_get (pc := 1) (v := .ref (tAd _ 26)) 26 dX3_nothing_1 hR rfl q1825 (Nat.le_of_ble_eq_true rfl) rfl rfl ?_
  refine g_iload_n (pc := 4) dX3_nothing_4 rfl rfl ?_
  refine g_iconst (pc := 5) (v := (-1)) dX3_nothing_5 rfl ?_
  refine t_iastI (pc := 6) dX3_nothing_6 hR rfl (by decide) rfl (by decide) (by show _ < 18; omega) (fun h hR => ?_)
  exact t_vret (pc := 7) dX3_nothing_7 hR rfl (⟨rfl, rfl⟩)
theorem tc_setNumber (d r : Nat) (v : Int32) (hr : r < 18) : tC Z mX3_setNumber d o [.ref o, .int (nI r), .int v] τ (fun u τ' => u = none ∧ τ' = tAI (tAI τ 26 r 0) 27 r v) := by
  refine tC.of rfl rfl (Nat.le_of_ble_eq_true rfl) rfl (fun X hin h hR => ?_)
  refine g_aload_n (pc := 0) dX3_setNumber_0 rfl rfl ?_
  refine t_get (pc := 1) (v := .ref (tAd _ 26)) 26 dX3_setNumber_1 hR rfl q1825 (Nat.le_of_ble_eq_true rfl) rfl rfl ?_
  refine g_iload_n (pc := 4) dX3_setNumber_4 rfl rfl ?_
  refine g_iconst (pc := 5) (v := nI 0) dX3_setNumber_5 rfl ?_
  refine t_iastI (pc := 6) dX3_setNumber_6 hR rfl (by decide) rfl (by decide) (by show _ < 18; omega) (fun h hR => ?_)
  refine g_aload_n (pc := 7) dX3_setNumber_7 rfl rfl ?_
  refine t_get (pc := 8) (v := .ref (tAd _ 27)) 27 dX3_setNumber_8 hR rfl q1826 (Nat.le_of_ble_eq_true rfl) rfl rfl ?_
  refine g_iload_n (pc := 11) dX3_setNumber_11 rfl rfl ?_
  refine g_iload_n (pc := 12) dX3_setNumber_12 rfl rfl ?_
  refine t_iastI (pc := 13) dX3_setNumber_13 hR rfl (by decide) rfl (by decide) (by show _ < 18; omega) (fun h hR => ?_)
  exact t_vret (pc := 14) dX3_setNumber_14 hR rfl (⟨rfl, rfl⟩)
theorem tc_letters (d p e : Nat) (hp : p < 2000) (he : e ≤ 1000) (hf : ∀ i, τ.2.2.1 14 i < 65536) : tC Z mX3_letters (d + 1) o [.ref o, .int (nI p), .int (nI e)] τ (fun r τ' => r = some (.int (nI (lts (τ.2.2.1 14) e p))) ∧ τ' = τ) := by
  refine tC.of rfl rfl (Nat.le_of_ble_eq_true rfl) rfl (fun X hin h hR => ?_)
  have hcA : ∀ k, cA (τ.2.2.1 14) e k < 65536 := fun k => by
    unfold cA
    split
    · exact hf k
    · omega
  have loop : ∀ (n k : Nat), e - k ≤ n → p ≤ k → k ≤ p + 1000 → lts (τ.2.2.1 14) e p = lts (τ.2.2.1 14) e k + (k - p) → ∀ h, tH o τ hin h → hG Z X mX3_letters (d + 1) tS hin (tK o hin (fun r τ' => r = some (.int (nI (lts (τ.2.2.1 14) e p))) ∧ τ' = τ)) 2 [(0, .ref o), (1, .int (nI p)), (2, .int (nI e)), (3, .int (nI k))] [] h := by
    intro n
    induction n with
    | zero =>
      intro k hn h1 h2 h3 h hR
      refine g_aload_n (pc := 2) dX3_letters_2 rfl rfl ?_
      refine g_aload_n (pc := 3) dX3_letters_3 rfl rfl ?_
      refine g_iload_n (pc := 4) dX3_letters_4 rfl rfl ?_
      refine g_iload_n (pc := 5) dX3_letters_5 rfl rfl ?_
      refine t_invE (pc := 6) dX3_letters_6 hR (tc_at0 d k e (by omega) he) meX3_at0 q2032 q2034 qs27 rfl rfl (Nat.le_of_ble_eq_true rfl) (fun h hR => ?_)
      refine t_invE (pc := 9) dX3_letters_9 hR (tc_letter d _ (hcA k)) meX3_letter q2004 q2006 qs22 rfl rfl (Nat.le_of_ble_eq_true rfl) (fun h hR => ?_)
      refine g_if_eqB (pc := 12) (tgt := 21) dX3_letters_12 rfl (fun hz => ?_) (fun hz => ?_)
      · refine g_iload_n (pc := 21) dX3_letters_21 rfl rfl ?_
        refine g_iload_n (pc := 22) dX3_letters_22 rfl rfl ?_
        first | refine g_isubN (pc := 23) dX3_letters_23 (by omega) ?_ | refine g_isub (pc := 23) dX3_letters_23 ?_
        exact t_iret (pc := 24) dX3_letters_24 hR rfl (⟨by rw [h3, lts_stop hz]; simp, rfl⟩)
      · exact absurd (cA_lt (isL_pos hz)) (by omega)
    | succ n ih =>
      intro k hn h1 h2 h3 h hR
      refine g_aload_n (pc := 2) dX3_letters_2 rfl rfl ?_
      refine g_aload_n (pc := 3) dX3_letters_3 rfl rfl ?_
      refine g_iload_n (pc := 4) dX3_letters_4 rfl rfl ?_
      refine g_iload_n (pc := 5) dX3_letters_5 rfl rfl ?_
      refine t_invE (pc := 6) dX3_letters_6 hR (tc_at0 d k e (by omega) he) meX3_at0 q2032 q2034 qs27 rfl rfl (Nat.le_of_ble_eq_true rfl) (fun h hR => ?_)
      refine t_invE (pc := 9) dX3_letters_9 hR (tc_letter d _ (hcA k)) meX3_letter q2004 q2006 qs22 rfl rfl (Nat.le_of_ble_eq_true rfl) (fun h hR => ?_)
      refine g_if_eqB (pc := 12) (tgt := 21) dX3_letters_12 rfl (fun hz => ?_) (fun hz => ?_)
      · refine g_iload_n (pc := 21) dX3_letters_21 rfl rfl ?_
        refine g_iload_n (pc := 22) dX3_letters_22 rfl rfl ?_
        first | refine g_isubN (pc := 23) dX3_letters_23 (by omega) ?_ | refine g_isub (pc := 23) dX3_letters_23 ?_
        exact t_iret (pc := 24) dX3_letters_24 hR rfl (⟨by rw [h3, lts_stop hz]; simp, rfl⟩)
      · have hk := cA_lt (isL_pos hz)
        refine g_iincN (pc := 15) (k0 := 1) (ls' := [(0, _), (1, _), (2, _), (3, _)]) dX3_letters_15 rfl (Nat.le_of_ble_eq_true rfl) rfl ?_
        refine g_goto (pc := 18) (tgt := 2) dX3_letters_18 rfl ?_
        exact ih (k + 1) (by omega) (by omega) (by omega) (by rw [h3, lts_step hz]; omega) h hR
  refine g_iload_n (pc := 0) dX3_letters_0 rfl rfl ?_
  refine g_istore_n (pc := 1) (ls' := [(0, _), (1, _), (2, _), (3, _)]) dX3_letters_1 rfl (Nat.le_of_ble_eq_true rfl) rfl ?_
  exact loop (e - p) p (Nat.le_refl _) (Nat.le_refl _) (by omega) (by simp) h hR
end TW2
