/-! TWIN 3: words, paths, expressions -/
set_option maxRecDepth 100000
section TW3
variable {Z : hE} {o : Nat} {τ : tT}
theorem cA_bd {f : Nat → Nat} {e k : Nat} (hf : ∀ i, f i < 65536) : cA f e k < 65536 := by
  unfold cA
  split
  · exact hf k
  · omega
theorem i8 (n : Nat) : nI (8 * (n + 1)) - 8 = nI (8 * n) := by
  rw [show (8 : Int32) = nI 8 from rfl, pk_sub (by omega)]
  congr 1
theorem m8 (x : Int32) : x + (-8) = x - 8 := (Int32.sub_eq_add_neg x 8).symm
theorem tc_stands (d p e : Nat) (w : Int64) (l : List Nat) (hw : spells w l) (hp : p < 2000) (he : e ≤ 1000) (hf : ∀ i, τ.2.2.1 14 i < 65536) : tC Z mX3_stands (d + 1) o [.ref o, .int (nI p), .int (nI e), .long w] τ (fun r τ' => r = some (.int (nI (stB (τ.2.2.1 14) e p l).toNat)) ∧ τ' = τ) := by
  obtain ⟨b, hb, rfl⟩ := hw
  refine tC.of rfl rfl (Nat.le_of_ble_eq_true rfl) rfl (fun X hin h hR => ?_)
  have loop : ∀ (n k : Nat) (x : Int32), n ≤ 8 → k + n ≤ p + 8 → x = nI (8 * n) - 8 → stB (τ.2.2.1 14) e p (wL b 8) = stB (τ.2.2.1 14) e k (wL b n) → ∀ h, tH o τ hin h → hG Z X mX3_stands (d + 1) tS hin (tK o hin (fun r τ' => r = some (.int (nI (stB (τ.2.2.1 14) e p (wL b 8)).toNat)) ∧ τ' = τ)) 7 [(0, .ref o), (1, .int (nI p)), (2, .int (nI e)), (3, .long w), (5, .int (nI k)), (6, .int x)] [] h := by
    intro n
    induction n with
    | zero =>
      intro k x h1 h2 h3 h4 h hR
      refine g_iload (pc := 7) dX3_stands_7 rfl ?_
      refine g_if_lt (pc := 9) (tgt := 54) dX3_stands_9 rfl (fun c1 => ?_) (fun c1 => ?_)
      · refine g_iconst (pc := 54) (v := nI 1) dX3_stands_54 rfl ?_
        refine t_bret (pc := 55) true dX3_stands_55 hR rfl rfl ⟨?_, rfl⟩
        rw [h4]; rfl
      · subst h3
        exact absurd (by decide) c1
    | succ n ih =>
      intro k x h1 h2 h3 h4 h hR
      have hx : x = nI (8 * n) := by rw [h3, i8]
      refine g_iload (pc := 7) dX3_stands_7 rfl ?_
      refine g_if_lt (pc := 9) (tgt := 54) dX3_stands_9 rfl (fun c1 => ?_) (fun c1 => ?_)
      · rw [hx] at c1
        exact absurd c1 (nI_pos (by omega))
      · subst hx
        refine g_lload_n (pc := 12) dX3_stands_12 rfl rfl ?_
        refine g_iload (pc := 13) dX3_stands_13 rfl ?_
        refine g_lshr (pc := 15) dX3_stands_15 ?_
        refine g_ldc2 (pc := 16) dX3_stands_16 q2031 ?_
        refine g_land (pc := 19) dX3_stands_19 ?_
        first | refine g_l2iN (pc := 20) dX3_stands_20 ?_ | refine g_l2i (pc := 20) dX3_stands_20 ?_
        have hbn := hb n (by omega)
        rw [show (w >>> ((nI (8 * n)).toInt64 &&& 63) &&& 255).toInt32 = nI (b n) from hbn.2]
        refine g_istore (pc := 21) (ls' := [(0, _), (1, _), (2, _), (3, _), (5, _), (6, _), (7, _)]) dX3_stands_21 (Nat.le_of_ble_eq_true rfl) rfl ?_
        refine g_iload (pc := 23) dX3_stands_23 rfl ?_
        refine g_if_neN (pc := 25) (tgt := 31) dX3_stands_25 rfl (by omega) (fun c2 => ?_) (fun c2 => ?_)
        · refine g_aload_n (pc := 31) dX3_stands_31 rfl rfl ?_
          refine g_iload (pc := 32) dX3_stands_32 rfl ?_
          refine g_iload_n (pc := 34) dX3_stands_34 rfl rfl ?_
          refine t_invE (pc := 35) dX3_stands_35 hR (tc_at0 d k e (by omega) he) meX3_at0 q2032 q2034 qs27 rfl rfl (Nat.le_of_ble_eq_true rfl) (fun h hR => ?_)
          refine g_iload (pc := 38) dX3_stands_38 rfl ?_
          have hcb := cA_bd (e := e) (k := k) hf
          refine g_icmp_eqN (pc := 40) (tgt := 45) dX3_stands_40 rfl (by omega) (by omega) (fun c3 => ?_) (fun c3 => ?_)
          · refine g_iincN (pc := 45) (k0 := 1) (ls' := [(0, _), (1, _), (2, _), (3, _), (5, _), (6, _), (7, _)]) dX3_stands_45 rfl (Nat.le_of_ble_eq_true rfl) rfl ?_
            refine g_iinc (pc := 48) (v := nI (8 * n) + (-8)) (ls' := [(0, _), (1, _), (2, _), (3, _), (5, _), (6, _), (7, _)]) dX3_stands_48 rfl rfl (Nat.le_of_ble_eq_true rfl) rfl ?_
            refine g_goto (pc := 51) (tgt := 7) dX3_stands_51 rfl ?_
            refine g_drop [0, 1, 2, 3, 4, 5] rfl ?_
            refine ih (k + 1) _ (by omega) (by omega) ?_ ?_ h hR
            · exact m8 _
            · rw [h4]
              show stB _ e k (if b n = 0 then wL b n else b n :: wL b n) = _
              rw [if_neg (by omega), stB_cons]
              simp [c3]
          · refine g_iconst (pc := 43) (v := nI 0) dX3_stands_43 rfl ?_
            refine t_bret (pc := 44) false dX3_stands_44 hR rfl rfl ⟨?_, rfl⟩
            rw [h4]
            show _ = some (Value.int (nI (stB _ e k (if b n = 0 then wL b n else b n :: wL b n)).toNat))
            rw [if_neg (by omega), stB_cons, beq_eq_false_iff_ne.mpr c3]
            rfl
        · refine g_goto (pc := 28) (tgt := 48) dX3_stands_28 rfl ?_
          refine g_iinc (pc := 48) (v := nI (8 * n) + (-8)) (ls' := [(0, _), (1, _), (2, _), (3, _), (5, _), (6, _), (7, _)]) dX3_stands_48 rfl rfl (Nat.le_of_ble_eq_true rfl) rfl ?_
          refine g_goto (pc := 51) (tgt := 7) dX3_stands_51 rfl ?_
          refine g_drop [0, 1, 2, 3, 4, 5] rfl ?_
          refine ih k _ (by omega) (by omega) ?_ ?_ h hR
          · exact m8 _
          · rw [h4]
            show stB _ e k (if b n = 0 then wL b n else b n :: wL b n) = _
            rw [if_pos c2]
  refine g_iload_n (pc := 0) dX3_stands_0 rfl rfl ?_
  refine g_istore (pc := 1) (ls' := [(0, _), (1, _), (2, _), (3, _), (5, _)]) dX3_stands_1 (Nat.le_of_ble_eq_true rfl) rfl ?_
  refine g_bipush (pc := 3) (v := nI 56) dX3_stands_3 rfl ?_
  refine g_istore (pc := 5) (ls' := [(0, _), (1, _), (2, _), (3, _), (5, _), (6, _)]) dX3_stands_5 (Nat.le_of_ble_eq_true rfl) rfl ?_
  exact loop 8 p _ (Nat.le_refl _) (by omega) (by rfl) rfl h hR
theorem tc_pathEnd (d p e : Nat) (hp : p < 1100) (he : e ≤ 1000) (hf : ∀ i, τ.2.2.1 14 i < 65536) : tC Z mX3_pathEnd (d + 2) o [.ref o, .int (nI p), .int (nI e)] τ (fun r τ' => r = some (.int (oI (pathE (τ.2.2.1 14) e p))) ∧ τ' = τ) := by
  refine tC.of rfl rfl (Nat.le_of_ble_eq_true rfl) rfl (fun X hin h hR => ?_)
  generalize hfe : τ.2.2.1 14 = f at hf
  have hst : ∀ (k : Nat) (w : Int64) (l : List Nat), spells w l → k < 2000 → tC Z mX3_stands (d + 1) o [.ref o, .int (nI k), .int (nI e), .long w] τ (fun r τ' => r = some (.int (nI (stB f e k l).toNat)) ∧ τ' = τ) := fun k w l hw hk => by
    have := tc_stands (Z := Z) (o := o) (τ := τ) d k e w l hw hk he (by rw [hfe]; exact hf)
    rw [hfe] at this; exact this
  have hlt : ∀ k, k < 2000 → tC Z mX3_letters (d + 1) o [.ref o, .int (nI k), .int (nI e)] τ (fun r τ' => r = some (.int (nI (lts f e k))) ∧ τ' = τ) := fun k hk => by
    have := tc_letters (Z := Z) (o := o) (τ := τ) d k e hk he (by rw [hfe]; exact hf)
    rw [hfe] at this; exact this
  have hat : ∀ k, k < 2000 → tC Z mX3_at0 (d + 1) o [.ref o, .int (nI k), .int (nI e)] τ (fun r τ' => r = some (.int (nI (cA f e k))) ∧ τ' = τ) := fun k hk => by
    have := tc_at0 (Z := Z) (o := o) (τ := τ) (d + 1) k e (by omega) he
    rw [hfe] at this; exact this
  have k3 : ∀ (n k x4 : Nat), e - k ≤ n → k ≤ 1100 → ∀ h, tH o τ hin h → hG Z X mX3_pathEnd (d + 2) tS hin (tK o hin (fun r τ' => r = some (.int (oI (dtF f e n k))) ∧ τ' = τ)) 99 [(0, .ref o), (1, .int (nI p)), (2, .int (nI e)), (3, .int (nI k)), (4, .int (nI x4))] [] h := by
    intro n
    induction n with
    | zero =>
      intro k x4 h1 h2 h hR
      refine g_aload_n (pc := 99) dX3_pathEnd_99 rfl rfl ?_
      refine g_iload_n (pc := 100) dX3_pathEnd_100 rfl rfl ?_
      refine g_iload_n (pc := 101) dX3_pathEnd_101 rfl rfl ?_
      refine t_invE (pc := 102) dX3_pathEnd_102 hR (hat k (by omega)) meX3_at0 q2032 q2034 qs27 rfl rfl (Nat.le_of_ble_eq_true rfl) (fun h hR => ?_)
      rw [cA_ge (by omega)]
      refine g_bipush (pc := 105) (v := nI 46) dX3_pathEnd_105 rfl ?_
      refine g_icmp_neN (pc := 107) (tgt := 168) dX3_pathEnd_107 rfl (by omega) (by omega) (fun c1 => ?_) (fun c1 => ?_)
      · refine g_iload_n (pc := 168) dX3_pathEnd_168 rfl rfl ?_
        exact t_iret (pc := 169) dX3_pathEnd_169 hR rfl (⟨rfl, rfl⟩)
      · exact absurd c1 (by decide)
    | succ n ih =>
      intro k x4 h1 h2 h hR
      have hcb := cA_bd (e := e) (k := k) hf
      refine g_aload_n (pc := 99) dX3_pathEnd_99 rfl rfl ?_
      refine g_iload_n (pc := 100) dX3_pathEnd_100 rfl rfl ?_
      refine g_iload_n (pc := 101) dX3_pathEnd_101 rfl rfl ?_
      refine t_invE (pc := 102) dX3_pathEnd_102 hR (hat k (by omega)) meX3_at0 q2032 q2034 qs27 rfl rfl (Nat.le_of_ble_eq_true rfl) (fun h hR => ?_)
      refine g_bipush (pc := 105) (v := nI 46) dX3_pathEnd_105 rfl ?_
      refine g_icmp_neN (pc := 107) (tgt := 168) dX3_pathEnd_107 rfl (by omega) (by omega) (fun c1 => ?_) (fun c1 => ?_)
      · refine g_iload_n (pc := 168) dX3_pathEnd_168 rfl rfl ?_
        exact t_iret (pc := 169) dX3_pathEnd_169 hR rfl (⟨by unfold dtF; rw [if_neg c1]; rfl, rfl⟩)
      · have hk : k < e := cA_lt (by rw [c1]; decide)
        have k4 : ∀ m : Nat, (if lts f e (k + 1) = 0 ∧ isD (cA f e (k + 1)) = true then 1 else lts f e (k + 1)) = m → ∀ h, tH o τ hin h → hG Z X mX3_pathEnd (d + 2) tS hin (tK o hin (fun r τ' => r = some (.int (oI (dtF f e (n + 1) k))) ∧ τ' = τ)) 143 [(0, .ref o), (1, .int (nI p)), (2, .int (nI e)), (3, .int (nI k)), (4, .int (nI m))] [] h := by
          intro m hm h hR
          have hml : m ≤ e - k := by
            rw [← hm]
            split
            · omega
            · have := lts_le (f := f) (e := e) (p := k + 1)
              omega
          have hdt : dtF f e (n + 1) k = if m < 1 ∨ 8 < m then none else dtF f e n (k + 1 + m) := by
            show (if cA f e k = 46 then _ else _) = _
            rw [if_pos c1]
            show (if (if lts f e (k + 1) = 0 ∧ isD (cA f e (k + 1)) = true then 1 else lts f e (k + 1)) < 1 ∨ 8 < (if lts f e (k + 1) = 0 ∧ isD (cA f e (k + 1)) = true then 1 else lts f e (k + 1)) then none else dtF f e n (k + 1 + (if lts f e (k + 1) = 0 ∧ isD (cA f e (k + 1)) = true then 1 else lts f e (k + 1)))) = _
            rw [hm]
          rw [hdt]
          refine g_iload (pc := 143) dX3_pathEnd_143 rfl ?_
          refine g_iconst (pc := 145) (v := nI 1) dX3_pathEnd_145 rfl ?_
          refine g_icmp_ltN (pc := 146) (tgt := 156) dX3_pathEnd_146 rfl (by omega) (by omega) (fun c2 => ?_) (fun c2 => ?_)
          · refine g_iconst (pc := 156) (v := (-1)) dX3_pathEnd_156 rfl ?_
            exact t_iret (pc := 157) dX3_pathEnd_157 hR rfl (⟨by rw [if_pos (Or.inl c2)]; rfl, rfl⟩)
          · refine g_iload (pc := 149) dX3_pathEnd_149 rfl ?_
            refine g_bipush (pc := 151) (v := nI 8) dX3_pathEnd_151 rfl ?_
            refine g_icmp_leN (pc := 153) (tgt := 158) dX3_pathEnd_153 rfl (by omega) (by omega) (fun c3 => ?_) (fun c3 => ?_)
            · refine g_iload_n (pc := 158) dX3_pathEnd_158 rfl rfl ?_
              refine g_iconst (pc := 159) (v := nI 1) dX3_pathEnd_159 rfl ?_
              refine g_iload (pc := 160) dX3_pathEnd_160 rfl ?_
              first | refine g_iaddN (pc := 162) dX3_pathEnd_162 ?_ | refine g_iadd (pc := 162) dX3_pathEnd_162 ?_
              first | refine g_iaddN (pc := 163) dX3_pathEnd_163 ?_ | refine g_iadd (pc := 163) dX3_pathEnd_163 ?_
              refine g_istore_n (pc := 164) (ls' := [(0, _), (1, _), (2, _), (3, _), (4, _)]) dX3_pathEnd_164 rfl (Nat.le_of_ble_eq_true rfl) rfl ?_
              refine g_goto (pc := 165) (tgt := 99) dX3_pathEnd_165 rfl ?_
              have e1 : k + (1 + m) = k + 1 + m := by omega
              rw [if_neg (by omega), ← e1]
              exact ih _ _ (by omega) (by omega) h hR
            · refine g_iconst (pc := 156) (v := (-1)) dX3_pathEnd_156 rfl ?_
              exact t_iret (pc := 157) dX3_pathEnd_157 hR rfl (⟨by rw [if_pos (Or.inr c3)]; rfl, rfl⟩)
        have hll := lts_le (f := f) (e := e) (p := k + 1)
        refine g_aload_n (pc := 110) dX3_pathEnd_110 rfl rfl ?_
        refine g_iload_n (pc := 111) dX3_pathEnd_111 rfl rfl ?_
        refine g_iconst (pc := 112) (v := nI 1) dX3_pathEnd_112 rfl ?_
        first | refine g_iaddN (pc := 113) dX3_pathEnd_113 ?_ | refine g_iadd (pc := 113) dX3_pathEnd_113 ?_
        refine g_iload_n (pc := 114) dX3_pathEnd_114 rfl rfl ?_
        refine t_invE (pc := 115) dX3_pathEnd_115 hR (hlt (k + 1) (by omega)) meX3_letters q2072 q2074 qs34 rfl rfl (Nat.le_of_ble_eq_true rfl) (fun h hR => ?_)
        refine g_istore (pc := 118) (ls' := [(0, _), (1, _), (2, _), (3, _), (4, _)]) dX3_pathEnd_118 (Nat.le_of_ble_eq_true rfl) rfl ?_
        refine g_iload (pc := 120) dX3_pathEnd_120 rfl ?_
        refine g_if_neN (pc := 122) (tgt := 143) dX3_pathEnd_122 rfl (by omega) (fun c2 => ?_) (fun c2 => ?_)
        · exact k4 _ (by rw [if_neg (by omega)]) h hR
        · refine g_aload_n (pc := 125) dX3_pathEnd_125 rfl rfl ?_
          refine g_aload_n (pc := 126) dX3_pathEnd_126 rfl rfl ?_
          refine g_iload_n (pc := 127) dX3_pathEnd_127 rfl rfl ?_
          refine g_iconst (pc := 128) (v := nI 1) dX3_pathEnd_128 rfl ?_
          first | refine g_iaddN (pc := 129) dX3_pathEnd_129 ?_ | refine g_iadd (pc := 129) dX3_pathEnd_129 ?_
          refine g_iload_n (pc := 130) dX3_pathEnd_130 rfl rfl ?_
          refine t_invE (pc := 131) dX3_pathEnd_131 hR (hat (k + 1) (by omega)) meX3_at0 q2032 q2034 qs27 rfl rfl (Nat.le_of_ble_eq_true rfl) (fun h hR => ?_)
          refine t_invE (pc := 134) dX3_pathEnd_134 hR (tc_digit (d + 1) _ (cA_bd hf)) meX3_digit q2061 q2063 qs32 rfl rfl (Nat.le_of_ble_eq_true rfl) (fun h hR => ?_)
          refine g_if_eqB (pc := 137) (tgt := 143) dX3_pathEnd_137 rfl (fun c3 => ?_) (fun c3 => ?_)
          · exact k4 _ (by rw [if_neg (by simp [c3])]) h hR
          · refine g_iconst (pc := 140) (v := nI 1) dX3_pathEnd_140 rfl ?_
            refine g_istore (pc := 141) (ls' := [(0, _), (1, _), (2, _), (3, _), (4, _)]) dX3_pathEnd_141 (Nat.le_of_ble_eq_true rfl) rfl ?_
            exact k4 _ (by rw [if_pos ⟨c2, c3⟩]) h hR
  have k2 : ∀ (n k : Nat), e - k ≤ n → k ≤ 1100 → ∀ h, tH o τ hin h → pathE f e p = (if lts f e (upF f e n k) < 1 ∨ 8 < lts f e (upF f e n k) then none else if lts f e (upF f e n k) = 4 ∧ stB f e (upF f e n k) [116, 104, 105, 115] = true then some (upF f e n k + 4) else dtF f e e (upF f e n k + lts f e (upF f e n k))) → hG Z X mX3_pathEnd (d + 2) tS hin (tK o hin (fun r τ' => r = some (.int (oI (pathE f e p))) ∧ τ' = τ)) 31 [(0, .ref o), (1, .int (nI p)), (2, .int (nI e)), (3, .int (nI k))] [] h := by
    intro n
    have kend : ∀ k : Nat, k ≤ 1100 → ∀ h, tH o τ hin h → pathE f e p = (if lts f e k < 1 ∨ 8 < lts f e k then none else if lts f e k = 4 ∧ stB f e k [116, 104, 105, 115] = true then some (k + 4) else dtF f e e (k + lts f e k)) → hG Z X mX3_pathEnd (d + 2) tS hin (tK o hin (fun r τ' => r = some (.int (oI (pathE f e p))) ∧ τ' = τ)) 49 [(0, .ref o), (1, .int (nI p)), (2, .int (nI e)), (3, .int (nI k))] [] h := by
      intro k h2 h hR hpe
      have hll := lts_le (f := f) (e := e) (p := k)
      rw [hpe]
      refine g_aload_n (pc := 49) dX3_pathEnd_49 rfl rfl ?_
      refine g_iload_n (pc := 50) dX3_pathEnd_50 rfl rfl ?_
      refine g_iload_n (pc := 51) dX3_pathEnd_51 rfl rfl ?_
      refine t_invE (pc := 52) dX3_pathEnd_52 hR (hlt k (by omega)) meX3_letters q2072 q2074 qs34 rfl rfl (Nat.le_of_ble_eq_true rfl) (fun h hR => ?_)
      generalize hn : lts f e k = m at hll ⊢
      refine g_istore (pc := 55) (ls' := [(0, _), (1, _), (2, _), (3, _), (4, _)]) dX3_pathEnd_55 (Nat.le_of_ble_eq_true rfl) rfl ?_
      refine g_iload (pc := 57) dX3_pathEnd_57 rfl ?_
      refine g_iconst (pc := 59) (v := nI 1) dX3_pathEnd_59 rfl ?_
      refine g_icmp_ltN (pc := 60) (tgt := 70) dX3_pathEnd_60 rfl (by omega) (by omega) (fun c1 => ?_) (fun c1 => ?_)
      · refine g_iconst (pc := 70) (v := (-1)) dX3_pathEnd_70 rfl ?_
        exact t_iret (pc := 71) dX3_pathEnd_71 hR rfl (⟨by rw [if_pos (Or.inl c1)]; rfl, rfl⟩)
      · refine g_iload (pc := 63) dX3_pathEnd_63 rfl ?_
        refine g_bipush (pc := 65) (v := nI 8) dX3_pathEnd_65 rfl ?_
        refine g_icmp_leN (pc := 67) (tgt := 72) dX3_pathEnd_67 rfl (by omega) (by omega) (fun c2 => ?_) (fun c2 => ?_)
        · rw [if_neg (by omega)]
          refine g_iload (pc := 72) dX3_pathEnd_72 rfl ?_
          refine g_iconst (pc := 74) (v := nI 4) dX3_pathEnd_74 rfl ?_
          refine g_icmp_neN (pc := 75) (tgt := 94) dX3_pathEnd_75 rfl (by omega) (by omega) (fun c3 => ?_) (fun c3 => ?_)
          · refine g_iload_n (pc := 94) dX3_pathEnd_94 rfl rfl ?_
            refine g_iload (pc := 95) dX3_pathEnd_95 rfl ?_
            first | refine g_iaddN (pc := 97) dX3_pathEnd_97 ?_ | refine g_iadd (pc := 97) dX3_pathEnd_97 ?_
            refine g_istore_n (pc := 98) (ls' := [(0, _), (1, _), (2, _), (3, _), (4, _)]) dX3_pathEnd_98 rfl (Nat.le_of_ble_eq_true rfl) rfl ?_
            rw [if_neg (by omega)]
            exact k3 e _ _ (by omega) (by omega) h hR
          · refine g_aload_n (pc := 78) dX3_pathEnd_78 rfl rfl ?_
            refine g_iload_n (pc := 79) dX3_pathEnd_79 rfl rfl ?_
            refine g_iload_n (pc := 80) dX3_pathEnd_80 rfl rfl ?_
            refine g_ldc2 (pc := 81) dX3_pathEnd_81 q2076 ?_
            rw [show (1952999795 : Int64) = 1952999795 from rfl]
            refine t_invE (pc := 84) dX3_pathEnd_84 hR (hst k _ _ spells_1952999795 (by omega)) meX3_stands q2027 q2029 qs26 rfl rfl (Nat.le_of_ble_eq_true rfl) (fun h hR => ?_)
            refine g_if_eqB (pc := 87) (tgt := 94) dX3_pathEnd_87 rfl (fun c4 => ?_) (fun c4 => ?_)
            · refine g_iload_n (pc := 94) dX3_pathEnd_94 rfl rfl ?_
              refine g_iload (pc := 95) dX3_pathEnd_95 rfl ?_
              first | refine g_iaddN (pc := 97) dX3_pathEnd_97 ?_ | refine g_iadd (pc := 97) dX3_pathEnd_97 ?_
              refine g_istore_n (pc := 98) (ls' := [(0, _), (1, _), (2, _), (3, _), (4, _)]) dX3_pathEnd_98 rfl (Nat.le_of_ble_eq_true rfl) rfl ?_
              rw [if_neg (by simp [c4])]
              exact k3 e _ _ (by omega) (by omega) h hR
            · refine g_iload_n (pc := 90) dX3_pathEnd_90 rfl rfl ?_
              refine g_iconst (pc := 91) (v := nI 4) dX3_pathEnd_91 rfl ?_
              first | refine g_iaddN (pc := 92) dX3_pathEnd_92 ?_ | refine g_iadd (pc := 92) dX3_pathEnd_92 ?_
              exact t_iret (pc := 93) dX3_pathEnd_93 hR rfl (⟨by rw [if_pos ⟨c3, c4⟩]; rfl, rfl⟩)
        · refine g_iconst (pc := 70) (v := (-1)) dX3_pathEnd_70 rfl ?_
          exact t_iret (pc := 71) dX3_pathEnd_71 hR rfl (⟨by rw [if_pos (Or.inr c2)]; rfl, rfl⟩)
    induction n with
    | zero =>
      intro k h1 h2 h hR hpe
      refine g_aload_n (pc := 31) dX3_pathEnd_31 rfl rfl ?_
      refine g_iload_n (pc := 32) dX3_pathEnd_32 rfl rfl ?_
      refine g_iload_n (pc := 33) dX3_pathEnd_33 rfl rfl ?_
      refine g_ldc2 (pc := 34) dX3_pathEnd_34 q2071 ?_
      refine t_invE (pc := 37) dX3_pathEnd_37 hR (hst k _ _ spells_3026479 (by omega)) meX3_stands q2027 q2029 qs26 rfl rfl (Nat.le_of_ble_eq_true rfl) (fun h hR => ?_)
      refine g_if_eqB (pc := 40) (tgt := 49) dX3_pathEnd_40 rfl (fun c1 => ?_) (fun c1 => ?_)
      · exact kend k h2 h hR hpe
      · have := stB_len (by simp) (by simp) c1
        simp at this
        omega
    | succ n ih =>
      intro k h1 h2 h hR hpe
      refine g_aload_n (pc := 31) dX3_pathEnd_31 rfl rfl ?_
      refine g_iload_n (pc := 32) dX3_pathEnd_32 rfl rfl ?_
      refine g_iload_n (pc := 33) dX3_pathEnd_33 rfl rfl ?_
      refine g_ldc2 (pc := 34) dX3_pathEnd_34 q2071 ?_
      refine t_invE (pc := 37) dX3_pathEnd_37 hR (hst k _ _ spells_3026479 (by omega)) meX3_stands q2027 q2029 qs26 rfl rfl (Nat.le_of_ble_eq_true rfl) (fun h hR => ?_)
      refine g_if_eqB (pc := 40) (tgt := 49) dX3_pathEnd_40 rfl (fun c1 => ?_) (fun c1 => ?_)
      · have hu : upF f e (n + 1) k = k := by
          unfold upF
          rw [if_neg (by simp [c1])]
        rw [hu] at hpe
        exact kend k h2 h hR hpe
      · have hl := stB_len (by simp) (by simp) c1
        simp at hl
        have hu : upF f e (n + 1) k = upF f e n (k + 3) := by
          show (if stB f e k [46, 46, 47] = true then upF f e n (k + 3) else k) = _
          rw [if_pos c1]
        rw [hu] at hpe
        refine g_iincN (pc := 43) (k0 := 3) (ls' := [(0, _), (1, _), (2, _), (3, _)]) dX3_pathEnd_43 rfl (Nat.le_of_ble_eq_true rfl) rfl ?_
        refine g_goto (pc := 46) (tgt := 31) dX3_pathEnd_46 rfl ?_
        exact ih (k + 3) (by omega) (by omega) h hR hpe
  refine g_aload_n (pc := 0) dX3_pathEnd_0 rfl rfl ?_
  refine g_iload_n (pc := 1) dX3_pathEnd_1 rfl rfl ?_
  refine g_iload_n (pc := 2) dX3_pathEnd_2 rfl rfl ?_
  refine g_ldc2 (pc := 3) dX3_pathEnd_3 q2069 ?_
  refine t_invE (pc := 6) dX3_pathEnd_6 hR (hst p _ _ spells_70821567817080 (by omega)) meX3_stands q2027 q2029 qs26 rfl rfl (Nat.le_of_ble_eq_true rfl) (fun h hR => ?_)
  refine g_if_neB (pc := 9) (tgt := 24) dX3_pathEnd_9 rfl (fun c1 => ?_) (fun c1 => ?_)
  · refine g_iload_n (pc := 24) dX3_pathEnd_24 rfl rfl ?_
    refine g_bipush (pc := 25) (v := nI 6) dX3_pathEnd_25 rfl ?_
    first | refine g_iaddN (pc := 27) dX3_pathEnd_27 ?_ | refine g_iadd (pc := 27) dX3_pathEnd_27 ?_
    exact t_iret (pc := 28) dX3_pathEnd_28 hR rfl (⟨by rw [show pathE f e p = some (p + 6) from by unfold pathE; rw [if_pos (by rw [c1]; rfl)]]; rfl, rfl⟩)
  · refine g_aload_n (pc := 12) dX3_pathEnd_12 rfl rfl ?_
    refine g_iload_n (pc := 13) dX3_pathEnd_13 rfl rfl ?_
    refine g_iload_n (pc := 14) dX3_pathEnd_14 rfl rfl ?_
    refine g_ldc2 (pc := 15) dX3_pathEnd_15 q2070 ?_
    refine t_invE (pc := 18) dX3_pathEnd_18 hR (hst p _ _ spells_70808599950196 (by omega)) meX3_stands q2027 q2029 qs26 rfl rfl (Nat.le_of_ble_eq_true rfl) (fun h hR => ?_)
    refine g_if_eqB (pc := 21) (tgt := 29) dX3_pathEnd_21 rfl (fun c2 => ?_) (fun c2 => ?_)
    · refine g_iload_n (pc := 29) dX3_pathEnd_29 rfl rfl ?_
      refine g_istore_n (pc := 30) (ls' := [(0, _), (1, _), (2, _), (3, _)]) dX3_pathEnd_30 rfl (Nat.le_of_ble_eq_true rfl) rfl ?_
      refine k2 e p (by omega) (by omega) h hR ?_
      unfold pathE
      rw [if_neg (by rw [c1, c2]; decide)]
    · refine g_iload_n (pc := 24) dX3_pathEnd_24 rfl rfl ?_
      refine g_bipush (pc := 25) (v := nI 6) dX3_pathEnd_25 rfl ?_
      first | refine g_iaddN (pc := 27) dX3_pathEnd_27 ?_ | refine g_iadd (pc := 27) dX3_pathEnd_27 ?_
      exact t_iret (pc := 28) dX3_pathEnd_28 hR rfl (⟨by rw [show pathE f e p = some (p + 6) from by unfold pathE; rw [if_pos (by rw [c2, Bool.or_true])]]; rfl, rfl⟩)
end TW3
