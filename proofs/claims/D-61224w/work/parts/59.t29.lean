/-! TWIN 29: it is made (rows printed by gen/tinit.py) -/
set_option maxRecDepth 100000
/-- the twin's first state -/
def tT0 : tT := (fun _ => 0, -1, fun _ _ => 0, fun _ _ => 0, fun _ => 0)
/-- its fields, up to m set -/
def iF (o m k : Nat) : Value := if k < m then tFv o tT0 k else if tLen k = 0 then .int (nI 0) else .null
def iFs (o m : Nat) : List Value := (List.range 48).map (iF o m)
def iSum : Nat → Nat
  | 0 => 0
  | m + 1 => iSum m + tLen m
def iCn : Nat → Nat
  | 0 => 0
  | m + 1 => iCn m + (if tLen m = 0 then 0 else 1)
def iH (o m : Nat) (hin h : hP) : Prop := h.2.2 o = some (3, .inl (iFs o m)) ∧ (∀ k, k < m → tLen k ≠ 0 → h.2.2 (tAd o k) = some (tKd k, .inr (tLen k, tCt tT0 k))) ∧ h.1 = o + 1 + iCn m ∧ h.2.1 = hin.2.1 + iSum m
theorem iFs_get (o m : Nat) {k : Nat} (hk : k < 48) : (iFs o m)[k]? = some (iF o m k) := by
  unfold iFs
  rw [List.getElem?_map, List.getElem?_range hk]
  rfl
theorem iFs_set (o : Nat) {m : Nat} {v : Value} (hm : m < 48) (h : tFv o tT0 m = v) : (iFs o m).set m v = iFs o (m + 1) := by
  apply List.ext_getElem?
  intro j
  by_cases hj : j < 48
  · rw [iFs_get o (m + 1) hj]
    by_cases e : j = m
    · subst e
      rw [List.getElem?_set_self (by simp [iFs]; exact hj)]
      unfold iF
      rw [if_pos (by omega), h]
    · rw [List.getElem?_set_ne (Ne.symm e), iFs_get o m hj]
      unfold iF
      by_cases z : j < m
      · rw [if_pos z, if_pos (by omega)]
      · rw [if_neg z, if_neg (show ¬ j < m + 1 by omega)]
  · rw [List.getElem?_eq_none (by simp [iFs]; omega), List.getElem?_eq_none (by simp [iFs]; omega)]
theorem iH_end {o : Nat} {hin h : hP} (hI : iH o 48 hin h) : tR o tT0 h := by
  refine ⟨?_, fun k hk => hI.2.1 k (by have := tLen_k hk; omega) hk⟩
  rw [hI.1]
  have e : iFs o 48 = tFs o tT0 := by
    unfold iFs tFs
    apply List.map_congr_left
    intro k hk
    unfold iF
    rw [if_pos (List.mem_range.mp hk)]
  rw [e]
section TW29
variable {Z : hE} {X : hX} {d : Nat} {hin0 hin : hP} {K : hO → hP → Prop} {pc : Nat} {ls : List (Nat × Value)} {st : List Value} {h : hP} {o : Nat}
theorem i_int {idx m : Nat} {v : Int32} (hd : decode mX3_init.1 pc = .ok (.putfield idx, 3)) (hI : iH o m hin h) (q : Cond.fieldLink RX3 idx RX3 (TX3 m).2.1 (TX3 m).2.2.1 ∈ lw_all) (hm : m < 48) (ho : RX3 = (TX3 m).1) (hl : tLen m = 0) (hf : (TX3 m).2.2.2 = false) (hty : tyX3 m = .int) (hv : tFv o tT0 m = .int v) (kk : ∀ h, iH o (m + 1) hin h → hG Z X mX3_init d tS hin0 K (pc + 3) ls st h) : hG Z X mX3_init d tS hin0 K pc ls (.int v :: .ref o :: st) h := by
  have ht := tyX3_ok m hm
  rw [hty] at ht
  refine g_put (κ := 3) (r := (RX3, TX3, 48)) m hd hI.1 rfl hm q (Or.inl ho) hf (by decide) tS_3 ht rfl rfl ?_
  refine kk _ ⟨?_, fun k hk hl2 => ?_, ?_, ?_⟩
  · rw [hSet_s, iFs_set o hm hv]
  · by_cases e : k = m
    · subst e; exact absurd hl hl2
    · rw [hSet_n (tAd_o hl2)]; exact hI.2.1 k (by omega) hl2
  · rw [hSet_1, hI.2.2.1]; simp [iCn, hl]
  · rw [hSet_2, hI.2.2.2]; simp [iSum, hl]
theorem i_arr {at_ : ArrayType} {idx m n : Nat} {ty : FieldType} (hd1 : decode mX3_init.1 pc = .ok (.newarray at_, 2)) (hd2 : decode mX3_init.1 (pc + 2) = .ok (.putfield idx, 3)) (hI : iH o m hin h) (q : Cond.fieldLink RX3 idx RX3 (TX3 m).2.1 (TX3 m).2.2.1 ∈ lw_all) (q1 : Cond.arrayClass ty ∈ lw_all) (hm : m < 48) (hl : tLen m ≠ 0) (hn : n = tLen m) (hty : hTy (tKd m % 100) = some ty) (ht : newarray.typeOf at_ = ty) (hn2 : n ≤ 67108864) (hb : componentBytes ty ≤ 8) (hf : fits ty (defaultValue ty) = true) (hnr : ∀ C, ty ≠ .object C) (hna : ∀ t, ty ≠ .array t) (hfin : (TX3 m).2.2.2 = true) (ho : (TX3 m).1 = RX3) (htf : tyX3 m = .array ty) (hct : tCt tT0 m = fun _ => defaultValue ty) (had : tAd o m = o + 1 + iCn m) (hkd : tKd m < 900) (c1 : iCn m + 1 ≤ iCn 48) (c2 : iSum m + n ≤ iSum 48) (l1 : o + 1 + iCn 48 ≤ hLC Z) (l2 : hin.2.1 + iSum 48 ≤ hLS) (kk : ∀ h, iH o (m + 1) hin h → hG Z X mX3_init d tS hin0 K (pc + 2 + 3) ls st h) : hG Z X mX3_init d tS hin0 K pc ls (.int (nI n) :: .ref o :: st) h := by
  subst hn
  refine g_newa (tKd m) (tLen m) hd1 hty ht hkd rfl hn2 q1 hb hf hnr hna (by rw [hI.2.2.1]; omega) (by rw [hI.2.2.2]; omega) (fun hwf => ?_)
  have htp := tyX3_ok m hm
  rw [htf] at htp
  have hne : o ≠ h.1 := Nat.ne_of_lt (hwf o _ hI.1)
  have hlo : RX3 = (TX3 m).1 := ho.symm
  refine g_putF (κ := 3) (r := (RX3, TX3, 48)) m hd2 (by rw [hNew_n hne]; exact hI.1) rfl hm (by show Cond.fieldLink RX3 idx (TX3 m).1 _ _ ∈ lw_all; rw [ho]; exact q) rfl hfin ho (by decide) tS_3 htp rfl rfl ?_
  have ha : tAd o m = h.1 := by rw [had, hI.2.2.1]
  refine kk _ ⟨?_, fun k hk hl2 => ?_, ?_, ?_⟩
  · rw [hSet_s, iFs_set o hm]
    rw [← ha]
    unfold tFv
    rw [if_neg hl]
  · rw [hSet_n (tAd_o hl2)]
    by_cases e : k = m
    · subst e
      rw [ha, hNew_s, hct]
    · have h2 := hI.2.1 k (by omega) hl2
      rw [hNew_n (Nat.ne_of_lt (hwf _ _ h2))]
      exact h2
  · rw [hSet_1, hNew_1, hI.2.2.1]; simp [iCn, hl]; omega
  · rw [hSet_2, hNew_2, hI.2.2.2]; simp [iSum]; omega
theorem hc_tinit (d : Nat) (h1 : h.1 = o + 1) (h0 : h.2.2 o = some (3, .inl (iFs o 0))) (l1 : o + 1 + iCn 48 ≤ hLC Z) (l2 : h.2.1 + iSum 48 ≤ hLS) : hCt Z mX3_init (d + 1) tS [.ref o] h (fun r h' => r = .inl none ∧ tR o tT0 h' ∧ h'.1 = h.1 + iCn 48 ∧ h'.2.1 = h.2.1 + iSum 48) := by
  refine hCt.of (ls := [(0, .ref o)]) pnX3 rfl (Nat.le_of_ble_eq_true rfl) rfl (fun X => ?_)
  have hI : iH o 0 h h := ⟨h0, fun k hk => absurd hk (Nat.not_lt_zero _), h1, rfl⟩
  refine g_aload_n (pc := 0) dX3_init_0 rfl rfl ?_
  refine g_objInit (pc := 1) dX3_init_1 q1798 q126 q127 (Nat.le_of_ble_eq_true rfl) ?_
  refine g_aload_n (pc := 4) dX3_init_4 rfl rfl ?_
  refine g_iconst (pc := 5) (v := nI 0) dX3_init_5 rfl ?_
  refine i_int (pc := 6) (m := 0) dX3_init_6 hI q1799 (by decide) rfl rfl rfl rfl rfl (fun h hI => ?_)
  refine g_aload_n (pc := 9) dX3_init_9 rfl rfl ?_
  refine g_iconst (pc := 10) (v := nI 0) dX3_init_10 rfl ?_
  refine i_int (pc := 11) (m := 1) dX3_init_11 hI q1800 (by decide) rfl rfl rfl rfl rfl (fun h hI => ?_)
  refine g_aload_n (pc := 14) dX3_init_14 rfl rfl ?_
  refine g_iconst (pc := 15) (v := nI 0) dX3_init_15 rfl ?_
  refine i_int (pc := 16) (m := 2) dX3_init_16 hI q1801 (by decide) rfl rfl rfl rfl rfl (fun h hI => ?_)
  refine g_aload_n (pc := 19) dX3_init_19 rfl rfl ?_
  refine g_iconst (pc := 20) (v := (-1)) dX3_init_20 rfl ?_
  refine i_int (pc := 21) (m := 3) dX3_init_21 hI q1802 (by decide) rfl rfl rfl rfl rfl (fun h hI => ?_)
  refine g_aload_n (pc := 24) dX3_init_24 rfl rfl ?_
  refine g_iconst (pc := 25) (v := nI 0) dX3_init_25 rfl ?_
  refine i_int (pc := 26) (m := 4) dX3_init_26 hI q1803 (by decide) rfl rfl rfl rfl rfl (fun h hI => ?_)
  refine g_aload_n (pc := 29) dX3_init_29 rfl rfl ?_
  refine g_iconst (pc := 30) (v := nI 0) dX3_init_30 rfl ?_
  refine i_int (pc := 31) (m := 5) dX3_init_31 hI q1804 (by decide) rfl rfl rfl rfl rfl (fun h hI => ?_)
  refine g_aload_n (pc := 34) dX3_init_34 rfl rfl ?_
  refine g_iconst (pc := 35) (v := nI 0) dX3_init_35 rfl ?_
  refine i_int (pc := 36) (m := 6) dX3_init_36 hI q1805 (by decide) rfl rfl rfl rfl rfl (fun h hI => ?_)
  refine g_aload_n (pc := 39) dX3_init_39 rfl rfl ?_
  refine g_sipush (pc := 40) (v := nI 200) dX3_init_40 rfl ?_
  refine i_arr (pc := 43) (m := 7) (ty := .char) dX3_init_43 dX3_init_45 hI q1806 q1944 (by decide) (by decide) rfl rfl rfl (by decide) (by decide) rfl (by intro C z; cases z) (by intro t z; cases z) rfl rfl rfl rfl rfl (by decide) (Nat.le_of_ble_eq_true rfl) (Nat.le_of_ble_eq_true rfl) l1 l2 (fun h hI => ?_)
  refine g_aload_n (pc := 48) dX3_init_48 rfl rfl ?_
  refine g_bipush (pc := 49) (v := nI 60) dX3_init_49 rfl ?_
  refine i_arr (pc := 51) (m := 8) (ty := .int) dX3_init_51 dX3_init_53 hI q1807 q1945 (by decide) (by decide) rfl rfl rfl (by decide) (by decide) rfl (by intro C z; cases z) (by intro t z; cases z) rfl rfl rfl rfl rfl (by decide) (Nat.le_of_ble_eq_true rfl) (Nat.le_of_ble_eq_true rfl) l1 l2 (fun h hI => ?_)
  refine g_aload_n (pc := 56) dX3_init_56 rfl rfl ?_
  refine g_bipush (pc := 57) (v := nI 60) dX3_init_57 rfl ?_
  refine i_arr (pc := 59) (m := 9) (ty := .int) dX3_init_59 dX3_init_61 hI q1808 q1945 (by decide) (by decide) rfl rfl rfl (by decide) (by decide) rfl (by intro C z; cases z) (by intro t z; cases z) rfl rfl rfl rfl rfl (by decide) (Nat.le_of_ble_eq_true rfl) (Nat.le_of_ble_eq_true rfl) l1 l2 (fun h hI => ?_)
  refine g_aload_n (pc := 64) dX3_init_64 rfl rfl ?_
  refine g_sipush (pc := 65) (v := nI 3000) dX3_init_65 rfl ?_
  refine i_arr (pc := 68) (m := 10) (ty := .int) dX3_init_68 dX3_init_70 hI q1809 q1945 (by decide) (by decide) rfl rfl rfl (by decide) (by decide) rfl (by intro C z; cases z) (by intro t z; cases z) rfl rfl rfl rfl rfl (by decide) (Nat.le_of_ble_eq_true rfl) (Nat.le_of_ble_eq_true rfl) l1 l2 (fun h hI => ?_)
  refine g_aload_n (pc := 73) dX3_init_73 rfl rfl ?_
  refine g_sipush (pc := 74) (v := nI 600) dX3_init_74 rfl ?_
  refine i_arr (pc := 77) (m := 11) (ty := .int) dX3_init_77 dX3_init_79 hI q1810 q1945 (by decide) (by decide) rfl rfl rfl (by decide) (by decide) rfl (by intro C z; cases z) (by intro t z; cases z) rfl rfl rfl rfl rfl (by decide) (Nat.le_of_ble_eq_true rfl) (Nat.le_of_ble_eq_true rfl) l1 l2 (fun h hI => ?_)
  refine g_aload_n (pc := 82) dX3_init_82 rfl rfl ?_
  refine g_sipush (pc := 83) (v := nI 600) dX3_init_83 rfl ?_
  refine i_arr (pc := 86) (m := 12) (ty := .long) dX3_init_86 dX3_init_88 hI q1811 q1946 (by decide) (by decide) rfl rfl rfl (by decide) (by decide) rfl (by intro C z; cases z) (by intro t z; cases z) rfl rfl rfl rfl rfl (by decide) (Nat.le_of_ble_eq_true rfl) (Nat.le_of_ble_eq_true rfl) l1 l2 (fun h hI => ?_)
  refine g_aload_n (pc := 91) dX3_init_91 rfl rfl ?_
  refine g_bipush (pc := 92) (v := nI 60) dX3_init_92 rfl ?_
  refine i_arr (pc := 94) (m := 13) (ty := .boolean) dX3_init_94 dX3_init_96 hI q1812 q1947 (by decide) (by decide) rfl rfl rfl (by decide) (by decide) rfl (by intro C z; cases z) (by intro t z; cases z) rfl rfl rfl rfl rfl (by decide) (Nat.le_of_ble_eq_true rfl) (Nat.le_of_ble_eq_true rfl) l1 l2 (fun h hI => ?_)
  refine g_aload_n (pc := 99) dX3_init_99 rfl rfl ?_
  refine g_sipush (pc := 100) (v := nI 1000) dX3_init_100 rfl ?_
  refine i_arr (pc := 103) (m := 14) (ty := .char) dX3_init_103 dX3_init_105 hI q1813 q1944 (by decide) (by decide) rfl rfl rfl (by decide) (by decide) rfl (by intro C z; cases z) (by intro t z; cases z) rfl rfl rfl rfl rfl (by decide) (Nat.le_of_ble_eq_true rfl) (Nat.le_of_ble_eq_true rfl) l1 l2 (fun h hI => ?_)
  refine g_aload_n (pc := 108) dX3_init_108 rfl rfl ?_
  refine g_iconst (pc := 109) (v := nI 5) dX3_init_109 rfl ?_
  refine i_arr (pc := 110) (m := 15) (ty := .int) dX3_init_110 dX3_init_112 hI q1814 q1945 (by decide) (by decide) rfl rfl rfl (by decide) (by decide) rfl (by intro C z; cases z) (by intro t z; cases z) rfl rfl rfl rfl rfl (by decide) (Nat.le_of_ble_eq_true rfl) (Nat.le_of_ble_eq_true rfl) l1 l2 (fun h hI => ?_)
  refine g_aload_n (pc := 115) dX3_init_115 rfl rfl ?_
  refine g_iconst (pc := 116) (v := nI 5) dX3_init_116 rfl ?_
  refine i_arr (pc := 117) (m := 16) (ty := .int) dX3_init_117 dX3_init_119 hI q1815 q1945 (by decide) (by decide) rfl rfl rfl (by decide) (by decide) rfl (by intro C z; cases z) (by intro t z; cases z) rfl rfl rfl rfl rfl (by decide) (Nat.le_of_ble_eq_true rfl) (Nat.le_of_ble_eq_true rfl) l1 l2 (fun h hI => ?_)
  refine g_aload_n (pc := 122) dX3_init_122 rfl rfl ?_
  refine g_iconst (pc := 123) (v := nI 4) dX3_init_123 rfl ?_
  refine i_arr (pc := 124) (m := 17) (ty := .boolean) dX3_init_124 dX3_init_126 hI q1816 q1947 (by decide) (by decide) rfl rfl rfl (by decide) (by decide) rfl (by intro C z; cases z) (by intro t z; cases z) rfl rfl rfl rfl rfl (by decide) (Nat.le_of_ble_eq_true rfl) (Nat.le_of_ble_eq_true rfl) l1 l2 (fun h hI => ?_)
  refine g_aload_n (pc := 129) dX3_init_129 rfl rfl ?_
  refine g_sipush (pc := 130) (v := nI 250) dX3_init_130 rfl ?_
  refine i_arr (pc := 133) (m := 18) (ty := .int) dX3_init_133 dX3_init_135 hI q1817 q1945 (by decide) (by decide) rfl rfl rfl (by decide) (by decide) rfl (by intro C z; cases z) (by intro t z; cases z) rfl rfl rfl rfl rfl (by decide) (Nat.le_of_ble_eq_true rfl) (Nat.le_of_ble_eq_true rfl) l1 l2 (fun h hI => ?_)
  refine g_aload_n (pc := 138) dX3_init_138 rfl rfl ?_
  refine g_sipush (pc := 139) (v := nI 250) dX3_init_139 rfl ?_
  refine i_arr (pc := 142) (m := 19) (ty := .int) dX3_init_142 dX3_init_144 hI q1818 q1945 (by decide) (by decide) rfl rfl rfl (by decide) (by decide) rfl (by intro C z; cases z) (by intro t z; cases z) rfl rfl rfl rfl rfl (by decide) (Nat.le_of_ble_eq_true rfl) (Nat.le_of_ble_eq_true rfl) l1 l2 (fun h hI => ?_)
  refine g_aload_n (pc := 147) dX3_init_147 rfl rfl ?_
  refine g_sipush (pc := 148) (v := nI 250) dX3_init_148 rfl ?_
  refine i_arr (pc := 151) (m := 20) (ty := .int) dX3_init_151 dX3_init_153 hI q1819 q1945 (by decide) (by decide) rfl rfl rfl (by decide) (by decide) rfl (by intro C z; cases z) (by intro t z; cases z) rfl rfl rfl rfl rfl (by decide) (Nat.le_of_ble_eq_true rfl) (Nat.le_of_ble_eq_true rfl) l1 l2 (fun h hI => ?_)
  refine g_aload_n (pc := 156) dX3_init_156 rfl rfl ?_
  refine g_sipush (pc := 157) (v := nI 250) dX3_init_157 rfl ?_
  refine i_arr (pc := 160) (m := 21) (ty := .int) dX3_init_160 dX3_init_162 hI q1820 q1945 (by decide) (by decide) rfl rfl rfl (by decide) (by decide) rfl (by intro C z; cases z) (by intro t z; cases z) rfl rfl rfl rfl rfl (by decide) (Nat.le_of_ble_eq_true rfl) (Nat.le_of_ble_eq_true rfl) l1 l2 (fun h hI => ?_)
  refine g_aload_n (pc := 165) dX3_init_165 rfl rfl ?_
  refine g_sipush (pc := 166) (v := nI 250) dX3_init_166 rfl ?_
  refine i_arr (pc := 169) (m := 22) (ty := .int) dX3_init_169 dX3_init_171 hI q1821 q1945 (by decide) (by decide) rfl rfl rfl (by decide) (by decide) rfl (by intro C z; cases z) (by intro t z; cases z) rfl rfl rfl rfl rfl (by decide) (Nat.le_of_ble_eq_true rfl) (Nat.le_of_ble_eq_true rfl) l1 l2 (fun h hI => ?_)
  refine g_aload_n (pc := 174) dX3_init_174 rfl rfl ?_
  refine g_sipush (pc := 175) (v := nI 250) dX3_init_175 rfl ?_
  refine i_arr (pc := 178) (m := 23) (ty := .int) dX3_init_178 dX3_init_180 hI q1822 q1945 (by decide) (by decide) rfl rfl rfl (by decide) (by decide) rfl (by intro C z; cases z) (by intro t z; cases z) rfl rfl rfl rfl rfl (by decide) (Nat.le_of_ble_eq_true rfl) (Nat.le_of_ble_eq_true rfl) l1 l2 (fun h hI => ?_)
  refine g_aload_n (pc := 183) dX3_init_183 rfl rfl ?_
  refine g_sipush (pc := 184) (v := nI 250) dX3_init_184 rfl ?_
  refine i_arr (pc := 187) (m := 24) (ty := .int) dX3_init_187 dX3_init_189 hI q1823 q1945 (by decide) (by decide) rfl rfl rfl (by decide) (by decide) rfl (by intro C z; cases z) (by intro t z; cases z) rfl rfl rfl rfl rfl (by decide) (Nat.le_of_ble_eq_true rfl) (Nat.le_of_ble_eq_true rfl) l1 l2 (fun h hI => ?_)
  refine g_aload_n (pc := 192) dX3_init_192 rfl rfl ?_
  refine g_iconst (pc := 193) (v := nI 4) dX3_init_193 rfl ?_
  refine i_arr (pc := 194) (m := 25) (ty := .int) dX3_init_194 dX3_init_196 hI q1824 q1945 (by decide) (by decide) rfl rfl rfl (by decide) (by decide) rfl (by intro C z; cases z) (by intro t z; cases z) rfl rfl rfl rfl rfl (by decide) (Nat.le_of_ble_eq_true rfl) (Nat.le_of_ble_eq_true rfl) l1 l2 (fun h hI => ?_)
  refine g_aload_n (pc := 199) dX3_init_199 rfl rfl ?_
  refine g_bipush (pc := 200) (v := nI 18) dX3_init_200 rfl ?_
  refine i_arr (pc := 202) (m := 26) (ty := .int) dX3_init_202 dX3_init_204 hI q1825 q1945 (by decide) (by decide) rfl rfl rfl (by decide) (by decide) rfl (by intro C z; cases z) (by intro t z; cases z) rfl rfl rfl rfl rfl (by decide) (Nat.le_of_ble_eq_true rfl) (Nat.le_of_ble_eq_true rfl) l1 l2 (fun h hI => ?_)
  refine g_aload_n (pc := 207) dX3_init_207 rfl rfl ?_
  refine g_bipush (pc := 208) (v := nI 18) dX3_init_208 rfl ?_
  refine i_arr (pc := 210) (m := 27) (ty := .int) dX3_init_210 dX3_init_212 hI q1826 q1945 (by decide) (by decide) rfl rfl rfl (by decide) (by decide) rfl (by intro C z; cases z) (by intro t z; cases z) rfl rfl rfl rfl rfl (by decide) (Nat.le_of_ble_eq_true rfl) (Nat.le_of_ble_eq_true rfl) l1 l2 (fun h hI => ?_)
  refine g_aload_n (pc := 215) dX3_init_215 rfl rfl ?_
  refine g_bipush (pc := 216) (v := nI 18) dX3_init_216 rfl ?_
  refine i_arr (pc := 218) (m := 28) (ty := .int) dX3_init_218 dX3_init_220 hI q1827 q1945 (by decide) (by decide) rfl rfl rfl (by decide) (by decide) rfl (by intro C z; cases z) (by intro t z; cases z) rfl rfl rfl rfl rfl (by decide) (Nat.le_of_ble_eq_true rfl) (Nat.le_of_ble_eq_true rfl) l1 l2 (fun h hI => ?_)
  refine g_aload_n (pc := 223) dX3_init_223 rfl rfl ?_
  refine g_sipush (pc := 224) (v := nI 7200) dX3_init_224 rfl ?_
  refine i_arr (pc := 227) (m := 29) (ty := .char) dX3_init_227 dX3_init_229 hI q1828 q1944 (by decide) (by decide) rfl rfl rfl (by decide) (by decide) rfl (by intro C z; cases z) (by intro t z; cases z) rfl rfl rfl rfl rfl (by decide) (Nat.le_of_ble_eq_true rfl) (Nat.le_of_ble_eq_true rfl) l1 l2 (fun h hI => ?_)
  refine g_aload_n (pc := 232) dX3_init_232 rfl rfl ?_
  refine g_sipush (pc := 233) (v := nI 401) dX3_init_233 rfl ?_
  refine i_arr (pc := 236) (m := 30) (ty := .char) dX3_init_236 dX3_init_238 hI q1829 q1944 (by decide) (by decide) rfl rfl rfl (by decide) (by decide) rfl (by intro C z; cases z) (by intro t z; cases z) rfl rfl rfl rfl rfl (by decide) (Nat.le_of_ble_eq_true rfl) (Nat.le_of_ble_eq_true rfl) l1 l2 (fun h hI => ?_)
  refine g_aload_n (pc := 241) dX3_init_241 rfl rfl ?_
  refine g_sipush (pc := 242) (v := nI 400) dX3_init_242 rfl ?_
  refine i_arr (pc := 245) (m := 31) (ty := .char) dX3_init_245 dX3_init_247 hI q1830 q1944 (by decide) (by decide) rfl rfl rfl (by decide) (by decide) rfl (by intro C z; cases z) (by intro t z; cases z) rfl rfl rfl rfl rfl (by decide) (Nat.le_of_ble_eq_true rfl) (Nat.le_of_ble_eq_true rfl) l1 l2 (fun h hI => ?_)
  refine g_aload_n (pc := 250) dX3_init_250 rfl rfl ?_
  refine g_sipush (pc := 251) (v := nI 400) dX3_init_251 rfl ?_
  refine i_arr (pc := 254) (m := 32) (ty := .char) dX3_init_254 dX3_init_256 hI q1831 q1944 (by decide) (by decide) rfl rfl rfl (by decide) (by decide) rfl (by intro C z; cases z) (by intro t z; cases z) rfl rfl rfl rfl rfl (by decide) (Nat.le_of_ble_eq_true rfl) (Nat.le_of_ble_eq_true rfl) l1 l2 (fun h hI => ?_)
  refine g_aload_n (pc := 259) dX3_init_259 rfl rfl ?_
  refine g_iconst (pc := 260) (v := nI 0) dX3_init_260 rfl ?_
  refine i_int (pc := 261) (m := 33) dX3_init_261 hI q1832 (by decide) rfl rfl rfl rfl rfl (fun h hI => ?_)
  refine g_aload_n (pc := 264) dX3_init_264 rfl rfl ?_
  refine g_iconst (pc := 265) (v := nI 0) dX3_init_265 rfl ?_
  refine i_int (pc := 266) (m := 34) dX3_init_266 hI q1833 (by decide) rfl rfl rfl rfl rfl (fun h hI => ?_)
  refine g_aload_n (pc := 269) dX3_init_269 rfl rfl ?_
  refine g_iconst (pc := 270) (v := nI 0) dX3_init_270 rfl ?_
  refine i_int (pc := 271) (m := 35) dX3_init_271 hI q1834 (by decide) rfl rfl rfl rfl rfl (fun h hI => ?_)
  refine g_aload_n (pc := 274) dX3_init_274 rfl rfl ?_
  refine g_iconst (pc := 275) (v := nI 0) dX3_init_275 rfl ?_
  refine i_int (pc := 276) (m := 36) dX3_init_276 hI q1835 (by decide) rfl rfl rfl rfl rfl (fun h hI => ?_)
  refine g_aload_n (pc := 279) dX3_init_279 rfl rfl ?_
  refine g_iconst (pc := 280) (v := nI 0) dX3_init_280 rfl ?_
  refine i_int (pc := 281) (m := 37) dX3_init_281 hI q1836 (by decide) rfl rfl rfl rfl rfl (fun h hI => ?_)
  refine g_aload_n (pc := 284) dX3_init_284 rfl rfl ?_
  refine g_iconst (pc := 285) (v := nI 0) dX3_init_285 rfl ?_
  refine i_int (pc := 286) (m := 38) dX3_init_286 hI q1837 (by decide) rfl rfl rfl rfl rfl (fun h hI => ?_)
  refine g_aload_n (pc := 289) dX3_init_289 rfl rfl ?_
  refine g_iconst (pc := 290) (v := nI 0) dX3_init_290 rfl ?_
  refine i_int (pc := 291) (m := 39) dX3_init_291 hI q1838 (by decide) rfl rfl rfl rfl rfl (fun h hI => ?_)
  refine g_aload_n (pc := 294) dX3_init_294 rfl rfl ?_
  refine g_bipush (pc := 295) (v := nI 20) dX3_init_295 rfl ?_
  refine i_arr (pc := 297) (m := 40) (ty := .int) dX3_init_297 dX3_init_299 hI q1839 q1945 (by decide) (by decide) rfl rfl rfl (by decide) (by decide) rfl (by intro C z; cases z) (by intro t z; cases z) rfl rfl rfl rfl rfl (by decide) (Nat.le_of_ble_eq_true rfl) (Nat.le_of_ble_eq_true rfl) l1 l2 (fun h hI => ?_)
  refine g_aload_n (pc := 302) dX3_init_302 rfl rfl ?_
  refine g_bipush (pc := 303) (v := nI 20) dX3_init_303 rfl ?_
  refine i_arr (pc := 305) (m := 41) (ty := .int) dX3_init_305 dX3_init_307 hI q1840 q1945 (by decide) (by decide) rfl rfl rfl (by decide) (by decide) rfl (by intro C z; cases z) (by intro t z; cases z) rfl rfl rfl rfl rfl (by decide) (Nat.le_of_ble_eq_true rfl) (Nat.le_of_ble_eq_true rfl) l1 l2 (fun h hI => ?_)
  refine g_aload_n (pc := 310) dX3_init_310 rfl rfl ?_
  refine g_bipush (pc := 311) (v := nI 20) dX3_init_311 rfl ?_
  refine i_arr (pc := 313) (m := 42) (ty := .int) dX3_init_313 dX3_init_315 hI q1841 q1945 (by decide) (by decide) rfl rfl rfl (by decide) (by decide) rfl (by intro C z; cases z) (by intro t z; cases z) rfl rfl rfl rfl rfl (by decide) (Nat.le_of_ble_eq_true rfl) (Nat.le_of_ble_eq_true rfl) l1 l2 (fun h hI => ?_)
  refine g_aload_n (pc := 318) dX3_init_318 rfl rfl ?_
  refine g_bipush (pc := 319) (v := nI 20) dX3_init_319 rfl ?_
  refine i_arr (pc := 321) (m := 43) (ty := .int) dX3_init_321 dX3_init_323 hI q1842 q1945 (by decide) (by decide) rfl rfl rfl (by decide) (by decide) rfl (by intro C z; cases z) (by intro t z; cases z) rfl rfl rfl rfl rfl (by decide) (Nat.le_of_ble_eq_true rfl) (Nat.le_of_ble_eq_true rfl) l1 l2 (fun h hI => ?_)
  refine g_aload_n (pc := 326) dX3_init_326 rfl rfl ?_
  refine g_bipush (pc := 327) (v := nI 60) dX3_init_327 rfl ?_
  refine i_arr (pc := 329) (m := 44) (ty := .int) dX3_init_329 dX3_init_331 hI q1843 q1945 (by decide) (by decide) rfl rfl rfl (by decide) (by decide) rfl (by intro C z; cases z) (by intro t z; cases z) rfl rfl rfl rfl rfl (by decide) (Nat.le_of_ble_eq_true rfl) (Nat.le_of_ble_eq_true rfl) l1 l2 (fun h hI => ?_)
  refine g_aload_n (pc := 334) dX3_init_334 rfl rfl ?_
  refine g_bipush (pc := 335) (v := nI 60) dX3_init_335 rfl ?_
  refine i_arr (pc := 337) (m := 45) (ty := .int) dX3_init_337 dX3_init_339 hI q1844 q1945 (by decide) (by decide) rfl rfl rfl (by decide) (by decide) rfl (by intro C z; cases z) (by intro t z; cases z) rfl rfl rfl rfl rfl (by decide) (Nat.le_of_ble_eq_true rfl) (Nat.le_of_ble_eq_true rfl) l1 l2 (fun h hI => ?_)
  refine g_aload_n (pc := 342) dX3_init_342 rfl rfl ?_
  refine g_bipush (pc := 343) (v := nI 20) dX3_init_343 rfl ?_
  refine i_arr (pc := 345) (m := 46) (ty := .boolean) dX3_init_345 dX3_init_347 hI q1845 q1947 (by decide) (by decide) rfl rfl rfl (by decide) (by decide) rfl (by intro C z; cases z) (by intro t z; cases z) rfl rfl rfl rfl rfl (by decide) (Nat.le_of_ble_eq_true rfl) (Nat.le_of_ble_eq_true rfl) l1 l2 (fun h hI => ?_)
  refine g_aload_n (pc := 350) dX3_init_350 rfl rfl ?_
  refine g_bipush (pc := 351) (v := nI 20) dX3_init_351 rfl ?_
  refine i_arr (pc := 353) (m := 47) (ty := .boolean) dX3_init_353 dX3_init_355 hI q1846 q1947 (by decide) (by decide) rfl rfl rfl (by decide) (by decide) rfl (by intro C z; cases z) (by intro t z; cases z) rfl rfl rfl rfl rfl (by decide) (Nat.le_of_ble_eq_true rfl) (Nat.le_of_ble_eq_true rfl) l1 l2 (fun h hI => ?_)
  refine g_vret (pc := 358) dX3_init_358 rfl ⟨rfl, iH_end hI, ?_, ?_⟩
  · rw [hI.2.2.1, h1]
  · rw [hI.2.2.2]
end TW29
