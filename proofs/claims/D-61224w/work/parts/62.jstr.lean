/-! JDK 2: Strings (one byte a character) -/
set_option maxRecDepth 100000
theorem hLeafOf {w : Cond} (hm : w ∈ flatC (Jvm.Cond.and given_1 narrow_1)) : hLeaf w := fun _ hZ => flat_of_before _ hZ.2.2.1 w hm
theorem st_eq {C n dd : String} {z : Int32} (hl : Cond.laysStatic C n dd ∈ lw_tbl) (hi : Cond.initialized C ∈ lw_all) (hv : hLeaf (.eq (.static C n dd) (.int z))) : hStat C n dd (fun _ => .int z) := fun Z hZ => va_Zof (hZ.1 _ hl) (hZ.1 _ (lw_all_tbl hi)) (va_eqi (hv Z hZ)) (fun _ _ z => z)
theorem st_compact : hStat "java/lang/String" "COMPACT_STRINGS" "Z" (fun _ => .int 1) := st_eq q199 q82 (hLeafOf (by decide +kernel))
noncomputable def hSv (C n dd : String) (Z : hE) : Value := ((Term.static C n dd).eval #[Value.ref Z.2.2.2.2] Z.2.1 none [] Z.2.1).getD .null
theorem st_ref {C n dd : String} (hl : Cond.laysStatic C n dd ∈ lw_tbl) (hi : Cond.initialized C ∈ lw_all) (hv : hLeaf (.isRef (.static C n dd))) : hStat C n dd (hSv C n dd) ∧ ∀ Z, hEnv Z → hSv C n dd Z = .null ∨ ∃ t, hSv C n dd Z = .ref t := by
  have key : ∀ Z, hEnv Z → ∃ v : Value, (Term.static C n dd).eval #[Value.ref Z.2.2.2.2] Z.2.1 none [] Z.2.1 = some v ∧ v.isRef = true := fun Z hZ => Cond.isRef_spec (hv Z hZ)
  refine ⟨fun Z hZ => ?_, fun Z hZ => ?_⟩
  · obtain ⟨v, h1, h2⟩ := key Z hZ
    have e : hSv C n dd Z = v := by unfold hSv; rw [h1]; rfl
    rw [e]
    exact va_Zof (hZ.1 _ hl) (hZ.1 _ (lw_all_tbl hi)) h1 (fun _ _ z => z)
  · obtain ⟨v, h1, h2⟩ := key Z hZ
    have e : hSv C n dd Z = v := by unfold hSv; rw [h1]; rfl
    rw [e]
    cases v with
    | null => exact Or.inl rfl
    | ref t => exact Or.inr ⟨t, rfl⟩
    | int _ => cases h2
    | long _ => cases h2
    | float _ => cases h2
    | double _ => cases h2
    | retAddr _ => cases h2
theorem st_form : hStat "jdk/internal/util/Preconditions" "SIOOBE_FORMATTER" "Ljava/util/function/BiFunction;" (hSv "jdk/internal/util/Preconditions" "SIOOBE_FORMATTER" "Ljava/util/function/BiFunction;") ∧ ∀ Z, hEnv Z → hSv "jdk/internal/util/Preconditions" "SIOOBE_FORMATTER" "Ljava/util/function/BiFunction;" Z = .null ∨ ∃ t, hSv "jdk/internal/util/Preconditions" "SIOOBE_FORMATTER" "Ljava/util/function/BiFunction;" Z = .ref t := st_ref q287 q88 (hLeafOf (by decide +kernel))
theorem cz_n {c : Nat} (h : c < 65536) : narrow .char (.int (nI c)) = .int (nI c) := by
  show Value.int ((nI c).toUInt32 % 65536).toInt32 = _
  rw [pk_char, pk_tn (by omega), Nat.mod_eq_of_lt h]
theorem sh0 (x : Int32) : x >>> (nI 0 &&& 31) = x := by
  have : nI 0 &&& 31 = 0 := by decide
  rw [this]
  exact Int32.shiftRight_zero
theorem sl0 (x : Int32) : x <<< (nI 0 &&& 31) = x := by
  have : nI 0 &&& 31 = 0 := by decide
  rw [this]
  exact Int32.shiftLeft_zero
theorem and255 {c : Nat} (h : c < 256) : nI c &&& nI 255 = nI c := by
  rw [pk_andN (by omega) 8 rfl, Nat.mod_eq_of_lt h]
theorem byN {c : Nat} (h : c < 128) : (nI c).toInt8.toInt32 = nI c := by
  have : ∀ c, c < 128 → (nI c).toInt8.toInt32 = nI c := by decide +kernel
  exact this c h
/-- the hash of a text -/
def hsh (l : List Nat) : Int32 := l.foldl (fun a c => nI 31 * a + nI c) 0
def jBy (h : hP) (b κ n : Nat) (l : List Nat) : Prop := ∃ f, h.2.2 b = some (κ, .inr (n, f)) ∧ hTy (κ % 100) = some .byte ∧ l.length ≤ n ∧ n < 2147483648 ∧ ∀ i, i < l.length → f i = .int (nI (l.getD i 0))
/-- the String at a, of kind κ, has the characters l -/
def jSt (h : hP) (κ a : Nat) (l : List Nat) : Prop := (κ = 30 ∨ κ = 130 ∨ κ = 930) ∧ (∀ c ∈ l, c < 128) ∧ ∃ b κb hs hz, h.2.2 a = some (κ, .inl [.ref b, .int (nI 0), .int hs, .int hz]) ∧ (κb = 60 ∨ κb = 960) ∧ jBy h b κb l.length l ∧ (hs = 0 ∧ hz = 0 ∧ κ ≠ 930 ∨ hs = hsh l ∧ (hs = 0 → hz = nI 1))
theorem jSt.cl {h : hP} {κ a : Nat} {l : List Nat} (q : jSt h κ a l) : hCl (κ % 100) = some (RJ9, TJ9, 4) := by
  rcases q.1 with e | e | e <;> rw [e] <;> rfl
theorem jSt.fr {S : Nat → Prop} {h h' : hP} {κ a : Nat} {l : List Nat} (f : hFr S h h') (h1 : ¬ S κ) (h2 : ¬ S 60) (h3 : ¬ S 960) (q : jSt h κ a l) : jSt h' κ a l := by
  obtain ⟨q1, q2, b, κb, hs, hz, q3, q4, ⟨g, q5, q6⟩, q7⟩ := q
  refine ⟨q1, q2, b, κb, hs, hz, (f.2.2 a _ q3).1 h1, q4, ⟨g, (f.2.2 b _ q5).1 ?_, q6⟩, q7⟩
  rcases q4 with e | e <;> rw [e] <;> assumption
section JS
variable {Z : hE} {h : hP} {κ a : Nat} {l : List Nat}
theorem jc_coder (d : Nat) (hs : jSt h κ a l) : jP Z mJ9_coder d [.ref a] h (some (.int (nI 0))) := by
  refine jC.of pnJ9 rfl (Nat.le_of_ble_eq_true rfl) rfl (fun X => ?_)
  have kc := hs.cl
  obtain ⟨_, _, b, κb, hs', hz, ha, _⟩ := hs
  refine g_gets (pc := 0) dJ9_coder_0 st_compact q308 (Or.inl rfl) ?_
  refine g_if_eq (pc := 3) (tgt := 13) dJ9_coder_3 rfl (fun q_ => absurd q_ (by decide)) (fun _ => ?_)
  refine g_aload_n (pc := 6) dJ9_coder_6 rfl rfl ?_
  refine g_get (pc := 7) (r := (RJ9, TJ9, 4)) 1 dJ9_coder_7 ha kc (Nat.le_of_ble_eq_true rfl) q450 (Or.inl rfl) rfl ?_
  refine g_goto (pc := 10) (tgt := 14) dJ9_coder_10 rfl ?_
  exact g_zret (pc := 14) dJ9_coder_14 rfl rfl ⟨_, rfl, rfl, rfl⟩
theorem jc_isLatin1 (d : Nat) (hs : jSt h κ a l) : jP Z mJ9_isLatin1 d [.ref a] h (some (.int (nI 1))) := by
  refine jC.of pnJ9 rfl (Nat.le_of_ble_eq_true rfl) rfl (fun X => ?_)
  have kc := hs.cl
  obtain ⟨_, _, b, κb, hs', hz, ha, _⟩ := hs
  refine g_gets (pc := 0) dJ9_isLatin1_0 st_compact q308 (Or.inl rfl) ?_
  refine g_if_eq (pc := 3) (tgt := 17) dJ9_isLatin1_3 rfl (fun q_ => absurd q_ (by decide)) (fun _ => ?_)
  refine g_aload_n (pc := 6) dJ9_isLatin1_6 rfl rfl ?_
  refine g_get (pc := 7) (r := (RJ9, TJ9, 4)) 1 dJ9_isLatin1_7 ha kc (Nat.le_of_ble_eq_true rfl) q450 (Or.inl rfl) rfl ?_
  refine g_if_neN (pc := 10) (tgt := 17) dJ9_isLatin1_10 rfl (by omega) (fun q_ => absurd q_ (by omega)) (fun _ => ?_)
  refine g_iconst (pc := 13) (v := nI 1) dJ9_isLatin1_13 rfl ?_
  refine g_goto (pc := 14) (tgt := 18) dJ9_isLatin1_14 rfl ?_
  refine g_zret (pc := 18) dJ9_isLatin1_18 rfl rfl ⟨_, rfl, rfl, rfl⟩
theorem jc_length (d : Nat) (hs : jSt h κ a l) : jP Z mJ9_length (d + 1) [.ref a] h (some (.int (nI l.length))) := by
  refine jC.of pnJ9 rfl (Nat.le_of_ble_eq_true rfl) rfl (fun X => ?_)
  have hs0 := hs
  have kc := hs.cl
  obtain ⟨_, _, b, κb, hs', hz, ha, _, ⟨f, hb, _⟩, _⟩ := hs
  refine g_aload_n (pc := 0) dJ9_length_0 rfl rfl ?_
  refine g_get (pc := 1) (r := (RJ9, TJ9, 4)) 0 dJ9_length_1 ha kc (Nat.le_of_ble_eq_true rfl) q449 (Or.inl rfl) rfl ?_
  refine g_alen (pc := 4) dJ9_length_4 hb ?_
  refine g_aload_n (pc := 5) dJ9_length_5 rfl rfl ?_
  refine g_invV (pc := 6) dJ9_length_6 ha kc (jc_coder d hs0) meJ9_coder q304 q305 q306 rfl rfl (Nat.le_of_ble_eq_true rfl) (by first | exact jF | exact fun _ z => z | assumption | (intro κ z; simp_all)) (jk_e ?_) jk_x
  refine g_ishr (pc := 9) dJ9_length_9 ?_
  rw [sh0]
  exact g_iret (pc := 10) dJ9_length_10 rfl ⟨_, rfl, rfl, rfl⟩
theorem jc_isEmpty (d : Nat) (hs : jSt h κ a l) : jP Z mJ9_isEmpty d [.ref a] h (some (.int (nI (decide (l = [])).toNat))) := by
  refine jC.of pnJ9 rfl (Nat.le_of_ble_eq_true rfl) rfl (fun X => ?_)
  have kc := hs.cl
  obtain ⟨_, _, b, κb, hs', hz, ha, _, ⟨f, hb, _, _, hn, _⟩, _⟩ := hs
  refine g_aload_n (pc := 0) dJ9_isEmpty_0 rfl rfl ?_
  refine g_get (pc := 1) (r := (RJ9, TJ9, 4)) 0 dJ9_isEmpty_1 ha kc (Nat.le_of_ble_eq_true rfl) q449 (Or.inl rfl) rfl ?_
  refine g_alen (pc := 4) dJ9_isEmpty_4 hb ?_
  refine g_if_neN (pc := 5) (tgt := 12) dJ9_isEmpty_5 rfl (by omega) (fun q => ?_) (fun q => ?_)
  · refine g_iconst (pc := 12) (v := nI 0) dJ9_isEmpty_12 rfl ?_
    refine g_zret (pc := 13) dJ9_isEmpty_13 rfl rfl ⟨_, rfl, ?_, rfl⟩
    rw [decide_eq_false (fun z => by rw [z] at q; cases q)]
    rfl
  · refine g_iconst (pc := 8) (v := nI 1) dJ9_isEmpty_8 rfl ?_
    refine g_goto (pc := 9) (tgt := 13) dJ9_isEmpty_9 rfl ?_
    refine g_zret (pc := 13) dJ9_isEmpty_13 rfl rfl ⟨_, rfl, ?_, rfl⟩
    rw [decide_eq_true (List.eq_nil_of_length_eq_zero q)]
    rfl
theorem jc_pcheckIndex (d i n : Nat) (v : Value) (hv : v = .null ∨ ∃ t, v = .ref t) (hi : i < n) (hn : n < 2147483648) : jP Z mJ14_checkIndex d [.int (nI i), .int (nI n), v] h (some (.int (nI i))) := by
  rcases hv with rfl | ⟨t, rfl⟩
  · refine jC.of pnJ14 rfl (Nat.le_of_ble_eq_true rfl) rfl (fun X => ?_)
    refine g_iload_n (pc := 0) dJ14_checkIndex_0 rfl rfl ?_
    refine g_if_ltN (pc := 1) (tgt := 9) dJ14_checkIndex_1 rfl (by omega) ?_
    refine g_iload_n (pc := 4) dJ14_checkIndex_4 rfl rfl ?_
    refine g_iload_n (pc := 5) dJ14_checkIndex_5 rfl rfl ?_
    refine g_icmp_ltN (pc := 6) (tgt := 16) dJ14_checkIndex_6 rfl (by omega) (by omega) (fun _ => ?_) (fun q_ => absurd q_ (by omega))
    refine g_iload_n (pc := 16) dJ14_checkIndex_16 rfl rfl ?_
    exact g_iret (pc := 17) dJ14_checkIndex_17 rfl ⟨_, rfl, rfl, rfl⟩
  · refine jC.of pnJ14 rfl (Nat.le_of_ble_eq_true rfl) rfl (fun X => ?_)
    refine g_iload_n (pc := 0) dJ14_checkIndex_0 rfl rfl ?_
    refine g_if_ltN (pc := 1) (tgt := 9) dJ14_checkIndex_1 rfl (by omega) ?_
    refine g_iload_n (pc := 4) dJ14_checkIndex_4 rfl rfl ?_
    refine g_iload_n (pc := 5) dJ14_checkIndex_5 rfl rfl ?_
    refine g_icmp_ltN (pc := 6) (tgt := 16) dJ14_checkIndex_6 rfl (by omega) (by omega) (fun _ => ?_) (fun q_ => absurd q_ (by omega))
    refine g_iload_n (pc := 16) dJ14_checkIndex_16 rfl rfl ?_
    exact g_iret (pc := 17) dJ14_checkIndex_17 rfl ⟨_, rfl, rfl, rfl⟩
theorem jc_checkIndex (d i n : Nat) (hi : i < n) (hn : n < 2147483648) : jP Z mJ9_checkIndex (d + 1) [.int (nI i), .int (nI n)] h none := by
  refine jC.of pnJ9 rfl (Nat.le_of_ble_eq_true rfl) rfl (fun X => ?_)
  refine g_env (fun hZ => ?_)
  have hv := st_form.2 Z hZ
  refine g_iload_n (pc := 0) dJ9_checkIndex_0 rfl rfl ?_
  refine g_iload_n (pc := 1) dJ9_checkIndex_1 rfl rfl ?_
  refine g_gets (pc := 2) dJ9_checkIndex_2 st_form.1 q286 (Or.inl rfl) ?_
  refine g_invS (pc := 5) dJ9_checkIndex_5 (jc_pcheckIndex d i n _ hv hi hn) meJ14_checkIndex q600 q601 rfl rfl (Nat.le_of_ble_eq_true rfl) (by first | exact jF | exact fun _ z => z | assumption | (intro κ z; simp_all)) (jk_e ?_) jk_x
  refine g_pop (pc := 8) dJ9_checkIndex_8 rfl ?_
  exact g_vret (pc := 9) dJ9_checkIndex_9 rfl ⟨_, rfl, rfl, rfl⟩
theorem jc_pcheckFT (d i j n : Nat) (v : Value) (hv : v = .null ∨ ∃ t, v = .ref t) (hi : i ≤ j) (hj : j ≤ n) (hn : n < 2147483648) : jP Z mJ14_checkFromToIndex d [.int (nI i), .int (nI j), .int (nI n), v] h (some (.int (nI i))) := by
  rcases hv with rfl | ⟨t, rfl⟩
  · refine jC.of pnJ14 rfl (Nat.le_of_ble_eq_true rfl) rfl (fun X => ?_)
    refine g_iload_n (pc := 0) dJ14_checkFromToIndex_0 rfl rfl ?_
    refine g_if_ltN (pc := 1) (tgt := 14) dJ14_checkFromToIndex_1 rfl (by omega) ?_
    refine g_iload_n (pc := 4) dJ14_checkFromToIndex_4 rfl rfl ?_
    refine g_iload_n (pc := 5) dJ14_checkFromToIndex_5 rfl rfl ?_
    refine g_icmp_gtN (pc := 6) (tgt := 14) dJ14_checkFromToIndex_6 rfl (by omega) (by omega) (fun q_ => absurd q_ (by omega)) (fun _ => ?_)
    refine g_iload_n (pc := 9) dJ14_checkFromToIndex_9 rfl rfl ?_
    refine g_iload_n (pc := 10) dJ14_checkFromToIndex_10 rfl rfl ?_
    refine g_icmp_leN (pc := 11) (tgt := 22) dJ14_checkFromToIndex_11 rfl (by omega) (by omega) (fun _ => ?_) (fun q_ => absurd q_ (by omega))
    refine g_iload_n (pc := 22) dJ14_checkFromToIndex_22 rfl rfl ?_
    exact g_iret (pc := 23) dJ14_checkFromToIndex_23 rfl ⟨_, rfl, rfl, rfl⟩
  · refine jC.of pnJ14 rfl (Nat.le_of_ble_eq_true rfl) rfl (fun X => ?_)
    refine g_iload_n (pc := 0) dJ14_checkFromToIndex_0 rfl rfl ?_
    refine g_if_ltN (pc := 1) (tgt := 14) dJ14_checkFromToIndex_1 rfl (by omega) ?_
    refine g_iload_n (pc := 4) dJ14_checkFromToIndex_4 rfl rfl ?_
    refine g_iload_n (pc := 5) dJ14_checkFromToIndex_5 rfl rfl ?_
    refine g_icmp_gtN (pc := 6) (tgt := 14) dJ14_checkFromToIndex_6 rfl (by omega) (by omega) (fun q_ => absurd q_ (by omega)) (fun _ => ?_)
    refine g_iload_n (pc := 9) dJ14_checkFromToIndex_9 rfl rfl ?_
    refine g_iload_n (pc := 10) dJ14_checkFromToIndex_10 rfl rfl ?_
    refine g_icmp_leN (pc := 11) (tgt := 22) dJ14_checkFromToIndex_11 rfl (by omega) (by omega) (fun _ => ?_) (fun q_ => absurd q_ (by omega))
    refine g_iload_n (pc := 22) dJ14_checkFromToIndex_22 rfl rfl ?_
    exact g_iret (pc := 23) dJ14_checkFromToIndex_23 rfl ⟨_, rfl, rfl, rfl⟩
theorem jc_checkBE (d i j n : Nat) (hi : i ≤ j) (hj : j ≤ n) (hn : n < 2147483648) : jP Z mJ9_checkBoundsBeginEnd (d + 1) [.int (nI i), .int (nI j), .int (nI n)] h none := by
  refine jC.of pnJ9 rfl (Nat.le_of_ble_eq_true rfl) rfl (fun X => ?_)
  refine g_env (fun hZ => ?_)
  have hv := st_form.2 Z hZ
  refine g_iload_n (pc := 0) dJ9_checkBoundsBeginEnd_0 rfl rfl ?_
  refine g_iload_n (pc := 1) dJ9_checkBoundsBeginEnd_1 rfl rfl ?_
  refine g_iload_n (pc := 2) dJ9_checkBoundsBeginEnd_2 rfl rfl ?_
  refine g_gets (pc := 3) dJ9_checkBoundsBeginEnd_3 st_form.1 q286 (Or.inl rfl) ?_
  refine g_invS (pc := 6) dJ9_checkBoundsBeginEnd_6 (jc_pcheckFT d i j n _ hv hi hj hn) meJ14_checkFromToIndex q288 q289 rfl rfl (Nat.le_of_ble_eq_true rfl) (by first | exact jF | exact fun _ z => z | assumption | (intro κ z; simp_all)) (jk_e ?_) jk_x
  refine g_pop (pc := 9) dJ9_checkBoundsBeginEnd_9 rfl ?_
  exact g_vret (pc := 10) dJ9_checkBoundsBeginEnd_10 rfl ⟨_, rfl, rfl, rfl⟩
theorem jc_l1charAt (d b κb n i : Nat) (hb : jBy h b κb n l) (hl : ∀ c ∈ l, c < 128) (hn : n = l.length) (hi : i < l.length) : jP Z mJ15_charAt (d + 2) [.ref b, .int (nI i)] h (some (.int (nI (l.getD i 0)))) := by
  refine jC.of pnJ15 rfl (Nat.le_of_ble_eq_true rfl) rfl (fun X => ?_)
  obtain ⟨f, hb, hty, hle, hlt, hf⟩ := hb
  subst hn
  have hc := hl _ (getD_mem (d := 0) hi)
  refine g_iload_n (pc := 0) dJ15_charAt_0 rfl rfl ?_
  refine g_aload_n (pc := 1) dJ15_charAt_1 rfl rfl ?_
  refine g_alen (pc := 2) dJ15_charAt_2 hb ?_
  refine g_invS (pc := 3) dJ15_charAt_3 (jc_checkIndex d i l.length hi hlt) meJ9_checkIndex q952 q598 rfl rfl (Nat.le_of_ble_eq_true rfl) (by first | exact jF | exact fun _ z => z | assumption | (intro κ z; simp_all)) (jk_e ?_) jk_x
  refine g_aload_n (pc := 6) dJ15_charAt_6 rfl rfl ?_
  refine g_iload_n (pc := 7) dJ15_charAt_7 rfl rfl ?_
  refine g_bald (pc := 8) i dJ15_charAt_8 hb hty hi rfl ?_
  rw [hf i hi]
  refine g_sipush (pc := 9) (v := nI 255) dJ15_charAt_9 rfl ?_
  refine g_iand (pc := 12) dJ15_charAt_12 ?_
  rw [and255 (by omega)]
  refine g_i2cN (pc := 13) dJ15_charAt_13 (by omega) ?_
  exact g_zret (pc := 14) dJ15_charAt_14 rfl (cz_n (by omega)) ⟨_, rfl, rfl, rfl⟩
theorem jc_charAt (d i : Nat) (hs : jSt h κ a l) (hi : i < l.length) : jP Z mJ9_charAt (d + 3) [.ref a, .int (nI i)] h (some (.int (nI (l.getD i 0)))) := by
  refine jC.of pnJ9 rfl (Nat.le_of_ble_eq_true rfl) rfl (fun X => ?_)
  have hs0 := hs
  have kc := hs.cl
  obtain ⟨_, hl, b, κb, hs', hz, ha, _, hb, _⟩ := hs
  have hc := hl _ (getD_mem (d := 0) hi)
  refine g_aload_n (pc := 0) dJ9_charAt_0 rfl rfl ?_
  refine g_invV (pc := 1) dJ9_charAt_1 ha kc (jc_isLatin1 _ hs0) meJ9_isLatin1 q945 q946 q947 rfl rfl (Nat.le_of_ble_eq_true rfl) (by first | exact jF | exact fun _ z => z | assumption | (intro κ z; simp_all)) (jk_e ?_) jk_x
  refine g_if_eqN (pc := 4) (tgt := 16) dJ9_charAt_4 rfl (by omega) (fun q_ => absurd q_ (by omega)) (fun _ => ?_)
  refine g_aload_n (pc := 7) dJ9_charAt_7 rfl rfl ?_
  refine g_get (pc := 8) (r := (RJ9, TJ9, 4)) 0 dJ9_charAt_8 ha kc (Nat.le_of_ble_eq_true rfl) q449 (Or.inl rfl) rfl ?_
  refine g_iload_n (pc := 11) dJ9_charAt_11 rfl rfl ?_
  refine g_invS (pc := 12) dJ9_charAt_12 (jc_l1charAt d b κb _ i hb hl rfl hi) meJ15_charAt q949 q950 rfl rfl (Nat.le_of_ble_eq_true rfl) (by first | exact jF | exact fun _ z => z | assumption | (intro κ z; simp_all)) (jk_e ?_) jk_x
  exact g_zret (pc := 15) dJ9_charAt_15 rfl (cz_n (by omega)) ⟨_, rfl, rfl, rfl⟩
end JS
