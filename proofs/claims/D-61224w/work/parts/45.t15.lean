/-! TWIN 15: what is written raw -/
set_option maxRecDepth 100000
theorem getD_appL {α : Type} {l m : List α} {d : α} {i : Nat} (h : i < l.length) : (l ++ m).getD i d = l.getD i d := by
  rw [List.getD_eq_getElem?_getD, List.getElem?_append_left h, ← List.getD_eq_getElem?_getD]
/-- raw holds l (its first 401) -/
def rawL (τ : tT) (l : List Nat) : Prop := τ.1 33 = min l.length 401 ∧ ∀ i, i < l.length → i < 401 → τ.2.2.1 30 i = l.getD i 0
theorem rawL.more {τ : tT} {l m : List Nat} (h : rawL τ l) (hl : 401 ≤ l.length) : rawL τ (l ++ m) := by
  refine ⟨?_, fun i h1 h2 => ?_⟩
  · rw [h.1, List.length_append]; omega
  · rw [getD_appL (by omega)]; exact h.2 i (by omega) h2
theorem rawL.same {a b : tT} {l : List Nat} (h : rawL a l) (h1 : b.1 33 = a.1 33) (h2 : b.2.2.1 30 = a.2.2.1 30) : rawL b l := ⟨h1.trans h.1, fun i x y => by rw [h2]; exact h.2 i x y⟩
/-- raw alone changes -/
def rK (τ τ' : tT) : Prop := (∀ k, k ≠ 33 → τ'.1 k = τ.1 k) ∧ τ'.2.1 = τ.2.1 ∧ τ'.2.2.2 = τ.2.2.2 ∧ ∀ k, k ≠ 30 → τ'.2.2.1 k = τ.2.2.1 k
theorem rK.refl (τ : tT) : rK τ τ := ⟨fun _ _ => rfl, rfl, rfl, fun _ _ => rfl⟩
theorem rK.trans {a b c : tT} (h : rK a b) (g : rK b c) : rK a c := ⟨fun k z => (g.1 k z).trans (h.1 k z), g.2.1.trans h.2.1, g.2.2.1.trans h.2.2.1, fun k z => (g.2.2.2 k z).trans (h.2.2.2 k z)⟩
theorem rK.vK {R : Nat → Prop} {a b : tT} (h : rK a b) : vK R a b := by
  refine ⟨fun k x _ _ => h.1 k x, h.2.1, by rw [h.2.2.1], fun k i q => ⟨?_, by rw [h.2.2.1]⟩⟩
  by_cases e : k = 30
  · subst e; exact absurd q (vKp_x (Or.inl rfl))
  · rw [h.2.2.2 k e]
def dgs (a : Nat) : Nat → List Nat
  | 0 => [48 + a % 10]
  | m + 1 => (48 + a / 10 ^ (m + 1) % 10) :: dgs a m
theorem dgs_s (a : Nat) : ∀ m, dgs a (m + 1) = dgs (a / 10) m ++ [48 + a % 10]
  | 0 => by simp [dgs]
  | m + 1 => by
    show (48 + a / 10 ^ (m + 1 + 1) % 10) :: dgs a (m + 1) = ((48 + a / 10 / 10 ^ (m + 1) % 10) :: dgs (a / 10) m) ++ [48 + a % 10]
    rw [dgs_s a m, Nat.div_div_eq_div_mul, Nat.pow_succ' (n := m + 1)]
    rfl
theorem decF_dgs : ∀ (m j a : Nat), (m = 0 ∨ 10 ^ m ≤ a) → a < 10 ^ (m + 1) → decF (m + 1 + j) a = dgs a m
  | 0, j, a, _, h => by
    have h : a < 10 := by simpa using h
    rw [show 0 + 1 + j = j + 1 by omega]
    unfold decF
    rw [if_pos h]
    simp [dgs, Nat.mod_eq_of_lt h]
  | m + 1, j, a, h, h2 => by
    have h : 10 ^ (m + 1) ≤ a := by rcases h with z | z; · cases z
                                    · exact z
    have h10 : 10 ≤ a := Nat.le_trans (by rw [Nat.pow_succ]; have := Nat.pow_pos (n := m) (show 0 < 10 by decide); omega) h
    rw [show m + 1 + 1 + j = (m + 1 + j) + 1 by omega]
    unfold decF
    rw [if_neg (by omega), dgs_s, decF_dgs m j (a / 10) ?_ ?_]
    · rcases Nat.eq_zero_or_pos m with z | z
      · exact Or.inl z
      · right
        rw [Nat.pow_succ] at h
        exact (Nat.le_div_iff_mul_le (by decide)).mpr h
    · rw [Nat.pow_succ] at h2
      exact Nat.div_lt_of_lt_mul (by rw [Nat.mul_comm]; exact h2)
theorem decF_len : ∀ (k n : Nat), (decF k n).length ≤ k
  | 0, _ => Nat.le_refl _
  | k + 1, n => by
    unfold decF
    split
    · simp
    · rw [List.length_append]; have := decF_len k (n / 10); simp; exact this
theorem decI_len (v : Int32) : (decI v).length ≤ 11 := by
  unfold decI
  have := decF_len 10 v.toInt.natAbs
  split
  · simp; exact this
  · omega
theorem decF_lt : ∀ (k n c : Nat), c ∈ decF k n → c < 128
  | 0, _, _, h => by cases h
  | k + 1, n, c, h => by
    unfold decF at h
    split at h
    · simp at h; omega
    · rcases List.mem_append.mp h with z | z
      · exact decF_lt k _ c z
      · simp at z; omega
theorem decI_lt (v : Int32) : ∀ c ∈ decI v, c < 128 := by
  intro c h
  unfold decI at h
  split at h
  · cases h with
    | head => decide
    | tail _ h => exact decF_lt _ _ c h
  · exact decF_lt _ _ c h
theorem lneg_abs {v : Int32} (h : v.toInt < 0) : -(v.toInt64) = lN v.toInt.natAbs := by
  have h1 : -2147483648 ≤ v.toInt := Int32.le_toInt v
  apply Int64.toInt_inj.mp
  rw [pk_lT (by omega), Int64.toInt_neg, Int32.toInt_toInt64]
  rw [Int.bmod_eq_of_le (by omega) (by omega)]
  omega
theorem lgN_gt {a b : Nat} (ha : a < 2 ^ 63) (hb : b < 2 ^ 63) : lg_cmp (lN a) (lN b) ≤ 0 ↔ a ≤ b := by
  unfold lg_cmp
  by_cases h : b < a
  · rw [if_pos ((pk_lLT hb ha).mpr h)]
    constructor
    · intro z; exact absurd z (by decide)
    · intro z; omega
  · rw [if_neg (fun z => h ((pk_lLT hb ha).mp z))]
    constructor
    · intro _; omega
    · intro _; split <;> decide
section TW15
variable {Z : hE} {o : Nat} {τ : tT}
theorem tc_rawPut (d c : Nat) (l : List Nat) (hc : c < 65536) (hl : rawL τ l) : tC Z mX3_rawPut d o [.ref o, .int (nI c)] τ (fun r τ' => r = none ∧ rawL τ' (l ++ [c]) ∧ rK τ τ') := by
  refine tC.of rfl rfl (Nat.le_of_ble_eq_true rfl) rfl (fun X hin h hR => ?_)
  refine g_aload_n (pc := 0) dX3_rawPut_0 rfl rfl ?_
  refine t_get (pc := 1) (v := .int (nI _)) 33 dX3_rawPut_1 hR rfl q1832 (Nat.le_of_ble_eq_true rfl) rfl rfl ?_
  refine g_sipush (pc := 4) (v := nI 401) dX3_rawPut_4 rfl ?_
  rw [hl.1]
  refine g_icmp_geN (pc := 7) (tgt := 21) dX3_rawPut_7 rfl (by omega) (by omega) (fun q => ?_) (fun q => ?_)
  · refine g_aload_n (pc := 21) dX3_rawPut_21 rfl rfl ?_
    refine t_get (pc := 22) (v := .int (nI _)) 33 dX3_rawPut_22 hR rfl q1832 (Nat.le_of_ble_eq_true rfl) rfl rfl ?_
    refine g_sipush (pc := 25) (v := nI 401) dX3_rawPut_25 rfl ?_
    rw [hl.1]
    refine g_icmp_geN (pc := 28) (tgt := 41) dX3_rawPut_28 rfl (by omega) (by omega) (fun q2 => ?_) (fun q2 => ?_)
    · refine t_vret (pc := 41) dX3_rawPut_41 hR rfl ⟨rfl, hl.more (by omega), rK.refl τ⟩
    · exact absurd q2 (by omega)
  · refine g_aload_n (pc := 10) dX3_rawPut_10 rfl rfl ?_
    refine t_get (pc := 11) (v := .ref (tAd _ 30)) 30 dX3_rawPut_11 hR rfl q1829 (Nat.le_of_ble_eq_true rfl) rfl rfl ?_
    refine g_aload_n (pc := 14) dX3_rawPut_14 rfl rfl ?_
    refine t_get (pc := 15) (v := .int (nI _)) 33 dX3_rawPut_15 hR rfl q1832 (Nat.le_of_ble_eq_true rfl) rfl rfl ?_
    rw [hl.1]
    refine g_iload_n (pc := 18) dX3_rawPut_18 rfl rfl ?_
    refine g_i2cN (pc := 19) dX3_rawPut_19 (by omega) ?_
    refine t_cast (pc := 20) dX3_rawPut_20 hR rfl (by decide) rfl (by decide) (by show _ < 401; omega) (by omega) (fun h hR => ?_)
    refine g_aload_n (pc := 21) dX3_rawPut_21 rfl rfl ?_
    refine t_get (pc := 22) (v := .int (nI _)) 33 dX3_rawPut_22 hR rfl q1832 (Nat.le_of_ble_eq_true rfl) rfl rfl ?_
    rw [show (tAN τ 30 (min l.length 401) c).1 33 = min l.length 401 from hl.1]
    refine g_sipush (pc := 25) (v := nI 401) dX3_rawPut_25 rfl ?_
    refine g_icmp_geN (pc := 28) (tgt := 41) dX3_rawPut_28 rfl (by omega) (by omega) (fun q2 => ?_) (fun q2 => ?_)
    · exact absurd q2 (by omega)
    · refine g_aload_n (pc := 31) dX3_rawPut_31 rfl rfl ?_
      refine g_dup (pc := 32) dX3_rawPut_32 rfl ?_
      refine t_get (pc := 33) (v := .int (nI _)) 33 dX3_rawPut_33 hR rfl q1832 (Nat.le_of_ble_eq_true rfl) rfl rfl ?_
      rw [show (tAN τ 30 (min l.length 401) c).1 33 = min l.length 401 from hl.1]
      refine g_iconst (pc := 36) (v := nI 1) dX3_rawPut_36 rfl ?_
      first | refine g_iaddN (pc := 37) dX3_rawPut_37 ?_ | refine g_iadd (pc := 37) dX3_rawPut_37 ?_
      refine t_put (pc := 38) 33 dX3_rawPut_38 hR rfl q1832 (Nat.le_of_ble_eq_true rfl) rfl rfl (by decide) rfl rfl (fun h hR => ?_)
      refine t_vret (pc := 41) dX3_rawPut_41 hR rfl ⟨rfl, ⟨?_, fun i h1 h2 => ?_⟩, ⟨fun k z => upN_n z, rfl, rfl, fun k z => rAN_k (τ := τ) z⟩⟩
      · rw [rFN_s, List.length_append]
        simp only [List.length_cons, List.length_nil]
        omega
      · show up2 τ.2.2.1 30 (min l.length 401) c 30 i = _
        rw [List.length_append] at h1
        simp at h1
        rw [show min l.length 401 = l.length by omega]
        by_cases e : i = l.length
        · rw [e, up2_s, getD_app2]
        · rw [up2_i e, getD_app1 (by omega)]; exact hl.2 i (by omega) h2
theorem tc_rawNumber (d : Nat) (v : Int32) (l : List Nat) (hl : rawL τ l) : tC Z mX3_rawNumber (d + 1) o [.ref o, .int v] τ (fun r τ' => r = none ∧ rawL τ' (l ++ decI v) ∧ rK τ τ') := by
  refine tC.of rfl rfl (Nat.le_of_ble_eq_true rfl) rfl (fun X hin h hR => ?_)
  generalize ha : v.toInt.natAbs = a
  have ha2 : a ≤ 2147483648 := by
    have h1 : -2147483648 ≤ v.toInt := Int32.le_toInt v
    have h2 : v.toInt ≤ 2147483647 := Int32.toInt_le v
    omega
  -- the digits
  have digs : ∀ (m : Nat) (l' : List Nat) (τc : tT), m ≤ 9 → l' ++ dgs a m = l ++ decI v → rawL τc l' → rK τ τc → ∀ h, tH o τc hin h → hG Z X mX3_rawNumber (d + 1) tS hin (tK o hin (fun r τ' => r = none ∧ rawL τ' (l ++ decI v) ∧ rK τ τ')) 48 [(0, .ref o), (1, .int v), (2, .long (lN a)), (4, .long (lN (10 ^ m)))] [] h := by
    intro m
    induction m with
    | zero =>
      intro l' τc hm he c1 c2 h hR
      refine g_lload (pc := 48) dX3_rawNumber_48 rfl ?_
      refine g_lconst (pc := 50) (v := lN 0) dX3_rawNumber_50 rfl ?_
      refine g_lcmp (pc := 51) dX3_rawNumber_51 ?_
      refine g_if_le (pc := 52) (tgt := 83) dX3_rawNumber_52 rfl (fun z => absurd ((lgN_gt (by decide) (by decide)).mp z) (by decide)) (fun _ => ?_)
      refine g_aload_n (pc := 55) dX3_rawNumber_55 rfl rfl ?_
      refine g_ldc2 (pc := 56) dX3_rawNumber_56 q2198 ?_
      change hG _ _ _ _ _ _ _ _ _ (.long (lN 48) :: _) _
      refine g_lload_n (pc := 59) dX3_rawNumber_59 rfl rfl ?_
      refine g_lload (pc := 60) dX3_rawNumber_60 rfl ?_
      refine g_ldiv (pc := 62) dX3_rawNumber_62 (by decide) ?_
      rw [pk_lDiv (by omega) (by decide) (by decide)]
      refine g_ldc2 (pc := 63) dX3_rawNumber_63 q2197 ?_
      change hG _ _ _ _ _ _ _ _ _ (.long (lN 10) :: _) _
      refine g_lrem (pc := 66) dX3_rawNumber_66 (by decide) ?_
      rw [pk_lRem (by omega) (by decide) (by decide)]
      first | refine g_laddN (pc := 67) dX3_rawNumber_67 ?_ | refine g_ladd (pc := 67) dX3_rawNumber_67 ?_
      first | refine g_l2iN (pc := 68) dX3_rawNumber_68 ?_ | refine g_l2i (pc := 68) dX3_rawNumber_68 ?_
      rw [Nat.pow_zero, Nat.div_one]
      refine t_inv (pc := 69) dX3_rawNumber_69 hR (tc_rawPut _ (48 + a % 10) l' (by omega) c1) meX3_rawPut q2192 q2194 qs60 rfl rfl (Nat.le_of_ble_eq_true rfl) (fun r τ1 h hp hR => ?_)
      obtain ⟨rfl, c3, c4⟩ := hp
      refine g_lload (pc := 72) dX3_rawNumber_72 rfl ?_
      refine g_ldc2 (pc := 74) dX3_rawNumber_74 q2197 ?_
      change hG _ _ _ _ _ _ _ _ _ (.long (lN 10) :: _) _
      refine g_ldiv (pc := 77) dX3_rawNumber_77 (by decide) ?_
      refine g_lstore (pc := 78) (ls' := [(0, _), (1, _), (2, _), (4, _)]) dX3_rawNumber_78 (Nat.le_of_ble_eq_true rfl) rfl ?_
      refine g_goto (pc := 80) (tgt := 48) dX3_rawNumber_80 rfl ?_
      change hG _ _ _ _ _ _ _ _ [(0, .ref o), (1, .int v), (2, .long (lN a)), (4, .long (lN 0))] _ _
      refine g_lload (pc := 48) dX3_rawNumber_48 rfl ?_
      refine g_lconst (pc := 50) (v := lN 0) dX3_rawNumber_50 rfl ?_
      refine g_lcmp (pc := 51) dX3_rawNumber_51 ?_
      refine g_if_le (pc := 52) (tgt := 83) dX3_rawNumber_52 rfl (fun _ => ?_) (fun z => absurd ((lgN_gt (by decide) (by decide)).mpr (Nat.le_refl 0)) z)
      have he : l' ++ [48 + a % 10] = l ++ decI v := he
      rw [he] at c3
      exact t_vret (pc := 83) dX3_rawNumber_83 hR rfl (⟨rfl, c3, c2.trans c4⟩)
    | succ m ih =>
      intro l' τc hm he c1 c2 h hR
      have hp1 : 10 ^ (m + 1) ≤ 10 ^ 9 := Nat.pow_le_pow_right (by decide) hm
      have hp0 : 0 < 10 ^ (m + 1) := Nat.pow_pos (by decide)
      have hp9 : (10 : Nat) ^ 9 = 1000000000 := by decide
      refine g_lload (pc := 48) dX3_rawNumber_48 rfl ?_
      refine g_lconst (pc := 50) (v := lN 0) dX3_rawNumber_50 rfl ?_
      refine g_lcmp (pc := 51) dX3_rawNumber_51 ?_
      refine g_if_le (pc := 52) (tgt := 83) dX3_rawNumber_52 rfl (fun z => absurd ((lgN_gt (by omega) (by decide)).mp z) (by omega)) (fun _ => ?_)
      refine g_aload_n (pc := 55) dX3_rawNumber_55 rfl rfl ?_
      refine g_ldc2 (pc := 56) dX3_rawNumber_56 q2198 ?_
      change hG _ _ _ _ _ _ _ _ _ (.long (lN 48) :: _) _
      refine g_lload_n (pc := 59) dX3_rawNumber_59 rfl rfl ?_
      refine g_lload (pc := 60) dX3_rawNumber_60 rfl ?_
      refine g_ldiv (pc := 62) dX3_rawNumber_62 (fun z => absurd ((pk_lEQ (by omega) (by decide)).mp (show lN (10 ^ (m + 1)) = lN 0 from z)) (by omega)) ?_
      rw [pk_lDiv (by omega) hp0 (by omega)]
      refine g_ldc2 (pc := 63) dX3_rawNumber_63 q2197 ?_
      change hG _ _ _ _ _ _ _ _ _ (.long (lN 10) :: _) _
      refine g_lrem (pc := 66) dX3_rawNumber_66 (by decide) ?_
      rw [pk_lRem (Nat.lt_of_le_of_lt (Nat.div_le_self _ _) (by omega)) (by decide) (by decide)]
      first | refine g_laddN (pc := 67) dX3_rawNumber_67 ?_ | refine g_ladd (pc := 67) dX3_rawNumber_67 ?_
      first | refine g_l2iN (pc := 68) dX3_rawNumber_68 ?_ | refine g_l2i (pc := 68) dX3_rawNumber_68 ?_
      refine t_inv (pc := 69) dX3_rawNumber_69 hR (tc_rawPut _ (48 + a / 10 ^ (m + 1) % 10) l' (by omega) c1) meX3_rawPut q2192 q2194 qs60 rfl rfl (Nat.le_of_ble_eq_true rfl) (fun r τ1 h hp hR => ?_)
      obtain ⟨rfl, c3, c4⟩ := hp
      refine g_lload (pc := 72) dX3_rawNumber_72 rfl ?_
      refine g_ldc2 (pc := 74) dX3_rawNumber_74 q2197 ?_
      change hG _ _ _ _ _ _ _ _ _ (.long (lN 10) :: _) _
      refine g_ldiv (pc := 77) dX3_rawNumber_77 (by decide) ?_
      rw [pk_lDiv (by omega) (by decide) (by decide), show 10 ^ (m + 1) / 10 = 10 ^ m by rw [Nat.pow_succ]; exact Nat.mul_div_cancel _ (by decide)]
      refine g_lstore (pc := 78) (ls' := [(0, _), (1, _), (2, _), (4, _)]) dX3_rawNumber_78 (Nat.le_of_ble_eq_true rfl) rfl ?_
      refine g_goto (pc := 80) (tgt := 48) dX3_rawNumber_80 rfl ?_
      refine ih _ τ1 (by omega) ?_ c3 (c2.trans c4) h hR
      rw [List.append_assoc]; exact he
  -- the first digit's unit
  have unit : ∀ (j m : Nat) (l' : List Nat) (τc : tT), m + j = 10 → (m = 0 ∨ 10 ^ m ≤ a) → l' ++ decF 10 a = l ++ decI v → rawL τc l' → rK τ τc → ∀ h, tH o τc hin h → hG Z X mX3_rawNumber (d + 1) tS hin (tK o hin (fun r τ' => r = none ∧ rawL τ' (l ++ decI v) ∧ rK τ τ')) 26 [(0, .ref o), (1, .int v), (2, .long (lN a)), (4, .long (lN (10 ^ m)))] [] h := by
    intro j
    induction j with
    | zero =>
      intro m l' τc hj hm
      have e : m = 10 := by omega
      subst e
      rcases hm with z | z
      · cases z
      · have : (10 : Nat) ^ 10 = 10000000000 := by decide
        omega
    | succ j ih =>
      intro m l' τc hj hm he c1 c2 h hR
      have hp1 : 10 ^ m ≤ 10 ^ 9 := Nat.pow_le_pow_right (by decide) (by omega)
      have hp0 : 0 < 10 ^ m := Nat.pow_pos (by decide)
      have hp9 : (10 : Nat) ^ 9 = 1000000000 := by decide
      refine g_lload_n (pc := 26) dX3_rawNumber_26 rfl rfl ?_
      refine g_lload (pc := 27) dX3_rawNumber_27 rfl ?_
      refine g_ldiv (pc := 29) dX3_rawNumber_29 (fun z => absurd ((pk_lEQ (by omega) (by decide)).mp (show lN (10 ^ m) = lN 0 from z)) (by omega)) ?_
      rw [pk_lDiv (by omega) hp0 (by omega)]
      refine g_ldc2 (pc := 30) dX3_rawNumber_30 q2196 ?_
      change hG _ _ _ _ _ _ _ _ _ (.long (lN 9) :: _) _
      refine g_lcmp (pc := 33) dX3_rawNumber_33 ?_
      have hdl : a / 10 ^ m < 2 ^ 63 := Nat.lt_of_le_of_lt (Nat.div_le_self _ _) (by omega)
      refine g_if_le (pc := 34) (tgt := 48) dX3_rawNumber_34 rfl (fun z => ?_) (fun z => ?_)
      · have z := (lgN_gt hdl (by decide)).mp z
        have h2 : a < 10 ^ (m + 1) := by
          rw [Nat.pow_succ]
          exact (Nat.div_lt_iff_lt_mul hp0).mp (show a / 10 ^ m < 10 by omega) |> fun q => by rw [Nat.mul_comm]; exact q
        refine digs m l' τc (by omega) ?_ c1 c2 h hR
        rw [← he, ← decF_dgs m (9 - m) a hm h2, show m + 1 + (9 - m) = 10 by omega]
      · have z : 9 < a / 10 ^ m := Nat.lt_of_not_le (fun q => z ((lgN_gt hdl (by decide)).mpr q))
        refine g_lload (pc := 37) dX3_rawNumber_37 rfl ?_
        refine g_ldc2 (pc := 39) dX3_rawNumber_39 q2197 ?_
        change hG _ _ _ _ _ _ _ _ _ (.long (lN 10) :: _) _
        first | refine g_lmulN (pc := 42) dX3_rawNumber_42 ?_ | refine g_lmul (pc := 42) dX3_rawNumber_42 ?_
        refine g_lstore (pc := 43) (ls' := [(0, _), (1, _), (2, _), (4, _)]) dX3_rawNumber_43 (Nat.le_of_ble_eq_true rfl) rfl ?_
        refine g_goto (pc := 45) (tgt := 26) dX3_rawNumber_45 rfl ?_
        rw [← Nat.pow_succ]
        refine ih (m + 1) l' τc (by omega) (Or.inr ?_) he c1 c2 h hR
        rw [Nat.pow_succ, Nat.mul_comm]
        exact (Nat.le_div_iff_mul_le hp0).mp (by omega)
  have tail : ∀ (l' : List Nat) (τc : tT), l' ++ decF 10 a = l ++ decI v → rawL τc l' → rK τ τc → ∀ h, tH o τc hin h → hG Z X mX3_rawNumber (d + 1) tS hin (tK o hin (fun r τ' => r = none ∧ rawL τ' (l ++ decI v) ∧ rK τ τ')) 26 [(0, .ref o), (1, .int v), (2, .long (lN a)), (4, .long (lN 1))] [] h := fun l' τc he c1 c2 h hR => unit 10 0 l' τc rfl (Or.inl rfl) he c1 c2 h hR
  refine g_iload_n (pc := 0) dX3_rawNumber_0 rfl rfl ?_
  refine g_if_ge (pc := 1) (tgt := 10) dX3_rawNumber_1 rfl (fun q => ?_) (fun q => ?_)
  · obtain ⟨k, hk, e⟩ := nI_of (x := v) (fun z => absurd q (Int32.not_le.mpr z))
    have hv : v.toInt = k := by rw [e, nI_toInt hk]
    have hka : k = a := by omega
    refine g_iload_n (pc := 10) dX3_rawNumber_10 rfl rfl ?_
    refine g_i2l (pc := 11) dX3_rawNumber_11 ?_
    rw [show v.toInt64 = lN a by rw [e, nI_l hk, hka]]
    refine g_lstore_n (pc := 12) (ls' := [(0, _), (1, _), (2, _)]) dX3_rawNumber_12 rfl (Nat.le_of_ble_eq_true rfl) rfl ?_
    refine g_lconst (pc := 13) (v := lN 1) dX3_rawNumber_13 rfl ?_
    refine g_lstore (pc := 14) (ls' := [(0, _), (1, _), (2, _), (4, _)]) dX3_rawNumber_14 (Nat.le_of_ble_eq_true rfl) rfl ?_
    refine g_iload_n (pc := 16) dX3_rawNumber_16 rfl rfl ?_
    refine g_if_ge (pc := 17) (tgt := 26) dX3_rawNumber_17 rfl (fun _ => ?_) (fun z => absurd q z)
    refine tail l τ ?_ hl (rK.refl τ) h hR
    unfold decI
    rw [if_neg (by omega), ha]
  · have hv : v.toInt < 0 := by
      have := mt Int32.le_iff_toInt_le.mpr q
      simp at this
      exact this
    refine g_iload_n (pc := 4) dX3_rawNumber_4 rfl rfl ?_
    refine g_i2l (pc := 5) dX3_rawNumber_5 ?_
    refine g_lneg (pc := 6) dX3_rawNumber_6 ?_
    rw [lneg_abs hv, ha]
    refine g_goto (pc := 7) (tgt := 12) dX3_rawNumber_7 rfl ?_
    refine g_lstore_n (pc := 12) (ls' := [(0, _), (1, _), (2, _)]) dX3_rawNumber_12 rfl (Nat.le_of_ble_eq_true rfl) rfl ?_
    refine g_lconst (pc := 13) (v := lN 1) dX3_rawNumber_13 rfl ?_
    refine g_lstore (pc := 14) (ls' := [(0, _), (1, _), (2, _), (4, _)]) dX3_rawNumber_14 (Nat.le_of_ble_eq_true rfl) rfl ?_
    refine g_iload_n (pc := 16) dX3_rawNumber_16 rfl rfl ?_
    refine g_if_ge (pc := 17) (tgt := 26) dX3_rawNumber_17 rfl (fun z => absurd z q) (fun _ => ?_)
    refine g_aload_n (pc := 20) dX3_rawNumber_20 rfl rfl ?_
    refine g_bipush (pc := 21) (v := nI 45) dX3_rawNumber_21 rfl ?_
    refine t_inv (pc := 23) dX3_rawNumber_23 hR (tc_rawPut _ 45 l (by decide) hl) meX3_rawPut q2192 q2194 qs60 rfl rfl (Nat.le_of_ble_eq_true rfl) (fun r τ1 h hp hR => ?_)
    obtain ⟨rfl, c3, c4⟩ := hp
    refine tail (l ++ [45]) τ1 ?_ c3 c4 h hR
    unfold decI
    rw [if_pos hv, ha, List.append_assoc]
    rfl
theorem tc_rawMap (d : Nat) (l : List Nat) (hl : rawL τ l) : tC Z mX3_rawMap (d + 1) o [.ref o] τ (fun r τ' => r = none ∧ rawL τ' (l ++ [91, 109, 97, 112, 93]) ∧ rK τ τ') := by
  refine tC.of rfl rfl (Nat.le_of_ble_eq_true rfl) rfl (fun X hin h hR => ?_)
  refine g_aload_n (pc := 0) dX3_rawMap_0 rfl rfl ?_
  refine g_bipush (pc := 1) (v := nI 91) dX3_rawMap_1 rfl ?_
  refine t_inv (pc := 3) dX3_rawMap_3 hR (tc_rawPut _ 91 l (by decide) hl) meX3_rawPut q2192 q2194 qs60 rfl rfl (Nat.le_of_ble_eq_true rfl) (fun r τ1 h hp hR => ?_)
  obtain ⟨rfl, c1, c2⟩ := hp
  refine g_aload_n (pc := 6) dX3_rawMap_6 rfl rfl ?_
  refine g_bipush (pc := 7) (v := nI 109) dX3_rawMap_7 rfl ?_
  refine t_inv (pc := 9) dX3_rawMap_9 hR (tc_rawPut _ 109 _ (by decide) c1) meX3_rawPut q2192 q2194 qs60 rfl rfl (Nat.le_of_ble_eq_true rfl) (fun r τ2 h hp hR => ?_)
  obtain ⟨rfl, c3, c4⟩ := hp
  refine g_aload_n (pc := 12) dX3_rawMap_12 rfl rfl ?_
  refine g_bipush (pc := 13) (v := nI 97) dX3_rawMap_13 rfl ?_
  refine t_inv (pc := 15) dX3_rawMap_15 hR (tc_rawPut _ 97 _ (by decide) c3) meX3_rawPut q2192 q2194 qs60 rfl rfl (Nat.le_of_ble_eq_true rfl) (fun r τ3 h hp hR => ?_)
  obtain ⟨rfl, c5, c6⟩ := hp
  refine g_aload_n (pc := 18) dX3_rawMap_18 rfl rfl ?_
  refine g_bipush (pc := 19) (v := nI 112) dX3_rawMap_19 rfl ?_
  refine t_inv (pc := 21) dX3_rawMap_21 hR (tc_rawPut _ 112 _ (by decide) c5) meX3_rawPut q2192 q2194 qs60 rfl rfl (Nat.le_of_ble_eq_true rfl) (fun r τ4 h hp hR => ?_)
  obtain ⟨rfl, c7, c8⟩ := hp
  refine g_aload_n (pc := 24) dX3_rawMap_24 rfl rfl ?_
  refine g_bipush (pc := 25) (v := nI 93) dX3_rawMap_25 rfl ?_
  refine t_inv (pc := 27) dX3_rawMap_27 hR (tc_rawPut _ 93 _ (by decide) c7) meX3_rawPut q2192 q2194 qs60 rfl rfl (Nat.le_of_ble_eq_true rfl) (fun r τ5 h hp hR => ?_)
  obtain ⟨rfl, c9, c10⟩ := hp
  refine t_vret (pc := 30) dX3_rawMap_30 hR rfl ⟨rfl, ?_, (((c2.trans c4).trans c6).trans c8).trans c10⟩
  simpa using c9
end TW15
