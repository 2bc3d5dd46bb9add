/-! JDK 10: Integer.stringSize, getChars; append(int) -/
set_option maxRecDepth 100000
/-- minus m -/
def nM (m : Nat) : Int32 := Int32.ofInt (-(m : Int))
theorem nM_toInt {m : Nat} (h : m ≤ 2147483648) : (nM m).toInt = -(m : Int) := by
  unfold nM
  rw [Int32.toInt_ofInt]
  show Int.bmod _ 4294967296 = _
  rw [Int.bmod_def]
  split <;> omega
theorem i32_ext {x y : Int32} (h : x.toInt = y.toInt) : x = y := Int32.toInt_inj.mp h
theorem bm_id {x : Int} (h1 : -2147483648 ≤ x) (h2 : x < 2147483648) : x.bmod (2 ^ 32) = x := by
  rw [Int.bmod_def]
  split <;> omega
theorem nM_neg {m : Nat} (h : m < 2147483648) : -(nM m) = nI m := by
  apply i32_ext
  rw [Int32.toInt_neg, nM_toInt (by omega), nI_toInt h, Int.neg_neg]
  exact bm_id (by omega) (by omega)
theorem nI_negM {m : Nat} (h : m < 2147483648) : -(nI m) = nM m := by
  apply i32_ext
  rw [Int32.toInt_neg, nM_toInt (by omega), nI_toInt h]
  exact bm_id (by omega) (by omega)
theorem nM_div {m : Nat} (h : m ≤ 2147483648) : nM m / nI 100 = nM (m / 100) := by
  apply i32_ext
  rw [Int32.toInt_div, nM_toInt h, nM_toInt (by omega), nI_toInt (by decide), Int.neg_tdiv]
  have e : (m : Int).tdiv ((100 : Nat) : Int) = ((m / 100 : Nat) : Int) := rfl
  rw [e]
  exact bm_id (by omega) (by omega)
theorem nM_rem {m : Nat} (h : m ≤ 2147483648) : nM (m / 100) * nI 100 - nM m = nI (m % 100) := by
  apply i32_ext
  rw [Int32.toInt_sub, Int32.toInt_mul, nM_toInt h, nM_toInt (by omega), nI_toInt (by decide), nI_toInt (by omega)]
  have e : (-((m / 100 : Nat) : Int)) * ((100 : Nat) : Int) = -((m / 100 * 100 : Nat) : Int) := by omega
  rw [e, bm_id (x := -((m / 100 * 100 : Nat) : Int)) (by omega) (by omega), bm_id (by omega) (by omega)]
  omega
theorem nM_mul {p : Nat} (h : 10 * p ≤ 2147483648) : nI 10 * nM p = nM (10 * p) := by
  apply i32_ext
  rw [Int32.toInt_mul, nM_toInt h, nM_toInt (by omega), nI_toInt (by decide)]
  have e : ((10 : Nat) : Int) * (-(p : Int)) = -((10 * p : Nat) : Int) := by omega
  rw [e]
  exact bm_id (by omega) (by omega)
theorem nM_le {a b : Nat} (ha : a ≤ 2147483648) (hb : b ≤ 2147483648) : nM a ≤ nM b ↔ b ≤ a := by
  rw [Int32.le_iff_toInt_le, nM_toInt ha, nM_toInt hb]
  omega
theorem nM_lt {a b : Nat} (ha : a ≤ 2147483648) (hb : b ≤ 2147483648) : nM a < nM b ↔ b < a := by
  rw [Int32.lt_iff_toInt_lt, nM_toInt ha, nM_toInt hb]
  omega
theorem nM_abs {v : Int32} (h : v.toInt < 0) : v = nM v.toInt.natAbs := by
  have := Int32.le_toInt v
  apply i32_ext
  rw [nM_toInt (by omega)]
  omega
theorem nI_abs {v : Int32} (h : ¬ v.toInt < 0) : v = nI v.toInt.natAbs ∧ v.toInt.natAbs < 2147483648 := by
  have := Int32.toInt_lt v
  have h2 : v.toInt.natAbs < 2147483648 := by omega
  refine ⟨i32_ext ?_, h2⟩
  rw [nI_toInt h2]
  omega
/-- how many digits -/
def dgN (m : Nat) : Nat := (decF 10 m).length
theorem decF_L : ∀ (k i m : Nat), 1 ≤ i → i ≤ k → m < 10 ^ i → (i = 1 ∨ 10 ^ (i - 1) ≤ m) → (decF k m).length = i
  | 0, i, m, h1, h2, _, _ => by omega
  | k + 1, i, m, h1, h2, h3, h4 => by
    unfold decF
    by_cases q : m < 10
    · rw [if_pos q]
      rcases h4 with e | e
      · exact e.symm
      · by_cases z : i = 1
        · exact z.symm
        · have : 10 ^ 1 ≤ 10 ^ (i - 1) := Nat.pow_le_pow_right (by omega) (by omega)
          omega
    · have hi : 2 ≤ i := by
        by_cases z : i = 1
        · rw [z] at h3; omega
        · omega
      rw [if_neg q, List.length_append, decF_L k (i - 1) (m / 10) (by omega) (by omega) ?_ ?_]
      · show i - 1 + 1 = i; omega
      · have e : 10 ^ i = 10 ^ (i - 1) * 10 := by rw [← Nat.pow_succ]; congr 1; omega
        rw [e] at h3
        exact Nat.div_lt_of_lt_mul (by rw [Nat.mul_comm]; exact h3)
      · rcases h4 with e | e
        · omega
        · by_cases z : i - 1 = 1
          · exact Or.inl z
          · right
            have e2 : 10 ^ (i - 1) = 10 ^ (i - 1 - 1) * 10 := by rw [← Nat.pow_succ]; congr 1; omega
            rw [e2] at e
            exact (Nat.le_div_iff_mul_le (by omega)).mpr e
section JC
variable {Z : hE} {h : hP} {κ γ a cap : Nat} {l : List Nat}
theorem jc_stringSize (d : Nat) (v : Int32) : jP Z mJ16_stringSize d [.int v] h (some (.int (nI (decI v).length))) := by
  refine jC.of pnJ16 rfl (Nat.le_of_ble_eq_true rfl) rfl (fun X => ?_)
  have hm : v.toInt.natAbs ≤ 2147483648 := by
    have := Int32.le_toInt v
    have := Int32.toInt_lt v
    omega
  have loop : ∀ (s m : Nat), m ≤ 2147483648 → s ≤ 1 → (decI v).length = s + dgN m → ∀ (j i : Nat) (p : Int32), i + j = 10 → 1 ≤ i → (i ≤ 9 → p = nM (10 ^ i)) → (i = 1 ∨ 10 ^ (i - 1) ≤ m) → hG Z X mJ16_stringSize d (fun _ => False) h (jK (fun v' h' => v' = some (.int (nI (decI v).length)) ∧ h' = h)) 16 [(0, .int (nM m)), (1, .int (nI s)), (2, .int p), (3, .int (nI i))] [] h := by
    intro s m hm hs hlen j
    induction j with
    | zero =>
      intro i p hi h1 hp h4
      have hi : i = 10 := by omega
      subst hi
      refine g_iload_n (pc := 16) dJ16_stringSize_16 rfl rfl ?_
      refine g_bipush (pc := 17) (v := nI 10) dJ16_stringSize_17 rfl ?_
      refine g_icmp_geN (pc := 19) (tgt := 42) dJ16_stringSize_19 rfl (by omega) (by omega) (fun _ => ?_) (fun q_ => absurd q_ (by omega))
      refine g_bipush (pc := 42) (v := nI 10) dJ16_stringSize_42 rfl ?_
      refine g_iload_n (pc := 44) dJ16_stringSize_44 rfl rfl ?_
      first | refine g_iaddN (pc := 45) dJ16_stringSize_45 ?_ | refine g_iadd (pc := 45) dJ16_stringSize_45 ?_
      rw [hlen, show dgN m = 10 from decF_L 10 10 m (by omega) (by omega) (by omega) h4, Nat.add_comm]
      exact g_iret (pc := 46) dJ16_stringSize_46 rfl ⟨_, rfl, rfl, rfl⟩
    | succ j ih =>
      intro i p hi h1 hp h4
      have hp := hp (by omega)
      subst hp
      have hpw : 10 ^ i ≤ 1000000000 := Nat.le_trans (Nat.pow_le_pow_right (by omega) (show i ≤ 9 by omega)) (by decide)
      refine g_iload_n (pc := 16) dJ16_stringSize_16 rfl rfl ?_
      refine g_bipush (pc := 17) (v := nI 10) dJ16_stringSize_17 rfl ?_
      refine g_icmp_geN (pc := 19) (tgt := 42) dJ16_stringSize_19 rfl (by omega) (by omega) (fun q_ => absurd q_ (by omega)) (fun _ => ?_)
      refine g_iload_n (pc := 22) dJ16_stringSize_22 rfl rfl ?_
      refine g_iload_n (pc := 23) dJ16_stringSize_23 rfl rfl ?_
      refine g_icmp_le (pc := 24) (tgt := 31) dJ16_stringSize_24 rfl (fun q => ?_) (fun q => ?_)
      · rw [nM_le hm (by omega)] at q
        refine g_bipush (pc := 31) (v := nI 10) dJ16_stringSize_31 rfl ?_
        refine g_iload_n (pc := 33) dJ16_stringSize_33 rfl rfl ?_
        refine g_imul (pc := 34) dJ16_stringSize_34 ?_
        refine g_istore_n (pc := 35) (ls' := [(0, _), (1, _), (2, _), (3, _)]) dJ16_stringSize_35 rfl (Nat.le_of_ble_eq_true rfl) rfl ?_
        refine g_iincN (pc := 36) (k0 := 1) (ls' := [(0, _), (1, _), (2, _), (3, _)]) dJ16_stringSize_36 rfl (Nat.le_of_ble_eq_true rfl) rfl ?_
        refine g_goto (pc := 39) (tgt := 16) dJ16_stringSize_39 rfl ?_
        refine ih (i + 1) _ (by omega) (by omega) (fun h9 => ?_) (Or.inr q)
        have e : 10 ^ (i + 1) = 10 * 10 ^ i := by rw [Nat.pow_succ, Nat.mul_comm]
        rw [e]
        refine nM_mul ?_
        have : 10 ^ i ≤ 10 ^ 8 := Nat.pow_le_pow_right (by omega) (by omega)
        omega
      · rw [nM_le hm (by omega)] at q
        refine g_iload_n (pc := 27) dJ16_stringSize_27 rfl rfl ?_
        refine g_iload_n (pc := 28) dJ16_stringSize_28 rfl rfl ?_
        first | refine g_iaddN (pc := 29) dJ16_stringSize_29 ?_ | refine g_iadd (pc := 29) dJ16_stringSize_29 ?_
        rw [hlen, show dgN m = i from decF_L 10 i m h1 (by omega) (by omega) h4, Nat.add_comm]
        exact g_iret (pc := 30) dJ16_stringSize_30 rfl ⟨_, rfl, rfl, rfl⟩
  refine g_iconst (pc := 0) (v := nI 1) dJ16_stringSize_0 rfl ?_
  refine g_istore_n (pc := 1) (ls' := [(0, _), (1, _)]) dJ16_stringSize_1 rfl (Nat.le_of_ble_eq_true rfl) rfl ?_
  refine g_iload_n (pc := 2) dJ16_stringSize_2 rfl rfl ?_
  refine g_if_lt (pc := 3) (tgt := 11) dJ16_stringSize_3 rfl (fun q => ?_) (fun q => ?_)
  · have q : v.toInt < 0 := by simpa [Int32.lt_iff_toInt_lt] using q
    have hv := nM_abs q
    refine g_bipush (pc := 11) (v := nM 10) dJ16_stringSize_11 (by decide) ?_
    refine g_istore_n (pc := 13) (ls' := [(0, _), (1, _), (2, _)]) dJ16_stringSize_13 rfl (Nat.le_of_ble_eq_true rfl) rfl ?_
    refine g_iconst (pc := 14) (v := nI 1) dJ16_stringSize_14 rfl ?_
    refine g_istore_n (pc := 15) (ls' := [(0, _), (1, _), (2, _), (3, _)]) dJ16_stringSize_15 rfl (Nat.le_of_ble_eq_true rfl) rfl ?_
    have hl : (decI v).length = 1 + dgN v.toInt.natAbs := by
      unfold decI dgN
      rw [if_pos q, List.length_cons, Nat.add_comm]
    have := loop 1 v.toInt.natAbs hm (by omega) hl 9 1 (nM 10) (by omega) (by omega) (fun _ => rfl) (Or.inl rfl)
    rw [← hv] at this
    exact this
  · have q : ¬ v.toInt < 0 := by simpa [Int32.lt_iff_toInt_lt] using q
    obtain ⟨hv, hv2⟩ := nI_abs q
    have hl : (decI v).length = 0 + dgN v.toInt.natAbs := by
      unfold decI dgN
      rw [if_neg q, Nat.zero_add]
    refine g_iconst (pc := 6) (v := nI 0) dJ16_stringSize_6 rfl ?_
    refine g_istore_n (pc := 7) (ls' := [(0, _), (1, _)]) dJ16_stringSize_7 rfl (Nat.le_of_ble_eq_true rfl) rfl ?_
    refine g_iload_n (pc := 8) dJ16_stringSize_8 rfl rfl ?_
    refine g_ineg (pc := 9) dJ16_stringSize_9 ?_
    refine g_istore_n (pc := 10) (ls' := [(0, _), (1, _)]) dJ16_stringSize_10 rfl (Nat.le_of_ble_eq_true rfl) rfl ?_
    refine g_bipush (pc := 11) (v := nM 10) dJ16_stringSize_11 (by decide) ?_
    refine g_istore_n (pc := 13) (ls' := [(0, _), (1, _), (2, _)]) dJ16_stringSize_13 rfl (Nat.le_of_ble_eq_true rfl) rfl ?_
    refine g_iconst (pc := 14) (v := nI 1) dJ16_stringSize_14 rfl ?_
    refine g_istore_n (pc := 15) (ls' := [(0, _), (1, _), (2, _), (3, _)]) dJ16_stringSize_15 rfl (Nat.le_of_ble_eq_true rfl) rfl ?_
    have := loop 0 v.toInt.natAbs hm (by omega) hl 9 1 (nM 10) (by omega) (by omega) (fun _ => rfl) (Or.inl rfl)
    rw [← nI_negM hv2, ← hv] at this
    exact this
theorem hSet_id {h : hP} {a : Nat} {c : hC} (e : h.2.2 a = some c) : hSet h a c = h := by
  show (h.1, h.2.1, fun q => if q = a then some c else h.2.2 q) = h
  have : (fun q => if q = a then some c else h.2.2 q) = h.2.2 := by
    funext q
    by_cases z : q = a
    · rw [if_pos z, z]; exact e.symm
    · rw [if_neg z]
  rw [this]
theorem decF_100 {K m : Nat} (h : 100 ≤ m) (hk : 2 ≤ K) : decF K m = decF (K - 2) (m / 100) ++ [48 + m % 100 / 10, 48 + m % 100 % 10] := by
  obtain ⟨j, rfl⟩ : ∃ j, K = j + 2 := ⟨K - 2, by omega⟩
  show decF (j + 1 + 1) m = decF j (m / 100) ++ _
  rw [decF, if_neg (by omega), decF, if_neg (by omega), Nat.div_div_eq_div_mul, List.append_assoc, show m / 10 % 10 = m % 100 / 10 by omega, show m % 10 = m % 100 % 10 by omega]
  rfl
theorem decF_10 {K m : Nat} (h : 10 ≤ m) (h2 : m < 100) (hk : 2 ≤ K) : decF K m = [48 + m / 10, 48 + m % 10] := by
  obtain ⟨j, rfl⟩ : ∃ j, K = j + 2 := ⟨K - 2, by omega⟩
  show decF (j + 1 + 1) m = _
  rw [decF, if_neg (by omega), decF, if_pos (by omega)]
  rfl
theorem decF_1 {K m : Nat} (h2 : m < 10) (hk : 1 ≤ K) : decF K m = [48 + m] := by
  obtain ⟨j, rfl⟩ : ∃ j, K = j + 1 := ⟨K - 1, by omega⟩
  rw [decF, if_pos h2]
/-- the digits of m are still to be written, before the place q, where r stands -/
def gcI (f g : Nat → Value) (D : List Nat) (p0 K m q : Nat) : Prop := ∃ r, D = decF K m ++ r ∧ m < 10 ^ K ∧ m ≤ 2147483648 ∧ q = p0 + (decF K m).length ∧ (∀ k, k < r.length → g (q + k) = .int (nI (r.getD k 0))) ∧ ∀ k, k < q → g k = f k
theorem upV2 {g : Nat → Value} {i j k : Nat} {x y : Value} (h1 : k ≠ i) (h2 : k ≠ j) : upV (upV g i x) j y k = g k := by rw [upV_n h2, upV_n h1]
theorem jc_getChars (d κ b n e : Nat) (v : Int32) (f : Nat → Value) (hb : h.2.2 b = some (κ, .inr (n, f))) (hty : hTy (κ % 100) = some .byte) (hk : κ < 900) (he : e ≤ n) (hn : n ≤ 1000000) (hl : (decI v).length ≤ e) : jC Z mJ16_getChars d (fun k => k = κ) [.int v, .int (nI e), .ref b] h (fun r h' => (∃ z, r = some (.int z)) ∧ ∃ g, h' = hSet h b (κ, .inr (n, g)) ∧ (∀ k, k < (decI v).length → g (e - (decI v).length + k) = .int (nI ((decI v).getD k 0))) ∧ ∀ k, k < e - (decI v).length → g k = f k) := by
  refine jC.of pnJ16 rfl (Nat.le_of_ble_eq_true rfl) rfl (fun X => ?_)
  generalize hK : jK (fun r h' => (∃ z, r = some (.int z)) ∧ ∃ g, h' = hSet h b (κ, .inr (n, g)) ∧ (∀ k, k < (decI v).length → g (e - (decI v).length + k) = .int (nI ((decI v).getD k 0))) ∧ ∀ k, k < e - (decI v).length → g k = f k) = Kq
  have fin : ∀ (s : Bool) (p0 : Nat) (D : List Nat) (x : Int32) (g : Nat → Value), decI v = (if s then 45 :: D else D) → p0 + D.length = e → (s = true → 1 ≤ p0) → (∀ k, k < D.length → g (p0 + k) = .int (nI (D.getD k 0))) → (∀ k, k < p0 → g k = f k) → hG Z X mJ16_getChars d (fun k => k = κ) h Kq 104 [(0, .int x), (1, .int (nI e)), (2, .ref b), (5, .int (nI p0)), (6, .int (nI s.toNat))] [] (hSet h b (κ, .inr (n, g))) := by
    intro s p0 D x g hD hp hs h1 h2
    subst hK
    refine g_iload (pc := 104) dJ16_getChars_104 rfl ?_
    cases s with
    | false =>
      refine g_if_eq (pc := 106) (tgt := 118) dJ16_getChars_106 rfl (fun _ => ?_) (fun q_ => absurd q_ (by decide))
      refine g_iload (pc := 118) dJ16_getChars_118 rfl ?_
      refine g_iret (pc := 120) dJ16_getChars_120 rfl ?_
      have hD : decI v = D := hD
      refine ⟨_, rfl, ⟨_, rfl⟩, g, rfl, fun k hk => ?_, fun k hk => h2 k (by rw [hD] at hk; omega)⟩
      rw [hD] at hk ⊢
      rw [show e - D.length = p0 by omega]
      exact h1 k hk
    | true =>
      have hs := hs rfl
      obtain ⟨j, rfl⟩ : ∃ j, p0 = j + 1 := ⟨p0 - 1, by omega⟩
      refine g_if_eq (pc := 106) (tgt := 118) dJ16_getChars_106 rfl (fun q_ => absurd q_ (by decide)) (fun _ => ?_)
      refine g_aload_n (pc := 109) dJ16_getChars_109 rfl rfl ?_
      refine g_iincM (pc := 110) (ls' := [(0, _), (1, _), (2, _), (5, _), (6, _)]) dJ16_getChars_110 rfl (Nat.le_of_ble_eq_true rfl) rfl ?_
      refine g_iload (pc := 113) dJ16_getChars_113 rfl ?_
      refine g_bipush (pc := 115) (v := nI 45) dJ16_getChars_115 rfl ?_
      refine g_bast (pc := 117) j dJ16_getChars_117 (hSet_s _ _ _) hty (by omega) rfl hk rfl ?_
      rw [hSet_Set, byN (by omega)]
      refine g_iload (pc := 118) dJ16_getChars_118 rfl ?_
      refine g_iret (pc := 120) dJ16_getChars_120 rfl ?_
      have hD : decI v = 45 :: D := hD
      have hL : (decI v).length = D.length + 1 := by rw [hD]; rfl
      refine ⟨_, rfl, ⟨_, rfl⟩, _, rfl, fun k hk => ?_, fun k hk => ?_⟩
      · rw [hL] at hk ⊢
        rw [show e - (D.length + 1) = j by omega, hD]
        cases k with
        | zero => exact upV_s _ _ _
        | succ k =>
          rw [upV_n (by omega), show j + (k + 1) = j + 1 + k by omega]
          exact h1 k (by omega)
      · rw [hL] at hk
        rw [upV_n (by omega)]
        exact h2 k (by omega)
  have loop : ∀ (s : Bool) (p0 : Nat) (D : List Nat), decI v = (if s then 45 :: D else D) → p0 + D.length = e → (s = true → 1 ≤ p0) → ∀ (t K m q : Nat) (g : Nat → Value), m ≤ t → 1 ≤ K → gcI f g D p0 K m q → hG Z X mJ16_getChars d (fun k => k = κ) h Kq 22 [(0, .int (nM m)), (1, .int (nI e)), (2, .ref b), (5, .int (nI q)), (6, .int (nI s.toNat))] [] (hSet h b (κ, .inr (n, g))) := by
    intro s p0 D hD hp hs t
    induction t using Nat.strongRecOn with
    | ind t ih =>
      intro K m q g ht hK1 hI
      obtain ⟨r, h1, h2, h3, h4, h5, h6⟩ := hI
      have hqe : q + r.length = e := by rw [h1, List.length_append] at hp; omega
      refine g_iload_n (pc := 22) dJ16_getChars_22 rfl rfl ?_
      refine g_bipush (pc := 23) (v := nM 100) dJ16_getChars_23 (by decide) ?_
      refine g_olds (fun hZ ho => ?_)
      obtain ⟨b1, g1, e1, e2, e3⟩ := st_ones.2 Z hZ
      obtain ⟨b2, g2, e4, e5, e6⟩ := st_tens.2 Z hZ
      have o1 := ho b1 _ e2
      have o2 := ho b2 _ e5
      have n1 : b1 ≠ b := fun z => by
        rw [z, hSet_s] at o1
        have := congrArg Prod.fst (Option.some.inj o1)
        have : κ = 960 := this
        omega
      have n2 : b2 ≠ b := fun z => by
        rw [z, hSet_s] at o2
        have := congrArg Prod.fst (Option.some.inj o2)
        have : κ = 960 := this
        omega
      have w1 : ∀ g', (hSet h b (κ, .inr (n, g'))).2.2 b1 = some (960, .inr (100, g1)) := fun g' => by rw [hSet_n n1] at o1 ⊢; exact o1
      have w2 : ∀ g', (hSet h b (κ, .inr (n, g'))).2.2 b2 = some (960, .inr (100, g2)) := fun g' => by rw [hSet_n n2] at o2 ⊢; exact o2
      refine g_icmp_gt (pc := 25) (tgt := 72) dJ16_getChars_25 rfl (fun z => ?_) (fun z => ?_)
      · rw [nM_lt (by omega) h3] at z
        by_cases y : m < 10
        · rw [decF_1 y hK1] at h1 h4
          have h4 : q = p0 + 1 := h4
          subst h4
          refine g_aload_n (pc := 72) dJ16_getChars_72 rfl rfl ?_
          refine g_iincM (pc := 73) (ls' := [(0, _), (1, _), (2, _), (5, _), (6, _)]) dJ16_getChars_73 rfl (Nat.le_of_ble_eq_true rfl) rfl ?_
          refine g_iload (pc := 76) dJ16_getChars_76 rfl ?_
          refine g_gets (pc := 78) dJ16_getChars_78 st_ones.1 q356 (Or.inl rfl) ?_
          rw [e1]
          refine g_iload_n (pc := 81) dJ16_getChars_81 rfl rfl ?_
          refine g_ineg (pc := 82) dJ16_getChars_82 ?_
          rw [nM_neg (by omega)]
          refine g_bald (pc := 83) m dJ16_getChars_83 (w1 g) rfl (by omega) rfl ?_
          rw [e3 m (by omega)]
          refine g_bast (pc := 84) p0 dJ16_getChars_84 (hSet_s _ _ _) hty (by omega) rfl hk rfl ?_
          rw [hSet_Set, byN (by omega), Nat.mod_eq_of_lt y]
          refine g_iload_n (pc := 85) dJ16_getChars_85 rfl rfl ?_
          refine g_bipush (pc := 86) (v := nM 9) dJ16_getChars_86 (by decide) ?_
          refine g_icmp_ge (pc := 88) (tgt := 104) dJ16_getChars_88 rfl (fun _ => ?_) (fun u => absurd ((nM_le (by omega) (by omega)).mpr (by omega)) u)
          refine fin s p0 D _ _ hD hp hs (fun k hk' => ?_) (fun k hk' => ?_)
          · rw [h1]
            cases k with
            | zero => exact upV_s _ _ _
            | succ k =>
              rw [upV_n (by omega)]
              rw [h1] at hk'
              have := h5 k (by simpa using hk')
              rw [show p0 + 1 + k = p0 + (k + 1) by omega] at this
              exact this
          · rw [upV_n (by omega)]
            exact h6 k (by omega)
        · have hK2 : 2 ≤ K := by
            by_cases u : K = 1
            · rw [u] at h2; omega
            · omega
          rw [decF_10 (by omega) (by omega) hK2] at h1 h4
          have h4 : q = p0 + 2 := h4
          subst h4
          refine g_aload_n (pc := 72) dJ16_getChars_72 rfl rfl ?_
          refine g_iincM (pc := 73) (ls' := [(0, _), (1, _), (2, _), (5, _), (6, _)]) dJ16_getChars_73 rfl (Nat.le_of_ble_eq_true rfl) rfl ?_
          refine g_iload (pc := 76) dJ16_getChars_76 rfl ?_
          refine g_gets (pc := 78) dJ16_getChars_78 st_ones.1 q356 (Or.inl rfl) ?_
          rw [e1]
          refine g_iload_n (pc := 81) dJ16_getChars_81 rfl rfl ?_
          refine g_ineg (pc := 82) dJ16_getChars_82 ?_
          rw [nM_neg (by omega)]
          refine g_bald (pc := 83) m dJ16_getChars_83 (w1 g) rfl (by omega) rfl ?_
          rw [e3 m (by omega)]
          refine g_bast (pc := 84) (p0 + 1) dJ16_getChars_84 (hSet_s _ _ _) hty (by omega) rfl hk rfl ?_
          rw [hSet_Set, byN (by omega)]
          refine g_iload_n (pc := 85) dJ16_getChars_85 rfl rfl ?_
          refine g_bipush (pc := 86) (v := nM 9) dJ16_getChars_86 (by decide) ?_
          refine g_icmp_ge (pc := 88) (tgt := 104) dJ16_getChars_88 rfl (fun u => absurd ((nM_le (by omega) (by omega)).mp u) (by omega)) (fun _ => ?_)
          refine g_aload_n (pc := 91) dJ16_getChars_91 rfl rfl ?_
          refine g_iincM (pc := 92) (ls' := [(0, _), (1, _), (2, _), (5, _), (6, _)]) dJ16_getChars_92 rfl (Nat.le_of_ble_eq_true rfl) rfl ?_
          refine g_iload (pc := 95) dJ16_getChars_95 rfl ?_
          refine g_gets (pc := 97) dJ16_getChars_97 st_tens.1 q358 (Or.inl rfl) ?_
          rw [e4]
          refine g_iload_n (pc := 100) dJ16_getChars_100 rfl rfl ?_
          refine g_ineg (pc := 101) dJ16_getChars_101 ?_
          rw [nM_neg (by omega)]
          refine g_bald (pc := 102) m dJ16_getChars_102 (w2 _) rfl (by omega) rfl ?_
          rw [e6 m (by omega)]
          refine g_bast (pc := 103) p0 dJ16_getChars_103 (hSet_s _ _ _) hty (by omega) rfl hk rfl ?_
          rw [hSet_Set, byN (by omega)]
          refine fin s p0 D _ _ hD hp hs (fun k hk' => ?_) (fun k hk' => ?_)
          · rw [h1]
            match k, hk' with
            | 0, _ => exact upV_s _ _ _
            | 1, _ => rw [upV_n (by omega)]; exact upV_s _ _ _
            | k + 2, hk' =>
              rw [upV2 (by omega) (by omega)]
              rw [h1] at hk'
              have := h5 k (by simpa using hk')
              rw [show p0 + 2 + k = p0 + (k + 2) by omega] at this
              exact this
          · rw [upV2 (by omega) (by omega)]
            exact h6 k (by omega)
      · rw [nM_lt (by omega) h3] at z
        have hK2 : 3 ≤ K := by
          by_cases u : K ≤ 2
          · have : 10 ^ K ≤ 10 ^ 2 := Nat.pow_le_pow_right (by omega) u
            omega
          · omega
        rw [decF_100 (by omega) (by omega)] at h1 h4
        rw [List.length_append] at h4
        have h4 : q = p0 + (decF (K - 2) (m / 100)).length + 2 := h4
        have hq2 : ∃ q', q = q' + 2 := ⟨q - 2, by omega⟩
        obtain ⟨q', rfl⟩ := hq2
        refine g_iload_n (pc := 28) dJ16_getChars_28 rfl rfl ?_
        refine g_bipush (pc := 29) (v := nI 100) dJ16_getChars_29 rfl ?_
        refine g_idiv (pc := 31) dJ16_getChars_31 (by decide) ?_
        rw [nM_div h3]
        refine g_istore_n (pc := 32) (ls' := [(0, _), (1, _), (2, _), (3, _), (5, _), (6, _)]) dJ16_getChars_32 rfl (Nat.le_of_ble_eq_true rfl) rfl ?_
        refine g_iload_n (pc := 33) dJ16_getChars_33 rfl rfl ?_
        refine g_bipush (pc := 34) (v := nI 100) dJ16_getChars_34 rfl ?_
        refine g_imul (pc := 36) dJ16_getChars_36 ?_
        refine g_iload_n (pc := 37) dJ16_getChars_37 rfl rfl ?_
        refine g_isub (pc := 38) dJ16_getChars_38 ?_
        rw [nM_rem h3]
        refine g_istore (pc := 39) (ls' := [(0, _), (1, _), (2, _), (3, _), (4, _), (5, _), (6, _)]) dJ16_getChars_39 (Nat.le_of_ble_eq_true rfl) rfl ?_
        refine g_iload_n (pc := 41) dJ16_getChars_41 rfl rfl ?_
        refine g_istore_n (pc := 42) (ls' := [(0, _), (1, _), (2, _), (3, _), (4, _), (5, _), (6, _)]) dJ16_getChars_42 rfl (Nat.le_of_ble_eq_true rfl) rfl ?_
        refine g_aload_n (pc := 43) dJ16_getChars_43 rfl rfl ?_
        refine g_iincM (pc := 44) (ls' := [(0, _), (1, _), (2, _), (3, _), (4, _), (5, _), (6, _)]) dJ16_getChars_44 rfl (Nat.le_of_ble_eq_true rfl) rfl ?_
        refine g_iload (pc := 47) dJ16_getChars_47 rfl ?_
        refine g_gets (pc := 49) dJ16_getChars_49 st_ones.1 q356 (Or.inl rfl) ?_
        rw [e1]
        refine g_iload (pc := 52) dJ16_getChars_52 rfl ?_
        refine g_bald (pc := 54) (m % 100) dJ16_getChars_54 (w1 _) rfl (by omega) rfl ?_
        rw [e3 (m % 100) (by omega)]
        refine g_bast (pc := 55) (q' + 1) dJ16_getChars_55 (hSet_s _ _ _) hty (by omega) rfl hk rfl ?_
        rw [hSet_Set, byN (by omega)]
        refine g_aload_n (pc := 56) dJ16_getChars_56 rfl rfl ?_
        refine g_iincM (pc := 57) (ls' := [(0, _), (1, _), (2, _), (3, _), (4, _), (5, _), (6, _)]) dJ16_getChars_57 rfl (Nat.le_of_ble_eq_true rfl) rfl ?_
        refine g_iload (pc := 60) dJ16_getChars_60 rfl ?_
        refine g_gets (pc := 62) dJ16_getChars_62 st_tens.1 q358 (Or.inl rfl) ?_
        rw [e4]
        refine g_iload (pc := 65) dJ16_getChars_65 rfl ?_
        refine g_bald (pc := 67) (m % 100) dJ16_getChars_67 (w2 _) rfl (by omega) rfl ?_
        rw [e6 (m % 100) (by omega)]
        refine g_bast (pc := 68) q' dJ16_getChars_68 (hSet_s _ _ _) hty (by omega) rfl hk rfl ?_
        rw [hSet_Set, byN (by omega)]
        refine g_goto (pc := 69) (tgt := 22) dJ16_getChars_69 rfl ?_
        refine g_drop [0, 1, 2, 5, 6] rfl ?_
        refine ih (m / 100) (by omega) (K - 2) (m / 100) q' _ (Nat.le_refl _) (by omega) ⟨[48 + m % 100 / 10, 48 + m % 100 % 10] ++ r, by rw [← List.append_assoc]; exact h1, ?_, by omega, by omega, fun k hk' => ?_, fun k hk' => ?_⟩
        · have e : 10 ^ K = 100 * 10 ^ (K - 2) := by rw [show (100 : Nat) = 10 ^ 2 from rfl, ← Nat.pow_add]; congr 1; omega
          rw [e] at h2
          exact Nat.div_lt_of_lt_mul h2
        · match k, hk' with
          | 0, _ => exact upV_s _ _ _
          | 1, _ => rw [upV_n (by omega)]; exact upV_s _ _ _
          | k + 2, hk' =>
            rw [upV2 (by omega) (by omega)]
            have := h5 k (by simpa using hk')
            rw [show q' + 2 + k = q' + (k + 2) by omega] at this
            exact this
        · rw [upV2 (by omega) (by omega)]
          exact h6 k (by omega)
  have hm : v.toInt.natAbs ≤ 2147483648 := by
    have := Int32.le_toInt v
    have := Int32.toInt_lt v
    omega
  have h10 : v.toInt.natAbs < 10 ^ 10 := by omega
  have hid := hSet_id hb
  refine g_iload_n (pc := 0) dJ16_getChars_0 rfl rfl ?_
  refine g_istore (pc := 1) (ls' := [(0, _), (1, _), (2, _), (5, _)]) dJ16_getChars_1 (Nat.le_of_ble_eq_true rfl) rfl ?_
  refine g_iload_n (pc := 3) dJ16_getChars_3 rfl rfl ?_
  refine g_if_ge (pc := 4) (tgt := 11) dJ16_getChars_4 rfl (fun q => ?_) (fun q => ?_)
  · have q : ¬ v.toInt < 0 := by simpa [Int32.le_iff_toInt_le] using q
    obtain ⟨hv, hv2⟩ := nI_abs q
    have hD : decI v = decF 10 v.toInt.natAbs := if_neg q
    refine g_iconst (pc := 11) (v := nI 0) dJ16_getChars_11 rfl ?_
    refine g_istore (pc := 12) (ls' := [(0, _), (1, _), (2, _), (5, _), (6, _)]) dJ16_getChars_12 (Nat.le_of_ble_eq_true rfl) rfl ?_
    refine g_iload (pc := 14) dJ16_getChars_14 rfl ?_
    refine g_if_neN (pc := 16) (tgt := 22) dJ16_getChars_16 rfl (by omega) (fun q_ => absurd q_ (by omega)) (fun _ => ?_)
    refine g_iload_n (pc := 19) dJ16_getChars_19 rfl rfl ?_
    refine g_ineg (pc := 20) dJ16_getChars_20 ?_
    refine g_istore_n (pc := 21) (ls' := [(0, _), (1, _), (2, _), (5, _), (6, _)]) dJ16_getChars_21 rfl (Nat.le_of_ble_eq_true rfl) rfl ?_
    have := loop false (e - (decF 10 v.toInt.natAbs).length) (decF 10 v.toInt.natAbs) hD (by rw [hD] at hl; omega) (fun z => by cases z) _ 10 v.toInt.natAbs e f (Nat.le_refl _) (by omega) ⟨[], by simp, h10, hm, by rw [hD] at hl; omega, fun k hk => absurd hk (Nat.not_lt_zero _), fun _ _ => rfl⟩
    rw [hid, ← nI_negM hv2, ← hv] at this
    exact this
  · have q : v.toInt < 0 := by simpa [Int32.le_iff_toInt_le] using q
    have hv := nM_abs q
    have hD : decI v = 45 :: decF 10 v.toInt.natAbs := if_pos q
    refine g_iconst (pc := 7) (v := nI 1) dJ16_getChars_7 rfl ?_
    refine g_goto (pc := 8) (tgt := 12) dJ16_getChars_8 rfl ?_
    refine g_istore (pc := 12) (ls' := [(0, _), (1, _), (2, _), (5, _), (6, _)]) dJ16_getChars_12 (Nat.le_of_ble_eq_true rfl) rfl ?_
    refine g_iload (pc := 14) dJ16_getChars_14 rfl ?_
    refine g_if_neN (pc := 16) (tgt := 22) dJ16_getChars_16 rfl (by omega) (fun _ => ?_) (fun q_ => absurd q_ (by omega))
    have hL : (decI v).length = (decF 10 v.toInt.natAbs).length + 1 := by rw [hD]; rfl
    have := loop true (e - (decF 10 v.toInt.natAbs).length) (decF 10 v.toInt.natAbs) hD (by omega) (fun _ => by omega) _ 10 v.toInt.natAbs e f (Nat.le_refl _) (by omega) ⟨[], by simp, h10, hm, by omega, fun k hk => absurd hk (Nat.not_lt_zero _), fun _ _ => rfl⟩
    rw [hid, ← hv] at this
    exact this
end JC
