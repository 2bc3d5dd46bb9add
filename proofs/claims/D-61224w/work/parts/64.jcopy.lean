/-! JDK 4: copies of byte arrays, substring -/
set_option maxRecDepth 100000
theorem jC.shr {Z : hE} {M : hM} {d : Nat} {S : Nat → Prop} {av : List Value} {h : hP} {P : Option Value → hP → Prop} (c : jC Z M d (fun _ => True) av h (fun v h' => P v h' ∧ hFr S h h')) : jC Z M d S av h P := by
  refine hCt.shr (S' := fun _ => True) (hCt.mono c (fun r h' hk => ?_))
  obtain ⟨v, e, p, q⟩ := hk
  exact ⟨⟨v, e, p⟩, q⟩
theorem hSet_New (h : hP) (c c' : hC) (n : Nat) : hSet (hNew h c n) h.1 c' = hNew h c' n := by
  unfold hSet hNew
  refine congrArg _ (congrArg _ (funext fun q => ?_))
  by_cases e : q = h.1
  · simp [e]
  · simp [e]
theorem hSet_Set (h : hP) (a : Nat) (c c' : hC) : hSet (hSet h a c) a c' = hSet h a c' := by
  unfold hSet
  refine congrArg _ (congrArg _ (funext fun q => ?_))
  by_cases e : q = a
  · simp [e]
  · simp [e]
/-- a new array of kind κ, the first n of f -/
def jA (h : hP) (κ n : Nat) (f : Nat → Value) (v : Option Value) (h' : hP) : Prop := v = some (.ref h.1) ∧ ∃ g, h' = hNew h (κ, .inr (n, g)) n ∧ ∀ k, k < n → g k = f k
section JC
variable {Z : hE} {h : hP} {κ a : Nat} {l : List Nat}
theorem jc_checkLength (d i j : Nat) (h1 : i ≤ j) (h2 : j < 2147483648) : jP Z mJ13_checkLength d [.int (nI i), .int (nI j)] h none := by
  refine jC.of pnJ13 rfl (Nat.le_of_ble_eq_true rfl) rfl (fun X => ?_)
  refine g_iload_n (pc := 0) dJ13_checkLength_0 rfl rfl ?_
  refine g_iload_n (pc := 1) dJ13_checkLength_1 rfl rfl ?_
  refine g_icmp_geN (pc := 2) (tgt := 37) dJ13_checkLength_2 rfl (by omega) (by omega) (fun _ => ?_) (fun q_ => absurd q_ (by omega))
  exact g_vret (pc := 37) dJ13_checkLength_37 rfl ⟨_, rfl, rfl, rfl⟩
theorem jc_copyOfRangeByte (d κ κ' b n i j : Nat) (f : Nat → Value) (hb : h.2.2 b = some (κ, .inr (n, f))) (hty : hTy (κ % 100) = some .byte) (hty' : hTy (κ' % 100) = some .byte) (hk' : κ' < 900) (h1 : i ≤ j) (h2 : j ≤ n) (hn : n ≤ 67108864) (l1 : h.1 + 1 ≤ hLC Z) (l2 : h.2.1 + (j - i) ≤ hLS) : jC Z mJ13_copyOfRangeByte (d + 1) (fun _ => False) [.ref b, .int (nI i), .int (nI j)] h (jA h κ' (j - i) (fun k => f (i + k))) := by
  refine jC.shr (jC.of pnJ13 rfl (Nat.le_of_ble_eq_true rfl) rfl (fun X => ?_))
  refine g_iload_n (pc := 0) dJ13_copyOfRangeByte_0 rfl rfl ?_
  refine g_iload_n (pc := 1) dJ13_copyOfRangeByte_1 rfl rfl ?_
  refine g_invS (pc := 2) dJ13_copyOfRangeByte_2 (jc_checkLength d i j h1 (by omega)) meJ13_checkLength q401 q402 rfl rfl (Nat.le_of_ble_eq_true rfl) (by first | exact jF | exact fun _ z => z | assumption | (intro κ z; simp_all)) (jk_e ?_) jk_x
  refine g_iload_n (pc := 5) dJ13_copyOfRangeByte_5 rfl rfl ?_
  refine g_iload_n (pc := 6) dJ13_copyOfRangeByte_6 rfl rfl ?_
  first | refine g_isubN (pc := 7) dJ13_copyOfRangeByte_7 (by omega) ?_ | refine g_isub (pc := 7) dJ13_copyOfRangeByte_7 ?_
  refine g_istore_n (pc := 8) (ls' := [(0, _), (1, _), (2, _), (3, _)]) dJ13_copyOfRangeByte_8 rfl (Nat.le_of_ble_eq_true rfl) rfl ?_
  refine g_iload_n (pc := 9) dJ13_copyOfRangeByte_9 rfl rfl ?_
  refine g_newa (pc := 10) (ty := .byte) κ' (j - i) dJ13_copyOfRangeByte_10 hty' rfl hk' rfl (by omega) q221 (by decide) rfl (fun _ e => by cases e) (fun _ e => by cases e) (by first | omega | (simp only [hNew_1, hNew_2, hSet_1, hSet_2]; omega)) (by first | omega | (simp only [hNew_1, hNew_2, hSet_1, hSet_2]; omega)) (fun hwf => ?_)
  refine g_astore (pc := 12) (ls' := [(0, _), (1, _), (2, _), (3, _), (4, _)]) dJ13_copyOfRangeByte_12 (Nat.le_of_ble_eq_true rfl) rfl ?_
  refine g_aload_n (pc := 14) dJ13_copyOfRangeByte_14 rfl rfl ?_
  refine g_iload_n (pc := 15) dJ13_copyOfRangeByte_15 rfl rfl ?_
  refine g_aload (pc := 16) dJ13_copyOfRangeByte_16 rfl ?_
  refine g_iconst (pc := 18) (v := nI 0) dJ13_copyOfRangeByte_18 rfl ?_
  refine g_aload_n (pc := 19) dJ13_copyOfRangeByte_19 rfl rfl ?_
  have hbn : b ≠ h.1 := Nat.ne_of_lt (hwf b _ hb)
  have hb' : (hNew h (κ', .inr (j - i, fun _ => defaultValue .byte)) (j - i)).2.2 b = some (κ, .inr (n, f)) := by rw [hNew_n hbn]; exact hb
  refine g_alen (pc := 20) dJ13_copyOfRangeByte_20 hb' ?_
  refine g_iload_n (pc := 21) dJ13_copyOfRangeByte_21 rfl rfl ?_
  first | refine g_isubN (pc := 22) dJ13_copyOfRangeByte_22 (by omega) ?_ | refine g_isub (pc := 22) dJ13_copyOfRangeByte_22 ?_
  refine g_iload_n (pc := 23) dJ13_copyOfRangeByte_23 rfl rfl ?_
  refine g_invSF (pc := 24) dJ13_copyOfRangeByte_24 (jc_min d (n - i) (j - i) (by omega) (by omega)) meJ12_min q263 q264 rfl rfl (Nat.le_of_ble_eq_true rfl) (by first | exact jF | exact fun _ z => z | assumption | (intro κ z; simp_all)) (jk_e ?_) jk_x
  refine g_acopy (pc := 27) i 0 (min (n - i) (j - i)) dJ13_copyOfRangeByte_27 hb' (hNew_s _ _ _) hty hty' rfl rfl rfl (by omega) (by omega) hk' trivial (Or.inl rfl) q266 q268 q267 q87 (Nat.le_of_ble_eq_true rfl) ?_
  rw [hSet_New]
  refine g_aload (pc := 30) dJ13_copyOfRangeByte_30 rfl ?_
  refine g_aret (pc := 32) dJ13_copyOfRangeByte_32 rfl (Or.inr ⟨_, rfl⟩) (Or.inr ⟨_, rfl⟩) ?_
  refine ⟨_, rfl, ⟨rfl, _, rfl, fun k hk => ?_⟩, (hFr.rf h).new hwf⟩
  rw [cpV_in (by omega) (by omega)]
  rfl
theorem jc_copyOfRange (d κ κ' b n i j : Nat) (f : Nat → Value) (hb : h.2.2 b = some (κ, .inr (n, f))) (hty : hTy (κ % 100) = some .byte) (hty' : hTy (κ' % 100) = some .byte) (hk' : κ' < 900) (h1 : i ≤ j) (h2 : j ≤ n) (hn : n ≤ 67108864) (l1 : h.1 + 1 ≤ hLC Z) (l2 : h.2.1 + (j - i) ≤ hLS) : jC Z mJ13_copyOfRange (d + 2) (fun _ => False) [.ref b, .int (nI i), .int (nI j)] h (jA h κ' (j - i) (fun k => f (i + k))) := by
  refine jC.of pnJ13 rfl (Nat.le_of_ble_eq_true rfl) rfl (fun X => ?_)
  have slow : hG Z X mJ13_copyOfRange (d + 2) (fun _ => False) h (jK (jA h κ' (j - i) (fun k => f (i + k)))) 10 [(0, .ref b), (1, .int (nI i)), (2, .int (nI j))] [] h := by
    refine g_aload_n (pc := 10) dJ13_copyOfRange_10 rfl rfl ?_
    refine g_iload_n (pc := 11) dJ13_copyOfRange_11 rfl rfl ?_
    refine g_iload_n (pc := 12) dJ13_copyOfRange_12 rfl rfl ?_
    refine g_invS (pc := 13) dJ13_copyOfRange_13 (jc_copyOfRangeByte d κ κ' b n i j f hb hty hty' hk' h1 h2 hn l1 l2) meJ13_copyOfRangeByte q398 q399 rfl rfl (Nat.le_of_ble_eq_true rfl) (by first | exact jF | exact fun _ z => z | assumption | (intro κ z; simp_all)) (jk_n (fun v h' hp fr => ?_)) jk_x
    obtain ⟨rfl, g, rfl, hg⟩ := hp
    exact g_aret (pc := 16) dJ13_copyOfRange_16 rfl (Or.inr ⟨_, rfl⟩) (Or.inr ⟨_, rfl⟩) ⟨_, rfl, rfl, g, rfl, hg⟩
  refine g_iload_n (pc := 0) dJ13_copyOfRange_0 rfl rfl ?_
  refine g_if_neN (pc := 1) (tgt := 10) dJ13_copyOfRange_1 rfl (by omega) (fun c1 => ?_) (fun c1 => ?_)
  · exact slow
  · refine g_iload_n (pc := 4) dJ13_copyOfRange_4 rfl rfl ?_
    refine g_aload_n (pc := 5) dJ13_copyOfRange_5 rfl rfl ?_
    refine g_alen (pc := 6) dJ13_copyOfRange_6 hb ?_
    refine g_icmp_eqN (pc := 7) (tgt := 17) dJ13_copyOfRange_7 rfl (by omega) (by omega) (fun c7 => ?_) (fun c7 => ?_)
    · subst c1; subst c7
      refine g_aload_n (pc := 17) dJ13_copyOfRange_17 rfl rfl ?_
      refine g_clone (pc := 18) (κ' := κ') (ty := .byte) (ad := "[B") dJ13_copyOfRange_18 hb hty hty' rfl q256 q257 q258 q259 q260 q261 (Nat.le_of_ble_eq_true rfl) (by first | omega | (simp only [hNew_1, hNew_2, hSet_1, hSet_2]; omega)) (by first | omega | (simp only [hNew_1, hNew_2, hSet_1, hSet_2]; omega)) (fun hwf => ?_)
      refine g_castA (pc := 21) dJ13_copyOfRange_21 (hNew_s _ _ _) hty' rfl q262 ?_
      exact g_aret (pc := 24) dJ13_copyOfRange_24 rfl (Or.inr ⟨_, rfl⟩) (Or.inr ⟨_, rfl⟩) ⟨_, rfl, rfl, f, rfl, fun k _ => by show f k = f (0 + k); rw [Nat.zero_add]⟩
    · exact slow
theorem jc_copyOf (d κ κ' b n m : Nat) (f : Nat → Value) (hb : h.2.2 b = some (κ, .inr (n, f))) (hty : hTy (κ % 100) = some .byte) (hty' : hTy (κ' % 100) = some .byte) (hk' : κ' < 900) (hm : m ≤ 67108864) (hn : n ≤ 67108864) (l1 : h.1 + 1 ≤ hLC Z) (l2 : h.2.1 + m ≤ hLS) : jC Z mJ13_copyOf (d + 2) (fun _ => False) [.ref b, .int (nI m)] h (jA h κ' m (fun k => if k < n then f k else .int 0)) := by
  refine jC.shr (jC.of pnJ13 rfl (Nat.le_of_ble_eq_true rfl) rfl (fun X => ?_))
  refine g_iload_n (pc := 0) dJ13_copyOf_0 rfl rfl ?_
  refine g_aload_n (pc := 1) dJ13_copyOf_1 rfl rfl ?_
  refine g_alen (pc := 2) dJ13_copyOf_2 hb ?_
  refine g_icmp_neN (pc := 3) (tgt := 14) dJ13_copyOf_3 rfl (by omega) (by omega) (fun c3 => ?_) (fun c3 => ?_)
  · refine g_iload_n (pc := 14) dJ13_copyOf_14 rfl rfl ?_
    refine g_newa (pc := 15) (ty := .byte) κ' m dJ13_copyOf_15 hty' rfl hk' rfl (by omega) q221 (by decide) rfl (fun _ e => by cases e) (fun _ e => by cases e) (by first | omega | (simp only [hNew_1, hNew_2, hSet_1, hSet_2]; omega)) (by first | omega | (simp only [hNew_1, hNew_2, hSet_1, hSet_2]; omega)) (fun hwf => ?_)
    have hbn : b ≠ h.1 := Nat.ne_of_lt (hwf b _ hb)
    have hb' : (hNew h (κ', .inr (m, fun _ => defaultValue .byte)) m).2.2 b = some (κ, .inr (n, f)) := by rw [hNew_n hbn]; exact hb
    refine g_astore_n (pc := 17) (ls' := [(0, _), (1, _), (2, _)]) dJ13_copyOf_17 rfl (Nat.le_of_ble_eq_true rfl) rfl ?_
    refine g_aload_n (pc := 18) dJ13_copyOf_18 rfl rfl ?_
    refine g_iconst (pc := 19) (v := nI 0) dJ13_copyOf_19 rfl ?_
    refine g_aload_n (pc := 20) dJ13_copyOf_20 rfl rfl ?_
    refine g_iconst (pc := 21) (v := nI 0) dJ13_copyOf_21 rfl ?_
    refine g_aload_n (pc := 22) dJ13_copyOf_22 rfl rfl ?_
    refine g_alen (pc := 23) dJ13_copyOf_23 hb' ?_
    refine g_iload_n (pc := 24) dJ13_copyOf_24 rfl rfl ?_
    refine g_invSF (pc := 25) dJ13_copyOf_25 (jc_min (d + 1) n m (by omega) (by omega)) meJ12_min q263 q264 rfl rfl (Nat.le_of_ble_eq_true rfl) (by first | exact jF | exact fun _ z => z | assumption | (intro κ z; simp_all)) (jk_e ?_) jk_x
    refine g_acopy (pc := 28) 0 0 (min n m) dJ13_copyOf_28 hb' (hNew_s _ _ _) hty hty' rfl rfl rfl (by omega) (by omega) hk' trivial (Or.inl rfl) q266 q268 q267 q87 (Nat.le_of_ble_eq_true rfl) ?_
    rw [hSet_New]
    refine g_aload_n (pc := 31) dJ13_copyOf_31 rfl rfl ?_
    refine g_aret (pc := 32) dJ13_copyOf_32 rfl (Or.inr ⟨_, rfl⟩) (Or.inr ⟨_, rfl⟩) ?_
    refine ⟨_, rfl, ⟨rfl, _, rfl, fun k hk => ?_⟩, (hFr.rf h).new hwf⟩
    show _ = if k < n then f k else Value.int 0
    by_cases q : k < n
    · rw [if_pos q, cpV_in (by omega) (by omega)]
      rw [Nat.zero_add]; rfl
    · rw [if_neg q, cpV_out (by omega)]
      rfl
  · subst c3
    refine g_aload_n (pc := 6) dJ13_copyOf_6 rfl rfl ?_
    refine g_clone (pc := 7) (κ' := κ') (ty := .byte) (ad := "[B") dJ13_copyOf_7 hb hty hty' rfl q256 q257 q258 q259 q260 q261 (Nat.le_of_ble_eq_true rfl) (by first | omega | (simp only [hNew_1, hNew_2, hSet_1, hSet_2]; omega)) (by first | omega | (simp only [hNew_1, hNew_2, hSet_1, hSet_2]; omega)) (fun hwf => ?_)
    refine g_castA (pc := 10) dJ13_copyOf_10 (hNew_s _ _ _) hty' rfl q262 ?_
    exact g_aret (pc := 13) dJ13_copyOf_13 rfl (Or.inr ⟨_, rfl⟩) (Or.inr ⟨_, rfl⟩) ⟨_, rfl, ⟨rfl, f, rfl, fun k hk => (if_pos hk).symm⟩, (hFr.rf h).new hwf⟩
theorem jNw {h : hP} {a : Nat} {c : hC} {n : Nat} {c' : hC} (hw : ∀ a c, h.2.2 a = some c → a < h.1) (e : h.2.2 a = some c) : (hNew h c' n).2.2 a = some c := by
  rw [hNew_n (Nat.ne_of_lt (hw a c e))]; exact e
/-- a String's constructor from its bytes -/
theorem jc_strInit3 (d κ a b : Nat) (v1 v2 v3 v4 : Value) (ha : h.2.2 a = some (κ, .inl [v1, v2, v3, v4])) (hk : κ % 100 = 30) (hk9 : κ < 900) : jC Z mJ9_init_3 (d + 1) (fun k => k = κ) [.ref a, .ref b, .int (nI 0)] h (fun v h' => v = none ∧ h' = hSet h a (κ, .inl [.ref b, .int (nI 0), v3, v4])) := by
  refine jC.of pnJ9 rfl (Nat.le_of_ble_eq_true rfl) rfl (fun X => ?_)
  have kc : hCl (κ % 100) = some (RJ9, TJ9, 4) := by rw [hk]; rfl
  refine g_aload_n (pc := 0) dJ9_init_3_0 rfl rfl ?_
  refine g_objInit (pc := 1) dJ9_init_3_1 q380 q126 q127 (Nat.le_of_ble_eq_true rfl) ?_
  refine g_aload_n (pc := 4) dJ9_init_3_4 rfl rfl ?_
  refine g_aload_n (pc := 5) dJ9_init_3_5 rfl rfl ?_
  refine g_putF (pc := 6) (r := (RJ9, TJ9, 4)) 0 dJ9_init_3_6 ha kc (Nat.le_of_ble_eq_true rfl) q449 rfl rfl rfl hk9 rfl (tyJ9_ok 0 (Nat.le_of_ble_eq_true rfl)) rfl rfl ?_
  have ha2 := hSet_s h a (κ, .inl [.ref b, v2, v3, v4])
  refine g_aload_n (pc := 9) dJ9_init_3_9 rfl rfl ?_
  refine g_iload_n (pc := 10) dJ9_init_3_10 rfl rfl ?_
  refine g_putF (pc := 11) (r := (RJ9, TJ9, 4)) 1 dJ9_init_3_11 ha2 kc (Nat.le_of_ble_eq_true rfl) q450 rfl rfl rfl hk9 rfl (tyJ9_ok 1 (Nat.le_of_ble_eq_true rfl)) rfl rfl ?_
  rw [hSet_Set]
  exact g_vret (pc := 14) dJ9_init_3_14 rfl ⟨_, rfl, rfl, rfl⟩
/-- a new String of kind κ (or the empty constant) -/
def jSn (h : hP) (κ : Nat) (l : List Nat) (v : Option Value) (h' : hP) : Prop := (l = [] ∧ h' = h ∧ ∃ q, v = some (.ref q) ∧ jSt h 930 q []) ∨ (l ≠ [] ∧ v = some (.ref h.1) ∧ ∃ g, h' = hNew (hNew h (κ, .inl [.ref (h.1 + 1), .int (nI 0), .int 0, .int 0]) 4) (60, .inr (l.length, g)) l.length ∧ ∀ k, k < l.length → g k = .int (nI (l.getD k 0)))
end JC
