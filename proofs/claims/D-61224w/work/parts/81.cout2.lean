/-! COMPONENT 2: digits, Output.addNumber, capitals, isLike -/
set_option maxRecDepth 100000
def sN (s : Bool) (m : Nat) : Int32 := if s then nM m else nI m
theorem sN_div {s : Bool} {m : Nat} (h : m ≤ 2147483648) (h2 : s = false → m < 2147483648) : sN s m / nI 10 = sN s (m / 10) := by
  apply i32_ext
  cases s with
  | true =>
    show (nM m / nI 10).toInt = (nM (m / 10)).toInt
    rw [Int32.toInt_div, nM_toInt h, nM_toInt (by omega), nI_toInt (by decide), Int.neg_tdiv]
    have e : (m : Int).tdiv ((10 : Nat) : Int) = ((m / 10 : Nat) : Int) := rfl
    rw [e]
    exact bm_id (by omega) (by omega)
  | false =>
    have h2 := h2 rfl
    show (nI m / nI 10).toInt = (nI (m / 10)).toInt
    rw [Int32.toInt_div, nI_toInt h2, nI_toInt (by decide), nI_toInt (by omega)]
    have e : (m : Int).tdiv ((10 : Nat) : Int) = ((m / 10 : Nat) : Int) := rfl
    rw [e]
    exact bm_id (by omega) (by omega)
theorem sN_0 {s : Bool} {m : Nat} (h : m ≤ 2147483648) (h2 : s = false → m < 2147483648) : sN s m = 0 ↔ m = 0 := by
  rw [← Int32.toInt_inj]
  cases s with
  | true =>
    show (nM m).toInt = 0 ↔ _
    rw [nM_toInt h]; omega
  | false =>
    show (nI m).toInt = 0 ↔ _
    rw [nI_toInt (h2 rfl)]; omega
section CO
variable {Z : hE} {h : hP} {κ γ a cap : Nat} {l : List Nat}
theorem co_digits (d : Nat) (v : Int32) : jP Z mX1_digits d [.int v] h (some (.int (nI (decI v).length))) := by
  refine jC.of pnX1 rfl (Nat.le_of_ble_eq_true rfl) rfl (fun X => ?_)
  have hm : v.toInt.natAbs ≤ 2147483648 := by
    have := Int32.le_toInt v
    have := Int32.toInt_lt v
    omega
  have loop : ∀ (s : Bool) (m : Nat), m ≤ 2147483648 → (s = false → m < 2147483648) → (decI v).length = s.toNat + dgN m → ∀ (t j : Nat), j + t = 10 → (j = 0 ∨ 10 ^ j ≤ m) → hG Z X mX1_digits d (fun _ => False) h (jK (fun v' h' => v' = some (.int (nI (decI v).length)) ∧ h' = h)) 15 [(0, .int v), (1, .int (nI (s.toNat + 1 + j))), (2, .int (sN s (m / 10 ^ (j + 1))))] [] h := by
    intro s m hm hs hlen t
    induction t with
    | zero =>
      intro j hj h4
      have hj : j = 10 := by omega
      subst hj
      rcases h4 with z | z
      · omega
      · omega
    | succ t ih =>
      intro j hj h4
      have hle : m / 10 ^ (j + 1) ≤ m := Nat.div_le_self _ _
      refine g_iload_n (pc := 15) dX1_digits_15 rfl rfl ?_
      refine g_if_eq (pc := 16) (tgt := 30) dX1_digits_16 rfl (fun q => ?_) (fun q => ?_)
      · rw [sN_0 (by omega) (fun z => by have := hs z; omega)] at q
        have hlt : m < 10 ^ (j + 1) := by
          rcases Nat.div_eq_zero_iff.mp q with z | z
          · exact absurd z (Nat.ne_of_gt (Nat.pow_pos (by decide)))
          · exact z
        refine g_iload_n (pc := 30) dX1_digits_30 rfl rfl ?_
        rw [hlen, show dgN m = j + 1 from decF_L 10 (j + 1) m (by omega) (by omega) hlt (by rcases h4 with z | z; exact Or.inl (by omega); exact Or.inr (by rw [Nat.add_sub_cancel]; exact z)), show s.toNat + (j + 1) = s.toNat + 1 + j by omega]
        exact g_iret (pc := 31) dX1_digits_31 rfl ⟨_, rfl, rfl, rfl⟩
      · rw [sN_0 (by omega) (fun z => by have := hs z; omega)] at q
        refine g_iincN (pc := 19) (k0 := 1) (ls' := [(0, _), (1, _), (2, _)]) dX1_digits_19 rfl (Nat.le_of_ble_eq_true rfl) rfl ?_
        refine g_iload_n (pc := 22) dX1_digits_22 rfl rfl ?_
        refine g_bipush (pc := 23) (v := nI 10) dX1_digits_23 rfl ?_
        refine g_idiv (pc := 25) dX1_digits_25 (by decide) ?_
        rw [sN_div (by omega) (fun z => by have := hs z; omega), Nat.div_div_eq_div_mul, ← Nat.pow_succ]
        refine g_istore_n (pc := 26) (ls' := [(0, _), (1, _), (2, _)]) dX1_digits_26 rfl (Nat.le_of_ble_eq_true rfl) rfl ?_
        refine g_goto (pc := 27) (tgt := 15) dX1_digits_27 rfl ?_
        refine ih (j + 1) (by omega) (Or.inr ?_)
        exact Nat.le_of_not_lt (fun z => q (Nat.div_eq_zero_iff.mpr (Or.inr z)))
  refine g_iload_n (pc := 0) dX1_digits_0 rfl rfl ?_
  refine g_if_ge (pc := 1) (tgt := 8) dX1_digits_1 rfl (fun q => ?_) (fun q => ?_)
  · have q : ¬ v.toInt < 0 := by simpa [Int32.le_iff_toInt_le] using q
    obtain ⟨hv, hv2⟩ := nI_abs q
    have hl : (decI v).length = false.toNat + dgN v.toInt.natAbs := by
      unfold decI dgN
      rw [if_neg q]
      exact (Nat.zero_add _).symm
    refine g_iconst (pc := 8) (v := nI 1) dX1_digits_8 rfl ?_
    refine g_istore_n (pc := 9) (ls' := [(0, _), (1, _)]) dX1_digits_9 rfl (Nat.le_of_ble_eq_true rfl) rfl ?_
    refine g_iload_n (pc := 10) dX1_digits_10 rfl rfl ?_
    refine g_bipush (pc := 11) (v := nI 10) dX1_digits_11 rfl ?_
    refine g_idiv (pc := 13) dX1_digits_13 (by decide) ?_
    have hdv := sN_div (s := false) hm (fun _ => hv2)
    rw [show sN false v.toInt.natAbs = v from hv.symm] at hdv
    rw [hdv]
    refine g_istore_n (pc := 14) (ls' := [(0, _), (1, _), (2, _)]) dX1_digits_14 rfl (Nat.le_of_ble_eq_true rfl) rfl ?_
    exact loop false v.toInt.natAbs hm (fun _ => hv2) hl 10 0 (by omega) (Or.inl rfl)
  · have q : v.toInt < 0 := by simpa [Int32.le_iff_toInt_le] using q
    have hv := nM_abs q
    have hl : (decI v).length = true.toNat + dgN v.toInt.natAbs := by
      unfold decI dgN
      rw [if_pos q, List.length_cons, Nat.add_comm]
      rfl
    refine g_iconst (pc := 4) (v := nI 2) dX1_digits_4 rfl ?_
    refine g_goto (pc := 5) (tgt := 9) dX1_digits_5 rfl ?_
    refine g_istore_n (pc := 9) (ls' := [(0, _), (1, _)]) dX1_digits_9 rfl (Nat.le_of_ble_eq_true rfl) rfl ?_
    refine g_iload_n (pc := 10) dX1_digits_10 rfl rfl ?_
    refine g_bipush (pc := 11) (v := nI 10) dX1_digits_11 rfl ?_
    refine g_idiv (pc := 13) dX1_digits_13 (by decide) ?_
    have hdv := sN_div (s := true) hm (fun z => by cases z)
    rw [show sN true v.toInt.natAbs = v from hv.symm] at hdv
    rw [hdv]
    refine g_istore_n (pc := 14) (ls' := [(0, _), (1, _), (2, _)]) dX1_digits_14 rfl (Nat.le_of_ble_eq_true rfl) rfl ?_
    exact loop true v.toInt.natAbs hm (fun z => by cases z) hl 10 0 (by omega) (Or.inl rfl)
theorem co_addNumber (d : Nat) (v : Int32) (hs : cO h γ a cap l) (l1 : h.1 + 1 ≤ hLC Z) (l2 : h.2.1 + 822 ≤ hLS) : hCt Z mX2_addNumber (d + 7) (jSS γ) [.ref a, .int v] h (coW h γ a cap l (decI v)) := by
  refine hCt.of pnX2 rfl (Nat.le_of_ble_eq_true rfl) rfl (fun X => ?_)
  have kc := k02 γ
  have kt := k31 γ
  have h11 := decI_11 v
  obtain ⟨q1, q2, t, ha, hB⟩ := hs
  have hB0 := hB
  obtain ⟨hγ, hl, hcap, hlc, b, ml, f, ht, hb, hf⟩ := hB
  refine g_aload_n (pc := 0) dX2_addNumber_0 rfl rfl ?_
  refine g_get (pc := 1) (r := (RX2, TX2, 1)) 0 dX2_addNumber_1 ha kc (Nat.le_of_ble_eq_true rfl) q490 (Or.inl rfl) rfl ?_
  refine g_invV (pc := 4) dX2_addNumber_4 ht kt (jc_blength (d + 5) hB0) meJ8_length q537 q390 q2268 rfl rfl (Nat.le_of_ble_eq_true rfl) (by first | exact jF | exact fun _ z => z | assumption | (intro κ z; simp_all)) (jk_e ?_) jk_x
  refine g_iload_n (pc := 7) dX2_addNumber_7 rfl rfl ?_
  refine g_invSN (pc := 8) dX2_addNumber_8 (co_digits (d + 6) v) meX1_digits q1601 q1602 rfl rfl (Nat.le_of_ble_eq_true rfl) (by first | exact jF | exact fun _ z => z | assumption | (intro κ z; simp_all)) (jk_e ?_) jk_x
  first | refine g_iaddN (pc := 11) dX2_addNumber_11 ?_ | refine g_iadd (pc := 11) dX2_addNumber_11 ?_
  refine g_sipush (pc := 12) (v := nI 400) dX2_addNumber_12 rfl ?_
  refine g_icmp_leN (pc := 15) (tgt := 26) dX2_addNumber_15 rfl (by omega) (by omega) (fun c15 => ?_) (fun c15 => ?_)
  · refine g_aload_n (pc := 26) dX2_addNumber_26 rfl rfl ?_
    refine g_get (pc := 27) (r := (RX2, TX2, 1)) 0 dX2_addNumber_27 ha kc (Nat.le_of_ble_eq_true rfl) q490 (Or.inl rfl) rfl ?_
    refine g_iload_n (pc := 30) dX2_addNumber_30 rfl rfl ?_
    refine g_invV (pc := 31) dX2_addNumber_31 ht kt (jc_appendI (d + 1) v hB0 (by omega) l1 (by omega)) meJ8_append_2 q1604 q344 q345 rfl rfl (Nat.le_of_ble_eq_true rfl) (by first | exact jF | exact fun _ z => z | assumption | (intro κ z; simp_all)) (jk_n (fun v h1 hp fr => ?_)) jk_x
    obtain ⟨rfl, cap', hB1, hgr⟩ := hp
    refine g_pop (pc := 34) dX2_addNumber_34 rfl ?_
    refine g_vret (pc := 35) dX2_addNumber_35 rfl ?_
    refine Or.inl ⟨rfl, c15, cap', ?_, hgr.mo c15⟩
    have := hgr.2.1
    exact cO.up fr ha hB1 (by omega) (by rw [List.length_append]; exact c15)
  · refine g_make0 (pc := 18) 42 dX2_addNumber_18 dX2_addNumber_21 dX2_addNumber_22 xX2_25 x_st rfl (by decide) rfl rfl (Nat.le_of_ble_eq_true rfl) l1 (by omega) (fun hwf => ?_)
    refine g_athrow (pc := 25) dX2_addNumber_25 (hNew_s _ _ _) (by decide) rfl ?_
    refine gx_out (fun x hx => by cases hx) ?_
    exact Or.inr ⟨rfl, c15, ⟨Nat.le_refl _, Nat.le_refl _⟩⟩
theorem co_isLike (d γ' a' cap' : Nat) (l' : List Nat) (hs : cO h γ a cap l) (hs' : cO h γ' a' cap' l') : jP Z mX2_isLike (d + 4) [.ref a, .ref a'] h (some (.int (nI (decide (l = l')).toNat))) := by
  refine jC.of pnX2 rfl (Nat.le_of_ble_eq_true rfl) rfl (fun X => ?_)
  have kc := k02 γ
  have kt := k31 γ
  have kc' := k02 γ'
  have kt' := k31 γ'
  obtain ⟨q1, q2, t, ha, hB⟩ := hs
  have hB0 := hB
  obtain ⟨hγ, hl, hcap, hlc, b, ml, f, ht, hb, hf⟩ := hB
  obtain ⟨q1', q2', t', ha', hB'⟩ := hs'
  have hB0' := hB'
  obtain ⟨hγ', hl', hcap', hlc', b', ml', f', ht', hb', hf'⟩ := hB'
  have loop : l.length = l'.length → ∀ (j i : Nat), i + j = l.length → (∀ k, k < i → l.getD k 0 = l'.getD k 0) → hG Z X mX2_isLike (d + 4) (fun _ => False) h (jK (fun v h' => v = some (.int (nI (decide (l = l')).toNat)) ∧ h' = h)) 21 [(0, .ref a), (1, .ref a'), (2, .int (nI i))] [] h := by
    intro hlen j
    induction j with
    | zero =>
      intro i hi hk
      refine g_iload_n (pc := 21) dX2_isLike_21 rfl rfl ?_
      refine g_aload_n (pc := 22) dX2_isLike_22 rfl rfl ?_
      refine g_get (pc := 23) (r := (RX2, TX2, 1)) 0 dX2_isLike_23 ha kc (Nat.le_of_ble_eq_true rfl) q490 (Or.inl rfl) rfl ?_
      refine g_invV (pc := 26) dX2_isLike_26 ht kt (jc_blength (d + 2) hB0) meJ8_length q537 q390 q2268 rfl rfl (Nat.le_of_ble_eq_true rfl) (by first | exact jF | exact fun _ z => z | assumption | (intro κ z; simp_all)) (jk_e ?_) jk_x
      refine g_icmp_geN (pc := 29) (tgt := 59) dX2_isLike_29 rfl (by omega) (by omega) (fun _ => ?_) (fun q_ => absurd q_ (by omega))
      refine g_iconst (pc := 59) (v := nI 1) dX2_isLike_59 rfl ?_
      have e : l = l' := by
        refine List.ext_getElem hlen (fun k h1 h2 => ?_)
        have := hk k (by omega)
        rw [List.getD_eq_getElem?_getD, List.getD_eq_getElem?_getD, List.getElem?_eq_getElem h1, List.getElem?_eq_getElem h2] at this
        exact this
      rw [decide_eq_true e]
      exact g_zret (pc := 60) dX2_isLike_60 rfl (by first | exact bz_n _ | rfl) ⟨_, rfl, rfl, rfl⟩
    | succ j ih =>
      intro i hi hk
      have c1 := hl _ (getD_mem (d := 0) (show i < l.length by omega))
      have c2 := hl' _ (getD_mem (d := 0) (show i < l'.length by omega))
      refine g_iload_n (pc := 21) dX2_isLike_21 rfl rfl ?_
      refine g_aload_n (pc := 22) dX2_isLike_22 rfl rfl ?_
      refine g_get (pc := 23) (r := (RX2, TX2, 1)) 0 dX2_isLike_23 ha kc (Nat.le_of_ble_eq_true rfl) q490 (Or.inl rfl) rfl ?_
      refine g_invV (pc := 26) dX2_isLike_26 ht kt (jc_blength (d + 2) hB0) meJ8_length q537 q390 q2268 rfl rfl (Nat.le_of_ble_eq_true rfl) (by first | exact jF | exact fun _ z => z | assumption | (intro κ z; simp_all)) (jk_e ?_) jk_x
      refine g_icmp_geN (pc := 29) (tgt := 59) dX2_isLike_29 rfl (by omega) (by omega) (fun q_ => absurd q_ (by omega)) (fun _ => ?_)
      refine g_aload_n (pc := 32) dX2_isLike_32 rfl rfl ?_
      refine g_get (pc := 33) (r := (RX2, TX2, 1)) 0 dX2_isLike_33 ha kc (Nat.le_of_ble_eq_true rfl) q490 (Or.inl rfl) rfl ?_
      refine g_iload_n (pc := 36) dX2_isLike_36 rfl rfl ?_
      refine g_invV (pc := 37) dX2_isLike_37 ht kt (jc_bcharAt d i hB0 (by omega)) meJ8_charAt q1612 q1613 q1614 rfl rfl (Nat.le_of_ble_eq_true rfl) (by first | exact jF | exact fun _ z => z | assumption | (intro κ z; simp_all)) (jk_e ?_) jk_x
      refine g_aload_n (pc := 40) dX2_isLike_40 rfl rfl ?_
      refine g_get (pc := 41) (r := (RX2, TX2, 1)) 0 dX2_isLike_41 ha' kc' (Nat.le_of_ble_eq_true rfl) q490 (Or.inl rfl) rfl ?_
      refine g_iload_n (pc := 44) dX2_isLike_44 rfl rfl ?_
      refine g_invV (pc := 45) dX2_isLike_45 ht' kt' (jc_bcharAt d i hB0' (by omega)) meJ8_charAt q1612 q1613 q1614 rfl rfl (Nat.le_of_ble_eq_true rfl) (by first | exact jF | exact fun _ z => z | assumption | (intro κ z; simp_all)) (jk_e ?_) jk_x
      refine g_icmp_eqN (pc := 48) (tgt := 53) dX2_isLike_48 rfl (by omega) (by omega) (fun c48 => ?_) (fun c48 => ?_)
      · refine g_iincN (pc := 53) (k0 := 1) (ls' := [(0, _), (1, _), (2, _)]) dX2_isLike_53 rfl (Nat.le_of_ble_eq_true rfl) rfl ?_
        refine g_goto (pc := 56) (tgt := 21) dX2_isLike_56 rfl ?_
        exact ih (i + 1) (by omega) (fun k hk' => by
          by_cases z : k = i
          · rw [z]; exact c48
          · exact hk k (by omega))
      · refine g_iconst (pc := 51) (v := nI 0) dX2_isLike_51 rfl ?_
        rw [decide_eq_false (fun e => c48 (by rw [e]))]
        exact g_zret (pc := 52) dX2_isLike_52 rfl (by first | exact bz_n _ | rfl) ⟨_, rfl, rfl, rfl⟩
  refine g_aload_n (pc := 0) dX2_isLike_0 rfl rfl ?_
  refine g_get (pc := 1) (r := (RX2, TX2, 1)) 0 dX2_isLike_1 ha kc (Nat.le_of_ble_eq_true rfl) q490 (Or.inl rfl) rfl ?_
  refine g_invV (pc := 4) dX2_isLike_4 ht kt (jc_blength (d + 2) hB0) meJ8_length q537 q390 q2268 rfl rfl (Nat.le_of_ble_eq_true rfl) (by first | exact jF | exact fun _ z => z | assumption | (intro κ z; simp_all)) (jk_e ?_) jk_x
  refine g_aload_n (pc := 7) dX2_isLike_7 rfl rfl ?_
  refine g_get (pc := 8) (r := (RX2, TX2, 1)) 0 dX2_isLike_8 ha' kc' (Nat.le_of_ble_eq_true rfl) q490 (Or.inl rfl) rfl ?_
  refine g_invV (pc := 11) dX2_isLike_11 ht' kt' (jc_blength (d + 2) hB0') meJ8_length q537 q390 q2268 rfl rfl (Nat.le_of_ble_eq_true rfl) (by first | exact jF | exact fun _ z => z | assumption | (intro κ z; simp_all)) (jk_e ?_) jk_x
  refine g_icmp_eqN (pc := 14) (tgt := 19) dX2_isLike_14 rfl (by omega) (by omega) (fun c14 => ?_) (fun c14 => ?_)
  · refine g_iconst (pc := 19) (v := nI 0) dX2_isLike_19 rfl ?_
    refine g_istore_n (pc := 20) (ls' := [(0, _), (1, _), (2, _)]) dX2_isLike_20 rfl (Nat.le_of_ble_eq_true rfl) rfl ?_
    exact loop c14 l.length 0 (by omega) (fun k hk => absurd hk (Nat.not_lt_zero _))
  · refine g_iconst (pc := 17) (v := nI 0) dX2_isLike_17 rfl ?_
    rw [decide_eq_false (fun e => c14 (by rw [e]))]
    exact g_zret (pc := 18) dX2_isLike_18 rfl (by first | exact bz_n _ | rfl) ⟨_, rfl, rfl, rfl⟩
end CO
