/-! COMPONENT 7: kind, size, isFalse, turns of the data (printed lines) -/
set_option maxRecDepth 100000
section CD
variable {Z : hE} {h : hP} {a : Nat}
theorem cd_kindX5 (d : Nat) : jP Z mX5_kind d [.ref a] h (some (.int (nI 0))) := by
  refine jC.of pnX5 rfl (Nat.le_of_ble_eq_true rfl) rfl (fun X => ?_)
  refine g_iconst (pc := 0) (v := nI 0) dX5_kind_0 rfl ?_
  exact g_iret (pc := 1) dX5_kind_1 rfl ⟨_, rfl, rfl, rfl⟩
theorem cd_kindX6 (d : Nat) : jP Z mX6_kind d [.ref a] h (some (.int (nI 1))) := by
  refine jC.of pnX6 rfl (Nat.le_of_ble_eq_true rfl) rfl (fun X => ?_)
  refine g_iconst (pc := 0) (v := nI 1) dX6_kind_0 rfl ?_
  exact g_iret (pc := 1) dX6_kind_1 rfl ⟨_, rfl, rfl, rfl⟩
theorem cd_kindX7 (d : Nat) : jP Z mX7_kind d [.ref a] h (some (.int (nI 2))) := by
  refine jC.of pnX7 rfl (Nat.le_of_ble_eq_true rfl) rfl (fun X => ?_)
  refine g_iconst (pc := 0) (v := nI 2) dX7_kind_0 rfl ?_
  exact g_iret (pc := 1) dX7_kind_1 rfl ⟨_, rfl, rfl, rfl⟩
theorem cd_kindX8 (d : Nat) : jP Z mX8_kind d [.ref a] h (some (.int (nI 3))) := by
  refine jC.of pnX8 rfl (Nat.le_of_ble_eq_true rfl) rfl (fun X => ?_)
  refine g_iconst (pc := 0) (v := nI 3) dX8_kind_0 rfl ?_
  exact g_iret (pc := 1) dX8_kind_1 rfl ⟨_, rfl, rfl, rfl⟩
theorem cd_kindX21 (d : Nat) : jP Z mX21_kind d [.ref a] h (some (.int (nI 1))) := by
  refine jC.of pnX21 rfl (Nat.le_of_ble_eq_true rfl) rfl (fun X => ?_)
  refine g_iconst (pc := 0) (v := nI 1) dX21_kind_0 rfl ?_
  exact g_iret (pc := 1) dX21_kind_1 rfl ⟨_, rfl, rfl, rfl⟩
theorem cd_size5 (d κ : Nat) (w : Value) (v : Int32) (hk : κ % 100 = 5) (ha : h.2.2 a = some (κ, .inl [w, .int v])) : jP Z mX5_size (d + 1) [.ref a] h (some (.int (nI (decI v).length))) := by
  refine jC.of pnX5 rfl (Nat.le_of_ble_eq_true rfl) rfl (fun X => ?_)
  have kc : hCl (κ % 100) = some (RX5, TX5, 2) := by rw [hk]; rfl
  refine g_aload_n (pc := 0) dX5_size_0 rfl rfl ?_
  refine g_get (pc := 1) (r := (RX5, TX5, 2)) 1 dX5_size_1 ha kc (Nat.le_of_ble_eq_true rfl) q619 (Or.inl rfl) rfl ?_
  refine g_invSN (pc := 4) dX5_size_4 (co_digits d v) meX1_digits q1667 q1602 rfl rfl (Nat.le_of_ble_eq_true rfl) (by first | exact jF | exact fun _ z => z | assumption | (intro κ z; simp_all)) (jk_e ?_) jk_x
  exact g_iret (pc := 7) dX5_size_7 rfl ⟨_, rfl, rfl, rfl⟩
theorem cd_false5 (d κ : Nat) (w : Value) (v : Int32) (hk : κ % 100 = 5) (ha : h.2.2 a = some (κ, .inl [w, .int v])) : jP Z mX5_isFalse d [.ref a] h (some (.int (nI (v == 0).toNat))) := by
  refine jC.of pnX5 rfl (Nat.le_of_ble_eq_true rfl) rfl (fun X => ?_)
  have kc : hCl (κ % 100) = some (RX5, TX5, 2) := by rw [hk]; rfl
  refine g_aload_n (pc := 0) dX5_isFalse_0 rfl rfl ?_
  refine g_get (pc := 1) (r := (RX5, TX5, 2)) 1 dX5_isFalse_1 ha kc (Nat.le_of_ble_eq_true rfl) q619 (Or.inl rfl) rfl ?_
  refine g_if_ne (pc := 4) (tgt := 11) dX5_isFalse_4 rfl (fun q => ?_) (fun q => ?_)
  · refine g_iconst (pc := 11) (v := nI 0) dX5_isFalse_11 rfl ?_
    rw [show (v == 0) = false from beq_eq_false_iff_ne.mpr q]
    exact g_zret (pc := 12) dX5_isFalse_12 rfl (by first | exact bz_n _ | rfl) ⟨_, rfl, rfl, rfl⟩
  · refine g_iconst (pc := 7) (v := nI 1) dX5_isFalse_7 rfl ?_
    refine g_goto (pc := 8) (tgt := 12) dX5_isFalse_8 rfl ?_
    rw [show (v == 0) = true from beq_iff_eq.mpr q]
    exact g_zret (pc := 12) dX5_isFalse_12 rfl (by first | exact bz_n _ | rfl) ⟨_, rfl, rfl, rfl⟩
theorem cd_size6 (d s κ : Nat) (l : List Nat) (w v2 : Value) (ha : h.2.2 a = some (6, .inl [w, .ref s, v2])) (hs : jSt h κ s l) : jP Z mX6_size (d + 2) [.ref a] h (some (.int (nI l.length))) := by
  refine jC.of pnX6 rfl (Nat.le_of_ble_eq_true rfl) rfl (fun X => ?_)
  have kc := hs.cl
  have hs0 := hs
  obtain ⟨_, _, b, κb, hs1, hz, hc, _⟩ := hs
  refine g_aload_n (pc := 0) dX6_size_0 rfl rfl ?_
  refine g_get (pc := 1) (r := (RX6, TX6, 3)) 1 dX6_size_1 ha rfl (Nat.le_of_ble_eq_true rfl) q708 (Or.inl rfl) rfl ?_
  refine g_invV (pc := 4) dX6_size_4 hc kc (jc_length d hs0) meJ9_length q1671 q301 q302 rfl rfl (Nat.le_of_ble_eq_true rfl) (by first | exact jF | exact fun _ z => z | assumption | (intro κ z; simp_all)) (jk_e ?_) jk_x
  exact g_iret (pc := 7) dX6_size_7 rfl ⟨_, rfl, rfl, rfl⟩
theorem cd_false6 (d s κ : Nat) (l : List Nat) (w v2 : Value) (ha : h.2.2 a = some (6, .inl [w, .ref s, v2])) (hs : jSt h κ s l) : jP Z mX6_isFalse (d + 1) [.ref a] h (some (.int (nI (decide (l = [])).toNat))) := by
  refine jC.of pnX6 rfl (Nat.le_of_ble_eq_true rfl) rfl (fun X => ?_)
  have kc := hs.cl
  have hs0 := hs
  obtain ⟨_, _, b, κb, hs1, hz, hc, _⟩ := hs
  refine g_aload_n (pc := 0) dX6_isFalse_0 rfl rfl ?_
  refine g_get (pc := 1) (r := (RX6, TX6, 3)) 1 dX6_isFalse_1 ha rfl (Nat.le_of_ble_eq_true rfl) q708 (Or.inl rfl) rfl ?_
  refine g_invV (pc := 4) dX6_isFalse_4 hc kc (jc_isEmpty d hs0) meJ9_isEmpty q1694 q957 q958 rfl rfl (Nat.le_of_ble_eq_true rfl) (by first | exact jF | exact fun _ z => z | assumption | (intro κ z; simp_all)) (jk_e ?_) jk_x
  exact g_zret (pc := 7) dX6_isFalse_7 rfl (by first | exact bz_n _ | rfl) ⟨_, rfl, rfl, rfl⟩
theorem cd_size7 (d n : Nat) (w v1 : Value) (ha : h.2.2 a = some (7, .inl [w, v1, .int (nI n)])) : jP Z mX7_size d [.ref a] h (some (.int (nI n))) := by
  refine jC.of pnX7 rfl (Nat.le_of_ble_eq_true rfl) rfl (fun X => ?_)
  refine g_aload_n (pc := 0) dX7_size_0 rfl rfl ?_
  refine g_get (pc := 1) (r := (RX7, TX7, 3)) 2 dX7_size_1 ha rfl (Nat.le_of_ble_eq_true rfl) q803 (Or.inl rfl) rfl ?_
  exact g_iret (pc := 4) dX7_size_4 rfl ⟨_, rfl, rfl, rfl⟩
theorem cd_size8 (d n : Nat) (w v1 v3 : Value) (ha : h.2.2 a = some (8, .inl [w, v1, .int (nI n), v3])) : jP Z mX7_size d [.ref a] h (some (.int (nI n))) := by
  refine jC.of pnX7 rfl (Nat.le_of_ble_eq_true rfl) rfl (fun X => ?_)
  refine g_aload_n (pc := 0) dX7_size_0 rfl rfl ?_
  refine g_get (pc := 1) (r := (RX8, TX8, 4)) 2 dX7_size_1 ha rfl (Nat.le_of_ble_eq_true rfl) q803 (Or.inl rfl) rfl ?_
  exact g_iret (pc := 4) dX7_size_4 rfl ⟨_, rfl, rfl, rfl⟩
theorem cd_turns7 (d n : Nat) (w v1 : Value) (ha : h.2.2 a = some (7, .inl [w, v1, .int (nI n)])) : jP Z mX7_turns d [.ref a] h (some (.int (nI n))) := by
  refine jC.of pnX7 rfl (Nat.le_of_ble_eq_true rfl) rfl (fun X => ?_)
  refine g_aload_n (pc := 0) dX7_turns_0 rfl rfl ?_
  refine g_get (pc := 1) (r := (RX7, TX7, 3)) 2 dX7_turns_1 ha rfl (Nat.le_of_ble_eq_true rfl) q803 (Or.inl rfl) rfl ?_
  exact g_iret (pc := 4) dX7_turns_4 rfl ⟨_, rfl, rfl, rfl⟩
theorem cd_turns8 (d n : Nat) (w v1 v3 : Value) (ha : h.2.2 a = some (8, .inl [w, v1, .int (nI n), v3])) : jP Z mX7_turns d [.ref a] h (some (.int (nI n))) := by
  refine jC.of pnX7 rfl (Nat.le_of_ble_eq_true rfl) rfl (fun X => ?_)
  refine g_aload_n (pc := 0) dX7_turns_0 rfl rfl ?_
  refine g_get (pc := 1) (r := (RX8, TX8, 4)) 2 dX7_turns_1 ha rfl (Nat.le_of_ble_eq_true rfl) q803 (Or.inl rfl) rfl ?_
  exact g_iret (pc := 4) dX7_turns_4 rfl ⟨_, rfl, rfl, rfl⟩
theorem cd_size21 (d n : Nat) (w v1 : Value) (ha : h.2.2 a = some (21, .inl [w, v1, .int (nI n)])) : jP Z mX21_size d [.ref a] h (some (.int (nI n))) := by
  refine jC.of pnX21 rfl (Nat.le_of_ble_eq_true rfl) rfl (fun X => ?_)
  refine g_aload_n (pc := 0) dX21_size_0 rfl rfl ?_
  refine g_get (pc := 1) (r := (RX21, TX21, 3)) 2 dX21_size_1 ha rfl (Nat.le_of_ble_eq_true rfl) q1646 (Or.inl rfl) rfl ?_
  exact g_iret (pc := 4) dX21_size_4 rfl ⟨_, rfl, rfl, rfl⟩
theorem cd_false7 (d n : Nat) (w v1 : Value) (hn : n < 2147483648) (ha : h.2.2 a = some (7, .inl [w, v1, .int (nI n)])) : jP Z mX7_isFalse d [.ref a] h (some (.int (nI (n == 0).toNat))) := by
  refine jC.of pnX7 rfl (Nat.le_of_ble_eq_true rfl) rfl (fun X => ?_)
  refine g_aload_n (pc := 0) dX7_isFalse_0 rfl rfl ?_
  refine g_get (pc := 1) (r := (RX7, TX7, 3)) 2 dX7_isFalse_1 ha rfl (Nat.le_of_ble_eq_true rfl) q803 (Or.inl rfl) rfl ?_
  refine g_if_neN (pc := 4) (tgt := 11) dX7_isFalse_4 rfl (by omega) (fun q => ?_) (fun q => ?_)
  · refine g_iconst (pc := 11) (v := nI 0) dX7_isFalse_11 rfl ?_
    rw [show (n == 0) = false from beq_eq_false_iff_ne.mpr (by omega)]
    exact g_zret (pc := 12) dX7_isFalse_12 rfl (by first | exact bz_n _ | rfl) ⟨_, rfl, rfl, rfl⟩
  · refine g_iconst (pc := 7) (v := nI 1) dX7_isFalse_7 rfl ?_
    refine g_goto (pc := 8) (tgt := 12) dX7_isFalse_8 rfl ?_
    rw [show (n == 0) = true from beq_iff_eq.mpr q]
    exact g_zret (pc := 12) dX7_isFalse_12 rfl (by first | exact bz_n _ | rfl) ⟨_, rfl, rfl, rfl⟩
theorem cd_false21 (d n : Nat) (w v1 : Value) (hn : n < 2147483648) (ha : h.2.2 a = some (21, .inl [w, v1, .int (nI n)])) : jP Z mX21_isFalse d [.ref a] h (some (.int (nI (n == 0).toNat))) := by
  refine jC.of pnX21 rfl (Nat.le_of_ble_eq_true rfl) rfl (fun X => ?_)
  refine g_aload_n (pc := 0) dX21_isFalse_0 rfl rfl ?_
  refine g_get (pc := 1) (r := (RX21, TX21, 3)) 2 dX21_isFalse_1 ha rfl (Nat.le_of_ble_eq_true rfl) q1646 (Or.inl rfl) rfl ?_
  refine g_if_neN (pc := 4) (tgt := 11) dX21_isFalse_4 rfl (by omega) (fun q => ?_) (fun q => ?_)
  · refine g_iconst (pc := 11) (v := nI 0) dX21_isFalse_11 rfl ?_
    rw [show (n == 0) = false from beq_eq_false_iff_ne.mpr (by omega)]
    exact g_zret (pc := 12) dX21_isFalse_12 rfl (by first | exact bz_n _ | rfl) ⟨_, rfl, rfl, rfl⟩
  · refine g_iconst (pc := 7) (v := nI 1) dX21_isFalse_7 rfl ?_
    refine g_goto (pc := 8) (tgt := 12) dX21_isFalse_8 rfl ?_
    rw [show (n == 0) = true from beq_iff_eq.mpr q]
    exact g_zret (pc := 12) dX21_isFalse_12 rfl (by first | exact bz_n _ | rfl) ⟨_, rfl, rfl, rfl⟩
theorem cd_false8 (d : Nat) : jP Z mX8_isFalse d [.ref a] h (some (.int (nI 0))) := by
  refine jC.of pnX8 rfl (Nat.le_of_ble_eq_true rfl) rfl (fun X => ?_)
  refine g_iconst (pc := 0) (v := nI 0) dX8_isFalse_0 rfl ?_
  exact g_zret (pc := 1) dX8_isFalse_1 rfl (by first | exact bz_n _ | rfl) ⟨_, rfl, rfl, rfl⟩
end CD
