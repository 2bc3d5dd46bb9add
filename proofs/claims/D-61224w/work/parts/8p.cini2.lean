/-! COMPONENT 25: constructors of the template's objects (printed lines) -/
set_option maxRecDepth 100000
theorem fz_n (b : Bool) : fits .boolean (.int (nI b.toNat)) = true := by cases b <;> rfl
section CI
variable {Z : hE} {h : hP} {a : Nat}
theorem ci_rec (d : Nat) : jP Z mJ23_init (d + 1) [.ref a] h none := by
  refine jC.of pnJ23 rfl (Nat.le_of_ble_eq_true rfl) rfl (fun X => ?_)
  refine g_aload_n (pc := 0) dJ23_init_0 rfl rfl ?_
  refine g_objInit (pc := 1) dJ23_init_1 q1138 q126 q127 (Nat.le_of_ble_eq_true rfl) ?_
  exact g_vret (pc := 4) dJ23_init_4 rfl ⟨_, rfl, rfl, rfl⟩
theorem ci_X10 (d : Nat) (p0 : Nat) (v0 : Value) (ha : h.2.2 a = some (10, .inl [v0])) : jC Z mX10_init (d + 2) (fun κ => κ = 10) [.ref a, .ref p0] h (fun r h' => r = none ∧ h' = hSet h a (10, .inl [.ref p0])) := by
  refine jC.of pnX10 rfl (Nat.le_of_ble_eq_true rfl) rfl (fun X => ?_)
  refine g_aload_n (pc := 0) dX10_init_0 rfl rfl ?_
  refine g_invI (pc := 1) dX10_init_1 (ci_rec d) meJ23_init rfl rfl q1135 q1136 rfl rfl (Nat.le_of_ble_eq_true rfl) (by first | exact jF | exact fun _ z => z | assumption | (intro κ z; simp_all)) (jk_e ?_) jk_x
  refine g_aload_n (pc := 4) dX10_init_4 rfl rfl ?_
  refine g_aload_n (pc := 5) dX10_init_5 rfl rfl ?_
  refine g_putF (pc := 6) (r := (RX10, TX10, 1)) 0 dX10_init_6 ha rfl (Nat.le_of_ble_eq_true rfl) q1139 rfl rfl rfl (by decide) rfl (tyX10_ok 0 (Nat.le_of_ble_eq_true rfl)) rfl rfl ?_
  exact g_vret (pc := 9) dX10_init_9 rfl ⟨_, rfl, rfl, rfl⟩
theorem ci_X11 (d : Nat) (p0 : Nat) (p1 : Bool) (v0 : Value) (v1 : Value) (ha : h.2.2 a = some (11, .inl [v0, v1])) : jC Z mX11_init (d + 2) (fun κ => κ = 11) [.ref a, .ref p0, .int (nI p1.toNat)] h (fun r h' => r = none ∧ h' = hSet h a (11, .inl [.ref p0, .int (nI p1.toNat)])) := by
  refine jC.of pnX11 rfl (Nat.le_of_ble_eq_true rfl) rfl (fun X => ?_)
  have h0 := hSet_s h a (11, .inl [.ref p0, v1])
  refine g_aload_n (pc := 0) dX11_init_0 rfl rfl ?_
  refine g_invI (pc := 1) dX11_init_1 (ci_rec d) meJ23_init rfl rfl q1329 q1136 rfl rfl (Nat.le_of_ble_eq_true rfl) (by first | exact jF | exact fun _ z => z | assumption | (intro κ z; simp_all)) (jk_e ?_) jk_x
  refine g_aload_n (pc := 4) dX11_init_4 rfl rfl ?_
  refine g_aload_n (pc := 5) dX11_init_5 rfl rfl ?_
  refine g_putF (pc := 6) (r := (RX11, TX11, 2)) 0 dX11_init_6 ha rfl (Nat.le_of_ble_eq_true rfl) q1330 rfl rfl rfl (by decide) rfl (tyX11_ok 0 (Nat.le_of_ble_eq_true rfl)) rfl rfl ?_
  refine g_aload_n (pc := 9) dX11_init_9 rfl rfl ?_
  refine g_iload_n (pc := 10) dX11_init_10 rfl rfl ?_
  refine g_putF (pc := 11) (r := (RX11, TX11, 2)) 1 dX11_init_11 h0 rfl (Nat.le_of_ble_eq_true rfl) q1331 rfl rfl rfl (by decide) rfl (tyX11_ok 1 (Nat.le_of_ble_eq_true rfl)) (bz_n _) (fz_n _) ?_
  rw [hSet_Set]
  exact g_vret (pc := 14) dX11_init_14 rfl ⟨_, rfl, rfl, rfl⟩
theorem ci_X12 (d : Nat) (p0 : Bool) (v0 : Value) (ha : h.2.2 a = some (12, .inl [v0])) : jC Z mX12_init (d + 2) (fun κ => κ = 12) [.ref a, .int (nI p0.toNat)] h (fun r h' => r = none ∧ h' = hSet h a (12, .inl [.int (nI p0.toNat)])) := by
  refine jC.of pnX12 rfl (Nat.le_of_ble_eq_true rfl) rfl (fun X => ?_)
  refine g_aload_n (pc := 0) dX12_init_0 rfl rfl ?_
  refine g_invI (pc := 1) dX12_init_1 (ci_rec d) meJ23_init rfl rfl q1176 q1136 rfl rfl (Nat.le_of_ble_eq_true rfl) (by first | exact jF | exact fun _ z => z | assumption | (intro κ z; simp_all)) (jk_e ?_) jk_x
  refine g_aload_n (pc := 4) dX12_init_4 rfl rfl ?_
  refine g_iload_n (pc := 5) dX12_init_5 rfl rfl ?_
  refine g_putF (pc := 6) (r := (RX12, TX12, 1)) 0 dX12_init_6 ha rfl (Nat.le_of_ble_eq_true rfl) q1177 rfl rfl rfl (by decide) rfl (tyX12_ok 0 (Nat.le_of_ble_eq_true rfl)) (bz_n _) (fz_n _) ?_
  exact g_vret (pc := 9) dX12_init_9 rfl ⟨_, rfl, rfl, rfl⟩
theorem ci_X13 (d : Nat) (p0 : Nat) (v0 : Value) (ha : h.2.2 a = some (13, .inl [v0])) : jC Z mX13_init (d + 2) (fun κ => κ = 13) [.ref a, .ref p0] h (fun r h' => r = none ∧ h' = hSet h a (13, .inl [.ref p0])) := by
  refine jC.of pnX13 rfl (Nat.le_of_ble_eq_true rfl) rfl (fun X => ?_)
  refine g_aload_n (pc := 0) dX13_init_0 rfl rfl ?_
  refine g_invI (pc := 1) dX13_init_1 (ci_rec d) meJ23_init rfl rfl q1207 q1136 rfl rfl (Nat.le_of_ble_eq_true rfl) (by first | exact jF | exact fun _ z => z | assumption | (intro κ z; simp_all)) (jk_e ?_) jk_x
  refine g_aload_n (pc := 4) dX13_init_4 rfl rfl ?_
  refine g_aload_n (pc := 5) dX13_init_5 rfl rfl ?_
  refine g_putF (pc := 6) (r := (RX13, TX13, 1)) 0 dX13_init_6 ha rfl (Nat.le_of_ble_eq_true rfl) q1208 rfl rfl rfl (by decide) rfl (tyX13_ok 0 (Nat.le_of_ble_eq_true rfl)) rfl rfl ?_
  exact g_vret (pc := 9) dX13_init_9 rfl ⟨_, rfl, rfl, rfl⟩
theorem ci_X14 (d : Nat) (p0 : Int32) (p1 : Nat) (v0 : Value) (v1 : Value) (ha : h.2.2 a = some (14, .inl [v0, v1])) : jC Z mX14_init (d + 2) (fun κ => κ = 14) [.ref a, .int p0, .ref p1] h (fun r h' => r = none ∧ h' = hSet h a (14, .inl [.int p0, .ref p1])) := by
  refine jC.of pnX14 rfl (Nat.le_of_ble_eq_true rfl) rfl (fun X => ?_)
  have h0 := hSet_s h a (14, .inl [.int p0, v1])
  refine g_aload_n (pc := 0) dX14_init_0 rfl rfl ?_
  refine g_invI (pc := 1) dX14_init_1 (ci_rec d) meJ23_init rfl rfl q1228 q1136 rfl rfl (Nat.le_of_ble_eq_true rfl) (by first | exact jF | exact fun _ z => z | assumption | (intro κ z; simp_all)) (jk_e ?_) jk_x
  refine g_aload_n (pc := 4) dX14_init_4 rfl rfl ?_
  refine g_iload_n (pc := 5) dX14_init_5 rfl rfl ?_
  refine g_putF (pc := 6) (r := (RX14, TX14, 2)) 0 dX14_init_6 ha rfl (Nat.le_of_ble_eq_true rfl) q1229 rfl rfl rfl (by decide) rfl (tyX14_ok 0 (Nat.le_of_ble_eq_true rfl)) rfl rfl ?_
  refine g_aload_n (pc := 9) dX14_init_9 rfl rfl ?_
  refine g_aload_n (pc := 10) dX14_init_10 rfl rfl ?_
  refine g_putF (pc := 11) (r := (RX14, TX14, 2)) 1 dX14_init_11 h0 rfl (Nat.le_of_ble_eq_true rfl) q1230 rfl rfl rfl (by decide) rfl (tyX14_ok 1 (Nat.le_of_ble_eq_true rfl)) rfl rfl ?_
  rw [hSet_Set]
  exact g_vret (pc := 14) dX14_init_14 rfl ⟨_, rfl, rfl, rfl⟩
theorem ci_X15 (d : Nat) (p0 : Nat) (p1 : Nat) (p2 : Nat) (v0 : Value) (v1 : Value) (v2 : Value) (ha : h.2.2 a = some (15, .inl [v0, v1, v2])) : jC Z mX15_init (d + 2) (fun κ => κ = 15) [.ref a, .ref p0, .ref p1, .ref p2] h (fun r h' => r = none ∧ h' = hSet h a (15, .inl [.ref p0, .ref p1, .ref p2])) := by
  refine jC.of pnX15 rfl (Nat.le_of_ble_eq_true rfl) rfl (fun X => ?_)
  have h0 := hSet_s h a (15, .inl [.ref p0, v1, v2])
  have h1 := hSet_s h a (15, .inl [.ref p0, .ref p1, v2])
  refine g_aload_n (pc := 0) dX15_init_0 rfl rfl ?_
  refine g_invI (pc := 1) dX15_init_1 (ci_rec d) meJ23_init rfl rfl q1311 q1136 rfl rfl (Nat.le_of_ble_eq_true rfl) (by first | exact jF | exact fun _ z => z | assumption | (intro κ z; simp_all)) (jk_e ?_) jk_x
  refine g_aload_n (pc := 4) dX15_init_4 rfl rfl ?_
  refine g_aload_n (pc := 5) dX15_init_5 rfl rfl ?_
  refine g_putF (pc := 6) (r := (RX15, TX15, 3)) 0 dX15_init_6 ha rfl (Nat.le_of_ble_eq_true rfl) q1312 rfl rfl rfl (by decide) rfl (tyX15_ok 0 (Nat.le_of_ble_eq_true rfl)) rfl rfl ?_
  refine g_aload_n (pc := 9) dX15_init_9 rfl rfl ?_
  refine g_aload_n (pc := 10) dX15_init_10 rfl rfl ?_
  refine g_putF (pc := 11) (r := (RX15, TX15, 3)) 1 dX15_init_11 h0 rfl (Nat.le_of_ble_eq_true rfl) q1313 rfl rfl rfl (by decide) rfl (tyX15_ok 1 (Nat.le_of_ble_eq_true rfl)) rfl rfl ?_
  rw [hSet_Set]
  refine g_aload_n (pc := 14) dX15_init_14 rfl rfl ?_
  refine g_aload_n (pc := 15) dX15_init_15 rfl rfl ?_
  refine g_putF (pc := 16) (r := (RX15, TX15, 3)) 2 dX15_init_16 h1 rfl (Nat.le_of_ble_eq_true rfl) q1314 rfl rfl rfl (by decide) rfl (tyX15_ok 2 (Nat.le_of_ble_eq_true rfl)) rfl rfl ?_
  rw [hSet_Set]
  exact g_vret (pc := 19) dX15_init_19 rfl ⟨_, rfl, rfl, rfl⟩
theorem ci_X15n (d : Nat) (p0 : Nat) (p1 : Nat) (v0 : Value) (v1 : Value) (v2 : Value) (ha : h.2.2 a = some (15, .inl [v0, v1, v2])) : jC Z mX15_init (d + 2) (fun κ => κ = 15) [.ref a, .ref p0, .ref p1, .null] h (fun r h' => r = none ∧ h' = hSet h a (15, .inl [.ref p0, .ref p1, .null])) := by
  refine jC.of pnX15 rfl (Nat.le_of_ble_eq_true rfl) rfl (fun X => ?_)
  have h0 := hSet_s h a (15, .inl [.ref p0, v1, v2])
  have h1 := hSet_s h a (15, .inl [.ref p0, .ref p1, v2])
  refine g_aload_n (pc := 0) dX15_init_0 rfl rfl ?_
  refine g_invI (pc := 1) dX15_init_1 (ci_rec d) meJ23_init rfl rfl q1311 q1136 rfl rfl (Nat.le_of_ble_eq_true rfl) (by first | exact jF | exact fun _ z => z | assumption | (intro κ z; simp_all)) (jk_e ?_) jk_x
  refine g_aload_n (pc := 4) dX15_init_4 rfl rfl ?_
  refine g_aload_n (pc := 5) dX15_init_5 rfl rfl ?_
  refine g_putF (pc := 6) (r := (RX15, TX15, 3)) 0 dX15_init_6 ha rfl (Nat.le_of_ble_eq_true rfl) q1312 rfl rfl rfl (by decide) rfl (tyX15_ok 0 (Nat.le_of_ble_eq_true rfl)) rfl rfl ?_
  refine g_aload_n (pc := 9) dX15_init_9 rfl rfl ?_
  refine g_aload_n (pc := 10) dX15_init_10 rfl rfl ?_
  refine g_putF (pc := 11) (r := (RX15, TX15, 3)) 1 dX15_init_11 h0 rfl (Nat.le_of_ble_eq_true rfl) q1313 rfl rfl rfl (by decide) rfl (tyX15_ok 1 (Nat.le_of_ble_eq_true rfl)) rfl rfl ?_
  rw [hSet_Set]
  refine g_aload_n (pc := 14) dX15_init_14 rfl rfl ?_
  refine g_aload_nN (pc := 15) dX15_init_15 rfl rfl ?_
  refine g_putF (pc := 16) (r := (RX15, TX15, 3)) 2 dX15_init_16 h1 rfl (Nat.le_of_ble_eq_true rfl) q1314 rfl rfl rfl (by decide) rfl (tyX15_ok 2 (Nat.le_of_ble_eq_true rfl)) rfl rfl ?_
  rw [hSet_Set]
  exact g_vret (pc := 19) dX15_init_19 rfl ⟨_, rfl, rfl, rfl⟩
theorem ci_X17 (d : Nat) (p0 : Nat) (p1 : Nat) (p2 : Nat) (p3 : Nat) (v0 : Value) (v1 : Value) (v2 : Value) (v3 : Value) (ha : h.2.2 a = some (17, .inl [v0, v1, v2, v3])) : jC Z mX17_init (d + 2) (fun κ => κ = 17) [.ref a, .ref p0, .ref p1, .ref p2, .ref p3] h (fun r h' => r = none ∧ h' = hSet h a (17, .inl [.ref p0, .ref p1, .ref p2, .ref p3])) := by
  refine jC.of pnX17 rfl (Nat.le_of_ble_eq_true rfl) rfl (fun X => ?_)
  have h0 := hSet_s h a (17, .inl [.ref p0, v1, v2, v3])
  have h1 := hSet_s h a (17, .inl [.ref p0, .ref p1, v2, v3])
  have h2 := hSet_s h a (17, .inl [.ref p0, .ref p1, .ref p2, v3])
  refine g_aload_n (pc := 0) dX17_init_0 rfl rfl ?_
  refine g_invI (pc := 1) dX17_init_1 (ci_rec d) meJ23_init rfl rfl q1363 q1136 rfl rfl (Nat.le_of_ble_eq_true rfl) (by first | exact jF | exact fun _ z => z | assumption | (intro κ z; simp_all)) (jk_e ?_) jk_x
  refine g_aload_n (pc := 4) dX17_init_4 rfl rfl ?_
  refine g_aload_n (pc := 5) dX17_init_5 rfl rfl ?_
  refine g_putF (pc := 6) (r := (RX17, TX17, 4)) 0 dX17_init_6 ha rfl (Nat.le_of_ble_eq_true rfl) q1364 rfl rfl rfl (by decide) rfl (tyX17_ok 0 (Nat.le_of_ble_eq_true rfl)) rfl rfl ?_
  refine g_aload_n (pc := 9) dX17_init_9 rfl rfl ?_
  refine g_aload_n (pc := 10) dX17_init_10 rfl rfl ?_
  refine g_putF (pc := 11) (r := (RX17, TX17, 4)) 1 dX17_init_11 h0 rfl (Nat.le_of_ble_eq_true rfl) q1365 rfl rfl rfl (by decide) rfl (tyX17_ok 1 (Nat.le_of_ble_eq_true rfl)) rfl rfl ?_
  rw [hSet_Set]
  refine g_aload_n (pc := 14) dX17_init_14 rfl rfl ?_
  refine g_aload_n (pc := 15) dX17_init_15 rfl rfl ?_
  refine g_putF (pc := 16) (r := (RX17, TX17, 4)) 2 dX17_init_16 h1 rfl (Nat.le_of_ble_eq_true rfl) q1366 rfl rfl rfl (by decide) rfl (tyX17_ok 2 (Nat.le_of_ble_eq_true rfl)) rfl rfl ?_
  rw [hSet_Set]
  refine g_aload_n (pc := 19) dX17_init_19 rfl rfl ?_
  refine g_aload (pc := 20) dX17_init_20 rfl ?_
  refine g_putF (pc := 22) (r := (RX17, TX17, 4)) 3 dX17_init_22 h2 rfl (Nat.le_of_ble_eq_true rfl) q1367 rfl rfl rfl (by decide) rfl (tyX17_ok 3 (Nat.le_of_ble_eq_true rfl)) rfl rfl ?_
  rw [hSet_Set]
  exact g_vret (pc := 25) dX17_init_25 rfl ⟨_, rfl, rfl, rfl⟩
theorem ci_X18 (d : Nat) (p0 : Int32) (v0 : Value) (ha : h.2.2 a = some (18, .inl [v0])) : jC Z mX18_init (d + 2) (fun κ => κ = 18) [.ref a, .int p0] h (fun r h' => r = none ∧ h' = hSet h a (18, .inl [.int p0])) := by
  refine jC.of pnX18 rfl (Nat.le_of_ble_eq_true rfl) rfl (fun X => ?_)
  refine g_aload_n (pc := 0) dX18_init_0 rfl rfl ?_
  refine g_invI (pc := 1) dX18_init_1 (ci_rec d) meJ23_init rfl rfl q1387 q1136 rfl rfl (Nat.le_of_ble_eq_true rfl) (by first | exact jF | exact fun _ z => z | assumption | (intro κ z; simp_all)) (jk_e ?_) jk_x
  refine g_aload_n (pc := 4) dX18_init_4 rfl rfl ?_
  refine g_iload_n (pc := 5) dX18_init_5 rfl rfl ?_
  refine g_putF (pc := 6) (r := (RX18, TX18, 1)) 0 dX18_init_6 ha rfl (Nat.le_of_ble_eq_true rfl) q1388 rfl rfl rfl (by decide) rfl (tyX18_ok 0 (Nat.le_of_ble_eq_true rfl)) rfl rfl ?_
  exact g_vret (pc := 9) dX18_init_9 rfl ⟨_, rfl, rfl, rfl⟩
theorem ci_X16 (d : Nat) : jP Z mX16_init (d + 2) [.ref a] h none := by
  refine jC.of pnX16 rfl (Nat.le_of_ble_eq_true rfl) rfl (fun X => ?_)
  refine g_aload_n (pc := 0) dX16_init_0 rfl rfl ?_
  refine g_invI (pc := 1) dX16_init_1 (ci_rec d) meJ23_init rfl rfl q1343 q1136 rfl rfl (Nat.le_of_ble_eq_true rfl) (by first | exact jF | exact fun _ z => z | assumption | (intro κ z; simp_all)) (jk_e ?_) jk_x
  exact g_vret (pc := 4) dX16_init_4 rfl ⟨_, rfl, rfl, rfl⟩
theorem ci_X9 (d p0 p1 : Nat) (v0 v1 v2 v3 v4 v5 v6 : Value) (ha : h.2.2 a = some (9, .inl [v0, v1, v2, v3, v4, v5, v6])) : jC Z mX9_init (d + 1) (fun κ => κ = 9) [.ref a, .ref p0, .ref p1] h (fun r h' => r = none ∧ h' = hSet h a (9, .inl [.ref p0, .ref p1, v2, v3, v4, v5, v6])) := by
  refine jC.of pnX9 rfl (Nat.le_of_ble_eq_true rfl) rfl (fun X => ?_)
  have h0 := hSet_s h a (9, .inl [.ref p0, v1, v2, v3, v4, v5, v6])
  refine g_aload_n (pc := 0) dX9_init_0 rfl rfl ?_
  refine g_objInit (pc := 1) dX9_init_1 q1014 q126 q127 (Nat.le_of_ble_eq_true rfl) ?_
  refine g_aload_n (pc := 4) dX9_init_4 rfl rfl ?_
  refine g_aload_n (pc := 5) dX9_init_5 rfl rfl ?_
  refine g_putF (pc := 6) (r := (RX9, TX9, 7)) 0 dX9_init_6 ha rfl (Nat.le_of_ble_eq_true rfl) q1015 rfl rfl rfl (by decide) rfl (tyX9_ok 0 (Nat.le_of_ble_eq_true rfl)) rfl rfl ?_
  refine g_aload_n (pc := 9) dX9_init_9 rfl rfl ?_
  refine g_aload_n (pc := 10) dX9_init_10 rfl rfl ?_
  refine g_putF (pc := 11) (r := (RX9, TX9, 7)) 1 dX9_init_11 h0 rfl (Nat.le_of_ble_eq_true rfl) q1016 rfl rfl rfl (by decide) rfl (tyX9_ok 1 (Nat.le_of_ble_eq_true rfl)) rfl rfl ?_
  rw [hSet_Set]
  exact g_vret (pc := 14) dX9_init_14 rfl ⟨_, rfl, rfl, rfl⟩
end CI
