/-! COMPONENT 6: constructors of the data -/
set_option maxRecDepth 100000
section CD
variable {Z : hE} {h : hP} {a : Nat}
theorem cd_data (d : Nat) : jP Z mX4_init (d + 1) [.ref a] h none := by
  refine jC.of pnX4 rfl (Nat.le_of_ble_eq_true rfl) rfl (fun X => ?_)
  refine g_aload_n (pc := 0) dX4_init_0 rfl rfl ?_
  refine g_objInit (pc := 1) dX4_init_1 q618 q126 q127 (Nat.le_of_ble_eq_true rfl) ?_
  exact g_vret (pc := 4) dX4_init_4 rfl ⟨_, rfl, rfl, rfl⟩
theorem cd_num (d : Nat) (v0 w : Value) (v : Int32) (ha : h.2.2 a = some (5, .inl [w, v0])) : jC Z mX5_init (d + 2) (fun k => k = 5) [.ref a, .int v] h (fun r h' => r = none ∧ h' = hSet h a (5, .inl [w, .int v])) := by
  refine jC.of pnX5 rfl (Nat.le_of_ble_eq_true rfl) rfl (fun X => ?_)
  refine g_aload_n (pc := 0) dX5_init_0 rfl rfl ?_
  refine g_invIN (pc := 1) dX5_init_1 (cd_data d) meX4_init rfl rfl q615 q616 rfl rfl (Nat.le_of_ble_eq_true rfl) (by first | exact jF | exact fun _ z => z | assumption | (intro κ z; simp_all)) (jk_e ?_) jk_x
  refine g_aload_n (pc := 4) dX5_init_4 rfl rfl ?_
  refine g_iload_n (pc := 5) dX5_init_5 rfl rfl ?_
  refine g_putF (pc := 6) (r := (RX5, TX5, 2)) 1 dX5_init_6 ha rfl (Nat.le_of_ble_eq_true rfl) q619 rfl rfl rfl (by decide) rfl (tyX5_ok 1 (Nat.le_of_ble_eq_true rfl)) rfl rfl ?_
  exact g_vret (pc := 9) dX5_init_9 rfl ⟨_, rfl, rfl, rfl⟩
theorem cd_text (d s : Nat) (w v1 v2 : Value) (ha : h.2.2 a = some (6, .inl [w, v1, v2])) : jC Z mX6_init (d + 2) (fun k => k = 6) [.ref a, .ref s] h (fun r h' => r = none ∧ h' = hSet h a (6, .inl [w, .ref s, .null])) := by
  refine jC.of pnX6 rfl (Nat.le_of_ble_eq_true rfl) rfl (fun X => ?_)
  refine g_aload_n (pc := 0) dX6_init_0 rfl rfl ?_
  refine g_invIN (pc := 1) dX6_init_1 (cd_data d) meX4_init rfl rfl q707 q616 rfl rfl (Nat.le_of_ble_eq_true rfl) (by first | exact jF | exact fun _ z => z | assumption | (intro κ z; simp_all)) (jk_e ?_) jk_x
  refine g_aload_n (pc := 4) dX6_init_4 rfl rfl ?_
  refine g_null (pc := 5) dX6_init_5 ?_
  refine g_put (pc := 6) (r := (RX6, TX6, 3)) 2 dX6_init_6 ha rfl (Nat.le_of_ble_eq_true rfl) q709 (Or.inl rfl) rfl (by decide) rfl (tyX6_ok 2 (Nat.le_of_ble_eq_true rfl)) rfl rfl ?_
  have ha1 := hSet_s h a (6, .inl [w, v1, .null])
  refine g_aload_n (pc := 9) dX6_init_9 rfl rfl ?_
  refine g_aload_n (pc := 10) dX6_init_10 rfl rfl ?_
  refine g_putF (pc := 11) (r := (RX6, TX6, 3)) 1 dX6_init_11 ha1 rfl (Nat.le_of_ble_eq_true rfl) q708 rfl rfl rfl (by decide) rfl (tyX6_ok 1 (Nat.le_of_ble_eq_true rfl)) rfl rfl ?_
  rw [hSet_Set]
  exact g_vret (pc := 14) dX6_init_14 rfl ⟨_, rfl, rfl, rfl⟩
theorem cd_caps (d : Nat) (w v1 v2 : Value) (x : Value) (n : Int32) (hx : x = .null ∨ ∃ b, x = .ref b) (ha : h.2.2 a = some (21, .inl [w, v1, v2])) : jC Z mX21_init (d + 2) (fun k => k = 21) [.ref a, x, .int n] h (fun r h' => r = none ∧ h' = hSet h a (21, .inl [w, x, .int n])) := by
  have ha1 := hSet_s h a (21, .inl [w, x, v2])
  rcases hx with rfl | ⟨b, rfl⟩
  · refine jC.of pnX21 rfl (Nat.le_of_ble_eq_true rfl) rfl (fun X => ?_)
    refine g_aload_n (pc := 0) dX21_init_0 rfl rfl ?_
    refine g_invIN (pc := 1) dX21_init_1 (cd_data d) meX4_init rfl rfl q1644 q616 rfl rfl (Nat.le_of_ble_eq_true rfl) (by first | exact jF | exact fun _ z => z | assumption | (intro κ z; simp_all)) (jk_e ?_) jk_x
    refine g_aload_n (pc := 4) dX21_init_4 rfl rfl ?_
    refine g_aload_nN (pc := 5) dX21_init_5 rfl rfl ?_
    refine g_putF (pc := 6) (r := (RX21, TX21, 3)) 1 dX21_init_6 ha rfl (Nat.le_of_ble_eq_true rfl) q1645 rfl rfl rfl (by decide) rfl (tyX21_ok 1 (Nat.le_of_ble_eq_true rfl)) rfl rfl ?_
    refine g_aload_n (pc := 9) dX21_init_9 rfl rfl ?_
    refine g_iload_n (pc := 10) dX21_init_10 rfl rfl ?_
    refine g_putF (pc := 11) (r := (RX21, TX21, 3)) 2 dX21_init_11 ha1 rfl (Nat.le_of_ble_eq_true rfl) q1646 rfl rfl rfl (by decide) rfl (tyX21_ok 2 (Nat.le_of_ble_eq_true rfl)) rfl rfl ?_
    rw [hSet_Set]
    exact g_vret (pc := 14) dX21_init_14 rfl ⟨_, rfl, rfl, rfl⟩
  · refine jC.of pnX21 rfl (Nat.le_of_ble_eq_true rfl) rfl (fun X => ?_)
    refine g_aload_n (pc := 0) dX21_init_0 rfl rfl ?_
    refine g_invIN (pc := 1) dX21_init_1 (cd_data d) meX4_init rfl rfl q1644 q616 rfl rfl (Nat.le_of_ble_eq_true rfl) (by first | exact jF | exact fun _ z => z | assumption | (intro κ z; simp_all)) (jk_e ?_) jk_x
    refine g_aload_n (pc := 4) dX21_init_4 rfl rfl ?_
    refine g_aload_n (pc := 5) dX21_init_5 rfl rfl ?_
    refine g_putF (pc := 6) (r := (RX21, TX21, 3)) 1 dX21_init_6 ha rfl (Nat.le_of_ble_eq_true rfl) q1645 rfl rfl rfl (by decide) rfl (tyX21_ok 1 (Nat.le_of_ble_eq_true rfl)) rfl rfl ?_
    refine g_aload_n (pc := 9) dX21_init_9 rfl rfl ?_
    refine g_iload_n (pc := 10) dX21_init_10 rfl rfl ?_
    refine g_putF (pc := 11) (r := (RX21, TX21, 3)) 2 dX21_init_11 ha1 rfl (Nat.le_of_ble_eq_true rfl) q1646 rfl rfl rfl (by decide) rfl (tyX21_ok 2 (Nat.le_of_ble_eq_true rfl)) rfl rfl ?_
    rw [hSet_Set]
    exact g_vret (pc := 14) dX21_init_14 rfl ⟨_, rfl, rfl, rfl⟩
theorem cd_list (d : Nat) (w v1 v2 : Value) (ha : h.2.2 a = some (7, .inl [w, v1, v2])) (l1 : h.1 + 1 ≤ hLC Z) (l2 : h.2.1 + 10 ≤ hLS) : jC Z mX7_init (d + 2) (fun k => k = 7) [.ref a] h (fun r h' => r = none ∧ h' = hSet (hNew h (68, .inr (10, fun _ => .null)) 10) a (7, .inl [w, .ref h.1, v2])) := by
  refine jC.of pnX7 rfl (Nat.le_of_ble_eq_true rfl) rfl (fun X => ?_)
  refine g_aload_n (pc := 0) dX7_init_0 rfl rfl ?_
  refine g_invIN (pc := 1) dX7_init_1 (cd_data d) meX4_init rfl rfl q796 q616 rfl rfl (Nat.le_of_ble_eq_true rfl) (by first | exact jF | exact fun _ z => z | assumption | (intro κ z; simp_all)) (jk_e ?_) jk_x
  refine g_aload_n (pc := 4) dX7_init_4 rfl rfl ?_
  refine g_bipush (pc := 5) (v := nI 10) dX7_init_5 rfl ?_
  refine g_anew (pc := 7) (C := "TemplateEngine$Data") 68 10 dX7_init_7 rfl (by decide) rfl (by omega) q797 q798 (by first | omega | (simp only [hNew_1, hNew_2, hSet_1, hSet_2]; omega)) (by first | omega | (simp only [hNew_1, hNew_2, hSet_1, hSet_2]; omega)) (fun hwf => ?_)
  have ha1 := jNw (n := 10) (c' := (68, .inr (10, fun _ => .null))) hwf ha
  refine g_putF (pc := 10) (r := (RX7, TX7, 3)) 1 dX7_init_10 ha1 rfl (Nat.le_of_ble_eq_true rfl) q799 rfl rfl rfl (by decide) rfl (tyX7_ok 1 (Nat.le_of_ble_eq_true rfl)) rfl rfl ?_
  exact g_vret (pc := 13) dX7_init_13 rfl ⟨_, rfl, rfl, rfl⟩
end CD
section CD
variable {Z : hE} {h : hP} {a : Nat}
theorem cd_list8 (d : Nat) (w v1 v2 v3 : Value) (ha : h.2.2 a = some (8, .inl [w, v1, v2, v3])) (l1 : h.1 + 1 ≤ hLC Z) (l2 : h.2.1 + 10 ≤ hLS) : jC Z mX7_init (d + 2) (fun k => k = 8) [.ref a] h (fun r h' => r = none ∧ h' = hSet (hNew h (68, .inr (10, fun _ => .null)) 10) a (8, .inl [w, .ref h.1, v2, v3])) := by
  refine jC.of pnX7 rfl (Nat.le_of_ble_eq_true rfl) rfl (fun X => ?_)
  refine g_aload_n (pc := 0) dX7_init_0 rfl rfl ?_
  refine g_invIN (pc := 1) dX7_init_1 (cd_data d) meX4_init rfl rfl q796 q616 rfl rfl (Nat.le_of_ble_eq_true rfl) (by first | exact jF | exact fun _ z => z | assumption | (intro κ z; simp_all)) (jk_e ?_) jk_x
  refine g_aload_n (pc := 4) dX7_init_4 rfl rfl ?_
  refine g_bipush (pc := 5) (v := nI 10) dX7_init_5 rfl ?_
  refine g_anew (pc := 7) (C := "TemplateEngine$Data") 68 10 dX7_init_7 rfl (by decide) rfl (by omega) q797 q798 (by first | omega | (simp only [hNew_1, hNew_2, hSet_1, hSet_2]; omega)) (by first | omega | (simp only [hNew_1, hNew_2, hSet_1, hSet_2]; omega)) (fun hwf => ?_)
  have ha1 := jNw (n := 10) (c' := (68, .inr (10, fun _ => .null))) hwf ha
  refine g_putF (pc := 10) (r := (RX8, TX8, 4)) 1 dX7_init_10 ha1 rfl (Nat.le_of_ble_eq_true rfl) q799 rfl rfl rfl (by decide) rfl (tyX8_ok 1 (Nat.le_of_ble_eq_true rfl)) rfl rfl ?_
  exact g_vret (pc := 13) dX7_init_13 rfl ⟨_, rfl, rfl, rfl⟩
theorem cd_map (d : Nat) (w v1 v2 v3 : Value) (ha : h.2.2 a = some (8, .inl [w, v1, v2, v3])) (l1 : h.1 + 2 ≤ hLC Z) (l2 : h.2.1 + 20 ≤ hLS) : jC Z mX8_init (d + 3) (fun k => k = 8) [.ref a] h (fun r h' => r = none ∧ h' = hSet (hNew (hNew h (68, .inr (10, fun _ => .null)) 10) (69, .inr (10, fun _ => .null)) 10) a (8, .inl [w, .ref h.1, v2, .ref (h.1 + 1)])) := by
  refine jC.of pnX8 rfl (Nat.le_of_ble_eq_true rfl) rfl (fun X => ?_)
  refine g_aload_n (pc := 0) dX8_init_0 rfl rfl ?_
  refine g_wf (fun hwf0 => ?_)
  refine g_invIN (pc := 1) dX8_init_1 (cd_list8 d w v1 v2 v3 ha (by omega) (by omega)) meX7_init rfl rfl q826 q794 rfl rfl (Nat.le_of_ble_eq_true rfl) (by first | exact jF | exact fun _ z => z | assumption | (intro κ z; simp_all)) (jk_n (fun v h1 hp fr => ?_)) jk_x
  obtain ⟨rfl, rfl⟩ := hp
  have ha1 := hSet_s (hNew h (68, .inr (10, fun _ => .null)) 10) a (8, .inl [w, .ref h.1, v2, v3])
  refine g_aload_n (pc := 4) dX8_init_4 rfl rfl ?_
  refine g_bipush (pc := 5) (v := nI 10) dX8_init_5 rfl ?_
  refine g_anew (pc := 7) (C := "java/lang/String") 69 10 dX8_init_7 rfl (by decide) rfl (by omega) q827 q828 (by show h.1 + 1 + 1 ≤ _; omega) (by show h.2.1 + 10 + 10 ≤ _; omega) (fun hwf => ?_)
  have ha2 := jNw (n := 10) (c' := (69, .inr (10, fun _ => .null))) hwf ha1
  refine g_putF (pc := 10) (r := (RX8, TX8, 4)) 3 dX8_init_10 ha2 rfl (Nat.le_of_ble_eq_true rfl) q829 rfl rfl rfl (by decide) rfl (tyX8_ok 3 (Nat.le_of_ble_eq_true rfl)) rfl rfl ?_
  refine g_vret (pc := 13) dX8_init_13 rfl ?_
  refine ⟨_, rfl, rfl, ?_⟩
  have hne : a ≠ h.1 := Nat.ne_of_lt (hwf0 a _ ha)
  have hne2 : a ≠ h.1 + 1 := by have := hwf0 a _ ha; omega
  unfold hSet hNew
  refine congrArg _ (congrArg _ (funext fun q => ?_))
  by_cases z : q = a
  · simp [z]
  · by_cases y : q = h.1 + 1
    · simp [y]
    · simp [z, y]
end CD
