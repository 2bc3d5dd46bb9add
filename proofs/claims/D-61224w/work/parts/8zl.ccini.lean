/-! COMPONENT 42: the first context -/
set_option maxRecDepth 100000
section RI
variable {Z : hE} {h : hP} {b c : Nat}
theorem cx_init0 (d : Nat) (v0 v1 v2 v3 v4 : Value) (hb : h.2.2 b = some (20, .inl [v0, v1, v2, v3, v4])) (l1 : h.1 + 7 ≤ hLC Z) (l2 : h.2.1 + 60 ≤ hLS) : jC Z mX20_init (d + 4) (fun κ => κ = 20 ∨ κ = 402 ∨ κ = 502) [.ref b, .ref c, .null] h (fun r h' => r = none ∧ ∃ o1 o2, h'.2.2 b = some (20, .inl [.ref c, .null, .null, .ref o1, .ref o2]) ∧ cO h' 4 o1 16 [] ∧ cO h' 5 o2 16 [] ∧ hFa (fun q => q = b) h h' ∧ h'.1 = h.1 + 6 ∧ h'.2.1 = h.2.1 + 42) := by
  refine jC.of pnX20 rfl (Nat.le_of_ble_eq_true rfl) rfl (fun X => ?_)
  have b1 := hSet_s h b (20, .inl [v0, v1, .null, v3, v4])
  have b2 := hSet_s h b (20, .inl [.ref c, v1, .null, v3, v4])
  refine g_aload_n (pc := 0) dX20_init_0 rfl rfl ?_
  refine g_objInit (pc := 1) dX20_init_1 q1448 q126 q127 (Nat.le_of_ble_eq_true rfl) ?_
  refine g_aload_n (pc := 4) dX20_init_4 rfl rfl ?_
  refine g_null (pc := 5) dX20_init_5 ?_
  refine g_put (pc := 6) (r := (RX20, TX20, 5)) 2 dX20_init_6 hb rfl (Nat.le_of_ble_eq_true rfl) q1455 (Or.inl rfl) rfl (by decide) (Or.inl rfl) (tyX20_ok 2 (Nat.le_of_ble_eq_true rfl)) rfl rfl ?_
  refine g_aload_n (pc := 9) dX20_init_9 rfl rfl ?_
  refine g_aload_n (pc := 10) dX20_init_10 rfl rfl ?_
  refine g_put (pc := 11) (r := (RX20, TX20, 5)) 0 dX20_init_11 b1 rfl (Nat.le_of_ble_eq_true rfl) q1451 (Or.inl rfl) rfl (by decide) (Or.inl rfl) (tyX20_ok 0 (Nat.le_of_ble_eq_true rfl)) rfl rfl ?_
  rw [hSet_Set]
  refine g_aload_n (pc := 14) dX20_init_14 rfl rfl ?_
  refine g_aload_nN (pc := 15) dX20_init_15 rfl rfl ?_
  refine g_putF (pc := 16) (r := (RX20, TX20, 5)) 1 dX20_init_16 b2 rfl (Nat.le_of_ble_eq_true rfl) q1453 rfl rfl rfl (by decide) (Or.inl rfl) (tyX20_ok 1 (Nat.le_of_ble_eq_true rfl)) rfl rfl ?_
  rw [hSet_Set]
  show hG Z X mX20_init (d + 4) _ h _ 19 _ [] (hSet h b (20, .inl [.ref c, .null, .null, v3, v4]))
  generalize hH : hSet h b (20, .inl [.ref c, .null, .null, v3, v4]) = H
  have b3 : H.2.2 b = some (20, .inl [.ref c, .null, .null, v3, v4]) := by rw [← hH]; exact hSet_s _ _ _
  have fH : hFa (fun q => q = b) h H := by rw [← hH]; exact hFa.set hb rfl rfl
  have s1 : H.1 = h.1 := by rw [← hH]; rfl
  have s2 : H.2.1 = h.2.1 := by rw [← hH]; rfl
  refine g_aload_n (pc := 19) dX20_init_19 rfl rfl ?_
  refine g_aload_nN (pc := 20) dX20_init_20 rfl rfl ?_
  refine g_ifnonnullN (pc := 21) dX20_init_21 ?_
  refine g_new (pc := 24) (r := (RX2, TX2, 1)) (fs := [.null]) 402 dX20_init_24 rfl (by decide) q1449 q483 q92 rfl (by first | omega | (simp only [hNew_1, hNew_2, hSet_1, hSet_2]; omega)) (by first | omega | (simp only [hNew_1, hNew_2, hSet_1, hSet_2]; omega)) (fun hwf => ?_)
  have hwf1 := hwf
  have hne1 : b ≠ H.1 := Nat.ne_of_lt (hwf _ _ b3)
  have n1 := hNew_s H (402, .inl [.null]) 1
  have b4 := jNw (n := 1) (c' := (402, .inl [.null])) hwf b3
  refine g_dup (pc := 27) dX20_init_27 rfl ?_
  refine g_invIN (pc := 28) dX20_init_28 (co_init (γ := 4) d _ (by decide) n1 (by simp only [hNew_1]; omega) (by simp only [hNew_2]; omega)) meX2_init rfl rfl q1450 q485 rfl rfl (Nat.le_of_ble_eq_true rfl) (fun κ z => Or.inr (Or.inl z)) (jk_n (fun u h2 hp2 fr2 => ?_)) jk_x
  obtain ⟨rfl, hO1, fa2, t1, t2⟩ := hp2
  simp only [hNew_1, hNew_2] at t1 t2
  have b5 := (fa2.2.2 _ _ b4).1 hne1
  refine g_goto (pc := 31) (tgt := 38) dX20_init_31 rfl ?_
  refine g_putF (pc := 38) (r := (RX20, TX20, 5)) 3 dX20_init_38 b5 rfl (Nat.le_of_ble_eq_true rfl) q1456 rfl rfl rfl (by decide) (Or.inl rfl) (tyX20_ok 3 (Nat.le_of_ble_eq_true rfl)) rfl rfl ?_
  show hG Z X mX20_init (d + 4) _ h _ 41 _ [] (hSet h2 b (20, .inl [.ref c, .null, .null, .ref H.1, v4]))
  generalize hH3 : hSet h2 b (20, .inl [.ref c, .null, .null, .ref H.1, v4]) = H3
  have b6 : H3.2.2 b = some (20, .inl [.ref c, .null, .null, .ref H.1, v4]) := by rw [← hH3]; exact hSet_s _ _ _
  have f3 : hFr (fun κ => κ = 20) h2 H3 := by rw [← hH3]; exact (hFr.rf h2).set b5 rfl rfl
  have g3 : hFa (fun q => q = b) h2 H3 := by rw [← hH3]; exact hFa.set b5 rfl rfl
  have s3 : H3.1 = h2.1 := by rw [← hH3]; rfl
  have s4 : H3.2.1 = h2.2.1 := by rw [← hH3]; rfl
  have hO13 := hO1.fr f3 (by decide) (by decide) (by decide)
  refine g_aload_n (pc := 41) dX20_init_41 rfl rfl ?_
  refine g_aload_nN (pc := 42) dX20_init_42 rfl rfl ?_
  refine g_ifnonnullN (pc := 43) dX20_init_43 ?_
  refine g_new (pc := 46) (r := (RX2, TX2, 1)) (fs := [.null]) 502 dX20_init_46 rfl (by decide) q1449 q483 q92 rfl (by first | omega | (simp only [hNew_1, hNew_2, hSet_1, hSet_2]; omega)) (by first | omega | (simp only [hNew_1, hNew_2, hSet_1, hSet_2]; omega)) (fun hwf => ?_)
  have hwf3 := hwf
  have hne3 : b ≠ H3.1 := Nat.ne_of_lt (hwf _ _ b6)
  have n3 := hNew_s H3 (502, .inl [.null]) 1
  have b7 := jNw (n := 1) (c' := (502, .inl [.null])) hwf b6
  have f4 : hFr (fun _ => False) H3 (hNew H3 (502, .inl [.null]) 1) := (hFr.rf H3).new hwf
  refine g_dup (pc := 49) dX20_init_49 rfl ?_
  refine g_invIN (pc := 50) dX20_init_50 (co_init (γ := 5) d _ (by decide) n3 (by simp only [hNew_1]; omega) (by simp only [hNew_2]; omega)) meX2_init rfl rfl q1450 q485 rfl rfl (Nat.le_of_ble_eq_true rfl) (fun κ z => Or.inr (Or.inr z)) (jk_n (fun u h4 hp4 fr4 => ?_)) jk_x
  obtain ⟨rfl, hO2, fa4, t3, t4⟩ := hp4
  simp only [hNew_1, hNew_2] at t3 t4
  have b8 := (fa4.2.2 _ _ b7).1 hne3
  have hO14 := (hO13.fr f4 (fun z => z) (fun z => z) (fun z => z)).fr fr4 (by decide) (by decide) (by decide)
  refine g_goto (pc := 53) (tgt := 60) dX20_init_53 rfl ?_
  refine g_putF (pc := 60) (r := (RX20, TX20, 5)) 4 dX20_init_60 b8 rfl (Nat.le_of_ble_eq_true rfl) q1459 rfl rfl rfl (by decide) (Or.inl rfl) (tyX20_ok 4 (Nat.le_of_ble_eq_true rfl)) rfl rfl ?_
  refine g_vret (pc := 63) dX20_init_63 rfl ?_
  have f5 : hFr (fun κ => κ = 20) h4 (hSet h4 b (20, .inl [.ref c, .null, .null, .ref H.1, .ref H3.1])) := (hFr.rf h4).set b8 rfl rfl
  have fa12 : hFa (fun q => q = b) H h2 := by
    refine ⟨Nat.le_trans (Nat.le_succ _) fa2.1, Nat.le_trans (Nat.le_add_right _ _) fa2.2.1, fun q cc hc => ?_⟩
    have h1 := jNw (n := 1) (c' := (402, .inl [.null])) hwf1 hc
    have h2' := (fa2.2.2 _ _ h1).1 (Nat.ne_of_lt (hwf1 _ _ hc))
    exact ⟨fun _ => h2', cc, h2', rfl⟩
  have fa34 : hFa (fun q => q = b) H3 h4 := by
    refine ⟨Nat.le_trans (Nat.le_succ _) fa4.1, Nat.le_trans (Nat.le_add_right _ _) fa4.2.1, fun q cc hc => ?_⟩
    have h1 := jNw (n := 1) (c' := (502, .inl [.null])) hwf3 hc
    have h2' := (fa4.2.2 _ _ h1).1 (Nat.ne_of_lt (hwf3 _ _ hc))
    exact ⟨fun _ => h2', cc, h2', rfl⟩
  exact ⟨_, rfl, rfl, H.1, H3.1, hSet_s _ _ _, hO14.fr f5 (by decide) (by decide) (by decide), hO2.fr f5 (by decide) (by decide) (by decide), (((fH.tr fa12).tr g3).tr fa34).tr (hFa.set b8 rfl rfl), by simp only [hSet_1]; omega, by simp only [hSet_2]; omega⟩
end RI
