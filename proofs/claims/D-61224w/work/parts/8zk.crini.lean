/-! COMPONENT 41: Rendering.<init> -/
set_option maxRecDepth 100000
section RI
variable {Z : hE} {h : hP} {a E γ : Nat}
theorem ri_init (d : Nat) (v0 v1 v2 v3 : Value) (hγ : 1 ≤ γ ∧ γ < 9) (ha : h.2.2 a = some (19, .inl [v0, v1, v2, v3])) (l1 : h.1 + 4 ≤ hLC Z) (l2 : h.2.1 + 40 ≤ hLS) : jC Z mX19_init (d + 4) (fun κ => κ = 19 ∨ κ = 100 * γ + 2) [.ref a, .ref E] h (fun r h' => r = none ∧ h'.2.2 a = some (19, .inl [.ref E, .ref h.1, v2, v3]) ∧ cO h' γ h.1 16 [] ∧ hFa (fun q => q = a) h h' ∧ h'.1 = h.1 + 3 ∧ h'.2.1 = h.2.1 + 21) := by
  have kc := k02 γ
  refine jC.of pnX19 rfl (Nat.le_of_ble_eq_true rfl) rfl (fun X => ?_)
  refine g_aload_n (pc := 0) dX19_init_0 rfl rfl ?_
  refine g_objInit (pc := 1) dX19_init_1 q1423 q126 q127 (Nat.le_of_ble_eq_true rfl) ?_
  refine g_aload_n (pc := 4) dX19_init_4 rfl rfl ?_
  refine g_new (pc := 5) (r := (RX2, TX2, 1)) (fs := [.null]) (100 * γ + 2) dX19_init_5 kc (by omega) q1424 q483 q92 rfl (by first | omega | (simp only [hNew_1, hNew_2, hSet_1, hSet_2]; omega)) (by first | omega | (simp only [hNew_1, hNew_2, hSet_1, hSet_2]; omega)) (fun hwf => ?_)
  have hwf0 := hwf
  have hne : a ≠ h.1 := Nat.ne_of_lt (hwf _ _ ha)
  have n1 := hNew_s h (100 * γ + 2, .inl [.null]) 1
  have a1 := jNw (n := 1) (c' := (100 * γ + 2, .inl [.null])) hwf ha
  refine g_dup (pc := 8) dX19_init_8 rfl ?_
  refine g_invIN (pc := 9) dX19_init_9 (co_init d _ hγ n1 (by simp only [hNew_1]; omega) (by simp only [hNew_2]; omega)) meX2_init rfl rfl q1425 q485 rfl rfl (Nat.le_of_ble_eq_true rfl) (fun κ z => Or.inr z) (jk_n (fun u h2 hp2 fr2 => ?_)) jk_x
  obtain ⟨rfl, hO, fa2, s1, s2⟩ := hp2
  simp only [hNew_1, hNew_2] at s1 s2
  have a2 := (fa2.2.2 _ _ a1).1 hne
  have a3 := hSet_s h2 a (19, .inl [v0, .ref h.1, v2, v3])
  refine g_putF (pc := 12) (r := (RX19, TX19, 4)) 1 dX19_init_12 a2 rfl (Nat.le_of_ble_eq_true rfl) q1427 rfl rfl rfl (by decide) (Or.inl rfl) (tyX19_ok 1 (Nat.le_of_ble_eq_true rfl)) rfl rfl ?_
  refine g_aload_n (pc := 15) dX19_init_15 rfl rfl ?_
  refine g_aload_n (pc := 16) dX19_init_16 rfl rfl ?_
  refine g_putF (pc := 17) (r := (RX19, TX19, 4)) 0 dX19_init_17 a3 rfl (Nat.le_of_ble_eq_true rfl) q1426 rfl rfl rfl (by decide) (Or.inl rfl) (tyX19_ok 0 (Nat.le_of_ble_eq_true rfl)) rfl rfl ?_
  rw [hSet_Set]
  refine g_vret (pc := 20) dX19_init_20 rfl ?_
  have f3 : hFr (fun κ => κ = 19) h2 (hSet h2 a (19, .inl [.ref E, .ref h.1, v2, v3])) := (hFr.rf h2).set a2 rfl rfl
  refine ⟨_, rfl, rfl, hSet_s _ _ _, hO.fr f3 (by show ¬ (_ = 19); omega) (by show ¬ (_ = 19); omega) (by show ¬ (_ = 19); omega), ?_, s1, s2⟩
  have fb : hFa (fun q => q = a) h h2 := by
    have f1 : hFa (fun q => q = a) h (hNew h (100 * γ + 2, .inl [.null]) 1) := hFa.new hwf0
    refine ⟨Nat.le_trans f1.1 fa2.1, Nat.le_trans f1.2.1 fa2.2.1, fun q c hc => ?_⟩
    have hq : q ≠ h.1 := Nat.ne_of_lt (hwf0 _ _ hc)
    have h1 := jNw (n := 1) (c' := (100 * γ + 2, .inl [.null])) hwf0 hc
    have h2 := (fa2.2.2 _ _ h1).1 hq
    exact ⟨fun _ => h2, c, h2, rfl⟩
  exact fb.tr (hFa.set a2 rfl rfl)
end RI
