/-! COMPONENT 43: MapData.put -/
set_option maxRecDepth 100000
section MP
variable {Z : hE} {h : hP} {b ar nr s κ y : Nat} {ps : List (List Nat × Nat)} {nm : List Nat} {f g : Nat → Value} {j : Value} {DA : Nat → Nat}
theorem md_put (d κy : Nat) (fy : List Value) (r : vw_C) (hs : jSt h κ s nm) (hb : h.2.2 b = some (8, .inl [j, .ref ar, .int (nI ps.length), .ref nr])) (hr : h.2.2 ar = some (68, .inr (10, f))) (h10 : ps.length ≤ 10) (hr2 : h.2.2 nr = some (69, .inr (10, g))) (hg : ∀ i, i < ps.length → ∃ s, g i = .ref s ∧ jSt h 30 s (ps.getD i ([], 0)).1 ∧ nmOK (ps.getD i ([], 0)).1) (hy : h.2.2 y = some (κy, .inl fy)) (hy1 : hCl (κy % 100) = some r) (hy2 : Cond.castable r.1 "TemplateEngine$Data" ∈ lw_tbl) (hroom : fnP nm ps = none → ps.length < 10) (hby : b ≠ s) : jC Z mX8_put (d + 3) (fun κ => κ = 8 ∨ κ = 68 ∨ κ = 69) [.ref b, .ref s, .ref y] h (fun v h' => v = none ∧ ((∃ k, fnP nm ps = some k ∧ h' = hSet (hSet h nr (69, .inr (10, upV g k (.ref s)))) ar (68, .inr (10, upV f k (.ref y)))) ∨ (fnP nm ps = none ∧ h' = hSet (hSet (hSet h b (8, .inl [j, .ref ar, .int (nI (ps.length + 1)), .ref nr])) nr (69, .inr (10, upV g ps.length (.ref s)))) ar (68, .inr (10, upV f ps.length (.ref y)))))) := by
  have kw := hs.cl
  have hs0 := hs
  obtain ⟨hsk, -, bw, κb, hs1, hz, hsw, -⟩ := hs0
  have n1 : ar ≠ nr := fun z => by rw [z, hr2] at hr; cases hr
  have n2 : nr ≠ b := fun z => by rw [z, hb] at hr2; cases hr2
  have n3 : ar ≠ b := fun z => by rw [z, hb] at hr; cases hr
  have n4 : s ≠ nr := fun z => by rw [z, hr2] at hsw; cases hsw
  have n5 : y ≠ nr := fun z => by rw [z, hr2] at hy; cases hy
  refine jC.of pnX8 rfl (Nat.le_of_ble_eq_true rfl) rfl (fun X => ?_)
  refine g_aload_n (pc := 0) dX8_put_0 rfl rfl ?_
  refine g_aload_n (pc := 1) dX8_put_1 rfl rfl ?_
  refine g_invV (pc := 2) dX8_put_2 hb rfl (cd_place d κ s nr nm j _ g hs hb hr2 h10 hg) meX8_place q976 q961 q962 rfl rfl (Nat.le_of_ble_eq_true rfl) (by first | exact jF | exact fun _ z => z | assumption | (intro κ z; simp_all)) (jk_e ?_) jk_x
  refine g_istore_n (pc := 5) (ls' := [(0, _), (1, _), (2, _), (3, _)]) dX8_put_5 rfl (Nat.le_of_ble_eq_true rfl) rfl ?_
  refine g_iload_n (pc := 6) dX8_put_6 rfl rfl ?_
  cases hfn : fnP nm ps with
  | some k =>
    obtain ⟨h1, h2⟩ := fnP_at hfn
    have hb1 : (hSet h nr (69, .inr (10, upV g k (.ref s)))).2.2 b = some (8, .inl [j, .ref ar, .int (nI ps.length), .ref nr]) := by rw [hSet_n (Ne.symm n2)]; exact hb
    have hr1 : (hSet h nr (69, .inr (10, upV g k (.ref s)))).2.2 ar = some (68, .inr (10, f)) := by rw [hSet_n n1]; exact hr
    have hy3 : (hSet h nr (69, .inr (10, upV g k (.ref s)))).2.2 y = some (κy, .inl fy) := by rw [hSet_n n5]; exact hy
    refine g_if_geN (pc := 7) (tgt := 25) (a := k) dX8_put_7 rfl (by omega) ?_
    refine g_aload_n (pc := 25) dX8_put_25 rfl rfl ?_
    refine g_get (pc := 26) (r := (RX8, TX8, 4)) 3 dX8_put_26 hb rfl (Nat.le_of_ble_eq_true rfl) q829 (Or.inl rfl) rfl ?_
    refine g_iload_n (pc := 29) dX8_put_29 rfl rfl ?_
    refine g_aload_n (pc := 30) dX8_put_30 rfl rfl ?_
    refine g_aast (pc := 31) k dX8_put_31 hr2 rfl (by omega) rfl (by decide) (Or.inr (Or.inr rfl)) hsw kw (Or.inl rfl) (by decide) ?_
    refine g_aload_n (pc := 32) dX8_put_32 rfl rfl ?_
    refine g_get (pc := 33) (r := (RX8, TX8, 4)) 1 dX8_put_33 hb1 rfl (Nat.le_of_ble_eq_true rfl) q800 (Or.inr q801) rfl ?_
    refine g_iload_n (pc := 36) dX8_put_36 rfl rfl ?_
    refine g_aload_n (pc := 37) dX8_put_37 rfl rfl ?_
    refine g_aast (pc := 38) k dX8_put_38 hr1 rfl (by omega) rfl (by decide) (Or.inr (Or.inl rfl)) hy3 hy1 (Or.inr hy2) (by decide) ?_
    exact g_vret (pc := 39) dX8_put_39 rfl ⟨_, rfl, rfl, Or.inl ⟨k, rfl, rfl⟩⟩
  | none =>
    have hlt := hroom hfn
    have hb0 := hSet_s h b (8, .inl [j, .ref ar, .int (nI (ps.length + 1)), .ref nr])
    have hr0 : (hSet h b (8, .inl [j, .ref ar, .int (nI (ps.length + 1)), .ref nr])).2.2 nr = some (69, .inr (10, g)) := by rw [hSet_n n2]; exact hr2
    have hs2 : (hSet h b (8, .inl [j, .ref ar, .int (nI (ps.length + 1)), .ref nr])).2.2 s = _ := (hSet_n (Ne.symm hby)).trans hsw
    have hb1 : (hSet (hSet h b (8, .inl [j, .ref ar, .int (nI (ps.length + 1)), .ref nr])) nr (69, .inr (10, upV g ps.length (.ref s)))).2.2 b = some (8, .inl [j, .ref ar, .int (nI (ps.length + 1)), .ref nr]) := by rw [hSet_n (Ne.symm n2)]; exact hb0
    have hr1 : (hSet (hSet h b (8, .inl [j, .ref ar, .int (nI (ps.length + 1)), .ref nr])) nr (69, .inr (10, upV g ps.length (.ref s)))).2.2 ar = some (68, .inr (10, f)) := by rw [hSet_n n1, hSet_n n3]; exact hr
    have hy3 : ∃ fy', (hSet (hSet h b (8, .inl [j, .ref ar, .int (nI (ps.length + 1)), .ref nr])) nr (69, .inr (10, upV g ps.length (.ref s)))).2.2 y = some (κy, .inl fy') := by
      by_cases z : y = b
      · rw [z, hb] at hy
        cases hy
        exact ⟨_, by rw [z]; exact hb1⟩
      · exact ⟨fy, by rw [hSet_n n5, hSet_n z]; exact hy⟩
    obtain ⟨fy', hy3⟩ := hy3
    refine g_if_ge (pc := 7) (tgt := 25) dX8_put_7 rfl (fun z => absurd z (by decide)) (fun _ => ?_)
    refine g_aload_n (pc := 10) dX8_put_10 rfl rfl ?_
    refine g_get (pc := 11) (r := (RX8, TX8, 4)) 2 dX8_put_11 hb rfl (Nat.le_of_ble_eq_true rfl) q804 (Or.inr q805) rfl ?_
    refine g_istore_n (pc := 14) (ls' := [(0, _), (1, _), (2, _), (3, _)]) dX8_put_14 rfl (Nat.le_of_ble_eq_true rfl) rfl ?_
    refine g_aload_n (pc := 15) dX8_put_15 rfl rfl ?_
    refine g_dup (pc := 16) dX8_put_16 rfl ?_
    refine g_get (pc := 17) (r := (RX8, TX8, 4)) 2 dX8_put_17 hb rfl (Nat.le_of_ble_eq_true rfl) q804 (Or.inr q805) rfl ?_
    refine g_iconst (pc := 20) (v := nI 1) dX8_put_20 rfl ?_
    first | refine g_iaddN (pc := 21) dX8_put_21 ?_ | refine g_iadd (pc := 21) dX8_put_21 ?_
    refine g_put (pc := 22) (r := (RX8, TX8, 4)) 2 dX8_put_22 hb rfl (Nat.le_of_ble_eq_true rfl) q804 (Or.inr q805) rfl (by decide) (Or.inl rfl) (tyX8_ok 2 (Nat.le_of_ble_eq_true rfl)) rfl rfl ?_
    refine g_aload_n (pc := 25) dX8_put_25 rfl rfl ?_
    refine g_get (pc := 26) (r := (RX8, TX8, 4)) 3 dX8_put_26 hb0 rfl (Nat.le_of_ble_eq_true rfl) q829 (Or.inl rfl) rfl ?_
    refine g_iload_n (pc := 29) dX8_put_29 rfl rfl ?_
    refine g_aload_n (pc := 30) dX8_put_30 rfl rfl ?_
    refine g_aast (pc := 31) ps.length dX8_put_31 hr0 rfl (by omega) rfl (by decide) (Or.inr (Or.inr rfl)) hs2 kw (Or.inl rfl) (by decide) ?_
    refine g_aload_n (pc := 32) dX8_put_32 rfl rfl ?_
    refine g_get (pc := 33) (r := (RX8, TX8, 4)) 1 dX8_put_33 hb1 rfl (Nat.le_of_ble_eq_true rfl) q800 (Or.inr q801) rfl ?_
    refine g_iload_n (pc := 36) dX8_put_36 rfl rfl ?_
    refine g_aload_n (pc := 37) dX8_put_37 rfl rfl ?_
    refine g_aast (pc := 38) ps.length dX8_put_38 hr1 rfl (by omega) rfl (by decide) (Or.inr (Or.inl rfl)) hy3 hy1 (Or.inr hy2) (by decide) ?_
    exact g_vret (pc := 39) dX8_put_39 rfl ⟨_, rfl, rfl, Or.inr ⟨rfl, rfl⟩⟩
end MP
