/-! COMPONENT 20: contexts -/
set_option maxRecDepth 100000
section CX
variable {Z : hE} {h : hP} {D : aD} {w : cW} {CA : Nat → Nat} {m o1 o2 n : Nat} {C : List aV} {v : aV} {x : Value}
theorem cx_init1 (d b p : Nat) (v0 v1 v2 v3 v4 y0 y1 y2 : Value) (hx : x = .null ∨ ∃ c, x = .ref c) (hne : p ≠ b) (hb : h.2.2 b = some (20, .inl [v0, v1, v2, v3, v4])) (hp : h.2.2 p = some (20, .inl [y0, y1, y2, .ref o1, .ref o2])) : jC Z mX20_init (d + 1) (fun κ => κ = 20) [.ref b, x, .ref p] h (fun r h' => r = none ∧ h' = hSet h b (20, .inl [x, .ref p, .null, .ref o1, .ref o2])) := by
  have p1 : ∀ c, (hSet h b c).2.2 p = some (20, .inl [y0, y1, y2, .ref o1, .ref o2]) := fun c => by rw [hSet_n hne]; exact hp
  rcases hx with rfl | ⟨c, rfl⟩
  · refine jC.of pnX20 rfl (Nat.le_of_ble_eq_true rfl) rfl (fun X => ?_)
    have b1 := hSet_s h b (20, .inl [v0, v1, .null, v3, v4])
    have b2 := hSet_s h b (20, .inl [.null, v1, .null, v3, v4])
    have b3 := hSet_s h b (20, .inl [.null, .ref p, .null, v3, v4])
    have b4 := hSet_s h b (20, .inl [.null, .ref p, .null, .ref o1, v4])
    have p3 := p1 (20, .inl [.null, .ref p, .null, v3, v4])
    have p4 := p1 (20, .inl [.null, .ref p, .null, .ref o1, v4])
    refine g_aload_n (pc := 0) dX20_init_0 rfl rfl ?_
    refine g_objInit (pc := 1) dX20_init_1 q1448 q126 q127 (Nat.le_of_ble_eq_true rfl) ?_
    refine g_aload_n (pc := 4) dX20_init_4 rfl rfl ?_
    refine g_null (pc := 5) dX20_init_5 ?_
    refine g_put (pc := 6) (r := (RX20, TX20, 5)) 2 dX20_init_6 hb rfl (Nat.le_of_ble_eq_true rfl) q1455 (Or.inl rfl) rfl (by decide) rfl (tyX20_ok 2 (Nat.le_of_ble_eq_true rfl)) rfl rfl ?_
    refine g_aload_n (pc := 9) dX20_init_9 rfl rfl ?_
    refine g_aload_nN (pc := 10) dX20_init_10 rfl rfl ?_
    refine g_put (pc := 11) (r := (RX20, TX20, 5)) 0 dX20_init_11 b1 rfl (Nat.le_of_ble_eq_true rfl) q1451 (Or.inl rfl) rfl (by decide) rfl (tyX20_ok 0 (Nat.le_of_ble_eq_true rfl)) rfl rfl ?_
    rw [hSet_Set]
    refine g_aload_n (pc := 14) dX20_init_14 rfl rfl ?_
    refine g_aload_n (pc := 15) dX20_init_15 rfl rfl ?_
    refine g_putF (pc := 16) (r := (RX20, TX20, 5)) 1 dX20_init_16 b2 rfl (Nat.le_of_ble_eq_true rfl) q1453 rfl rfl rfl (by decide) rfl (tyX20_ok 1 (Nat.le_of_ble_eq_true rfl)) rfl rfl ?_
    rw [hSet_Set]
    refine g_aload_n (pc := 19) dX20_init_19 rfl rfl ?_
    refine g_aload_n (pc := 20) dX20_init_20 rfl rfl ?_
    refine g_ifnonnull (pc := 21) (tgt := 34) dX20_init_21 rfl ?_
    refine g_aload_n (pc := 34) dX20_init_34 rfl rfl ?_
    refine g_get (pc := 35) (r := (RX20, TX20, 5)) 3 dX20_init_35 p3 rfl (Nat.le_of_ble_eq_true rfl) q1456 (Or.inl rfl) rfl ?_
    refine g_putF (pc := 38) (r := (RX20, TX20, 5)) 3 dX20_init_38 b3 rfl (Nat.le_of_ble_eq_true rfl) q1456 rfl rfl rfl (by decide) rfl (tyX20_ok 3 (Nat.le_of_ble_eq_true rfl)) rfl rfl ?_
    rw [hSet_Set]
    refine g_aload_n (pc := 41) dX20_init_41 rfl rfl ?_
    refine g_aload_n (pc := 42) dX20_init_42 rfl rfl ?_
    refine g_ifnonnull (pc := 43) (tgt := 56) dX20_init_43 rfl ?_
    refine g_aload_n (pc := 56) dX20_init_56 rfl rfl ?_
    refine g_get (pc := 57) (r := (RX20, TX20, 5)) 4 dX20_init_57 p4 rfl (Nat.le_of_ble_eq_true rfl) q1459 (Or.inl rfl) rfl ?_
    refine g_putF (pc := 60) (r := (RX20, TX20, 5)) 4 dX20_init_60 b4 rfl (Nat.le_of_ble_eq_true rfl) q1459 rfl rfl rfl (by decide) rfl (tyX20_ok 4 (Nat.le_of_ble_eq_true rfl)) rfl rfl ?_
    rw [hSet_Set]
    exact g_vret (pc := 63) dX20_init_63 rfl ⟨_, rfl, rfl, rfl⟩
  · refine jC.of pnX20 rfl (Nat.le_of_ble_eq_true rfl) rfl (fun X => ?_)
    have b1 := hSet_s h b (20, .inl [v0, v1, .null, v3, v4])
    have b2 := hSet_s h b (20, .inl [.ref c, v1, .null, v3, v4])
    have b3 := hSet_s h b (20, .inl [.ref c, .ref p, .null, v3, v4])
    have b4 := hSet_s h b (20, .inl [.ref c, .ref p, .null, .ref o1, v4])
    have p3 := p1 (20, .inl [.ref c, .ref p, .null, v3, v4])
    have p4 := p1 (20, .inl [.ref c, .ref p, .null, .ref o1, v4])
    refine g_aload_n (pc := 0) dX20_init_0 rfl rfl ?_
    refine g_objInit (pc := 1) dX20_init_1 q1448 q126 q127 (Nat.le_of_ble_eq_true rfl) ?_
    refine g_aload_n (pc := 4) dX20_init_4 rfl rfl ?_
    refine g_null (pc := 5) dX20_init_5 ?_
    refine g_put (pc := 6) (r := (RX20, TX20, 5)) 2 dX20_init_6 hb rfl (Nat.le_of_ble_eq_true rfl) q1455 (Or.inl rfl) rfl (by decide) rfl (tyX20_ok 2 (Nat.le_of_ble_eq_true rfl)) rfl rfl ?_
    refine g_aload_n (pc := 9) dX20_init_9 rfl rfl ?_
    refine g_aload_n (pc := 10) dX20_init_10 rfl rfl ?_
    refine g_put (pc := 11) (r := (RX20, TX20, 5)) 0 dX20_init_11 b1 rfl (Nat.le_of_ble_eq_true rfl) q1451 (Or.inl rfl) rfl (by decide) rfl (tyX20_ok 0 (Nat.le_of_ble_eq_true rfl)) rfl rfl ?_
    rw [hSet_Set]
    refine g_aload_n (pc := 14) dX20_init_14 rfl rfl ?_
    refine g_aload_n (pc := 15) dX20_init_15 rfl rfl ?_
    refine g_putF (pc := 16) (r := (RX20, TX20, 5)) 1 dX20_init_16 b2 rfl (Nat.le_of_ble_eq_true rfl) q1453 rfl rfl rfl (by decide) rfl (tyX20_ok 1 (Nat.le_of_ble_eq_true rfl)) rfl rfl ?_
    rw [hSet_Set]
    refine g_aload_n (pc := 19) dX20_init_19 rfl rfl ?_
    refine g_aload_n (pc := 20) dX20_init_20 rfl rfl ?_
    refine g_ifnonnull (pc := 21) (tgt := 34) dX20_init_21 rfl ?_
    refine g_aload_n (pc := 34) dX20_init_34 rfl rfl ?_
    refine g_get (pc := 35) (r := (RX20, TX20, 5)) 3 dX20_init_35 p3 rfl (Nat.le_of_ble_eq_true rfl) q1456 (Or.inl rfl) rfl ?_
    refine g_putF (pc := 38) (r := (RX20, TX20, 5)) 3 dX20_init_38 b3 rfl (Nat.le_of_ble_eq_true rfl) q1456 rfl rfl rfl (by decide) rfl (tyX20_ok 3 (Nat.le_of_ble_eq_true rfl)) rfl rfl ?_
    rw [hSet_Set]
    refine g_aload_n (pc := 41) dX20_init_41 rfl rfl ?_
    refine g_aload_n (pc := 42) dX20_init_42 rfl rfl ?_
    refine g_ifnonnull (pc := 43) (tgt := 56) dX20_init_43 rfl ?_
    refine g_aload_n (pc := 56) dX20_init_56 rfl rfl ?_
    refine g_get (pc := 57) (r := (RX20, TX20, 5)) 4 dX20_init_57 p4 rfl (Nat.le_of_ble_eq_true rfl) q1459 (Or.inl rfl) rfl ?_
    refine g_putF (pc := 60) (r := (RX20, TX20, 5)) 4 dX20_init_60 b4 rfl (Nat.le_of_ble_eq_true rfl) q1459 rfl rfl rfl (by decide) rfl (tyX20_ok 4 (Nat.le_of_ble_eq_true rfl)) rfl rfl ?_
    rw [hSet_Set]
    exact g_vret (pc := 63) dX20_init_63 rfl ⟨_, rfl, rfl, rfl⟩
/-- a context inside: the same one again, or new -/
theorem cx_with (e : Nat) (he : 2 ≤ e) (hn : C.length = n + 1) (h13 : C.length ≤ 13) (hC : cCh D w CA m o1 o2 C h) (hv : cV D w.1 h (n + 1) v x) (l1 : h.1 + 1 ≤ hLC Z) (l2 : h.2.1 + 5 ≤ hLS) : jC Z mX20_with e (fun κ => κ = 20) [.ref (CA n), x] h (fun r h' => ∃ CA' m', r = some (.ref (CA' (n + 1))) ∧ cCh D w CA' m' o1 o2 (v :: C) h' ∧ m ≤ m' ∧ (∀ i, i ≤ m → CA' i = CA i) ∧ h'.1 + m ≤ h.1 + m' ∧ h'.2.1 + 5 * m ≤ h.2.1 + 5 * m') := by
  obtain ⟨e, rfl⟩ : ∃ e', e = e' + 2 := ⟨e - 2, by omega⟩
  have hx := hv.nr
  have ns := cNS.one (n := 20) (Or.inr rfl)
  have nar : ∀ {ty : FieldType}, narrow ty x = x := fun {ty} => by rcases hx with rfl | ⟨c, rfl⟩ <;> cases ty <;> rfl
  obtain ⟨c1, c2, c3, c4, c5⟩ := hC
  have getC : ∀ i, i ≤ n → (v :: C).getD ((v :: C).length - 1 - i) none = C.getD (C.length - 1 - i) none := fun i hi => by
    rw [show (v :: C).length - 1 - i = (C.length - 1 - i) + 1 by simp only [List.length_cons]; omega]
    rfl
  have getv : (v :: C).getD ((v :: C).length - 1 - (n + 1)) none = v := by
    rw [show (v :: C).length - 1 - (n + 1) = 0 by simp only [List.length_cons]; omega]
    rfl
  obtain ⟨xn, hcn, hvn⟩ := c5 n (by omega)
  by_cases z : n = m
  · subst z
    rw [if_pos rfl] at hcn
    refine jC.of (ls := [(0, .ref (CA n)), (1, x)]) pnX20 rfl (by rcases hx with rfl | ⟨c, rfl⟩ <;> exact Nat.le_of_ble_eq_true rfl) (by rcases hx with rfl | ⟨c, rfl⟩ <;> rfl) (fun X => ?_)
    refine g_aload_n (pc := 0) dX20_with_0 rfl rfl ?_
    refine g_get (pc := 1) (r := (RX20, TX20, 5)) 2 dX20_with_1 hcn rfl (Nat.le_of_ble_eq_true rfl) q1455 (Or.inl rfl) rfl ?_
    refine g_ifnonnullN (pc := 4) dX20_with_4 ?_
    refine g_aload_n (pc := 7) dX20_with_7 rfl rfl ?_
    refine g_new (pc := 8) (r := (RX20, TX20, 5)) (fs := [.null, .null, .null, .null, .null]) 20 dX20_with_8 rfl (by decide) q1715 q1444 q118 rfl (by first | omega | (simp only [hNew_1, hNew_2, hSet_1, hSet_2]; omega)) (by first | omega | (simp only [hNew_1, hNew_2, hSet_1, hSet_2]; omega)) (fun hwf => ?_)
    have hnn := hNew_s h (20, .inl [.null, .null, .null, .null, .null]) 5
    have hcn1 := jNw (n := 5) (c' := (20, .inl [.null, .null, .null, .null, .null])) hwf hcn
    have hne : CA n ≠ h.1 := Nat.ne_of_lt (hwf _ _ hcn)
    refine g_dup (pc := 11) dX20_with_11 rfl ?_
    refine g_aload_nX (pc := 12) dX20_with_12 rfl rfl hx ?_
    refine g_aload_n (pc := 13) dX20_with_13 rfl rfl ?_
    refine g_invI (pc := 14) dX20_with_14 (cx_init1 (x := x) e h.1 (CA n) _ _ _ _ _ _ _ _ hx hne hnn hcn1) meX20_init rfl rfl q1716 q1446 rfl rfl (Nat.le_of_ble_eq_true rfl) (by first | exact jF | exact fun _ z => z | assumption | (intro κ z; simp_all)) (jk_n (fun u h2 hp fr => ?_)) jk_x
    obtain ⟨rfl, rfl⟩ := hp
    rw [hSet_New]
    have hcn2 := jNw (n := 5) (c' := (20, .inl [x, .ref (CA n), .null, .ref o1, .ref o2])) hwf hcn
    have hnn2 := hNew_s h (20, .inl [x, .ref (CA n), .null, .ref o1, .ref o2]) 5
    refine g_put (pc := 17) (r := (RX20, TX20, 5)) 2 dX20_with_17 hcn2 rfl (Nat.le_of_ble_eq_true rfl) q1455 (Or.inl rfl) rfl (by decide) rfl (tyX20_ok 2 (Nat.le_of_ble_eq_true rfl)) rfl rfl ?_
    generalize hH : hSet (hNew h (20, .inl [x, .ref (CA n), .null, .ref o1, .ref o2]) (RX20, TX20, 5).2.2) (CA n) (20, .inl (List.set [xn, if n = 0 then .null else .ref (CA (n - 1)), .null, .ref o1, .ref o2] 2 (.ref h.1))) = H
    have hc3 : H.2.2 (CA n) = some (20, .inl [xn, if n = 0 then .null else .ref (CA (n - 1)), .ref h.1, .ref o1, .ref o2]) := by rw [← hH]; exact hSet_s _ _ _
    have hn3 : H.2.2 h.1 = some (20, .inl [x, .ref (CA n), .null, .ref o1, .ref o2]) := by rw [← hH, hSet_n (Ne.symm hne)]; exact hnn2
    have fH : hFr (fun κ => κ = 20) h H := by
      rw [← hH]
      exact ((hFr.rf h).new hwf).set hcn2 rfl rfl
    have e1 : H.1 = h.1 + 1 := by rw [← hH]; rfl
    have e2 : H.2.1 = h.2.1 + 5 := by rw [← hH]; rfl
    have mn := cMn.fr fH ns (by decide) (by decide)
    have oth : ∀ i, i < n → H.2.2 (CA i) = h.2.2 (CA i) := fun i hi => by
      obtain ⟨y, y1, -⟩ := c5 i (by omega)
      have a1 : CA i ≠ CA n := fun z => by have := c4 i n (by omega) (by omega) z; omega
      have a2 : CA i ≠ h.1 := Nat.ne_of_lt (hwf _ _ y1)
      rw [← hH, hSet_n a1, hNew_n a2]
    refine g_aload_n (pc := 20) dX20_with_20 rfl rfl ?_
    refine g_get (pc := 21) (r := (RX20, TX20, 5)) 2 dX20_with_21 hc3 rfl (Nat.le_of_ble_eq_true rfl) q1455 (Or.inl rfl) rfl ?_
    refine g_aload_nX (pc := 24) dX20_with_24 rfl rfl hx ?_
    refine g_put (pc := 25) (r := (RX20, TX20, 5)) 0 dX20_with_25 hn3 rfl (Nat.le_of_ble_eq_true rfl) q1451 (Or.inl rfl) rfl (by decide) rfl (tyX20_ok 0 (Nat.le_of_ble_eq_true rfl)) nar (by rcases hx with rfl | ⟨c, rfl⟩ <;> rfl) ?_
    rw [show hSet H h.1 (20, .inl (List.set [x, .ref (CA n), .null, .ref o1, .ref o2] 0 x)) = H from hSet_id hn3]
    refine g_aload_n (pc := 28) dX20_with_28 rfl rfl ?_
    refine g_get (pc := 29) (r := (RX20, TX20, 5)) 2 dX20_with_29 hc3 rfl (Nat.le_of_ble_eq_true rfl) q1455 (Or.inl rfl) rfl ?_
    refine g_aret (pc := 32) dX20_with_32 rfl (Or.inl ⟨_, rfl⟩) (Or.inr ⟨_, rfl⟩) ?_
    refine ⟨_, rfl, fun i => if i = n + 1 then h.1 else CA i, n + 1, by simp, ⟨by simp, by simp only [List.length_cons]; omega, by omega, ?_, ?_⟩, by omega, fun i hi => if_neg (by omega), by omega, by omega⟩
    · intro i j hi hj z
      dsimp only at z
      by_cases a : i = n + 1
      · by_cases b : j = n + 1
        · omega
        · rw [if_pos a, if_neg b] at z
          obtain ⟨y, y1, -⟩ := c5 j (by omega)
          exact absurd z.symm (Nat.ne_of_lt (hwf _ _ y1))
      · by_cases b : j = n + 1
        · rw [if_neg a, if_pos b] at z
          obtain ⟨y, y1, -⟩ := c5 i (by omega)
          exact absurd z (Nat.ne_of_lt (hwf _ _ y1))
        · rw [if_neg a, if_neg b] at z
          exact c4 i j (by omega) (by omega) z
    · intro i hi
      dsimp only
      by_cases a : i = n + 1
      · subst a
        refine ⟨x, ?_, fun _ => ?_⟩
        · rw [if_pos rfl, if_neg (by omega), if_pos rfl, Nat.add_sub_cancel, if_neg (by omega)]
          exact hn3
        · rw [getv]; exact hv.kp fH ns mn
      · by_cases b : i = n
        · subst b
          refine ⟨xn, ?_, fun _ => ?_⟩
          · rw [if_neg a, if_neg a, if_pos rfl, if_neg (show ¬ (i - 1 = i + 1) by omega)]
            exact hc3
          · rw [getC i (by omega)]; exact (hvn (by omega)).kp fH ns mn
        · obtain ⟨y, y1, y2⟩ := c5 i (by omega)
          refine ⟨y, ?_, fun _ => ?_⟩
          · rw [if_neg a, if_neg a, if_neg (show ¬ (i - 1 = n + 1) by omega), if_neg (show ¬ (i + 1 = n + 1) by omega), oth i (by omega), y1, if_neg b]
          · rw [getC i (by omega)]; exact (y2 (by omega)).kp fH ns mn
  · rw [if_neg z] at hcn
    obtain ⟨xi, hci, hvi⟩ := c5 (n + 1) (by omega)
    rw [if_neg (show ¬ n + 1 = 0 by omega), Nat.add_sub_cancel] at hci
    have hne : CA n ≠ CA (n + 1) := fun y => by have := c4 n (n + 1) (by omega) (by omega) y; omega
    refine jC.of (ls := [(0, .ref (CA n)), (1, x)]) pnX20 rfl (by rcases hx with rfl | ⟨c, rfl⟩ <;> exact Nat.le_of_ble_eq_true rfl) (by rcases hx with rfl | ⟨c, rfl⟩ <;> rfl) (fun X => ?_)
    refine g_aload_n (pc := 0) dX20_with_0 rfl rfl ?_
    refine g_get (pc := 1) (r := (RX20, TX20, 5)) 2 dX20_with_1 hcn rfl (Nat.le_of_ble_eq_true rfl) q1455 (Or.inl rfl) rfl ?_
    refine g_ifnonnull (pc := 4) (tgt := 20) dX20_with_4 rfl ?_
    refine g_aload_n (pc := 20) dX20_with_20 rfl rfl ?_
    refine g_get (pc := 21) (r := (RX20, TX20, 5)) 2 dX20_with_21 hcn rfl (Nat.le_of_ble_eq_true rfl) q1455 (Or.inl rfl) rfl ?_
    refine g_aload_nX (pc := 24) dX20_with_24 rfl rfl hx ?_
    refine g_put (pc := 25) (r := (RX20, TX20, 5)) 0 dX20_with_25 hci rfl (Nat.le_of_ble_eq_true rfl) q1451 (Or.inl rfl) rfl (by decide) rfl (tyX20_ok 0 (Nat.le_of_ble_eq_true rfl)) nar (by rcases hx with rfl | ⟨c, rfl⟩ <;> rfl) ?_
    generalize hH : hSet h (CA (n + 1)) (20, .inl (List.set [xi, .ref (CA n), if n + 1 = m then .null else .ref (CA (n + 1 + 1)), .ref o1, .ref o2] 0 x)) = H
    have hn3 : H.2.2 (CA (n + 1)) = some (20, .inl [x, .ref (CA n), if n + 1 = m then .null else .ref (CA (n + 1 + 1)), .ref o1, .ref o2]) := by rw [← hH]; exact hSet_s _ _ _
    have hc3 : H.2.2 (CA n) = some (20, .inl [xn, if n = 0 then .null else .ref (CA (n - 1)), .ref (CA (n + 1)), .ref o1, .ref o2]) := by rw [← hH, hSet_n hne]; exact hcn
    have fH : hFr (fun κ => κ = 20) h H := by
      rw [← hH]
      exact (hFr.rf h).set hci rfl rfl
    have e1 : H.1 = h.1 := by rw [← hH]; rfl
    have e2 : H.2.1 = h.2.1 := by rw [← hH]; rfl
    have mn := cMn.fr fH ns (by decide) (by decide)
    refine g_aload_n (pc := 28) dX20_with_28 rfl rfl ?_
    refine g_get (pc := 29) (r := (RX20, TX20, 5)) 2 dX20_with_29 hc3 rfl (Nat.le_of_ble_eq_true rfl) q1455 (Or.inl rfl) rfl ?_
    refine g_aret (pc := 32) dX20_with_32 rfl (Or.inl ⟨_, rfl⟩) (Or.inr ⟨_, rfl⟩) ?_
    refine ⟨_, rfl, CA, m, rfl, ⟨by simp, by simp only [List.length_cons]; omega, c3, c4, ?_⟩, Nat.le_refl _, fun i hi => rfl, by omega, by omega⟩
    intro i hi
    by_cases a : i = n + 1
    · subst a
      refine ⟨x, ?_, fun _ => ?_⟩
      · rw [hn3, if_neg (show ¬ n + 1 = 0 by omega), Nat.add_sub_cancel]
      · rw [getv]; exact hv.kp fH ns mn
    · obtain ⟨y, y1, y2⟩ := c5 i hi
      have a1 : CA i ≠ CA (n + 1) := fun z => a (c4 i (n + 1) hi (by omega) z)
      refine ⟨y, ?_, fun hl => ?_⟩
      · rw [← hH, hSet_n a1]; exact y1
      · have hl : i ≤ n := by simp only [List.length_cons] at hl; omega
        rw [getC i hl]
        exact (y2 (by omega)).kp fH ns mn
/-- the outer contexts stay -/
theorem cCh.pop (x : cCh D w CA m o1 o2 (v :: C) h) (hn : 1 ≤ C.length) : cCh D w CA m o1 o2 C h := by
  obtain ⟨c1, c2, c3, c4, c5⟩ := x
  simp only [List.length_cons] at c1 c2
  refine ⟨hn, by omega, c3, c4, fun i hi => ?_⟩
  obtain ⟨y, y1, y2⟩ := c5 i hi
  refine ⟨y, y1, fun hl => ?_⟩
  have := y2 (by simp only [List.length_cons]; omega)
  rw [show (v :: C).length - 1 - i = (C.length - 1 - i) + 1 by simp only [List.length_cons]; omega] at this
  exact this
end CX
