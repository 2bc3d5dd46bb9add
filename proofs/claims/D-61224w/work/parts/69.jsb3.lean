/-! JDK 9: StringBuilder: length, charAt, setCharAt, setLength, init, toString -/
set_option maxRecDepth 100000
section JC
variable {Z : hE} {h : hP} {κ γ a cap : Nat} {l : List Nat}
theorem jc_blength7 (d : Nat) (hs : jSB h γ a cap l) : jP Z mJ7_length d [.ref a] h (some (.int (nI l.length))) := by
  refine jC.of pnJ7 rfl (Nat.le_of_ble_eq_true rfl) rfl (fun X => ?_)
  have kc := k31 γ
  obtain ⟨hγ, hl, hcap, hlc, b, ml, f, ha, hb, hf⟩ := hs
  refine g_aload_n (pc := 0) dJ7_length_0 rfl rfl ?_
  refine g_get (pc := 1) (r := (RJ8, TJ8, 4)) 3 dJ7_length_1 ha kc (Nat.le_of_ble_eq_true rfl) q211 (Or.inl rfl) rfl ?_
  exact g_iret (pc := 4) dJ7_length_4 rfl ⟨_, rfl, rfl, rfl⟩
theorem jc_blength (d : Nat) (hs : jSB h γ a cap l) : jP Z mJ8_length (d + 1) [.ref a] h (some (.int (nI l.length))) := by
  refine jC.of pnJ8 rfl (Nat.le_of_ble_eq_true rfl) rfl (fun X => ?_)
  have kc := k31 γ
  have hs0 := hs
  obtain ⟨hγ, hl, hcap, hlc, b, ml, f, ha, hb, hf⟩ := hs
  refine g_aload_n (pc := 0) dJ8_length_0 rfl rfl ?_
  refine g_invSU (pc := 1) dJ8_length_1 ha kc (jc_blength7 d hs0) meJ7_length (by decide) q392 q387 q388 q220 rfl rfl (Nat.le_of_ble_eq_true rfl) (by first | exact jF | exact fun _ z => z | assumption | (intro κ z; simp_all)) (jk_e ?_) jk_x
  exact g_iret (pc := 4) dJ8_length_4 rfl ⟨_, rfl, rfl, rfl⟩
theorem jc_bcharAt7 (d i : Nat) (hs : jSB h γ a cap l) (hi : i < l.length) : jP Z mJ7_charAt (d + 2) [.ref a, .int (nI i)] h (some (.int (nI (l.getD i 0)))) := by
  refine jC.of pnJ7 rfl (Nat.le_of_ble_eq_true rfl) rfl (fun X => ?_)
  have kc := k31 γ
  obtain ⟨hγ, hl, hcap, hlc, b, ml, f, ha, hb, hf⟩ := hs
  have hc := hl _ (getD_mem (d := 0) hi)
  refine g_aload_n (pc := 0) dJ7_charAt_0 rfl rfl ?_
  refine g_get (pc := 1) (r := (RJ8, TJ8, 4)) 1 dJ7_charAt_1 ha kc (Nat.le_of_ble_eq_true rfl) q208 (Or.inl rfl) rfl ?_
  refine g_istore_n (pc := 4) (ls' := [(0, _), (1, _), (2, _)]) dJ7_charAt_4 rfl (Nat.le_of_ble_eq_true rfl) rfl ?_
  refine g_aload_n (pc := 5) dJ7_charAt_5 rfl rfl ?_
  refine g_get (pc := 6) (r := (RJ8, TJ8, 4)) 0 dJ7_charAt_6 ha kc (Nat.le_of_ble_eq_true rfl) q207 (Or.inl rfl) rfl ?_
  refine g_astore_n (pc := 9) (ls' := [(0, _), (1, _), (2, _), (3, _)]) dJ7_charAt_9 rfl (Nat.le_of_ble_eq_true rfl) rfl ?_
  refine g_aload_n (pc := 10) dJ7_charAt_10 rfl rfl ?_
  refine g_get (pc := 11) (r := (RJ8, TJ8, 4)) 3 dJ7_charAt_11 ha kc (Nat.le_of_ble_eq_true rfl) q211 (Or.inl rfl) rfl ?_
  refine g_aload_n (pc := 14) dJ7_charAt_14 rfl rfl ?_
  refine g_alen (pc := 15) dJ7_charAt_15 hb ?_
  refine g_iload_n (pc := 16) dJ7_charAt_16 rfl rfl ?_
  refine g_ishr (pc := 17) dJ7_charAt_17 ?_
  rw [sh0]
  refine g_invSF (pc := 18) dJ7_charAt_18 (jc_min (d + 1) l.length cap (by omega) (by omega)) meJ12_min q1619 q264 rfl rfl (Nat.le_of_ble_eq_true rfl) (by first | exact jF | exact fun _ z => z | assumption | (intro κ z; simp_all)) (jk_e ?_) jk_x
  refine g_istore (pc := 21) (ls' := [(0, _), (1, _), (2, _), (3, _), (4, _)]) dJ7_charAt_21 (Nat.le_of_ble_eq_true rfl) rfl ?_
  refine g_iload_n (pc := 23) dJ7_charAt_23 rfl rfl ?_
  refine g_iload (pc := 24) dJ7_charAt_24 rfl ?_
  refine g_invS (pc := 26) dJ7_charAt_26 (jc_checkIndex d i (min l.length cap) (by omega) (by omega)) meJ9_checkIndex q1620 q598 rfl rfl (Nat.le_of_ble_eq_true rfl) (by first | exact jF | exact fun _ z => z | assumption | (intro κ z; simp_all)) (jk_e ?_) jk_x
  refine g_iload_n (pc := 29) dJ7_charAt_29 rfl rfl ?_
  refine g_if_neN (pc := 30) (tgt := 42) dJ7_charAt_30 rfl (by omega) (fun q_ => absurd q_ (by omega)) (fun _ => ?_)
  refine g_aload_n (pc := 33) dJ7_charAt_33 rfl rfl ?_
  refine g_iload_n (pc := 34) dJ7_charAt_34 rfl rfl ?_
  refine g_bald (pc := 35) i dJ7_charAt_35 hb (k60 γ) (by omega) rfl ?_
  rw [hf i hi]
  refine g_sipush (pc := 36) (v := nI 255) dJ7_charAt_36 rfl ?_
  refine g_iand (pc := 39) dJ7_charAt_39 ?_
  rw [and255 (by omega)]
  refine g_i2cN (pc := 40) dJ7_charAt_40 (by omega) ?_
  exact g_zret (pc := 41) dJ7_charAt_41 rfl (cz_n (by omega)) ⟨_, rfl, rfl, rfl⟩
theorem jc_bcharAt (d i : Nat) (hs : jSB h γ a cap l) (hi : i < l.length) : jP Z mJ8_charAt (d + 3) [.ref a, .int (nI i)] h (some (.int (nI (l.getD i 0)))) := by
  refine jC.of pnJ8 rfl (Nat.le_of_ble_eq_true rfl) rfl (fun X => ?_)
  have kc := k31 γ
  have hs0 := hs
  obtain ⟨hγ, hl, hcap, hlc, b, ml, f, ha, hb, hf⟩ := hs
  have hc := hl _ (getD_mem (d := 0) hi)
  refine g_aload_n (pc := 0) dJ8_charAt_0 rfl rfl ?_
  refine g_iload_n (pc := 1) dJ8_charAt_1 rfl rfl ?_
  refine g_invSU (pc := 2) dJ8_charAt_2 ha kc (jc_bcharAt7 d i hs0 hi) meJ7_charAt (by decide) q1616 q1617 q2274 q220 rfl rfl (Nat.le_of_ble_eq_true rfl) (by first | exact jF | exact fun _ z => z | assumption | (intro κ z; simp_all)) (jk_e ?_) jk_x
  exact g_zret (pc := 5) dJ8_charAt_5 rfl (cz_n (by omega)) ⟨_, rfl, rfl, rfl⟩
theorem getD_set {l : List Nat} {i j c : Nat} (hi : i < l.length) : (l.set i c).getD j 0 = if j = i then c else l.getD j 0 := by
  rw [List.getD_eq_getElem?_getD, List.getD_eq_getElem?_getD, List.getElem?_set]
  by_cases e : i = j
  · rw [if_pos e, if_pos hi, if_pos e.symm]; rfl
  · rw [if_neg e, if_neg (fun z => e z.symm)]
theorem jc_setCharAt7 (d i c : Nat) (hs : jSB h γ a cap l) (hi : i < l.length) (hc : c < 128) : jC Z mJ7_setCharAt (d + 2) (jSS γ) [.ref a, .int (nI i), .int (nI c)] h (fun v h' => v = none ∧ jSB h' γ a cap (l.set i c) ∧ h'.1 = h.1 ∧ h'.2.1 = h.2.1) := by
  refine jC.of pnJ7 rfl (Nat.le_of_ble_eq_true rfl) rfl (fun X => ?_)
  have kc := k31 γ
  have hs0 := hs
  obtain ⟨hγ, hl, hcap, hlc, b, ml, f, ha, hb, hf⟩ := hs
  refine g_iload_n (pc := 0) dJ7_setCharAt_0 rfl rfl ?_
  refine g_aload_n (pc := 1) dJ7_setCharAt_1 rfl rfl ?_
  refine g_get (pc := 2) (r := (RJ8, TJ8, 4)) 3 dJ7_setCharAt_2 ha kc (Nat.le_of_ble_eq_true rfl) q211 (Or.inl rfl) rfl ?_
  refine g_invS (pc := 5) dJ7_setCharAt_5 (jc_checkIndex d i l.length hi (by omega)) meJ9_checkIndex q1620 q598 rfl rfl (Nat.le_of_ble_eq_true rfl) (by first | exact jF | exact fun _ z => z | assumption | (intro κ z; simp_all)) (jk_e ?_) jk_x
  refine g_aload_n (pc := 8) dJ7_setCharAt_8 rfl rfl ?_
  refine g_invV (pc := 9) dJ7_setCharAt_9 ha kc (jc_bIsLatin1 (d + 1) hs0) meJ7_isLatin1 q269 q270 q272 rfl rfl (Nat.le_of_ble_eq_true rfl) (by first | exact jF | exact fun _ z => z | assumption | (intro κ z; simp_all)) (jk_e ?_) jk_x
  refine g_if_eqN (pc := 12) (tgt := 33) dJ7_setCharAt_12 rfl (by omega) (fun q_ => absurd q_ (by omega)) (fun _ => ?_)
  refine g_iload_n (pc := 15) dJ7_setCharAt_15 rfl rfl ?_
  refine g_invS (pc := 16) dJ7_setCharAt_16 (jc_canEncode (d + 1) c hc) meJ15_canEncode q588 q589 rfl rfl (Nat.le_of_ble_eq_true rfl) (by first | exact jF | exact fun _ z => z | assumption | (intro κ z; simp_all)) (jk_e ?_) jk_x
  refine g_if_eqN (pc := 19) (tgt := 33) dJ7_setCharAt_19 rfl (by omega) (fun q_ => absurd q_ (by omega)) (fun _ => ?_)
  refine g_aload_n (pc := 22) dJ7_setCharAt_22 rfl rfl ?_
  refine g_get (pc := 23) (r := (RJ8, TJ8, 4)) 0 dJ7_setCharAt_23 ha kc (Nat.le_of_ble_eq_true rfl) q207 (Or.inl rfl) rfl ?_
  refine g_iload_n (pc := 26) dJ7_setCharAt_26 rfl rfl ?_
  refine g_iload_n (pc := 27) dJ7_setCharAt_27 rfl rfl ?_
  refine g_i2b (pc := 28) dJ7_setCharAt_28 ?_
  rw [byN hc]
  refine g_bast (pc := 29) i dJ7_setCharAt_29 hb (k60 γ) (by omega) rfl (by omega) (Or.inr rfl) ?_
  rw [byN hc]
  refine g_goto (pc := 30) (tgt := 58) dJ7_setCharAt_30 rfl ?_
  refine g_vret (pc := 58) dJ7_setCharAt_58 rfl ?_
  have hne : b ≠ a := fun e => by
    rw [e] at hb
    have z := congrArg Prod.fst (Option.some.inj (hb.symm.trans ha))
    have z : 100 * γ + 60 = 100 * γ + 31 := z
    omega
  refine ⟨_, rfl, rfl, ⟨hγ, ?_, hcap, by rw [List.length_set]; exact hlc, b, ml, _, by rw [List.length_set, hSet_n hne.symm]; exact ha, hSet_s _ _ _, fun j hj => ?_⟩, rfl, rfl⟩
  · intro x hx
    rcases List.mem_or_eq_of_mem_set hx with z | z
    · exact hl x z
    · rw [z]; exact hc
  · rw [List.length_set] at hj
    rw [getD_set hi]
    by_cases e : j = i
    · rw [if_pos e, e, upV_s]
    · rw [if_neg e, upV_n e]; exact hf j hj
theorem jc_setCharAt (d i c : Nat) (hs : jSB h γ a cap l) (hi : i < l.length) (hc : c < 128) : jC Z mJ8_setCharAt (d + 3) (jSS γ) [.ref a, .int (nI i), .int (nI c)] h (fun v h' => v = none ∧ jSB h' γ a cap (l.set i c) ∧ h'.1 = h.1 ∧ h'.2.1 = h.2.1) := by
  refine jC.of pnJ8 rfl (Nat.le_of_ble_eq_true rfl) rfl (fun X => ?_)
  have kc := k31 γ
  have hs0 := hs
  obtain ⟨hγ, hl, hcap, hlc, b, ml, f, ha, hb, hf⟩ := hs
  refine g_aload_n (pc := 0) dJ8_setCharAt_0 rfl rfl ?_
  refine g_iload_n (pc := 1) dJ8_setCharAt_1 rfl rfl ?_
  refine g_iload_n (pc := 2) dJ8_setCharAt_2 rfl rfl ?_
  refine g_invSU (pc := 3) dJ8_setCharAt_3 ha kc (jc_setCharAt7 d i c hs0 hi hc) meJ7_setCharAt (by decide) q1626 q1627 q2275 q220 rfl rfl (Nat.le_of_ble_eq_true rfl) (by first | exact jF | exact fun _ z => z | assumption | (intro κ z; simp_all)) (jk_n (fun v h1 hp fr => ?_)) jk_x
  obtain ⟨rfl, hp⟩ := hp
  exact g_vret (pc := 6) dJ8_setCharAt_6 rfl ⟨_, rfl, rfl, hp⟩
theorem getD_take {l : List Nat} {n i : Nat} (h : i < n) : (l.take n).getD i 0 = l.getD i 0 := by
  rw [List.getD_eq_getElem?_getD, List.getD_eq_getElem?_getD, List.getElem?_take_of_lt h]
theorem jc_setLength7 (d n : Nat) (hs : jSB h γ a cap l) (hn : n ≤ l.length) (hm : l.length ≤ 500000) (l1 : h.1 + 1 ≤ hLC Z) (l2 : h.2.1 + 2 * l.length ≤ hLS) : jC Z mJ7_setLength (d + 4) (jSS γ) [.ref a, .int (nI n)] h (fun v h' => v = none ∧ jSB h' γ a cap (l.take n) ∧ h'.1 = h.1 ∧ h'.2.1 = h.2.1) := by
  refine jC.of pnJ7 rfl (Nat.le_of_ble_eq_true rfl) rfl (fun X => ?_)
  have kc := k31 γ
  have hs0 := hs
  obtain ⟨hγ, hl, hcap, hlc, b, ml, f, ha, hb, hf⟩ := hs
  have hlen : (l.take n).length = n := by rw [List.length_take]; omega
  refine g_iload_n (pc := 0) dJ7_setLength_0 rfl rfl ?_
  refine g_if_geN (pc := 1) (tgt := 13) dJ7_setLength_1 rfl (by omega) ?_
  refine g_aload_n (pc := 13) dJ7_setLength_13 rfl rfl ?_
  refine g_iload_n (pc := 14) dJ7_setLength_14 rfl rfl ?_
  refine g_invP (pc := 15) dJ7_setLength_15 ha kc (jc_ensureN d n hs0 (by omega)) meJ7_ensureCapacityInternal q234 q236 hsJ8_J7_ensureCapacityInternal rfl rfl (Nat.le_of_ble_eq_true rfl) (by first | exact jF | exact fun _ z => z | assumption | (intro κ z; simp_all)) (jk_e ?_) jk_x
  refine g_aload_n (pc := 18) dJ7_setLength_18 rfl rfl ?_
  refine g_get (pc := 19) (r := (RJ8, TJ8, 4)) 3 dJ7_setLength_19 ha kc (Nat.le_of_ble_eq_true rfl) q211 (Or.inl rfl) rfl ?_
  refine g_iload_n (pc := 22) dJ7_setLength_22 rfl rfl ?_
  refine g_icmp_geN (pc := 23) (tgt := 63) dJ7_setLength_23 rfl (by omega) (by omega) (fun _ => ?_) (fun q_ => absurd q_ (by omega))
  refine g_aload_n (pc := 63) dJ7_setLength_63 rfl rfl ?_
  refine g_get (pc := 64) (r := (RJ8, TJ8, 4)) 3 dJ7_setLength_64 ha kc (Nat.le_of_ble_eq_true rfl) q211 (Or.inl rfl) rfl ?_
  refine g_iload_n (pc := 67) dJ7_setLength_67 rfl rfl ?_
  refine g_icmp_leN (pc := 68) (tgt := 76) dJ7_setLength_68 rfl (by omega) (by omega) (fun c68 => ?_) (fun c68 => ?_)
  · refine g_aload_n (pc := 76) dJ7_setLength_76 rfl rfl ?_
    refine g_iload_n (pc := 77) dJ7_setLength_77 rfl rfl ?_
    refine g_put (pc := 78) (r := (RJ8, TJ8, 4)) 3 dJ7_setLength_78 ha kc (Nat.le_of_ble_eq_true rfl) q211 (Or.inl rfl) rfl (by omega) (Or.inl rfl) (tyJ8_ok 3 (Nat.le_of_ble_eq_true rfl)) rfl rfl ?_
    refine g_vret (pc := 81) dJ7_setLength_81 rfl ?_
    exact ⟨_, rfl, rfl, ⟨hγ, fun c hc => hl c (List.mem_of_mem_take hc), hcap, by omega, b, ml, f, by rw [hlen]; exact hSet_s _ _ _, by rw [hSet_n (jBne hb ha)]; exact hb, fun i hi => by rw [getD_take (by omega)]; exact hf i (by omega)⟩, rfl, rfl⟩
  · refine g_aload_n (pc := 71) dJ7_setLength_71 rfl rfl ?_
    refine g_iconst (pc := 72) (v := nI 1) dJ7_setLength_72 rfl ?_
    refine g_put (pc := 73) (r := (RJ8, TJ8, 4)) 2 dJ7_setLength_73 ha kc (Nat.le_of_ble_eq_true rfl) q209 (Or.inl rfl) rfl (by omega) (Or.inl rfl) (tyJ8_ok 2 (Nat.le_of_ble_eq_true rfl)) (by first | exact bz_n _ | rfl) rfl ?_
    have ha2 := hSet_s h a (100 * γ + 31, .inl [.ref b, .int (nI 0), .int (nI 1), .int (nI l.length)])
    refine g_aload_n (pc := 76) dJ7_setLength_76 rfl rfl ?_
    refine g_iload_n (pc := 77) dJ7_setLength_77 rfl rfl ?_
    refine g_put (pc := 78) (r := (RJ8, TJ8, 4)) 3 dJ7_setLength_78 ha2 kc (Nat.le_of_ble_eq_true rfl) q211 (Or.inl rfl) rfl (by omega) (Or.inl rfl) (tyJ8_ok 3 (Nat.le_of_ble_eq_true rfl)) rfl rfl ?_
    refine g_vret (pc := 81) dJ7_setLength_81 rfl ?_
    exact ⟨_, rfl, rfl, ⟨hγ, fun c hc => hl c (List.mem_of_mem_take hc), hcap, by omega, b, _, f, by rw [hlen]; exact hSet_s _ _ _, by rw [hSet_n (jBne hb ha), hSet_n (jBne hb ha)]; exact hb, fun i hi => by rw [getD_take (by omega)]; exact hf i (by omega)⟩, rfl, rfl⟩
theorem jc_setLength (d n : Nat) (hs : jSB h γ a cap l) (hn : n ≤ l.length) (hm : l.length ≤ 500000) (l1 : h.1 + 1 ≤ hLC Z) (l2 : h.2.1 + 2 * l.length ≤ hLS) : jC Z mJ8_setLength (d + 5) (jSS γ) [.ref a, .int (nI n)] h (fun v h' => v = none ∧ jSB h' γ a cap (l.take n) ∧ h'.1 = h.1 ∧ h'.2.1 = h.2.1) := by
  refine jC.of pnJ8 rfl (Nat.le_of_ble_eq_true rfl) rfl (fun X => ?_)
  have kc := k31 γ
  have hs0 := hs
  obtain ⟨hγ, hl, hcap, hlc, b, ml, f, ha, hb, hf⟩ := hs
  refine g_aload_n (pc := 0) dJ8_setLength_0 rfl rfl ?_
  refine g_iload_n (pc := 1) dJ8_setLength_1 rfl rfl ?_
  refine g_invSU (pc := 2) dJ8_setLength_2 ha kc (jc_setLength7 d n hs0 hn hm l1 l2) meJ7_setLength (by decide) q720 q721 q2270 q220 rfl rfl (Nat.le_of_ble_eq_true rfl) (by first | exact jF | exact fun _ z => z | assumption | (intro κ z; simp_all)) (jk_n (fun v h1 hp fr => ?_)) jk_x
  obtain ⟨rfl, hp⟩ := hp
  exact g_vret (pc := 5) dJ8_setLength_5 rfl ⟨_, rfl, rfl, hp⟩
theorem jc_bgetValue (d b : Nat) (ml : Int32) (m : Nat) (ha : h.2.2 a = some (100 * γ + 31, .inl [.ref b, .int (nI 0), .int ml, .int (nI m)])) : jP Z mJ7_getValue d [.ref a] h (some (.ref b)) := by
  refine jC.of pnJ7 rfl (Nat.le_of_ble_eq_true rfl) rfl (fun X => ?_)
  have kc := k31 γ
  refine g_aload_n (pc := 0) dJ7_getValue_0 rfl rfl ?_
  refine g_get (pc := 1) (r := (RJ8, TJ8, 4)) 0 dJ7_getValue_1 ha kc (Nat.le_of_ble_eq_true rfl) q207 (Or.inl rfl) rfl ?_
  exact g_aret (pc := 4) dJ7_getValue_4 rfl (Or.inr ⟨_, rfl⟩) (Or.inr ⟨_, rfl⟩) ⟨_, rfl, rfl, rfl⟩
end JC
