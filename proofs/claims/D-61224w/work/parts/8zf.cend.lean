/-! COMPONENT 36: kind, size, at, type -/
set_option maxRecDepth 100000
theorem dk_X1 {Z : hE} {X : hX} {d : Nat} {S : Nat → Prop} {hin : hP} {K : hO → hP → Prop} {ls : List (Nat × Value)} {h : hP} {S' : Nat → Prop} {K' : hO → hP → Prop} {b : Nat} {rest : List Value} (hc : hDs Z d S' b [] h K' [(5, mX5_kind), (6, mX6_kind), (7, mX7_kind), (8, mX8_kind), (21, mX21_kind)]) (hw : (rest.map fun v => v.category).sum ≤ 8) (hS : ∀ κ, S' κ → S κ)
    (kn : ∀ v h', K' (.inl v) h' → hFr S' h h' → hG Z X mX1_kind (d + 1) S hin K (5 + 3) ls (v.toList ++ rest) h')
    (kx : ∀ E h', K' (.inr E) h' → hFr S' h h' → hGX Z X mX1_kind (d + 1) S hin K 5 ls E h') : hG Z X mX1_kind (d + 1) S hin K 5 ls (.ref b :: rest) h := by
  obtain ⟨κ, fs, M', hb, hm, hct⟩ := hc
  simp only [List.mem_cons, Prod.mk.injEq, List.not_mem_nil, or_false] at hm
  rcases hm with ⟨hk, rfl⟩ | ⟨hk, rfl⟩ | ⟨hk, rfl⟩ | ⟨hk, rfl⟩ | ⟨hk, rfl⟩
  · exact g_invU (pc := 5) dX1_kind_5 (r := (RX5, TX5, 2)) hb (by rw [hk]; rfl) hct meX5_kind q880 q882 (Or.inl q881) q893 q892 ⟨⟨by decide, by decide⟩, rfl⟩ rfl rfl hw hS kn kx
  · exact g_invU (pc := 5) dX1_kind_5 (r := (RX6, TX6, 3)) hb (by rw [hk]; rfl) hct meX6_kind q880 q882 (Or.inl q881) q896 q895 ⟨⟨by decide, by decide⟩, rfl⟩ rfl rfl hw hS kn kx
  · exact g_invU (pc := 5) dX1_kind_5 (r := (RX7, TX7, 3)) hb (by rw [hk]; rfl) hct meX7_kind q880 q882 (Or.inl q881) q887 q886 ⟨⟨by decide, by decide⟩, rfl⟩ rfl rfl hw hS kn kx
  · exact g_invU (pc := 5) dX1_kind_5 (r := (RX8, TX8, 4)) hb (by rw [hk]; rfl) hct meX8_kind q880 q882 (Or.inl q881) q890 q889 ⟨⟨by decide, by decide⟩, rfl⟩ rfl rfl hw hS kn kx
  · exact g_invU (pc := 5) dX1_kind_5 (r := (RX21, TX21, 3)) hb (by rw [hk]; rfl) hct meX21_kind q880 q882 (Or.inl q881) q884 q883 ⟨⟨by decide, by decide⟩, rfl⟩ rfl rfl hw hS kn kx
theorem dz_X1 {Z : hE} {X : hX} {d : Nat} {S : Nat → Prop} {hin : hP} {K : hO → hP → Prop} {ls : List (Nat × Value)} {h : hP} {S' : Nat → Prop} {K' : hO → hP → Prop} {b : Nat} {rest : List Value} (hc : hDs Z d S' b [] h K' [(5, mX5_size), (6, mX6_size), (7, mX7_size), (8, mX7_size), (21, mX21_size)]) (hw : (rest.map fun v => v.category).sum ≤ 8) (hS : ∀ κ, S' κ → S κ)
    (kn : ∀ v h', K' (.inl v) h' → hFr S' h h' → hG Z X mX1_size (d + 1) S hin K (5 + 3) ls (v.toList ++ rest) h')
    (kx : ∀ E h', K' (.inr E) h' → hFr S' h h' → hGX Z X mX1_size (d + 1) S hin K 5 ls E h') : hG Z X mX1_size (d + 1) S hin K 5 ls (.ref b :: rest) h := by
  obtain ⟨κ, fs, M', hb, hm, hct⟩ := hc
  simp only [List.mem_cons, Prod.mk.injEq, List.not_mem_nil, or_false] at hm
  rcases hm with ⟨hk, rfl⟩ | ⟨hk, rfl⟩ | ⟨hk, rfl⟩ | ⟨hk, rfl⟩ | ⟨hk, rfl⟩
  · exact g_invU (pc := 5) dX1_size_5 (r := (RX5, TX5, 2)) hb (by rw [hk]; rfl) hct meX5_size q1792 q1656 (Or.inl q1655) q1665 q1664 ⟨⟨by decide, by decide⟩, rfl⟩ rfl rfl hw hS kn kx
  · exact g_invU (pc := 5) dX1_size_5 (r := (RX6, TX6, 3)) hb (by rw [hk]; rfl) hct meX6_size q1792 q1656 (Or.inl q1655) q1669 q1668 ⟨⟨by decide, by decide⟩, rfl⟩ rfl rfl hw hS kn kx
  · exact g_invU (pc := 5) dX1_size_5 (r := (RX7, TX7, 3)) hb (by rw [hk]; rfl) hct meX7_size q1792 q1656 (Or.inl q1655) q1661 q1660 ⟨⟨by decide, by decide⟩, rfl⟩ rfl rfl hw hS kn kx
  · exact g_invU (pc := 5) dX1_size_5 (r := (RX8, TX8, 4)) hb (by rw [hk]; rfl) hct meX7_size q1792 q1656 (Or.inl q1655) q1661 q1663 ⟨⟨by decide, by decide⟩, rfl⟩ rfl rfl hw hS kn kx
  · exact g_invU (pc := 5) dX1_size_5 (r := (RX21, TX21, 3)) hb (by rw [hk]; rfl) hct meX21_size q1792 q1656 (Or.inl q1655) q1658 q1657 ⟨⟨by decide, by decide⟩, rfl⟩ rfl rfl hw hS kn kx
section EB
variable {Z : hE} {h : hP} {D : aD} {w : cW} {q E dl ta ln rd tg th sr el : Nat} {ea : Int32}
theorem en_kind (d : Nat) (x : Int32) (hE : h.2.2 E = some (eF dl ta ln rd ea tg th sr)) (hL : eL Z D w h dl el) (hD : cD D w h q) (l1 : h.1 + 1 ≤ hLC Z) (l2 : h.2.1 + 6 ≤ hLS) : hCt Z mX1_kind (d + 9) (fun κ => κ = 1) [.ref E, .int x] h (fun r h' => (0 ≤ x.toInt ∧ x.toInt < D.1 ∧ r = .inl (some (.int (nI (kdV D (aVof D x.toInt.toNat))))) ∧ h' = h) ∨ (¬ (0 ≤ x.toInt ∧ x.toInt < D.1) ∧ r = .inr NSEE ∧ eTh h E (eF dl ta ln rd ea tg (th + 1) sr) h')) := by
  refine hCt.of pnX1 rfl (Nat.le_of_ble_eq_true rfl) rfl (fun X => ?_)
  refine g_aload_n (pc := 0) dX1_kind_0 rfl rfl ?_
  refine g_iload_n (pc := 1) dX1_kind_1 rfl rfl ?_
  refine g_invV (pc := 2) dX1_kind_2 hE rfl (en_any d x hE hL hD l1 l2) meX1_any q844 q846 qs7 rfl rfl (Nat.le_of_ble_eq_true rfl) (fun κ z => z) (fun v h1 hp fr => ?_) (fun E' h1 hp fr => ?_)
  · rcases hp with ⟨z1, z2, z3, z4⟩ | ⟨_, z3, _⟩
    · have z3 := Sum.inl.inj z3
      subst z3
      have z4 := z4.symm
      subst z4
      have hk : x.toInt.toNat < D.1 := by omega
      refine dk_X1 (ck_val hD (d + 8) (hD.v hk)) (Nat.le_of_ble_eq_true rfl) jF (jk_e ?_) jk_x
      exact g_iret (pc := 8) dX1_kind_8 rfl (Or.inl ⟨z1, z2, rfl, rfl⟩)
    · cases z3
  · refine gx_out (fun x hx => by cases hx) ?_
    rcases hp with ⟨_, _, z3, _⟩ | ⟨z1, z2, z3⟩
    · cases z3
    · exact Or.inr ⟨z1, z2, z3⟩
theorem en_size (d : Nat) (x : Int32) (hE : h.2.2 E = some (eF dl ta ln rd ea tg th sr)) (hL : eL Z D w h dl el) (hD : cD D w h q) (l1 : h.1 + 1 ≤ hLC Z) (l2 : h.2.1 + 6 ≤ hLS) : hCt Z mX1_size (d + 9) (fun κ => κ = 1) [.ref E, .int x] h (fun r h' => (0 ≤ x.toInt ∧ x.toInt < D.1 ∧ r = .inl (some (.int (nI (lnV D (aVof D x.toInt.toNat))))) ∧ h' = h) ∨ (¬ (0 ≤ x.toInt ∧ x.toInt < D.1) ∧ r = .inr NSEE ∧ eTh h E (eF dl ta ln rd ea tg (th + 1) sr) h')) := by
  refine hCt.of pnX1 rfl (Nat.le_of_ble_eq_true rfl) rfl (fun X => ?_)
  refine g_aload_n (pc := 0) dX1_size_0 rfl rfl ?_
  refine g_iload_n (pc := 1) dX1_size_1 rfl rfl ?_
  refine g_invV (pc := 2) dX1_size_2 hE rfl (en_any d x hE hL hD l1 l2) meX1_any q844 q846 qs7 rfl rfl (Nat.le_of_ble_eq_true rfl) (fun κ z => z) (fun v h1 hp fr => ?_) (fun E' h1 hp fr => ?_)
  · rcases hp with ⟨z1, z2, z3, z4⟩ | ⟨_, z3, _⟩
    · have z3 := Sum.inl.inj z3
      subst z3
      have z4 := z4.symm
      subst z4
      have hk : x.toInt.toNat < D.1 := by omega
      refine dz_X1 (cz_val hD (d + 8) (by omega) (hD.v hk)) (Nat.le_of_ble_eq_true rfl) jF (jk_e ?_) jk_x
      exact g_iret (pc := 8) dX1_size_8 rfl (Or.inl ⟨z1, z2, rfl, rfl⟩)
    · cases z3
  · refine gx_out (fun x hx => by cases hx) ?_
    rcases hp with ⟨_, _, z3, _⟩ | ⟨z1, z2, z3⟩
    · cases z3
    · exact Or.inr ⟨z1, z2, z3⟩
theorem en_at (d γ cap : Nat) (out : List Nat) (x : Int32) (hE : h.2.2 E = some (eF dl ta ln rd ea tg th sr)) (hO : cO h γ rd cap out) (l1 : h.1 + 1 ≤ hLC Z) (l2 : h.2.1 + 6 ≤ hLS) : hCt Z mX1_at (d + 8) (fun κ => κ = 1) [.ref E, .int x] h (fun r h' => (0 ≤ x.toInt ∧ x.toInt < out.length ∧ r = .inl (some (.int (nI (out.getD x.toInt.toNat 0)))) ∧ h' = h) ∨ (¬ (0 ≤ x.toInt ∧ x.toInt < out.length) ∧ r = .inr IOOB ∧ eTh h E (eF dl ta ln rd ea tg (th + 1) sr) h')) := by
  refine hCt.of pnX1 rfl (Nat.le_of_ble_eq_true rfl) rfl (fun X => ?_)
  have hO0 := hO
  obtain ⟨a1, a2, at1, a3, a4⟩ := hO
  have kc := k02 γ
  have bad : ¬ (0 ≤ x.toInt ∧ x.toInt < out.length) → hG Z X mX1_at (d + 8) (fun κ => κ = 1) h (fun r h' => (0 ≤ x.toInt ∧ x.toInt < out.length ∧ r = .inl (some (.int (nI (out.getD x.toInt.toNat 0)))) ∧ h' = h) ∨ (¬ (0 ≤ x.toInt ∧ x.toInt < out.length) ∧ r = .inr IOOB ∧ eTh h E (eF dl ta ln rd ea tg (th + 1) sr) h')) 15 [(0, .ref E), (1, .int x)] [] h := by
    intro hb
    refine g_aload_n (pc := 15) dX1_at_15 rfl rfl ?_
    refine g_invV (pc := 16) dX1_at_16 hE rfl (en_outside d hE l1 l2) meX1_outside q990 q992 qs9 rfl rfl (Nat.le_of_ble_eq_true rfl) (by first | exact jF | exact fun _ z => z | assumption | (intro κ z; simp_all)) (jk_n (fun v h1 hp fr => ?_)) jk_x
    obtain ⟨rfl, rfl, hwf⟩ := hp
    refine g_athrow (pc := 19) dX1_at_19 (hNew_s _ _ _) (by decide) rfl ?_
    refine gx_out (fun x hx => by cases hx) ?_
    exact Or.inr ⟨hb, rfl, eTh.mk hE rfl rfl hwf⟩
  refine g_iload_n (pc := 0) dX1_at_0 rfl rfl ?_
  refine g_if_lt (pc := 1) (tgt := 15) dX1_at_1 rfl (fun q1 => ?_) (fun q1 => ?_)
  · refine bad (fun z => ?_)
    have := Int32.lt_iff_toInt_lt.mp q1
    simp at this
    omega
  · obtain ⟨i, hi, rfl⟩ := nI_of q1
    refine g_iload_n (pc := 4) dX1_at_4 rfl rfl ?_
    refine g_aload_n (pc := 5) dX1_at_5 rfl rfl ?_
    refine g_get (pc := 6) (r := (RX1, TX1, 8)) 3 dX1_at_6 hE rfl (Nat.le_of_ble_eq_true rfl) q498 (Or.inl rfl) rfl ?_
    refine g_invV (pc := 9) dX1_at_9 a3 kc (co_length (d + 5) hO0) meX2_length q533 q534 q535 rfl rfl (Nat.le_of_ble_eq_true rfl) (by first | exact jF | exact fun _ z => z | assumption | (intro κ z; simp_all)) (jk_e ?_) jk_x
    refine g_icmp_ltN (pc := 12) (tgt := 20) dX1_at_12 rfl (by omega) (by omega) (fun q2 => ?_) (fun q2 => ?_)
    · refine g_aload_n (pc := 20) dX1_at_20 rfl rfl ?_
      refine g_get (pc := 21) (r := (RX1, TX1, 8)) 3 dX1_at_21 hE rfl (Nat.le_of_ble_eq_true rfl) q498 (Or.inl rfl) rfl ?_
      refine g_iload_n (pc := 24) dX1_at_24 rfl rfl ?_
      refine g_invV (pc := 25) dX1_at_25 a3 kc (co_at (d + 3) i hO0 q2) meX2_at q1774 q1775 q1776 rfl rfl (Nat.le_of_ble_eq_true rfl) (by first | exact jF | exact fun _ z => z | assumption | (intro κ z; simp_all)) (jk_e ?_) jk_x
      refine g_iret (pc := 28) dX1_at_28 rfl ?_
      refine Or.inl ⟨by rw [nI_toInt hi]; omega, by rw [nI_toInt hi]; omega, ?_, rfl⟩
      rw [nI_toInt hi, Int.toNat_natCast]
    · refine bad (fun z => ?_)
      rw [nI_toInt hi] at z
      omega
theorem en_type (d cap : Nat) (l : List Nat) (c : Int32) (hE : h.2.2 E = some (eF dl ta ln rd ea tg th sr)) (hB : jSB h 1 ln cap l) (hl : l.length ≤ 64) (hcap : 200 ≤ cap) (hcap2 : cap ≤ 1000) (l1 : h.1 + 1 ≤ hLC Z) (l2 : h.2.1 + 3000 ≤ hLS) : hCt Z mX1_type (d + 8) (fun κ => κ = 1 ∨ jSS 1 κ) [.ref E, .int c] h (fun r h' => (0 ≤ c.toInt ∧ c.toInt ≤ 127 ∧ r = .inl (some (.int (nI (l.length + 1)))) ∧ ∃ cap', jSB h' 1 ln cap' (l ++ [c.toInt.toNat]) ∧ jGr h h' cap cap' (l.length + 1) ∧ hFr (jSS 1) h h') ∨ (¬ (0 ≤ c.toInt ∧ c.toInt ≤ 127) ∧ r = .inr IAE ∧ eTh h E (eF dl ta ln rd ea tg (th + 1) sr) h')) := by
  refine hCt.of pnX1 rfl (Nat.le_of_ble_eq_true rfl) rfl (fun X => ?_)
  have hB0 := hB
  obtain ⟨b0, b1, b2, b3, bb, ml, ff, ht, hbb, hff⟩ := hB
  have kt := k31 1
  have bad : ¬ (0 ≤ c.toInt ∧ c.toInt ≤ 127) → hG Z X mX1_type (d + 8) (fun κ => κ = 1 ∨ jSS 1 κ) h (fun r h' => (0 ≤ c.toInt ∧ c.toInt ≤ 127 ∧ r = .inl (some (.int (nI (l.length + 1)))) ∧ ∃ cap', jSB h' 1 ln cap' (l ++ [c.toInt.toNat]) ∧ jGr h h' cap cap' (l.length + 1) ∧ hFr (jSS 1) h h') ∨ (¬ (0 ≤ c.toInt ∧ c.toInt ≤ 127) ∧ r = .inr IAE ∧ eTh h E (eF dl ta ln rd ea tg (th + 1) sr) h')) 10 [(0, .ref E), (1, .int c)] [] h := by
    intro hb
    refine g_aload_n (pc := 10) dX1_type_10 rfl rfl ?_
    refine g_invV (pc := 11) dX1_type_11 hE rfl (en_badArgument d hE l1 (by omega)) meX1_badArgument q547 q549 qs1 rfl rfl (Nat.le_of_ble_eq_true rfl) (fun κ z => Or.inl z) (jk_n (fun v h1 hp fr => ?_)) jk_x
    obtain ⟨rfl, rfl, hwf⟩ := hp
    refine g_athrow (pc := 14) dX1_type_14 (hNew_s _ _ _) (by decide) rfl ?_
    refine gx_out (fun x hx => by cases hx) ?_
    exact Or.inr ⟨hb, rfl, eTh.mk hE rfl rfl hwf⟩
  refine g_iload_n (pc := 0) dX1_type_0 rfl rfl ?_
  refine g_if_lt (pc := 1) (tgt := 10) dX1_type_1 rfl (fun q1 => ?_) (fun q1 => ?_)
  · refine bad (fun z => ?_)
    have := Int32.lt_iff_toInt_lt.mp q1
    simp at this
    omega
  · obtain ⟨i, hi, rfl⟩ := nI_of q1
    refine g_iload_n (pc := 4) dX1_type_4 rfl rfl ?_
    refine g_bipush (pc := 5) (v := nI 127) dX1_type_5 rfl ?_
    refine g_icmp_leN (pc := 7) (tgt := 15) dX1_type_7 rfl (by omega) (by omega) (fun q2 => ?_) (fun q2 => ?_)
    · refine g_aload_n (pc := 15) dX1_type_15 rfl rfl ?_
      refine g_get (pc := 16) (r := (RX1, TX1, 8)) 2 dX1_type_16 hE rfl (Nat.le_of_ble_eq_true rfl) q497 (Or.inl rfl) rfl ?_
      refine g_invV (pc := 19) dX1_type_19 ht kt (jc_blength (d + 6) hB0) meJ8_length q532 q390 q2268 rfl rfl (Nat.le_of_ble_eq_true rfl) (by first | exact jF | exact fun _ z => z | assumption | (intro κ z; simp_all)) (jk_e ?_) jk_x
      refine g_sipush (pc := 22) (v := nI 200) dX1_type_22 rfl ?_
      refine g_icmp_neN (pc := 25) (tgt := 33) dX1_type_25 rfl (by omega) (by omega) (fun _ => ?_) (fun q_ => absurd q_ (by omega))
      refine g_aload_n (pc := 33) dX1_type_33 rfl rfl ?_
      refine g_get (pc := 34) (r := (RX1, TX1, 8)) 2 dX1_type_34 hE rfl (Nat.le_of_ble_eq_true rfl) q497 (Or.inl rfl) rfl ?_
      refine g_iload_n (pc := 37) dX1_type_37 rfl rfl ?_
      refine g_i2cN (pc := 38) dX1_type_38 (by omega) ?_
      refine g_invV (pc := 39) dX1_type_39 ht kt (jc_appendC (d + 2) i hB0 (by omega) (by omega) l1 (by omega)) meJ8_append_3 q581 q582 q583 rfl rfl (Nat.le_of_ble_eq_true rfl) (fun κ z => Or.inr z) (jk_n (fun v h1 hp1 fr1 => ?_)) jk_x
      obtain ⟨rfl, cap', hB1, hgr⟩ := hp1
      have hE1 := (fr1.2.2 _ _ hE).1 (by rintro (z | z) <;> cases z)
      have hB10 := hB1
      obtain ⟨c0, c1, c2, c3, cb, cm, cf, ct, cbb, cff⟩ := hB10
      refine g_pop (pc := 42) dX1_type_42 rfl ?_
      refine g_aload_n (pc := 43) dX1_type_43 rfl rfl ?_
      refine g_get (pc := 44) (r := (RX1, TX1, 8)) 2 dX1_type_44 hE1 rfl (Nat.le_of_ble_eq_true rfl) q497 (Or.inl rfl) rfl ?_
      refine g_invV (pc := 47) dX1_type_47 ct kt (jc_blength (d + 6) hB1) meJ8_length q532 q390 q2268 rfl rfl (Nat.le_of_ble_eq_true rfl) (by first | exact jF | exact fun _ z => z | assumption | (intro κ z; simp_all)) (jk_e ?_) jk_x
      rw [List.length_append]
      refine g_iret (pc := 50) dX1_type_50 rfl ?_
      refine Or.inl ⟨by rw [nI_toInt hi]; omega, by rw [nI_toInt hi]; omega, rfl, cap', ?_, hgr, fr1⟩
      rw [nI_toInt hi, Int.toNat_natCast]
      exact hB1
    · refine bad (fun z => ?_)
      rw [nI_toInt hi] at z
      omega
end EB
