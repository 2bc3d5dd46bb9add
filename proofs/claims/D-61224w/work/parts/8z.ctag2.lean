/-! COMPONENT 31: toTag -/
set_option maxRecDepth 100000
section PT
variable {Z : hE} {h : hP} {κ a E P s : Nat} {l : List Nat} {e0 e1 e2 e3 e5 e6 e7 tg pl tr ins : Value} {ea : Int32}
theorem pt_toTag (d p : Nat) (hQ : h.2.2 P = some (9, .inl [.ref E, .ref s, .int (nI p), tg, pl, tr, ins])) (hs : jSt h κ s l) (hκ : kK κ) (hp : p ≤ l.length) (hL : l.length ≤ 64) (hE : h.2.2 E = some (eC e0 e1 e2 e3 ea e5 e6 e7)) (l1 : h.1 + 20 ≤ hLC Z) (l2 : h.2.1 + 1000 ≤ hLS) : hCt Z mX9_toTag (d + 8) (fun κ => κ = 9 ∨ κ = 1) [.ref P] h (tgQ h E P s p l (fun v => eC e0 e1 e2 e3 v e5 e6 e7) tg tr ins) := by
  have kw := hs.cl
  have hs0 := hs
  obtain ⟨-, hc128, bw, κb, hs1, hz, hsw, -⟩ := hs0
  have k9 : κ ≠ 9 := by rcases hκ with z | z <;> rw [z] <;> decide
  have f9 : ∀ c, hFr (fun κ => κ = 9) h (hSet h P (9, c)) := fun c => (hFr.rf h).set hQ rfl rfl
  have jS : ∀ {κ' q : Nat} {w : List Nat} {h1 h2 : hP}, kK κ' → hFr (fun κ => κ = 9) h1 h2 → jSt h1 κ' q w → jSt h2 κ' q w := fun {κ' q w h1 h2} hk f j => j.fr f (by show ¬ (κ' = 9); rcases hk with z | z <;> rw [z] <;> decide) (by decide) (by decide)
  have fF : ∀ {h1 h2 : hP}, hFr (fun _ => False) h1 h2 → hFr (fun κ => κ = 9) h1 h2 := fun f => hFr.mono (fun _ z => z.elim) f
  refine hCt.of pnX9 rfl (Nat.le_of_ble_eq_true rfl) rfl (fun X => ?_)
  refine g_aload_n (pc := 0) dX9_toTag_0 rfl rfl ?_
  refine g_get (pc := 1) (r := (RX9, TX9, 7)) 1 dX9_toTag_1 hQ rfl (Nat.le_of_ble_eq_true rfl) q1016 (Or.inl rfl) rfl ?_
  refine g_ldcK (pc := 4) dX9_toTag_4 ksX9_17 (fun hk1 => ?_)
  refine g_aload_n (pc := 6) dX9_toTag_6 rfl rfl ?_
  refine g_get (pc := 7) (r := (RX9, TX9, 7)) 2 dX9_toTag_7 hQ rfl (Nat.le_of_ble_eq_true rfl) q1017 (Or.inl rfl) rfl ?_
  refine g_invV (pc := 10) dX9_toTag_10 hsw kw (jc_indexOf (d + 4) 930 _ p _ hs hk1 (by decide) (by decide) hp (by omega) (by decide)) meJ9_indexOf q1051 q1052 q1053 rfl rfl (Nat.le_of_ble_eq_true rfl) (by first | exact jF | exact fun _ z => z | assumption | (intro κ z; simp_all)) (jk_e ?_) jk_x
  cases hix : ixO l [123, 123] p with
  | none =>
    have hP1 := hSet_s h P (9, .inl [.ref E, .ref s, .int (nI p), tg, .int (-1), tr, ins])
    have hs1 := jS hκ (f9 (.inl [.ref E, .ref s, .int (nI p), tg, .int (-1), tr, ins])) hs
    have kw1 := hs1.cl
    have hs10 := hs1
    obtain ⟨-, -, bw1, κb1, hs11, hz1, hsw1, -⟩ := hs10
    refine g_istore_n (pc := 13) (ls' := [(0, _), (1, _)]) dX9_toTag_13 rfl (Nat.le_of_ble_eq_true rfl) rfl ?_
    refine g_aload_n (pc := 14) dX9_toTag_14 rfl rfl ?_
    refine g_iload_n (pc := 15) dX9_toTag_15 rfl rfl ?_
    refine g_put (pc := 16) (r := (RX9, TX9, 7)) 4 dX9_toTag_16 hQ rfl (Nat.le_of_ble_eq_true rfl) q1020 (Or.inl rfl) rfl (by decide) (Or.inl rfl) (tyX9_ok 4 (Nat.le_of_ble_eq_true rfl)) rfl rfl ?_
    show hG Z X mX9_toTag (d + 8) _ h _ 19 [(0, .ref P), (1, .int (-1))] [] (hSet h P (9, .inl [.ref E, .ref s, .int (nI p), tg, .int (-1), tr, ins]))
    refine g_iload_n (pc := 19) dX9_toTag_19 rfl rfl ?_
    refine g_if_ge (pc := 20) (tgt := 48) dX9_toTag_20 rfl (fun z => absurd z (by decide)) (fun _ => ?_)
    refine g_aload_n (pc := 23) dX9_toTag_23 rfl rfl ?_
    refine g_get (pc := 24) (r := (RX9, TX9, 7)) 1 dX9_toTag_24 hP1 rfl (Nat.le_of_ble_eq_true rfl) q1016 (Or.inl rfl) rfl ?_
    refine g_aload_n (pc := 27) dX9_toTag_27 rfl rfl ?_
    refine g_get (pc := 28) (r := (RX9, TX9, 7)) 2 dX9_toTag_28 hP1 rfl (Nat.le_of_ble_eq_true rfl) q1017 (Or.inl rfl) rfl ?_
    refine g_invV (pc := 31) dX9_toTag_31 hsw1 kw1 (jc_substring (d + 2) 30 p hs1 (Or.inl rfl) hp (by omega) (by simp only [hSet_1]; omega) (by simp only [hSet_2]; omega)) meJ9_substring q1091 q1092 q1093 rfl rfl (Nat.le_of_ble_eq_true rfl) (by first | exact jF | exact fun _ z => z | assumption | (intro κ z; simp_all)) (jk_n (fun v h2 hp2 fr2 => ?_)) jk_x
    obtain ⟨q, κq, rfl, jq, kq, rm⟩ : ∃ q κq, v = some (.ref q) ∧ jSt h2 κq q (sbL l p l.length) ∧ kK κq ∧ jRm h h2 2 (4 + l.length) := by
      rcases hp2 with ⟨sn, κn, z1, z2, z3, z4⟩ | ⟨z1, z2, z3⟩
      · refine ⟨sn, κn, z1, z2, z3, ⟨z4.1, Nat.le_trans z4.2 (Nat.add_le_add_left (Nat.add_le_add_left (by rw [sbL_len]; omega) _) _)⟩⟩
      · refine ⟨s, κ, z2, ?_, hκ, ⟨by rw [z3]; simp only [hSet_1]; omega, by rw [z3]; simp only [hSet_2]; omega⟩⟩
        rw [z1, sbL_all, z3]
        exact hs1
    have r1 := rm.1
    have r2 := rm.2
    have hP2 := (fr2.2.2 _ _ hP1).1 (fun z => z)
    have hs2 := hs1.fr fr2 (fun z => z) (fun z => z) (fun z => z)
    have kw2 := hs2.cl
    have hs20 := hs2
    obtain ⟨-, -, bw2, κb2, hs12, hz2, hsw2, -⟩ := hs20
    refine g_astore_n (pc := 34) (ls' := [(0, _), (1, _), (2, _)]) dX9_toTag_34 rfl (Nat.le_of_ble_eq_true rfl) rfl ?_
    refine g_aload_n (pc := 35) dX9_toTag_35 rfl rfl ?_
    refine g_aload_n (pc := 36) dX9_toTag_36 rfl rfl ?_
    refine g_get (pc := 37) (r := (RX9, TX9, 7)) 1 dX9_toTag_37 hP2 rfl (Nat.le_of_ble_eq_true rfl) q1016 (Or.inl rfl) rfl ?_
    refine g_invV (pc := 40) dX9_toTag_40 hsw2 kw2 (jc_length (d + 6) hs2) meJ9_length q1118 q301 q302 rfl rfl (Nat.le_of_ble_eq_true rfl) (by first | exact jF | exact fun _ z => z | assumption | (intro κ z; simp_all)) (jk_e ?_) jk_x
    refine g_put (pc := 43) (r := (RX9, TX9, 7)) 2 dX9_toTag_43 hP2 rfl (Nat.le_of_ble_eq_true rfl) q1017 (Or.inl rfl) rfl (by decide) (Or.inl rfl) (tyX9_ok 2 (Nat.le_of_ble_eq_true rfl)) rfl rfl ?_
    refine g_aload_n (pc := 46) dX9_toTag_46 rfl rfl ?_
    refine g_aret (pc := 47) dX9_toTag_47 rfl (Or.inl ⟨_, rfl⟩) (Or.inr ⟨_, rfl⟩) ?_
    have f3 : hFr (fun κ => κ = 9) h2 (hSet h2 P (9, .inl [.ref E, .ref s, .int (nI l.length), tg, .int (-1), tr, ins])) := (hFr.rf h2).set hP2 rfl rfl
    exact ⟨⟨by simp only [hSet_1]; omega, by simp only [hSet_2]; omega⟩, Or.inl ⟨hix, q, κq, rfl, jS kq f3 jq, kq, hSet_s _ _ _, ((f9 _).tr (fF fr2)).tr f3⟩⟩
  | some k =>
    obtain ⟨i1, i2, i3, i4⟩ := ixO_inv hix
    have i5 := stB_len (by simp) (by simp) i3
    simp at i5
    cases hth : stB (lF l) l.length k [123, 123, 123] with
    | true =>
      have i6 := stB_len (by simp) (by simp) hth
      simp at i6
      have hP1 := hSet_s h P (9, .inl [.ref E, .ref s, .int (nI p), tg, .int (nI k), tr, ins])
      have hP2 := hSet_s h P (9, .inl [.ref E, .ref s, .int (nI p), tg, .int (nI k), .int (nI (true : Bool).toNat), ins])
      have hs1 := jS hκ (f9 (.inl [.ref E, .ref s, .int (nI p), tg, .int (nI k), tr, ins])) hs
      have hs2 := jS hκ (f9 (.inl [.ref E, .ref s, .int (nI p), tg, .int (nI k), .int (nI (true : Bool).toNat), ins])) hs
      have kw2 := hs2.cl
      have hs20 := hs2
      obtain ⟨-, -, bw2, κb2, hs12, hz2, hsw2, -⟩ := hs20
      have hE2 : (hSet h P (9, .inl [.ref E, .ref s, .int (nI p), tg, .int (nI k), .int (nI (true : Bool).toNat), ins])).2.2 E = some (eC e0 e1 e2 e3 ea e5 e6 e7) := by
        rw [hSet_n (fun z => by rw [z, hQ] at hE; cases hE)]; exact hE
      show hG Z X mX9_toTag (d + 8) _ h _ 13 [(0, .ref P)] [.int (nI k)] h
      refine g_istore_n (pc := 13) (ls' := [(0, _), (1, _)]) dX9_toTag_13 rfl (Nat.le_of_ble_eq_true rfl) rfl ?_
      refine g_aload_n (pc := 14) dX9_toTag_14 rfl rfl ?_
      refine g_iload_n (pc := 15) dX9_toTag_15 rfl rfl ?_
      refine g_put (pc := 16) (r := (RX9, TX9, 7)) 4 dX9_toTag_16 hQ rfl (Nat.le_of_ble_eq_true rfl) q1020 (Or.inl rfl) rfl (by decide) (Or.inl rfl) (tyX9_ok 4 (Nat.le_of_ble_eq_true rfl)) rfl rfl ?_
      refine g_iload_n (pc := 19) dX9_toTag_19 rfl rfl ?_
      refine g_if_geN (pc := 20) (tgt := 48) (a := k) dX9_toTag_20 rfl (by omega) ?_
      refine g_aload_n (pc := 48) dX9_toTag_48 rfl rfl ?_
      refine g_aload_n (pc := 49) dX9_toTag_49 rfl rfl ?_
      refine g_get (pc := 50) (r := (RX9, TX9, 7)) 1 dX9_toTag_50 hP1 rfl (Nat.le_of_ble_eq_true rfl) q1016 (Or.inl rfl) rfl ?_
      refine g_ldcK (pc := 53) dX9_toTag_53 ksX9_40 (fun hk3 => ?_)
      refine g_iload_n (pc := 55) dX9_toTag_55 rfl rfl ?_
      refine g_invSN (pc := 56) dX9_toTag_56 (cs_starts (d + 3) 930 _ k _ hs1 hk3 (by decide) (by decide) (by omega) (by decide) (by omega)) meX1_starts q1120 q1121 rfl rfl (Nat.le_of_ble_eq_true rfl) (by first | exact jF | exact fun _ z => z | assumption | (intro κ z; simp_all)) (jk_e ?_) jk_x
      rw [show stB (fun i => l.getD i 0) l.length k [123, 123, 123] = true from hth]
      refine g_put (pc := 59) (r := (RX9, TX9, 7)) 5 dX9_toTag_59 hP1 rfl (Nat.le_of_ble_eq_true rfl) q1021 (Or.inl rfl) rfl (by decide) (Or.inl rfl) (tyX9_ok 5 (Nat.le_of_ble_eq_true rfl)) (by first | exact bz_n _ | rfl) rfl ?_
      rw [hSet_Set]
      refine g_iload_n (pc := 62) dX9_toTag_62 rfl rfl ?_
      refine g_aload_n (pc := 63) dX9_toTag_63 rfl rfl ?_
      refine g_get (pc := 64) (r := (RX9, TX9, 7)) 5 dX9_toTag_64 hP2 rfl (Nat.le_of_ble_eq_true rfl) q1021 (Or.inl rfl) rfl ?_
      refine g_if_eq (pc := 67) (tgt := 74) dX9_toTag_67 rfl (fun q_ => absurd q_ (by decide)) (fun _ => ?_)
      refine g_iconst (pc := 70) (v := nI 3) dX9_toTag_70 rfl ?_
      refine g_goto (pc := 71) (tgt := 75) dX9_toTag_71 rfl ?_
      first | refine g_iaddN (pc := 75) dX9_toTag_75 ?_ | refine g_iadd (pc := 75) dX9_toTag_75 ?_
      refine g_istore_n (pc := 76) (ls' := [(0, _), (1, _), (2, _)]) dX9_toTag_76 rfl (Nat.le_of_ble_eq_true rfl) rfl ?_
      refine g_aload_n (pc := 77) dX9_toTag_77 rfl rfl ?_
      refine g_get (pc := 78) (r := (RX9, TX9, 7)) 1 dX9_toTag_78 hP2 rfl (Nat.le_of_ble_eq_true rfl) q1016 (Or.inl rfl) rfl ?_
      refine g_aload_n (pc := 81) dX9_toTag_81 rfl rfl ?_
      refine g_get (pc := 82) (r := (RX9, TX9, 7)) 5 dX9_toTag_82 hP2 rfl (Nat.le_of_ble_eq_true rfl) q1021 (Or.inl rfl) rfl ?_
      refine g_if_eq (pc := 85) (tgt := 93) dX9_toTag_85 rfl (fun q_ => absurd q_ (by decide)) (fun _ => ?_)
      refine g_ldcK (pc := 88) dX9_toTag_88 ksX9_52 (fun hk4 => ?_)
      refine g_goto (pc := 90) (tgt := 95) dX9_toTag_90 rfl ?_
      refine g_iload_n (pc := 95) dX9_toTag_95 rfl rfl ?_
      refine g_invV (pc := 96) dX9_toTag_96 hsw2 kw2 (jc_indexOf (d + 4) 930 _ (k + 3) _ hs2 hk4 (by decide) (by decide) (by omega) (by omega) (by decide)) meJ9_indexOf q1051 q1052 q1053 rfl rfl (Nat.le_of_ble_eq_true rfl) (by first | exact jF | exact fun _ z => z | assumption | (intro κ z; simp_all)) (jk_e ?_) jk_x
      have eix : ixO l (if stB (lF l) l.length k [123, 123, 123] = true then [125, 125, 125] else [125, 125]) (k + (if stB (lF l) l.length k [123, 123, 123] = true then 3 else 2)) = ixO l [125, 125, 125] (k + 3) := by rw [hth]; rfl
      cases hix2 : ixO l [125, 125, 125] (k + 3) with
      | none =>
        refine g_istore_n (pc := 99) (ls' := [(0, _), (1, _), (2, _), (3, _)]) dX9_toTag_99 rfl (Nat.le_of_ble_eq_true rfl) rfl ?_
        refine g_iload_n (pc := 100) dX9_toTag_100 rfl rfl ?_
        refine g_if_ge (pc := 101) (tgt := 113) dX9_toTag_101 rfl (fun z => absurd z (by decide)) (fun _ => ?_)
        refine g_aload_n (pc := 104) dX9_toTag_104 rfl rfl ?_
        refine g_get (pc := 105) (r := (RX9, TX9, 7)) 0 dX9_toTag_105 hP2 rfl (Nat.le_of_ble_eq_true rfl) q1015 (Or.inl rfl) rfl ?_
        refine g_iload_n (pc := 108) dX9_toTag_108 rfl rfl ?_
        refine g_invSN (pc := 109) dX9_toTag_109 (pt_fault d (nI k) hE2 (by simp only [hSet_1]; omega) (by simp only [hSet_2]; omega)) meX1_faultAt q1125 q1126 rfl rfl (Nat.le_of_ble_eq_true rfl) (fun κ z => Or.inr z) (jk_n (fun v h3 hp3 fr3 => ?_)) jk_x
        obtain ⟨rfl, rfl, hwf3⟩ := hp3
        refine g_athrow (pc := 112) dX9_toTag_112 (hNew_s _ _ _) (by decide) rfl ?_
        refine gx_out (fun x hx => by cases hx) ?_
        have hEn : E ≠ (hSet h P (9, .inl [.ref E, .ref s, .int (nI p), tg, .int (nI k), .int (nI (true : Bool).toNat), ins])).1 := Nat.ne_of_lt (hwf3 _ _ hE2)
        refine ⟨⟨by simp only [hNew_1, hSet_1]; omega, by simp only [hNew_2, hSet_2]; omega⟩, Or.inr (Or.inl ⟨k, hix, eix.trans hix2, rfl, ?_, ?_⟩)⟩
        · exact (hNew_n (h := hSet (hSet h P (9, .inl [.ref E, .ref s, .int (nI p), tg, .int (nI k), .int (nI (true : Bool).toNat), ins])) E (eC e0 e1 e2 e3 (nI k) e5 e6 e7)) hEn).trans (hSet_s _ _ _)
        · exact (hFr.mono (fun κ z => Or.inl z) (f9 _)).tr (hFr.mono (fun κ z => Or.inr z) fr3)
      | some q0 =>
        obtain ⟨j1, j2, j3, j4⟩ := ixO_inv hix2
        have j5 := stB_len (by simp) (by simp) j3
        simp at j5
        show hG Z X mX9_toTag (d + 8) _ h _ 99 [(0, .ref P), (1, .int (nI k)), (2, .int (nI (k + 3)))] [.int (nI q0)] _
        refine g_istore_n (pc := 99) (ls' := [(0, _), (1, _), (2, _), (3, _)]) dX9_toTag_99 rfl (Nat.le_of_ble_eq_true rfl) rfl ?_
        refine g_iload_n (pc := 100) dX9_toTag_100 rfl rfl ?_
        refine g_if_geN (pc := 101) (tgt := 113) (a := q0) dX9_toTag_101 rfl (by omega) ?_
        refine g_aload_n (pc := 113) dX9_toTag_113 rfl rfl ?_
        refine g_get (pc := 114) (r := (RX9, TX9, 7)) 1 dX9_toTag_114 hP2 rfl (Nat.le_of_ble_eq_true rfl) q1016 (Or.inl rfl) rfl ?_
        refine g_aload_n (pc := 117) dX9_toTag_117 rfl rfl ?_
        refine g_get (pc := 118) (r := (RX9, TX9, 7)) 2 dX9_toTag_118 hP2 rfl (Nat.le_of_ble_eq_true rfl) q1017 (Or.inl rfl) rfl ?_
        refine g_iload_n (pc := 121) dX9_toTag_121 rfl rfl ?_
        refine g_invV (pc := 122) dX9_toTag_122 hsw2 kw2 (jc_substring2 (d + 3) 30 p k hs2 (Or.inl rfl) i1 (by omega) (by omega) (by simp only [hSet_1]; omega) (by simp only [hSet_2]; omega)) meJ9_substring_2 q1128 q1096 q1097 rfl rfl (Nat.le_of_ble_eq_true rfl) (by first | exact jF | exact fun _ z => z | assumption | (intro κ z; simp_all)) (jk_n (fun v h3 hp3 fr3 => ?_)) jk_x
        rcases hp3 with ⟨q, κq, rfl, jq, kq0, rm3⟩ | ⟨_, z, _⟩
        · have kq : kK κq := kq0
          clear kq0
          have r31 := rm3.1
          have r32 : h3.2.1 ≤ h.2.1 + (4 + l.length) := Nat.le_trans rm3.2 (Nat.add_le_add_left (Nat.add_le_add_left (by rw [sbL_len]; omega) _) _)
          simp only [hSet_1] at r31
          have hP3 := (fr3.2.2 _ _ hP2).1 (fun z => z)
          have hs3 := hs2.fr fr3 (fun z => z) (fun z => z) (fun z => z)
          have kw3 := hs3.cl
          have hs30 := hs3
          obtain ⟨-, -, bw3, κb3, hs13, hz3, hsw3, -⟩ := hs30
          refine g_astore (pc := 125) (ls' := [(0, _), (1, _), (2, _), (3, _), (4, _)]) dX9_toTag_125 (Nat.le_of_ble_eq_true rfl) rfl ?_
          refine g_aload_n (pc := 127) dX9_toTag_127 rfl rfl ?_
          refine g_aload_n (pc := 128) dX9_toTag_128 rfl rfl ?_
          refine g_get (pc := 129) (r := (RX9, TX9, 7)) 1 dX9_toTag_129 hP3 rfl (Nat.le_of_ble_eq_true rfl) q1016 (Or.inl rfl) rfl ?_
          refine g_iload_n (pc := 132) dX9_toTag_132 rfl rfl ?_
          refine g_iload_n (pc := 133) dX9_toTag_133 rfl rfl ?_
          refine g_invV (pc := 134) dX9_toTag_134 hsw3 kw3 (jc_substring2 (d + 3) 30 (k + 3) q0 hs3 (Or.inl rfl) j1 (by omega) (by omega) (by omega) (by omega)) meJ9_substring_2 q1128 q1096 q1097 rfl rfl (Nat.le_of_ble_eq_true rfl) (by first | exact jF | exact fun _ z => z | assumption | (intro κ z; simp_all)) (jk_n (fun v h4 hp4 fr4 => ?_)) jk_x
          rcases hp4 with ⟨i, κi, rfl, ji, ki0, rm4⟩ | ⟨z, _⟩
          · have ki : kK κi := ki0
            clear ki0
            have r41 := rm4.1
            have r42 : h4.2.1 ≤ h3.2.1 + (4 + l.length) := Nat.le_trans rm4.2 (Nat.add_le_add_left (Nat.add_le_add_left (by rw [sbL_len]; omega) _) _)
            have hP4 := (fr4.2.2 _ _ hP3).1 (fun z => z)
            have jq4 := jq.fr fr4 (fun z => z) (fun z => z) (fun z => z)
            have hP5 := hSet_s h4 P (9, .inl [.ref E, .ref s, .int (nI p), tg, .int (nI k), .int (nI (true : Bool).toNat), .ref i])
            refine g_put (pc := 137) (r := (RX9, TX9, 7)) 6 dX9_toTag_137 hP4 rfl (Nat.le_of_ble_eq_true rfl) q1022 (Or.inl rfl) rfl (by decide) (Or.inl rfl) (tyX9_ok 6 (Nat.le_of_ble_eq_true rfl)) rfl rfl ?_
            refine g_aload_n (pc := 140) dX9_toTag_140 rfl rfl ?_
            refine g_iload_n (pc := 141) dX9_toTag_141 rfl rfl ?_
            refine g_aload_n (pc := 142) dX9_toTag_142 rfl rfl ?_
            refine g_get (pc := 143) (r := (RX9, TX9, 7)) 5 dX9_toTag_143 hP5 rfl (Nat.le_of_ble_eq_true rfl) q1021 (Or.inl rfl) rfl ?_
            refine g_if_eq (pc := 146) (tgt := 153) dX9_toTag_146 rfl (fun q_ => absurd q_ (by decide)) (fun _ => ?_)
            refine g_iconst (pc := 149) (v := nI 3) dX9_toTag_149 rfl ?_
            refine g_goto (pc := 150) (tgt := 154) dX9_toTag_150 rfl ?_
            first | refine g_iaddN (pc := 154) dX9_toTag_154 ?_ | refine g_iadd (pc := 154) dX9_toTag_154 ?_
            refine g_put (pc := 155) (r := (RX9, TX9, 7)) 2 dX9_toTag_155 hP5 rfl (Nat.le_of_ble_eq_true rfl) q1017 (Or.inl rfl) rfl (by decide) (Or.inl rfl) (tyX9_ok 2 (Nat.le_of_ble_eq_true rfl)) rfl rfl ?_
            rw [hSet_Set]
            refine g_aload (pc := 158) dX9_toTag_158 rfl ?_
            refine g_aret (pc := 160) dX9_toTag_160 rfl (Or.inl ⟨_, rfl⟩) (Or.inr ⟨_, rfl⟩) ?_
            have f5 : hFr (fun κ => κ = 9) h4 (hSet h4 P (9, .inl [.ref E, .ref s, .int (nI (q0 + 3)), tg, .int (nI k), .int (nI (true : Bool).toNat), .ref i])) := (hFr.rf h4).set hP4 rfl rfl
            refine ⟨⟨by simp only [hSet_1]; omega, by simp only [hSet_2]; omega⟩, Or.inr (Or.inr ⟨k, q0, hix, eix.trans hix2, q, κq, i, κi, rfl, jS kq f5 jq4, kq, ?_, ki, ?_, (((f9 _).tr (fF fr3)).tr (fF fr4)).tr f5⟩)⟩
            · rw [hth]
              exact jS ki f5 ji
            · rw [hth]
              exact hSet_s _ _ _
          · omega
        · omega
    | false =>
      have hP1 := hSet_s h P (9, .inl [.ref E, .ref s, .int (nI p), tg, .int (nI k), tr, ins])
      have hP2 := hSet_s h P (9, .inl [.ref E, .ref s, .int (nI p), tg, .int (nI k), .int (nI (false : Bool).toNat), ins])
      have hs1 := jS hκ (f9 (.inl [.ref E, .ref s, .int (nI p), tg, .int (nI k), tr, ins])) hs
      have hs2 := jS hκ (f9 (.inl [.ref E, .ref s, .int (nI p), tg, .int (nI k), .int (nI (false : Bool).toNat), ins])) hs
      have kw2 := hs2.cl
      have hs20 := hs2
      obtain ⟨-, -, bw2, κb2, hs12, hz2, hsw2, -⟩ := hs20
      have hE2 : (hSet h P (9, .inl [.ref E, .ref s, .int (nI p), tg, .int (nI k), .int (nI (false : Bool).toNat), ins])).2.2 E = some (eC e0 e1 e2 e3 ea e5 e6 e7) := by
        rw [hSet_n (fun z => by rw [z, hQ] at hE; cases hE)]; exact hE
      show hG Z X mX9_toTag (d + 8) _ h _ 13 [(0, .ref P)] [.int (nI k)] h
      refine g_istore_n (pc := 13) (ls' := [(0, _), (1, _)]) dX9_toTag_13 rfl (Nat.le_of_ble_eq_true rfl) rfl ?_
      refine g_aload_n (pc := 14) dX9_toTag_14 rfl rfl ?_
      refine g_iload_n (pc := 15) dX9_toTag_15 rfl rfl ?_
      refine g_put (pc := 16) (r := (RX9, TX9, 7)) 4 dX9_toTag_16 hQ rfl (Nat.le_of_ble_eq_true rfl) q1020 (Or.inl rfl) rfl (by decide) (Or.inl rfl) (tyX9_ok 4 (Nat.le_of_ble_eq_true rfl)) rfl rfl ?_
      refine g_iload_n (pc := 19) dX9_toTag_19 rfl rfl ?_
      refine g_if_geN (pc := 20) (tgt := 48) (a := k) dX9_toTag_20 rfl (by omega) ?_
      refine g_aload_n (pc := 48) dX9_toTag_48 rfl rfl ?_
      refine g_aload_n (pc := 49) dX9_toTag_49 rfl rfl ?_
      refine g_get (pc := 50) (r := (RX9, TX9, 7)) 1 dX9_toTag_50 hP1 rfl (Nat.le_of_ble_eq_true rfl) q1016 (Or.inl rfl) rfl ?_
      refine g_ldcK (pc := 53) dX9_toTag_53 ksX9_40 (fun hk3 => ?_)
      refine g_iload_n (pc := 55) dX9_toTag_55 rfl rfl ?_
      refine g_invSN (pc := 56) dX9_toTag_56 (cs_starts (d + 3) 930 _ k _ hs1 hk3 (by decide) (by decide) (by omega) (by decide) (by omega)) meX1_starts q1120 q1121 rfl rfl (Nat.le_of_ble_eq_true rfl) (by first | exact jF | exact fun _ z => z | assumption | (intro κ z; simp_all)) (jk_e ?_) jk_x
      rw [show stB (fun i => l.getD i 0) l.length k [123, 123, 123] = false from hth]
      refine g_put (pc := 59) (r := (RX9, TX9, 7)) 5 dX9_toTag_59 hP1 rfl (Nat.le_of_ble_eq_true rfl) q1021 (Or.inl rfl) rfl (by decide) (Or.inl rfl) (tyX9_ok 5 (Nat.le_of_ble_eq_true rfl)) (by first | exact bz_n _ | rfl) rfl ?_
      rw [hSet_Set]
      refine g_iload_n (pc := 62) dX9_toTag_62 rfl rfl ?_
      refine g_aload_n (pc := 63) dX9_toTag_63 rfl rfl ?_
      refine g_get (pc := 64) (r := (RX9, TX9, 7)) 5 dX9_toTag_64 hP2 rfl (Nat.le_of_ble_eq_true rfl) q1021 (Or.inl rfl) rfl ?_
      refine g_if_eq (pc := 67) (tgt := 74) dX9_toTag_67 rfl (fun _ => ?_) (fun q_ => absurd rfl q_)
      refine g_iconst (pc := 74) (v := nI 2) dX9_toTag_74 rfl ?_
      first | refine g_iaddN (pc := 75) dX9_toTag_75 ?_ | refine g_iadd (pc := 75) dX9_toTag_75 ?_
      refine g_istore_n (pc := 76) (ls' := [(0, _), (1, _), (2, _)]) dX9_toTag_76 rfl (Nat.le_of_ble_eq_true rfl) rfl ?_
      refine g_aload_n (pc := 77) dX9_toTag_77 rfl rfl ?_
      refine g_get (pc := 78) (r := (RX9, TX9, 7)) 1 dX9_toTag_78 hP2 rfl (Nat.le_of_ble_eq_true rfl) q1016 (Or.inl rfl) rfl ?_
      refine g_aload_n (pc := 81) dX9_toTag_81 rfl rfl ?_
      refine g_get (pc := 82) (r := (RX9, TX9, 7)) 5 dX9_toTag_82 hP2 rfl (Nat.le_of_ble_eq_true rfl) q1021 (Or.inl rfl) rfl ?_
      refine g_if_eq (pc := 85) (tgt := 93) dX9_toTag_85 rfl (fun _ => ?_) (fun q_ => absurd rfl q_)
      refine g_ldcK (pc := 93) dX9_toTag_93 ksX9_54 (fun hk4 => ?_)
      refine g_iload_n (pc := 95) dX9_toTag_95 rfl rfl ?_
      refine g_invV (pc := 96) dX9_toTag_96 hsw2 kw2 (jc_indexOf (d + 4) 930 _ (k + 2) _ hs2 hk4 (by decide) (by decide) (by omega) (by omega) (by decide)) meJ9_indexOf q1051 q1052 q1053 rfl rfl (Nat.le_of_ble_eq_true rfl) (by first | exact jF | exact fun _ z => z | assumption | (intro κ z; simp_all)) (jk_e ?_) jk_x
      have eix : ixO l (if stB (lF l) l.length k [123, 123, 123] = true then [125, 125, 125] else [125, 125]) (k + (if stB (lF l) l.length k [123, 123, 123] = true then 3 else 2)) = ixO l [125, 125] (k + 2) := by rw [hth]; rfl
      cases hix2 : ixO l [125, 125] (k + 2) with
      | none =>
        refine g_istore_n (pc := 99) (ls' := [(0, _), (1, _), (2, _), (3, _)]) dX9_toTag_99 rfl (Nat.le_of_ble_eq_true rfl) rfl ?_
        refine g_iload_n (pc := 100) dX9_toTag_100 rfl rfl ?_
        refine g_if_ge (pc := 101) (tgt := 113) dX9_toTag_101 rfl (fun z => absurd z (by decide)) (fun _ => ?_)
        refine g_aload_n (pc := 104) dX9_toTag_104 rfl rfl ?_
        refine g_get (pc := 105) (r := (RX9, TX9, 7)) 0 dX9_toTag_105 hP2 rfl (Nat.le_of_ble_eq_true rfl) q1015 (Or.inl rfl) rfl ?_
        refine g_iload_n (pc := 108) dX9_toTag_108 rfl rfl ?_
        refine g_invSN (pc := 109) dX9_toTag_109 (pt_fault d (nI k) hE2 (by simp only [hSet_1]; omega) (by simp only [hSet_2]; omega)) meX1_faultAt q1125 q1126 rfl rfl (Nat.le_of_ble_eq_true rfl) (fun κ z => Or.inr z) (jk_n (fun v h3 hp3 fr3 => ?_)) jk_x
        obtain ⟨rfl, rfl, hwf3⟩ := hp3
        refine g_athrow (pc := 112) dX9_toTag_112 (hNew_s _ _ _) (by decide) rfl ?_
        refine gx_out (fun x hx => by cases hx) ?_
        have hEn : E ≠ (hSet h P (9, .inl [.ref E, .ref s, .int (nI p), tg, .int (nI k), .int (nI (false : Bool).toNat), ins])).1 := Nat.ne_of_lt (hwf3 _ _ hE2)
        refine ⟨⟨by simp only [hNew_1, hSet_1]; omega, by simp only [hNew_2, hSet_2]; omega⟩, Or.inr (Or.inl ⟨k, hix, eix.trans hix2, rfl, ?_, ?_⟩)⟩
        · exact (hNew_n (h := hSet (hSet h P (9, .inl [.ref E, .ref s, .int (nI p), tg, .int (nI k), .int (nI (false : Bool).toNat), ins])) E (eC e0 e1 e2 e3 (nI k) e5 e6 e7)) hEn).trans (hSet_s _ _ _)
        · exact (hFr.mono (fun κ z => Or.inl z) (f9 _)).tr (hFr.mono (fun κ z => Or.inr z) fr3)
      | some q0 =>
        obtain ⟨j1, j2, j3, j4⟩ := ixO_inv hix2
        have j5 := stB_len (by simp) (by simp) j3
        simp at j5
        show hG Z X mX9_toTag (d + 8) _ h _ 99 [(0, .ref P), (1, .int (nI k)), (2, .int (nI (k + 2)))] [.int (nI q0)] _
        refine g_istore_n (pc := 99) (ls' := [(0, _), (1, _), (2, _), (3, _)]) dX9_toTag_99 rfl (Nat.le_of_ble_eq_true rfl) rfl ?_
        refine g_iload_n (pc := 100) dX9_toTag_100 rfl rfl ?_
        refine g_if_geN (pc := 101) (tgt := 113) (a := q0) dX9_toTag_101 rfl (by omega) ?_
        refine g_aload_n (pc := 113) dX9_toTag_113 rfl rfl ?_
        refine g_get (pc := 114) (r := (RX9, TX9, 7)) 1 dX9_toTag_114 hP2 rfl (Nat.le_of_ble_eq_true rfl) q1016 (Or.inl rfl) rfl ?_
        refine g_aload_n (pc := 117) dX9_toTag_117 rfl rfl ?_
        refine g_get (pc := 118) (r := (RX9, TX9, 7)) 2 dX9_toTag_118 hP2 rfl (Nat.le_of_ble_eq_true rfl) q1017 (Or.inl rfl) rfl ?_
        refine g_iload_n (pc := 121) dX9_toTag_121 rfl rfl ?_
        refine g_invV (pc := 122) dX9_toTag_122 hsw2 kw2 (jc_substring2 (d + 3) 30 p k hs2 (Or.inl rfl) i1 (by omega) (by omega) (by simp only [hSet_1]; omega) (by simp only [hSet_2]; omega)) meJ9_substring_2 q1128 q1096 q1097 rfl rfl (Nat.le_of_ble_eq_true rfl) (by first | exact jF | exact fun _ z => z | assumption | (intro κ z; simp_all)) (jk_n (fun v h3 hp3 fr3 => ?_)) jk_x
        rcases hp3 with ⟨q, κq, rfl, jq, kq0, rm3⟩ | ⟨_, z, _⟩
        · have kq : kK κq := kq0
          clear kq0
          have r31 := rm3.1
          have r32 : h3.2.1 ≤ h.2.1 + (4 + l.length) := Nat.le_trans rm3.2 (Nat.add_le_add_left (Nat.add_le_add_left (by rw [sbL_len]; omega) _) _)
          simp only [hSet_1] at r31
          have hP3 := (fr3.2.2 _ _ hP2).1 (fun z => z)
          have hs3 := hs2.fr fr3 (fun z => z) (fun z => z) (fun z => z)
          have kw3 := hs3.cl
          have hs30 := hs3
          obtain ⟨-, -, bw3, κb3, hs13, hz3, hsw3, -⟩ := hs30
          refine g_astore (pc := 125) (ls' := [(0, _), (1, _), (2, _), (3, _), (4, _)]) dX9_toTag_125 (Nat.le_of_ble_eq_true rfl) rfl ?_
          refine g_aload_n (pc := 127) dX9_toTag_127 rfl rfl ?_
          refine g_aload_n (pc := 128) dX9_toTag_128 rfl rfl ?_
          refine g_get (pc := 129) (r := (RX9, TX9, 7)) 1 dX9_toTag_129 hP3 rfl (Nat.le_of_ble_eq_true rfl) q1016 (Or.inl rfl) rfl ?_
          refine g_iload_n (pc := 132) dX9_toTag_132 rfl rfl ?_
          refine g_iload_n (pc := 133) dX9_toTag_133 rfl rfl ?_
          refine g_invV (pc := 134) dX9_toTag_134 hsw3 kw3 (jc_substring2 (d + 3) 30 (k + 2) q0 hs3 (Or.inl rfl) j1 (by omega) (by omega) (by omega) (by omega)) meJ9_substring_2 q1128 q1096 q1097 rfl rfl (Nat.le_of_ble_eq_true rfl) (by first | exact jF | exact fun _ z => z | assumption | (intro κ z; simp_all)) (jk_n (fun v h4 hp4 fr4 => ?_)) jk_x
          rcases hp4 with ⟨i, κi, rfl, ji, ki0, rm4⟩ | ⟨z, _⟩
          · have ki : kK κi := ki0
            clear ki0
            have r41 := rm4.1
            have r42 : h4.2.1 ≤ h3.2.1 + (4 + l.length) := Nat.le_trans rm4.2 (Nat.add_le_add_left (Nat.add_le_add_left (by rw [sbL_len]; omega) _) _)
            have hP4 := (fr4.2.2 _ _ hP3).1 (fun z => z)
            have jq4 := jq.fr fr4 (fun z => z) (fun z => z) (fun z => z)
            have hP5 := hSet_s h4 P (9, .inl [.ref E, .ref s, .int (nI p), tg, .int (nI k), .int (nI (false : Bool).toNat), .ref i])
            refine g_put (pc := 137) (r := (RX9, TX9, 7)) 6 dX9_toTag_137 hP4 rfl (Nat.le_of_ble_eq_true rfl) q1022 (Or.inl rfl) rfl (by decide) (Or.inl rfl) (tyX9_ok 6 (Nat.le_of_ble_eq_true rfl)) rfl rfl ?_
            refine g_aload_n (pc := 140) dX9_toTag_140 rfl rfl ?_
            refine g_iload_n (pc := 141) dX9_toTag_141 rfl rfl ?_
            refine g_aload_n (pc := 142) dX9_toTag_142 rfl rfl ?_
            refine g_get (pc := 143) (r := (RX9, TX9, 7)) 5 dX9_toTag_143 hP5 rfl (Nat.le_of_ble_eq_true rfl) q1021 (Or.inl rfl) rfl ?_
            refine g_if_eq (pc := 146) (tgt := 153) dX9_toTag_146 rfl (fun _ => ?_) (fun q_ => absurd rfl q_)
            refine g_iconst (pc := 153) (v := nI 2) dX9_toTag_153 rfl ?_
            first | refine g_iaddN (pc := 154) dX9_toTag_154 ?_ | refine g_iadd (pc := 154) dX9_toTag_154 ?_
            refine g_put (pc := 155) (r := (RX9, TX9, 7)) 2 dX9_toTag_155 hP5 rfl (Nat.le_of_ble_eq_true rfl) q1017 (Or.inl rfl) rfl (by decide) (Or.inl rfl) (tyX9_ok 2 (Nat.le_of_ble_eq_true rfl)) rfl rfl ?_
            rw [hSet_Set]
            refine g_aload (pc := 158) dX9_toTag_158 rfl ?_
            refine g_aret (pc := 160) dX9_toTag_160 rfl (Or.inl ⟨_, rfl⟩) (Or.inr ⟨_, rfl⟩) ?_
            have f5 : hFr (fun κ => κ = 9) h4 (hSet h4 P (9, .inl [.ref E, .ref s, .int (nI (q0 + 2)), tg, .int (nI k), .int (nI (false : Bool).toNat), .ref i])) := (hFr.rf h4).set hP4 rfl rfl
            refine ⟨⟨by simp only [hSet_1]; omega, by simp only [hSet_2]; omega⟩, Or.inr (Or.inr ⟨k, q0, hix, eix.trans hix2, q, κq, i, κi, rfl, jS kq f5 jq4, kq, ?_, ki, ?_, (((f9 _).tr (fF fr3)).tr (fF fr4)).tr f5⟩)⟩
            · rw [hth]
              exact jS ki f5 ji
            · rw [hth]
              exact hSet_s _ _ _
          · omega
        · omega
end PT
