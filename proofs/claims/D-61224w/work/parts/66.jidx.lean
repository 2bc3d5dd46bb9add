/-! JDK 6: String.indexOf, starts -/
set_option maxRecDepth 100000
section JC
variable {Z : hE} {h : hP} {κ a : Nat} {l : List Nat}
theorem jc_indexOf2 (d b κb κ' a' k : Nat) (w : List Nat) (hb : jBy h b κb l.length l) (hl : ∀ c ∈ l, c < 128) (hs' : jSt h κ' a' w) (hw : ∀ c ∈ w, 0 < c ∧ c < 128) (hw0 : 1 ≤ w.length) (hk : k ≤ l.length) (hL : l.length ≤ 1000000) (hL2 : w.length ≤ 1000000) : jP Z mJ9_indexOf_2 (d + 2) [.ref b, .int (nI 0), .int (nI l.length), .ref a', .int (nI k)] h (some (.int (oI (ixO l w k)))) := by
  refine jC.of pnJ9 rfl (Nat.le_of_ble_eq_true rfl) rfl (fun X => ?_)
  have hs0 := hs'
  have kc := hs'.cl
  obtain ⟨_, hlw, b', κb', hs1, hz, ha', _, hb', _⟩ := hs'
  refine g_iload (pc := 0) dJ9_indexOf_2_0 rfl ?_
  first | refine g_i2lN (pc := 2) dJ9_indexOf_2_2 (by omega) ?_ | refine g_i2l (pc := 2) dJ9_indexOf_2_2 ?_
  refine g_iconst (pc := 3) (v := nI 0) dJ9_indexOf_2_3 rfl ?_
  refine g_iload_n (pc := 4) dJ9_indexOf_2_4 rfl rfl ?_
  refine g_invSF (pc := 5) dJ9_indexOf_2_5 (jc_clamp d k l.length (by omega) (by omega)) meJ12_clamp q1059 q1060 rfl rfl (Nat.le_of_ble_eq_true rfl) (by first | exact jF | exact fun _ z => z | assumption | (intro κ z; simp_all)) (jk_e ?_) jk_x
  rw [Nat.min_eq_right hk]
  refine g_istore (pc := 8) (ls' := [(0, _), (1, _), (2, _), (3, _), (4, _)]) dJ9_indexOf_2_8 (Nat.le_of_ble_eq_true rfl) rfl ?_
  refine g_aload_n (pc := 10) dJ9_indexOf_2_10 rfl rfl ?_
  refine g_invV (pc := 11) dJ9_indexOf_2_11 ha' kc (jc_length d hs0) meJ9_length q1055 q301 q302 rfl rfl (Nat.le_of_ble_eq_true rfl) (by first | exact jF | exact fun _ z => z | assumption | (intro κ z; simp_all)) (jk_e ?_) jk_x
  refine g_istore (pc := 14) (ls' := [(0, _), (1, _), (2, _), (3, _), (4, _), (5, _)]) dJ9_indexOf_2_14 (Nat.le_of_ble_eq_true rfl) rfl ?_
  refine g_iload (pc := 16) dJ9_indexOf_2_16 rfl ?_
  refine g_iload_n (pc := 18) dJ9_indexOf_2_18 rfl rfl ?_
  refine g_iload (pc := 19) dJ9_indexOf_2_19 rfl ?_
  first | refine g_isubN (pc := 21) dJ9_indexOf_2_21 (by omega) ?_ | refine g_isub (pc := 21) dJ9_indexOf_2_21 ?_
  refine g_icmp_leN (pc := 22) (tgt := 27) dJ9_indexOf_2_22 rfl (by omega) (by omega) (fun c22 => ?_) (fun c22 => ?_)
  · refine g_iload (pc := 27) dJ9_indexOf_2_27 rfl ?_
    refine g_if_neN (pc := 29) (tgt := 35) dJ9_indexOf_2_29 rfl (by omega) (fun _ => ?_) (fun q_ => absurd q_ (by omega))
    refine g_aload_n (pc := 35) dJ9_indexOf_2_35 rfl rfl ?_
    refine g_get (pc := 36) (r := (RJ9, TJ9, 4)) 0 dJ9_indexOf_2_36 ha' kc (Nat.le_of_ble_eq_true rfl) q449 (Or.inl rfl) rfl ?_
    refine g_astore (pc := 39) (ls' := [(0, _), (1, _), (2, _), (3, _), (4, _), (5, _), (6, _)]) dJ9_indexOf_2_39 (Nat.le_of_ble_eq_true rfl) rfl ?_
    refine g_aload_n (pc := 41) dJ9_indexOf_2_41 rfl rfl ?_
    refine g_invV (pc := 42) dJ9_indexOf_2_42 ha' kc (jc_coder (d + 1) hs0) meJ9_coder q304 q305 q306 rfl rfl (Nat.le_of_ble_eq_true rfl) (by first | exact jF | exact fun _ z => z | assumption | (intro κ z; simp_all)) (jk_e ?_) jk_x
    refine g_istore (pc := 45) (ls' := [(0, _), (1, _), (2, _), (3, _), (4, _), (5, _), (6, _), (7, _)]) dJ9_indexOf_2_45 (Nat.le_of_ble_eq_true rfl) rfl ?_
    refine g_iload_n (pc := 47) dJ9_indexOf_2_47 rfl rfl ?_
    refine g_iload (pc := 48) dJ9_indexOf_2_48 rfl ?_
    refine g_icmp_neN (pc := 50) (tgt := 83) dJ9_indexOf_2_50 rfl (by omega) (by omega) (fun q_ => absurd q_ (by omega)) (fun _ => ?_)
    refine g_iload_n (pc := 53) dJ9_indexOf_2_53 rfl rfl ?_
    refine g_if_neN (pc := 54) (tgt := 71) dJ9_indexOf_2_54 rfl (by omega) (fun q_ => absurd q_ (by omega)) (fun _ => ?_)
    refine g_aload_n (pc := 57) dJ9_indexOf_2_57 rfl rfl ?_
    refine g_iload_n (pc := 58) dJ9_indexOf_2_58 rfl rfl ?_
    refine g_aload (pc := 59) dJ9_indexOf_2_59 rfl ?_
    refine g_iload (pc := 61) dJ9_indexOf_2_61 rfl ?_
    refine g_iload (pc := 63) dJ9_indexOf_2_63 rfl ?_
    refine g_invS (pc := 65) dJ9_indexOf_2_65 (jc_l1indexOf (d + 1) b b' κb κb' k w hb hb' hl hw hw0 hk (by omega) hL) meJ15_indexOf q1076 q1077 rfl rfl (Nat.le_of_ble_eq_true rfl) (by first | exact jF | exact fun _ z => z | assumption | (intro κ z; simp_all)) (jk_e ?_) jk_x
    refine g_goto (pc := 68) (tgt := 82) dJ9_indexOf_2_68 rfl ?_
    exact g_iret (pc := 82) dJ9_indexOf_2_82 rfl ⟨_, rfl, rfl, rfl⟩
  · refine g_iconst (pc := 25) (v := (-1)) dJ9_indexOf_2_25 rfl ?_
    refine g_iret (pc := 26) dJ9_indexOf_2_26 rfl ?_
    rw [ixO_none hk]
    · exact ⟨_, rfl, rfl, rfl⟩
    · intro j h1 h2
      cases q : stB (fun i => l.getD i 0) l.length j w with
      | false => rfl
      | true =>
        have := stB_len (fun c hc => Nat.ne_of_gt (hw c hc).1) (fun e => by rw [e] at hw0; exact absurd hw0 (by decide)) q
        omega
theorem jc_indexOf (d κ' a' k : Nat) (w : List Nat) (hs : jSt h κ a l) (hs' : jSt h κ' a' w) (hw : ∀ c ∈ w, 0 < c ∧ c < 128) (hw0 : 1 ≤ w.length) (hk : k ≤ l.length) (hL : l.length ≤ 1000000) (hL2 : w.length ≤ 1000000) : jP Z mJ9_indexOf (d + 3) [.ref a, .ref a', .int (nI k)] h (some (.int (oI (ixO l w k)))) := by
  refine jC.of pnJ9 rfl (Nat.le_of_ble_eq_true rfl) rfl (fun X => ?_)
  have hs0 := hs
  have kc := hs.cl
  obtain ⟨_, hl, b, κb, hs1, hz, ha, _, hb, _⟩ := hs
  refine g_aload_n (pc := 0) dJ9_indexOf_0 rfl rfl ?_
  refine g_get (pc := 1) (r := (RJ9, TJ9, 4)) 0 dJ9_indexOf_1 ha kc (Nat.le_of_ble_eq_true rfl) q449 (Or.inl rfl) rfl ?_
  refine g_aload_n (pc := 4) dJ9_indexOf_4 rfl rfl ?_
  refine g_invV (pc := 5) dJ9_indexOf_5 ha kc (jc_coder (d + 2) hs0) meJ9_coder q304 q305 q306 rfl rfl (Nat.le_of_ble_eq_true rfl) (by first | exact jF | exact fun _ z => z | assumption | (intro κ z; simp_all)) (jk_e ?_) jk_x
  refine g_aload_n (pc := 8) dJ9_indexOf_8 rfl rfl ?_
  refine g_invV (pc := 9) dJ9_indexOf_9 ha kc (jc_length (d + 1) hs0) meJ9_length q1055 q301 q302 rfl rfl (Nat.le_of_ble_eq_true rfl) (by first | exact jF | exact fun _ z => z | assumption | (intro κ z; simp_all)) (jk_e ?_) jk_x
  refine g_aload_n (pc := 12) dJ9_indexOf_12 rfl rfl ?_
  refine g_iload_n (pc := 13) dJ9_indexOf_13 rfl rfl ?_
  refine g_invS (pc := 14) dJ9_indexOf_14 (jc_indexOf2 d b κb κ' a' k w hb hl hs' hw hw0 hk hL hL2) meJ9_indexOf_2 q1056 q1057 rfl rfl (Nat.le_of_ble_eq_true rfl) (by first | exact jF | exact fun _ z => z | assumption | (intro κ z; simp_all)) (jk_e ?_) jk_x
  exact g_iret (pc := 17) dJ9_indexOf_17 rfl ⟨_, rfl, rfl, rfl⟩
theorem jc_l1indexOfA (d b b' κb κb' : Nat) (w : List Nat) (hb : jBy h b κb l.length l) (hb' : jBy h b' κb' w.length w) (hl : ∀ c ∈ l, c < 128) (hw : ∀ c ∈ w, 0 < c ∧ c < 128) (hw0 : 1 ≤ w.length) (hm : w.length ≤ l.length) (hL : l.length ≤ 1000000) : jP Z mJ15_indexOf_2 (d + 1) [.ref b, .ref b'] h (some (.int (oI (ixO l w 0)))) := by
  refine jC.of pnJ15 rfl (Nat.le_of_ble_eq_true rfl) rfl (fun X => ?_)
  have hb0 := hb
  have hb0' := hb'
  obtain ⟨f, hb, _⟩ := hb
  obtain ⟨f', hb', _⟩ := hb'
  refine g_aload_n (pc := 0) dJ15_indexOf_2_0 rfl rfl ?_
  refine g_alen (pc := 1) dJ15_indexOf_2_1 hb' ?_
  refine g_if_neN (pc := 2) (tgt := 7) dJ15_indexOf_2_2 rfl (by omega) (fun _ => ?_) (fun q_ => absurd q_ (by omega))
  refine g_aload_n (pc := 7) dJ15_indexOf_2_7 rfl rfl ?_
  refine g_alen (pc := 8) dJ15_indexOf_2_8 hb ?_
  refine g_if_neN (pc := 9) (tgt := 14) dJ15_indexOf_2_9 rfl (by omega) (fun _ => ?_) (fun q_ => absurd q_ (by omega))
  refine g_aload_n (pc := 14) dJ15_indexOf_2_14 rfl rfl ?_
  refine g_aload_n (pc := 15) dJ15_indexOf_2_15 rfl rfl ?_
  refine g_alen (pc := 16) dJ15_indexOf_2_16 hb ?_
  refine g_aload_n (pc := 17) dJ15_indexOf_2_17 rfl rfl ?_
  refine g_aload_n (pc := 18) dJ15_indexOf_2_18 rfl rfl ?_
  refine g_alen (pc := 19) dJ15_indexOf_2_19 hb' ?_
  refine g_iconst (pc := 20) (v := nI 0) dJ15_indexOf_2_20 rfl ?_
  refine g_invS (pc := 21) dJ15_indexOf_2_21 (jc_l1indexOf d b b' κb κb' 0 w hb0 hb0' hl hw hw0 (by omega) hm hL) meJ15_indexOf q1193 q1077 rfl rfl (Nat.le_of_ble_eq_true rfl) (by first | exact jF | exact fun _ z => z | assumption | (intro κ z; simp_all)) (jk_e ?_) jk_x
  exact g_iret (pc := 24) dJ15_indexOf_2_24 rfl ⟨_, rfl, rfl, rfl⟩
theorem jc_indexOfA (d κ' a' : Nat) (w : List Nat) (hs : jSt h κ a l) (hs' : jSt h κ' a' w) (hw : ∀ c ∈ w, 0 < c ∧ c < 128) (hw0 : 1 ≤ w.length) (hm : w.length ≤ l.length) (hL : l.length ≤ 1000000) : jP Z mJ9_indexOf_3 (d + 2) [.ref a, .ref a'] h (some (.int (oI (ixO l w 0)))) := by
  refine jC.of pnJ9 rfl (Nat.le_of_ble_eq_true rfl) rfl (fun X => ?_)
  have hs0 := hs
  have kc := hs.cl
  have hs0' := hs'
  have kc' := hs'.cl
  obtain ⟨_, hl, b, κb, hs1, hz, ha, _, hb, _⟩ := hs
  obtain ⟨_, hl', b', κb', hs1', hz', ha', _, hb', _⟩ := hs'
  refine g_aload_n (pc := 0) dJ9_indexOf_3_0 rfl rfl ?_
  refine g_invV (pc := 1) dJ9_indexOf_3_1 ha kc (jc_coder (d + 1) hs0) meJ9_coder q304 q305 q306 rfl rfl (Nat.le_of_ble_eq_true rfl) (by first | exact jF | exact fun _ z => z | assumption | (intro κ z; simp_all)) (jk_e ?_) jk_x
  refine g_istore_n (pc := 4) (ls' := [(0, _), (1, _), (2, _)]) dJ9_indexOf_3_4 rfl (Nat.le_of_ble_eq_true rfl) rfl ?_
  refine g_iload_n (pc := 5) dJ9_indexOf_3_5 rfl rfl ?_
  refine g_aload_n (pc := 6) dJ9_indexOf_3_6 rfl rfl ?_
  refine g_invV (pc := 7) dJ9_indexOf_3_7 ha' kc' (jc_coder (d + 1) hs0') meJ9_coder q304 q305 q306 rfl rfl (Nat.le_of_ble_eq_true rfl) (by first | exact jF | exact fun _ z => z | assumption | (intro κ z; simp_all)) (jk_e ?_) jk_x
  refine g_icmp_neN (pc := 10) (tgt := 46) dJ9_indexOf_3_10 rfl (by omega) (by omega) (fun q_ => absurd q_ (by omega)) (fun _ => ?_)
  refine g_aload_n (pc := 13) dJ9_indexOf_3_13 rfl rfl ?_
  refine g_invV (pc := 14) dJ9_indexOf_3_14 ha kc (jc_isLatin1 (d + 1) hs0) meJ9_isLatin1 q945 q946 q947 rfl rfl (Nat.le_of_ble_eq_true rfl) (by first | exact jF | exact fun _ z => z | assumption | (intro κ z; simp_all)) (jk_e ?_) jk_x
  refine g_if_eqN (pc := 17) (tgt := 34) dJ9_indexOf_3_17 rfl (by omega) (fun q_ => absurd q_ (by omega)) (fun _ => ?_)
  refine g_aload_n (pc := 20) dJ9_indexOf_3_20 rfl rfl ?_
  refine g_get (pc := 21) (r := (RJ9, TJ9, 4)) 0 dJ9_indexOf_3_21 ha kc (Nat.le_of_ble_eq_true rfl) q449 (Or.inl rfl) rfl ?_
  refine g_aload_n (pc := 24) dJ9_indexOf_3_24 rfl rfl ?_
  refine g_get (pc := 25) (r := (RJ9, TJ9, 4)) 0 dJ9_indexOf_3_25 ha' kc' (Nat.le_of_ble_eq_true rfl) q449 (Or.inl rfl) rfl ?_
  refine g_invS (pc := 28) dJ9_indexOf_3_28 (jc_l1indexOfA d b b' κb κb' w hb hb' hl hw hw0 hm hL) meJ15_indexOf_2 q1190 q1191 rfl rfl (Nat.le_of_ble_eq_true rfl) (by first | exact jF | exact fun _ z => z | assumption | (intro κ z; simp_all)) (jk_e ?_) jk_x
  refine g_goto (pc := 31) (tgt := 45) dJ9_indexOf_3_31 rfl ?_
  exact g_iret (pc := 45) dJ9_indexOf_3_45 rfl ⟨_, rfl, rfl, rfl⟩
end JC
