/-! JDK 12: String.hashCode -/
set_option maxRecDepth 100000
section JC
variable {Z : hE} {h : hP} {κ a : Nat} {l : List Nat}
theorem hsh_step (l : List Nat) (i : Nat) (hi : i < l.length) : hsh (l.take (i + 1)) = nI 31 * hsh (l.take i) + nI (l.getD i 0) := by
  unfold hsh
  rw [List.take_succ, List.foldl_append, List.getD_eq_getElem?_getD, List.getElem?_eq_getElem hi]
  rfl
theorem jc_signedHash (d b κb : Nat) (hb : jBy h b κb l.length l) (hl : ∀ c ∈ l, c < 128) (hL : l.length ≤ 1000000) : jP Z mJ11_signedHashCode d [.int (nI 0), .ref b, .int (nI 0), .int (nI l.length)] h (some (.int (hsh l))) := by
  refine jC.of pnJ11 rfl (Nat.le_of_ble_eq_true rfl) rfl (fun X => ?_)
  obtain ⟨f, hb, hty, _, hn, hf⟩ := hb
  have loop : ∀ (j i : Nat), i + j = l.length → hG Z X mJ11_signedHashCode d (fun _ => False) h (jK (fun v h' => v = some (.int (hsh l)) ∧ h' = h)) 8 [(0, .int (hsh (l.take i))), (1, .ref b), (2, .int (nI 0)), (3, .int (nI l.length)), (4, .int (nI l.length)), (5, .int (nI i))] [] h := by
    intro j
    induction j with
    | zero =>
      intro i hi
      have hi : i = l.length := by omega
      subst hi
      refine g_iload (pc := 8) dJ11_signedHashCode_8 rfl ?_
      refine g_iload (pc := 10) dJ11_signedHashCode_10 rfl ?_
      refine g_icmp_geN (pc := 12) (tgt := 35) dJ11_signedHashCode_12 rfl (by omega) (by omega) (fun _ => ?_) (fun q_ => absurd q_ (by omega))
      refine g_iload_n (pc := 35) dJ11_signedHashCode_35 rfl rfl ?_
      rw [List.take_length]
      exact g_iret (pc := 36) dJ11_signedHashCode_36 rfl ⟨_, rfl, rfl, rfl⟩
    | succ j ih =>
      intro i hi
      have hc := hl _ (getD_mem (d := 0) (show i < l.length by omega))
      refine g_iload (pc := 8) dJ11_signedHashCode_8 rfl ?_
      refine g_iload (pc := 10) dJ11_signedHashCode_10 rfl ?_
      refine g_icmp_geN (pc := 12) (tgt := 35) dJ11_signedHashCode_12 rfl (by omega) (by omega) (fun q_ => absurd q_ (by omega)) (fun _ => ?_)
      refine g_bipush (pc := 15) (v := nI 31) dJ11_signedHashCode_15 rfl ?_
      refine g_iload_n (pc := 17) dJ11_signedHashCode_17 rfl rfl ?_
      refine g_imul (pc := 18) dJ11_signedHashCode_18 ?_
      refine g_aload_n (pc := 19) dJ11_signedHashCode_19 rfl rfl ?_
      refine g_iload (pc := 20) dJ11_signedHashCode_20 rfl ?_
      refine g_bald (pc := 22) i dJ11_signedHashCode_22 hb hty (by omega) rfl ?_
      rw [hf i (by omega)]
      refine g_sipush (pc := 23) (v := nI 255) dJ11_signedHashCode_23 rfl ?_
      refine g_iand (pc := 26) dJ11_signedHashCode_26 ?_
      rw [and255 (by omega)]
      refine g_iadd (pc := 27) dJ11_signedHashCode_27 ?_
      rw [← hsh_step l i (by omega)]
      refine g_istore_n (pc := 28) (ls' := [(0, _), (1, _), (2, _), (3, _), (4, _), (5, _)]) dJ11_signedHashCode_28 rfl (Nat.le_of_ble_eq_true rfl) rfl ?_
      refine g_iincN (pc := 29) (k0 := 1) (ls' := [(0, _), (1, _), (2, _), (3, _), (4, _), (5, _)]) dJ11_signedHashCode_29 rfl (Nat.le_of_ble_eq_true rfl) rfl ?_
      refine g_goto (pc := 32) (tgt := 8) dJ11_signedHashCode_32 rfl ?_
      exact ih (i + 1) (by omega)
  refine g_iload_n (pc := 0) dJ11_signedHashCode_0 rfl rfl ?_
  refine g_iload_n (pc := 1) dJ11_signedHashCode_1 rfl rfl ?_
  first | refine g_iaddN (pc := 2) dJ11_signedHashCode_2 ?_ | refine g_iadd (pc := 2) dJ11_signedHashCode_2 ?_
  refine g_istore (pc := 3) (ls' := [(0, _), (1, _), (2, _), (3, _), (4, _)]) dJ11_signedHashCode_3 (Nat.le_of_ble_eq_true rfl) rfl ?_
  refine g_iload_n (pc := 5) dJ11_signedHashCode_5 rfl rfl ?_
  refine g_istore (pc := 6) (ls' := [(0, _), (1, _), (2, _), (3, _), (4, _), (5, _)]) dJ11_signedHashCode_6 (Nat.le_of_ble_eq_true rfl) rfl ?_
  rw [Nat.zero_add]
  exact loop l.length 0 (by omega)
theorem jc_vecHash (d b κb : Nat) (hb : jBy h b κb l.length l) (hl : ∀ c ∈ l, c < 128) (hL : l.length ≤ 1000000) : jP Z mJ11_vectorizedHashCode (d + 1) [.ref b, .int (nI 0), .int (nI l.length), .int (nI 0), .int (nI 4)] h (some (.int (hsh l))) := by
  refine jC.of pnJ11 rfl (Nat.le_of_ble_eq_true rfl) rfl (fun X => ?_)
  have hb0 := hb
  obtain ⟨f, hb, hty, _, hn, hf⟩ := hb
  refine g_iload (pc := 0) dJ11_vectorizedHashCode_0 rfl ?_
  refine g_tableIn (pc := 2) (tgt := 44) dJ11_vectorizedHashCode_2 (by decide) (by decide) rfl rfl ?_
  refine g_iload_n (pc := 44) dJ11_vectorizedHashCode_44 rfl rfl ?_
  refine g_aload_n (pc := 45) dJ11_vectorizedHashCode_45 rfl rfl ?_
  refine g_castA (pc := 46) dJ11_vectorizedHashCode_46 hb hty rfl q1253 ?_
  refine g_iload_n (pc := 49) dJ11_vectorizedHashCode_49 rfl rfl ?_
  refine g_iload_n (pc := 50) dJ11_vectorizedHashCode_50 rfl rfl ?_
  refine g_invS (pc := 51) dJ11_vectorizedHashCode_51 (jc_signedHash d b κb hb0 hl hL) meJ11_signedHashCode q1254 q1255 rfl rfl (Nat.le_of_ble_eq_true rfl) (by first | exact jF | exact fun _ z => z | assumption | (intro κ z; simp_all)) (jk_e ?_) jk_x
  refine g_goto (pc := 54) (tgt := 157) dJ11_vectorizedHashCode_54 rfl ?_
  exact g_iret (pc := 157) dJ11_vectorizedHashCode_157 rfl ⟨_, rfl, rfl, rfl⟩
theorem lk_def (n : Nat) : Op.lookupswitch.offset [(0, 26), (1, 30)] 40 ((n + 2 : Nat) : Int) = 40 := by
  unfold Op.lookupswitch.offset
  rw [if_neg (by omega)]
  unfold Op.lookupswitch.offset
  rw [if_neg (by omega)]
  rfl
theorem jc_l1hash (d b κb : Nat) (hb : jBy h b κb l.length l) (hl : ∀ c ∈ l, c < 128) (hL : l.length ≤ 1000000) : jP Z mJ15_hashCode (d + 2) [.ref b] h (some (.int (hsh l))) := by
  refine jC.of pnJ15 rfl (Nat.le_of_ble_eq_true rfl) rfl (fun X => ?_)
  have hb0 := hb
  obtain ⟨f, hb, hty, _, hn, hf⟩ := hb
  refine g_aload_n (pc := 0) dJ15_hashCode_0 rfl rfl ?_
  refine g_alen (pc := 1) dJ15_hashCode_1 hb ?_
  match l, hb, hb0, hf, hl, hL with
  | [], hb, hb0, hf, hl, hL =>
    refine g_lookup (pc := 2) (tgt := 28) dJ15_hashCode_2 (by decide) (by rfl) rfl ?_
    refine g_iconst (pc := 28) (v := nI 0) dJ15_hashCode_28 rfl ?_
    refine g_goto (pc := 29) (tgt := 51) dJ15_hashCode_29 rfl ?_
    exact g_iret (pc := 51) dJ15_hashCode_51 rfl ⟨_, rfl, rfl, rfl⟩
  | [c], hb, hb0, hf, hl, hL =>
    refine g_lookup (pc := 2) (tgt := 32) dJ15_hashCode_2 (by decide) (by rfl) rfl ?_
    refine g_aload_n (pc := 32) dJ15_hashCode_32 rfl rfl ?_
    refine g_iconst (pc := 33) (v := nI 0) dJ15_hashCode_33 rfl ?_
    refine g_bald (pc := 34) 0 dJ15_hashCode_34 hb hty (Nat.zero_lt_one) rfl ?_
    rw [hf 0 Nat.zero_lt_one]
    have hc : c < 128 := hl c List.mem_cons_self
    refine g_sipush (pc := 35) (v := nI 255) dJ15_hashCode_35 rfl ?_
    refine g_iand (pc := 38) dJ15_hashCode_38 ?_
    rw [and255 (show ([c] : List Nat).getD 0 0 < 256 from by show c < 256; omega)]
    refine g_goto (pc := 39) (tgt := 51) dJ15_hashCode_39 rfl ?_
    refine g_iret (pc := 51) dJ15_hashCode_51 rfl ?_
    refine ⟨_, rfl, ?_, rfl⟩
    show some (Value.int (nI c)) = some (.int (nI 31 * 0 + nI c))
    rw [show nI 31 * 0 + nI c = nI c by simp]
  | c :: c' :: r, hb, hb0, hf, hl, hL =>
    have hlen : (c :: c' :: r).length = r.length + 2 := rfl
    refine g_lookup (pc := 2) (off := 40) (tgt := 42) dJ15_hashCode_2 (by decide) ?_ rfl ?_
    · rw [nI_toInt (by omega), hlen]
      exact lk_def _
    refine g_aload_n (pc := 42) dJ15_hashCode_42 rfl rfl ?_
    refine g_iconst (pc := 43) (v := nI 0) dJ15_hashCode_43 rfl ?_
    refine g_aload_n (pc := 44) dJ15_hashCode_44 rfl rfl ?_
    refine g_alen (pc := 45) dJ15_hashCode_45 hb ?_
    refine g_iconst (pc := 46) (v := nI 0) dJ15_hashCode_46 rfl ?_
    refine g_iconst (pc := 47) (v := nI 4) dJ15_hashCode_47 rfl ?_
    refine g_invS (pc := 48) dJ15_hashCode_48 (jc_vecHash d b κb hb0 hl hL) meJ11_vectorizedHashCode q1250 q1251 rfl rfl (Nat.le_of_ble_eq_true rfl) (by first | exact jF | exact fun _ z => z | assumption | (intro κ z; simp_all)) (jk_e ?_) jk_x
    exact g_iret (pc := 51) dJ15_hashCode_51 rfl ⟨_, rfl, rfl, rfl⟩
theorem jSt_mon {c' : hC} (hs : jSt h 130 a l) (hn : jSt (hSet h a c') 130 a l) : ∀ κ' a' l', jSt h κ' a' l' → jSt (hSet h a c') κ' a' l' := by
  intro κ' a' l' q
  by_cases e : a' = a
  · subst e
    have e1 := jSt.uniq hs q
    subst e1
    obtain ⟨_, _, b, κb, hs1, hz, x1, _⟩ := hs
    obtain ⟨_, _, b', κb', hs1', hz', y1, _⟩ := q
    have e2 : 130 = κ' := congrArg Prod.fst (Option.some.inj (x1.symm.trans y1))
    rw [← e2]
    exact hn
  · obtain ⟨_, _, _, _, _, _, x1, _⟩ := hs
    obtain ⟨q1, q2, b, κb, hs', hz, q3, q4, ⟨g, q5, q6⟩, q7⟩ := q
    refine ⟨q1, q2, b, κb, hs', hz, by rw [hSet_n e]; exact q3, q4, ⟨g, ?_, q6⟩, q7⟩
    rw [hSet_n (fun z => ?_)]
    · exact q5
    · rw [z, x1] at q5
      have : 130 = κb := congrArg Prod.fst (Option.some.inj q5)
      omega
theorem jc_hashCode (d : Nat) (hs : jSt h κ a l) (hκ : κ = 130 ∨ κ = 930) (hL : l.length ≤ 1000000) : jC Z mJ9_hashCode (d + 3) (fun k => k = 130) [.ref a] h (fun v h' => v = some (.int (hsh l)) ∧ jSt h' κ a l ∧ h'.1 = h.1 ∧ h'.2.1 = h.2.1 ∧ ∀ κ' a' l', jSt h κ' a' l' → jSt h' κ' a' l') := by
  refine jC.of pnJ9 rfl (Nat.le_of_ble_eq_true rfl) rfl (fun X => ?_)
  have hs0 := hs
  have kc := hs.cl
  obtain ⟨hk, hl, b, κb, hs', hz, ha, hkb, hb, hst⟩ := hs
  refine g_aload_n (pc := 0) dJ9_hashCode_0 rfl rfl ?_
  refine g_get (pc := 1) (r := (RJ9, TJ9, 4)) 2 dJ9_hashCode_1 ha kc (Nat.le_of_ble_eq_true rfl) q451 (Or.inl rfl) rfl ?_
  refine g_istore_n (pc := 4) (ls' := [(0, _), (1, _)]) dJ9_hashCode_4 rfl (Nat.le_of_ble_eq_true rfl) rfl ?_
  refine g_iload_n (pc := 5) dJ9_hashCode_5 rfl rfl ?_
  rcases hst with ⟨e1, e2, e3⟩ | ⟨e1, e2⟩
  · have hκ : κ = 130 := by rcases hκ with e | e; exact e; exact absurd e e3
    subst hκ
    subst e1; subst e2
    refine g_if_ne (pc := 6) (tgt := 58) dJ9_hashCode_6 rfl (fun q_ => absurd q_ (by decide)) (fun _ => ?_)
    refine g_aload_n (pc := 9) dJ9_hashCode_9 rfl rfl ?_
    refine g_get (pc := 10) (r := (RJ9, TJ9, 4)) 3 dJ9_hashCode_10 ha kc (Nat.le_of_ble_eq_true rfl) q452 (Or.inl rfl) rfl ?_
    refine g_if_ne (pc := 13) (tgt := 58) dJ9_hashCode_13 rfl (fun q_ => absurd q_ (by decide)) (fun _ => ?_)
    refine g_aload_n (pc := 16) dJ9_hashCode_16 rfl rfl ?_
    refine g_invV (pc := 17) dJ9_hashCode_17 ha kc (jc_isLatin1 (d + 2) hs0) meJ9_isLatin1 q945 q946 q947 rfl rfl (Nat.le_of_ble_eq_true rfl) (by first | exact jF | exact fun _ z => z | assumption | (intro κ z; simp_all)) (jk_e ?_) jk_x
    refine g_if_eqN (pc := 20) (tgt := 33) dJ9_hashCode_20 rfl (by omega) (fun q_ => absurd q_ (by omega)) (fun _ => ?_)
    refine g_aload_n (pc := 23) dJ9_hashCode_23 rfl rfl ?_
    refine g_get (pc := 24) (r := (RJ9, TJ9, 4)) 0 dJ9_hashCode_24 ha kc (Nat.le_of_ble_eq_true rfl) q449 (Or.inl rfl) rfl ?_
    refine g_invS (pc := 27) dJ9_hashCode_27 (jc_l1hash d b κb hb hl hL) meJ15_hashCode q1247 q1248 rfl rfl (Nat.le_of_ble_eq_true rfl) (by first | exact jF | exact fun _ z => z | assumption | (intro κ z; simp_all)) (jk_e ?_) jk_x
    refine g_goto (pc := 30) (tgt := 40) dJ9_hashCode_30 rfl ?_
    refine g_istore_n (pc := 40) (ls' := [(0, _), (1, _)]) dJ9_hashCode_40 rfl (Nat.le_of_ble_eq_true rfl) rfl ?_
    refine g_iload_n (pc := 41) dJ9_hashCode_41 rfl rfl ?_
    have hba : b ≠ a := fun e => by
      obtain ⟨f, hb, _⟩ := hb
      rw [e] at hb
      have := congrArg Prod.fst (Option.some.inj (hb.symm.trans ha))
      have : κb = 130 := this
      omega
    refine g_if_ne (pc := 42) (tgt := 53) dJ9_hashCode_42 rfl (fun q => ?_) (fun q => ?_)
    · refine g_aload_n (pc := 53) dJ9_hashCode_53 rfl rfl ?_
      refine g_iload_n (pc := 54) dJ9_hashCode_54 rfl rfl ?_
      refine g_put (pc := 55) (r := (RJ9, TJ9, 4)) 2 dJ9_hashCode_55 ha kc (Nat.le_of_ble_eq_true rfl) q451 (Or.inl rfl) rfl (by decide) rfl (tyJ9_ok 2 (Nat.le_of_ble_eq_true rfl)) rfl rfl ?_
      refine g_iload_n (pc := 58) dJ9_hashCode_58 rfl rfl ?_
      refine g_iret (pc := 59) dJ9_hashCode_59 rfl ?_
      have hn : jSt (hSet h a (130, .inl [.ref b, .int (nI 0), .int (hsh l), .int 0])) 130 a l := by
        refine ⟨Or.inr (Or.inl rfl), hl, b, κb, hsh l, _, hSet_s _ _ _, hkb, ?_, Or.inr ⟨rfl, fun z => absurd z q⟩⟩
        obtain ⟨f, hb, hr⟩ := hb
        exact ⟨f, by rw [hSet_n hba]; exact hb, hr⟩
      exact ⟨_, rfl, rfl, hn, rfl, rfl, jSt_mon hs0 hn⟩
    ·
      refine g_aload_n (pc := 45) dJ9_hashCode_45 rfl rfl ?_
      refine g_iconst (pc := 46) (v := nI 1) dJ9_hashCode_46 rfl ?_
      refine g_put (pc := 47) (r := (RJ9, TJ9, 4)) 3 dJ9_hashCode_47 ha kc (Nat.le_of_ble_eq_true rfl) q452 (Or.inl rfl) rfl (by decide) rfl (tyJ9_ok 3 (Nat.le_of_ble_eq_true rfl)) (by first | exact bz_n _ | rfl) rfl ?_
      refine g_goto (pc := 50) (tgt := 58) dJ9_hashCode_50 rfl ?_
      refine g_iload_n (pc := 58) dJ9_hashCode_58 rfl rfl ?_
      refine g_iret (pc := 59) dJ9_hashCode_59 rfl ?_
      have hn : jSt (hSet h a (130, .inl [.ref b, .int (nI 0), .int 0, .int (nI 1)])) 130 a l := by
        refine ⟨Or.inr (Or.inl rfl), hl, b, κb, _, _, hSet_s _ _ _, hkb, ?_, Or.inr ⟨q.symm, fun z => rfl⟩⟩
        obtain ⟨f, hb, hr⟩ := hb
        exact ⟨f, by rw [hSet_n hba]; exact hb, hr⟩
      exact ⟨_, rfl, rfl, hn, rfl, rfl, jSt_mon hs0 hn⟩
  · subst e1
    refine g_if_ne (pc := 6) (tgt := 58) dJ9_hashCode_6 rfl (fun q => ?_) (fun q => ?_)
    · refine g_iload_n (pc := 58) dJ9_hashCode_58 rfl rfl ?_
      exact g_iret (pc := 59) dJ9_hashCode_59 rfl ⟨_, rfl, rfl, hs0, rfl, rfl, fun _ _ _ z => z⟩
    · have e2 := e2 q
      subst e2
      refine g_aload_n (pc := 9) dJ9_hashCode_9 rfl rfl ?_
      refine g_get (pc := 10) (r := (RJ9, TJ9, 4)) 3 dJ9_hashCode_10 ha kc (Nat.le_of_ble_eq_true rfl) q452 (Or.inl rfl) rfl ?_
      refine g_if_ne (pc := 13) (tgt := 58) dJ9_hashCode_13 rfl (fun _ => ?_) (fun q_ => absurd q_ (by decide))
      refine g_iload_n (pc := 58) dJ9_hashCode_58 rfl rfl ?_
      exact g_iret (pc := 59) dJ9_hashCode_59 rfl ⟨_, rfl, rfl, hs0, rfl, rfl, fun _ _ _ z => z⟩
end JC
