/-! JDK 8: StringBuilder.append(String), append(char) -/
set_option maxRecDepth 100000
section JC
variable {Z : hE} {h : hP} {κ γ a cap : Nat} {l : List Nat}
theorem jc_getBytes (d κ s κ' b n i : Nat) (w : List Nat) (g : Nat → Value) (hs : jSt h κ s w) (hb : h.2.2 b = some (κ', .inr (n, g))) (hty : hTy (κ' % 100) = some .byte) (hk' : κ' < 900) (hi : i + w.length ≤ n) (hn : n ≤ 1000000) : jC Z mJ9_getBytes (d + 1) (fun k => k = κ') [.ref s, .ref b, .int (nI i), .int (nI 0)] h (fun v h' => v = none ∧ ∃ f, h' = hSet h b (κ', .inr (n, f)) ∧ (∀ k, k < w.length → f (i + k) = .int (nI (w.getD k 0))) ∧ ∀ k, k < i → f k = g k) := by
  refine jC.of pnJ9 rfl (Nat.le_of_ble_eq_true rfl) rfl (fun X => ?_)
  have hs0 := hs
  have kc := hs.cl
  obtain ⟨_, hl, bw, κb, hs1, hz, ha, _, ⟨f, hbw, htw, _, _, hf⟩, _⟩ := hs
  refine g_aload_n (pc := 0) dJ9_getBytes_0 rfl rfl ?_
  refine g_invV (pc := 1) dJ9_getBytes_1 ha kc (jc_coder d hs0) meJ9_coder q304 q305 q306 rfl rfl (Nat.le_of_ble_eq_true rfl) (by first | exact jF | exact fun _ z => z | assumption | (intro κ z; simp_all)) (jk_e ?_) jk_x
  refine g_iload_n (pc := 4) dJ9_getBytes_4 rfl rfl ?_
  refine g_icmp_neN (pc := 5) (tgt := 28) dJ9_getBytes_5 rfl (by omega) (by omega) (fun q_ => absurd q_ (by omega)) (fun _ => ?_)
  refine g_aload_n (pc := 8) dJ9_getBytes_8 rfl rfl ?_
  refine g_get (pc := 9) (r := (RJ9, TJ9, 4)) 0 dJ9_getBytes_9 ha kc (Nat.le_of_ble_eq_true rfl) q449 (Or.inl rfl) rfl ?_
  refine g_iconst (pc := 12) (v := nI 0) dJ9_getBytes_12 rfl ?_
  refine g_aload_n (pc := 13) dJ9_getBytes_13 rfl rfl ?_
  refine g_iload_n (pc := 14) dJ9_getBytes_14 rfl rfl ?_
  refine g_iload_n (pc := 15) dJ9_getBytes_15 rfl rfl ?_
  refine g_ishl (pc := 16) dJ9_getBytes_16 ?_
  rw [sl0]
  refine g_aload_n (pc := 17) dJ9_getBytes_17 rfl rfl ?_
  refine g_get (pc := 18) (r := (RJ9, TJ9, 4)) 0 dJ9_getBytes_18 ha kc (Nat.le_of_ble_eq_true rfl) q449 (Or.inl rfl) rfl ?_
  refine g_alen (pc := 21) dJ9_getBytes_21 hbw ?_
  refine g_acopy (pc := 22) 0 i w.length dJ9_getBytes_22 hbw hb htw hty rfl rfl rfl (by omega) (by omega) hk' rfl (Or.inl rfl) q341 q268 q267 q87 (Nat.le_of_ble_eq_true rfl) ?_
  refine g_goto (pc := 25) (tgt := 43) dJ9_getBytes_25 rfl ?_
  exact g_vret (pc := 43) dJ9_getBytes_43 rfl ⟨_, rfl, rfl, _, rfl, fun k hk => (cpV_in (by omega) (by omega)).trans (by rw [show 0 + (i + k - i) = k by omega]; exact hf k hk), fun k hk => cpV_out (Or.inl hk)⟩
theorem jc_inflateIf (d κ s : Nat) (w : List Nat) (hs : jSB h γ a cap l) (hw : jSt h κ s w) : jP Z mJ7_inflateIfNeededFor (d + 1) [.ref a, .ref s] h none := by
  refine jC.of pnJ7 rfl (Nat.le_of_ble_eq_true rfl) rfl (fun X => ?_)
  have kc := k31 γ
  have kc' := hw.cl
  have hw0 := hw
  obtain ⟨_, _, _, _, b, ml, f, ha, _⟩ := hs
  obtain ⟨_, _, bw, κb, hs1, hz, hs', _⟩ := hw
  refine g_gets (pc := 0) dJ7_inflateIfNeededFor_0 st_compact q198 (Or.inl rfl) ?_
  refine g_if_eq (pc := 3) (tgt := 21) dJ7_inflateIfNeededFor_3 rfl (fun q_ => absurd q_ (by decide)) (fun _ => ?_)
  refine g_aload_n (pc := 6) dJ7_inflateIfNeededFor_6 rfl rfl ?_
  refine g_get (pc := 7) (r := (RJ8, TJ8, 4)) 1 dJ7_inflateIfNeededFor_7 ha kc (Nat.le_of_ble_eq_true rfl) q208 (Or.inl rfl) rfl ?_
  refine g_aload_n (pc := 10) dJ7_inflateIfNeededFor_10 rfl rfl ?_
  refine g_invV (pc := 11) dJ7_inflateIfNeededFor_11 hs' kc' (jc_coder d hw0) meJ9_coder q317 q305 q306 rfl rfl (Nat.le_of_ble_eq_true rfl) (by first | exact jF | exact fun _ z => z | assumption | (intro κ z; simp_all)) (jk_e ?_) jk_x
  refine g_icmp_eqN (pc := 14) (tgt := 21) dJ7_inflateIfNeededFor_14 rfl (by omega) (by omega) (fun _ => ?_) (fun q_ => absurd q_ (by omega))
  exact g_vret (pc := 21) dJ7_inflateIfNeededFor_21 rfl ⟨_, rfl, rfl, rfl⟩
theorem jc_putStringAt (d κ s b n i : Nat) (w : List Nat) (ml : Int32) (g : Nat → Value) (hs : jSB h γ a cap l) (ha : h.2.2 a = some (100 * γ + 31, .inl [.ref b, .int (nI 0), .int ml, .int (nI l.length)])) (hw : jSt h κ s w) (hb : h.2.2 b = some (100 * γ + 60, .inr (n, g))) (hi : i + w.length ≤ n) (hn : n ≤ 1000000) : jC Z mJ7_putStringAt (d + 2) (fun k => k = 100 * γ + 60) [.ref a, .int (nI i), .ref s] h (fun v h' => v = none ∧ ∃ f, h' = hSet h b (100 * γ + 60, .inr (n, f)) ∧ (∀ k, k < w.length → f (i + k) = .int (nI (w.getD k 0))) ∧ ∀ k, k < i → f k = g k) := by
  refine jC.of pnJ7 rfl (Nat.le_of_ble_eq_true rfl) rfl (fun X => ?_)
  have kc := k31 γ
  have kc' := hw.cl
  have hw0 := hw
  have hγ := hs.1
  obtain ⟨_, _, bw, κb, hs1, hz, hs', _⟩ := hw
  refine g_aload_n (pc := 0) dJ7_putStringAt_0 rfl rfl ?_
  refine g_aload_n (pc := 1) dJ7_putStringAt_1 rfl rfl ?_
  refine g_invP (pc := 2) dJ7_putStringAt_2 ha kc (jc_inflateIf d κ s w hs hw0) meJ7_inflateIfNeededFor q313 q315 hsJ8_J7_inflateIfNeededFor rfl rfl (Nat.le_of_ble_eq_true rfl) (by first | exact jF | exact fun _ z => z | assumption | (intro κ z; simp_all)) (jk_e ?_) jk_x
  refine g_aload_n (pc := 5) dJ7_putStringAt_5 rfl rfl ?_
  refine g_aload_n (pc := 6) dJ7_putStringAt_6 rfl rfl ?_
  refine g_get (pc := 7) (r := (RJ8, TJ8, 4)) 0 dJ7_putStringAt_7 ha kc (Nat.le_of_ble_eq_true rfl) q207 (Or.inl rfl) rfl ?_
  refine g_iload_n (pc := 10) dJ7_putStringAt_10 rfl rfl ?_
  refine g_aload_n (pc := 11) dJ7_putStringAt_11 rfl rfl ?_
  refine g_get (pc := 12) (r := (RJ8, TJ8, 4)) 1 dJ7_putStringAt_12 ha kc (Nat.le_of_ble_eq_true rfl) q208 (Or.inl rfl) rfl ?_
  refine g_invV (pc := 15) dJ7_putStringAt_15 hs' kc' (jc_getBytes d κ s (100 * γ + 60) b n i w g hw0 hb (k60 γ) (by omega) hi hn) meJ9_getBytes q337 q338 q339 rfl rfl (Nat.le_of_ble_eq_true rfl) (by first | exact jF | exact fun _ z => z | assumption | (intro κ z; simp_all)) (jk_n (fun v h' hp fr => ?_)) jk_x
  obtain ⟨rfl, f, rfl, hf⟩ := hp
  exact g_vret (pc := 18) dJ7_putStringAt_18 rfl ⟨_, rfl, rfl, f, rfl, hf⟩
/-- after an append -/
def jAp (h : hP) (γ a cap : Nat) (l : List Nat) (m : Nat) (v : Option Value) (h' : hP) : Prop := v = some (.ref a) ∧ ∃ cap', jSB h' γ a cap' l ∧ jGr h h' cap cap' m
theorem getD_app {l w : List Nat} {i : Nat} : (l ++ w).getD i 0 = if i < l.length then l.getD i 0 else w.getD (i - l.length) 0 := by
  by_cases q : i < l.length
  · rw [if_pos q, List.getD_eq_getElem?_getD, List.getD_eq_getElem?_getD, List.getElem?_append_left q]
  · rw [if_neg q, List.getD_eq_getElem?_getD, List.getD_eq_getElem?_getD, List.getElem?_append_right (Nat.not_lt.mp q)]
theorem jc_append7 (d κ s : Nat) (w : List Nat) (hs : jSB h γ a cap l) (hw : jSt h κ s w) (hm : l.length + w.length ≤ 500000) (l1 : h.1 + 1 ≤ hLC Z) (l2 : h.2.1 + 2 * (l.length + w.length) ≤ hLS) : jC Z mJ7_append (d + 4) (jSS γ) [.ref a, .ref s] h (jAp h γ a cap (l ++ w) (l.length + w.length)) := by
  refine jC.of pnJ7 rfl (Nat.le_of_ble_eq_true rfl) rfl (fun X => ?_)
  have kc := k31 γ
  have kc' := hw.cl
  have hs0 := hs
  have hw0 := hw
  have hwc : ∀ c ∈ w, c < 128 := hw.2.1
  obtain ⟨hγ, hl, hcap, hlc, b, ml, f, ha, hb, hf⟩ := hs
  obtain ⟨_, _, bw, κb, hs1, hz, hs', _⟩ := hw
  refine g_aload_n (pc := 0) dJ7_append_0 rfl rfl ?_
  refine g_ifnonnull (pc := 1) (tgt := 9) dJ7_append_1 rfl ?_
  refine g_aload_n (pc := 9) dJ7_append_9 rfl rfl ?_
  refine g_invV (pc := 10) dJ7_append_10 hs' kc' (jc_length (d + 2) hw0) meJ9_length q300 q301 q302 rfl rfl (Nat.le_of_ble_eq_true rfl) (by first | exact jF | exact fun _ z => z | assumption | (intro κ z; simp_all)) (jk_e ?_) jk_x
  refine g_istore_n (pc := 13) (ls' := [(0, _), (1, _), (2, _)]) dJ7_append_13 rfl (Nat.le_of_ble_eq_true rfl) rfl ?_
  refine g_aload_n (pc := 14) dJ7_append_14 rfl rfl ?_
  refine g_aload_n (pc := 15) dJ7_append_15 rfl rfl ?_
  refine g_get (pc := 16) (r := (RJ8, TJ8, 4)) 3 dJ7_append_16 ha kc (Nat.le_of_ble_eq_true rfl) q211 (Or.inl rfl) rfl ?_
  refine g_iload_n (pc := 19) dJ7_append_19 rfl rfl ?_
  first | refine g_iaddN (pc := 20) dJ7_append_20 ?_ | refine g_iadd (pc := 20) dJ7_append_20 ?_
  refine g_invP (pc := 21) dJ7_append_21 ha kc (jc_ensure d (l.length + w.length) hs0 hm l1 l2) meJ7_ensureCapacityInternal q234 q236 hsJ8_J7_ensureCapacityInternal rfl rfl (Nat.le_of_ble_eq_true rfl) (by first | exact jF | exact fun _ z => z | assumption | (intro κ z; simp_all)) (jk_n (fun v h1 hp fr => ?_)) jk_x
  obtain ⟨rfl, cap', hB, hle, hgr⟩ := hp
  have hB0 := hB
  have hw1 := hw0.frB hγ fr
  obtain ⟨_, _, hcap1, hlc1, b1, ml1, f1, ha1, hb1, hf1⟩ := hB
  refine g_aload_n (pc := 24) dJ7_append_24 rfl rfl ?_
  refine g_aload_n (pc := 25) dJ7_append_25 rfl rfl ?_
  refine g_get (pc := 26) (r := (RJ8, TJ8, 4)) 3 dJ7_append_26 ha1 kc (Nat.le_of_ble_eq_true rfl) q211 (Or.inl rfl) rfl ?_
  refine g_aload_n (pc := 29) dJ7_append_29 rfl rfl ?_
  refine g_invP (pc := 30) dJ7_append_30 ha1 kc (jc_putStringAt (d + 1) κ s b1 cap' l.length w ml1 f1 hB0 ha1 hw1 hb1 hle hcap1) meJ7_putStringAt q309 q311 hsJ8_J7_putStringAt rfl rfl (Nat.le_of_ble_eq_true rfl) (fun k z => Or.inr z) (jk_n (fun v h2 hp fr2 => ?_)) jk_x
  obtain ⟨rfl, f2, rfl, hf2, hf3⟩ := hp
  have ha2 := (fr2.2.2 a _ ha1).1 (by show ¬ (100 * γ + 31 = 100 * γ + 60); omega)
  refine g_aload_n (pc := 33) dJ7_append_33 rfl rfl ?_
  refine g_dup (pc := 34) dJ7_append_34 rfl ?_
  refine g_get (pc := 35) (r := (RJ8, TJ8, 4)) 3 dJ7_append_35 ha2 kc (Nat.le_of_ble_eq_true rfl) q211 (Or.inl rfl) rfl ?_
  refine g_iload_n (pc := 38) dJ7_append_38 rfl rfl ?_
  first | refine g_iaddN (pc := 39) dJ7_append_39 ?_ | refine g_iadd (pc := 39) dJ7_append_39 ?_
  refine g_put (pc := 40) (r := (RJ8, TJ8, 4)) 3 dJ7_append_40 ha2 kc (Nat.le_of_ble_eq_true rfl) q211 (Or.inl rfl) rfl (by omega) (Or.inl rfl) (tyJ8_ok 3 (Nat.le_of_ble_eq_true rfl)) rfl rfl ?_
  refine g_aload_n (pc := 43) dJ7_append_43 rfl rfl ?_
  refine g_aret (pc := 44) dJ7_append_44 rfl (Or.inl ⟨_, rfl⟩) (Or.inr ⟨_, rfl⟩) ?_
  have hne : b1 ≠ a := fun e => by
    rw [e] at hb1
    have z := congrArg Prod.fst (Option.some.inj (hb1.symm.trans ha1))
    have z : 100 * γ + 60 = 100 * γ + 31 := z
    omega
  refine ⟨_, rfl, rfl, cap', ⟨hγ, ?_, hcap1, by rw [List.length_append]; exact hle, b1, ml1, f2, by rw [List.length_append]; exact hSet_s _ _ _, by rw [hSet_n hne]; exact hSet_s _ _ _, fun i hi => ?_⟩, hgr⟩
  · intro c hc
    rcases List.mem_append.mp hc with z | z
    · exact hl c z
    · exact hwc c z
  · rw [List.length_append] at hi
    rw [getD_app]
    by_cases q : i < l.length
    · rw [if_pos q, hf3 i q]; exact hf1 i q
    · rw [if_neg q]
      have := hf2 (i - l.length) (by omega)
      rw [show l.length + (i - l.length) = i by omega] at this
      exact this
theorem jc_append (d κ s : Nat) (w : List Nat) (hs : jSB h γ a cap l) (hw : jSt h κ s w) (hm : l.length + w.length ≤ 500000) (l1 : h.1 + 1 ≤ hLC Z) (l2 : h.2.1 + 2 * (l.length + w.length) ≤ hLS) : jC Z mJ8_append (d + 5) (jSS γ) [.ref a, .ref s] h (jAp h γ a cap (l ++ w) (l.length + w.length)) := by
  refine jC.of pnJ8 rfl (Nat.le_of_ble_eq_true rfl) rfl (fun X => ?_)
  have kc := k31 γ
  have hs0 := hs
  obtain ⟨hγ, hl, hcap, hlc, b, ml, f, ha, hb, hf⟩ := hs
  refine g_aload_n (pc := 0) dJ8_append_0 rfl rfl ?_
  refine g_aload_n (pc := 1) dJ8_append_1 rfl rfl ?_
  refine g_invSU (pc := 2) dJ8_append_2 ha kc (jc_append7 d κ s w hs0 hw hm l1 l2) meJ7_append (by decide) q227 q228 q2260 q220 rfl rfl (Nat.le_of_ble_eq_true rfl) (by first | exact jF | exact fun _ z => z | assumption | (intro κ z; simp_all)) (jk_n (fun v h1 hp fr => ?_)) jk_x
  obtain ⟨rfl, hp⟩ := hp
  refine g_pop (pc := 5) dJ8_append_5 rfl ?_
  refine g_aload_n (pc := 6) dJ8_append_6 rfl rfl ?_
  exact g_aret (pc := 7) dJ8_append_7 rfl (Or.inl ⟨_, rfl⟩) (Or.inr ⟨_, rfl⟩) ⟨_, rfl, rfl, hp⟩
theorem jc_canEncode (d c : Nat) (hc : c < 128) : jP Z mJ15_canEncode d [.int (nI c)] h (some (.int (nI 1))) := by
  refine jC.of pnJ15 rfl (Nat.le_of_ble_eq_true rfl) rfl (fun X => ?_)
  refine g_iload_n (pc := 0) dJ15_canEncode_0 rfl rfl ?_
  refine g_sipush (pc := 1) (v := nI 255) dJ15_canEncode_1 rfl ?_
  refine g_icmp_gtN (pc := 4) (tgt := 11) dJ15_canEncode_4 rfl (by omega) (by omega) (fun q_ => absurd q_ (by omega)) (fun _ => ?_)
  refine g_iconst (pc := 7) (v := nI 1) dJ15_canEncode_7 rfl ?_
  refine g_goto (pc := 8) (tgt := 12) dJ15_canEncode_8 rfl ?_
  exact g_zret (pc := 12) dJ15_canEncode_12 rfl (by first | exact bz_n _ | rfl) ⟨_, rfl, rfl, rfl⟩
theorem jc_appendC7 (d c : Nat) (hs : jSB h γ a cap l) (hc : c < 128) (hm : l.length + 1 ≤ 500000) (l1 : h.1 + 1 ≤ hLC Z) (l2 : h.2.1 + 2 * (l.length + 1) ≤ hLS) : jC Z mJ7_append_3 (d + 4) (jSS γ) [.ref a, .int (nI c)] h (jAp h γ a cap (l ++ [c]) (l.length + 1)) := by
  refine jC.of pnJ7 rfl (Nat.le_of_ble_eq_true rfl) rfl (fun X => ?_)
  have kc := k31 γ
  have hs0 := hs
  obtain ⟨hγ, hl, hcap, hlc, b, ml, f, ha, hb, hf⟩ := hs
  refine g_aload_n (pc := 0) dJ7_append_3_0 rfl rfl ?_
  refine g_aload_n (pc := 1) dJ7_append_3_1 rfl rfl ?_
  refine g_get (pc := 2) (r := (RJ8, TJ8, 4)) 3 dJ7_append_3_2 ha kc (Nat.le_of_ble_eq_true rfl) q211 (Or.inl rfl) rfl ?_
  refine g_iconst (pc := 5) (v := nI 1) dJ7_append_3_5 rfl ?_
  first | refine g_iaddN (pc := 6) dJ7_append_3_6 ?_ | refine g_iadd (pc := 6) dJ7_append_3_6 ?_
  refine g_invP (pc := 7) dJ7_append_3_7 ha kc (jc_ensure d (l.length + 1) hs0 hm l1 l2) meJ7_ensureCapacityInternal q234 q236 hsJ8_J7_ensureCapacityInternal rfl rfl (Nat.le_of_ble_eq_true rfl) (by first | exact jF | exact fun _ z => z | assumption | (intro κ z; simp_all)) (jk_n (fun v h1 hp fr => ?_)) jk_x
  obtain ⟨rfl, cap', hB, hle, hgr⟩ := hp
  have hB0 := hB
  obtain ⟨_, _, hcap1, hlc1, b1, ml1, f1, ha1, hb1, hf1⟩ := hB
  refine g_aload_n (pc := 10) dJ7_append_3_10 rfl rfl ?_
  refine g_invV (pc := 11) dJ7_append_3_11 ha1 kc (jc_bIsLatin1 (d + 3) hB0) meJ7_isLatin1 q269 q270 q272 rfl rfl (Nat.le_of_ble_eq_true rfl) (by first | exact jF | exact fun _ z => z | assumption | (intro κ z; simp_all)) (jk_e ?_) jk_x
  refine g_if_eqN (pc := 14) (tgt := 45) dJ7_append_3_14 rfl (by omega) (fun q_ => absurd q_ (by omega)) (fun _ => ?_)
  refine g_iload_n (pc := 17) dJ7_append_3_17 rfl rfl ?_
  refine g_invS (pc := 18) dJ7_append_3_18 (jc_canEncode (d + 3) c hc) meJ15_canEncode q588 q589 rfl rfl (Nat.le_of_ble_eq_true rfl) (by first | exact jF | exact fun _ z => z | assumption | (intro κ z; simp_all)) (jk_e ?_) jk_x
  refine g_if_eqN (pc := 21) (tgt := 45) dJ7_append_3_21 rfl (by omega) (fun q_ => absurd q_ (by omega)) (fun _ => ?_)
  refine g_aload_n (pc := 24) dJ7_append_3_24 rfl rfl ?_
  refine g_get (pc := 25) (r := (RJ8, TJ8, 4)) 0 dJ7_append_3_25 ha1 kc (Nat.le_of_ble_eq_true rfl) q207 (Or.inl rfl) rfl ?_
  refine g_aload_n (pc := 28) dJ7_append_3_28 rfl rfl ?_
  refine g_dup (pc := 29) dJ7_append_3_29 rfl ?_
  refine g_get (pc := 30) (r := (RJ8, TJ8, 4)) 3 dJ7_append_3_30 ha1 kc (Nat.le_of_ble_eq_true rfl) q211 (Or.inl rfl) rfl ?_
  refine g_dup_x1 (pc := 33) dJ7_append_3_33 rfl rfl ?_
  refine g_iconst (pc := 34) (v := nI 1) dJ7_append_3_34 rfl ?_
  first | refine g_iaddN (pc := 35) dJ7_append_3_35 ?_ | refine g_iadd (pc := 35) dJ7_append_3_35 ?_
  refine g_put (pc := 36) (r := (RJ8, TJ8, 4)) 3 dJ7_append_3_36 ha1 kc (Nat.le_of_ble_eq_true rfl) q211 (Or.inl rfl) rfl (by omega) (Or.inl rfl) (tyJ8_ok 3 (Nat.le_of_ble_eq_true rfl)) rfl rfl ?_
  have hne : b1 ≠ a := fun e => by
    rw [e] at hb1
    have z := congrArg Prod.fst (Option.some.inj (hb1.symm.trans ha1))
    have z : 100 * γ + 60 = 100 * γ + 31 := z
    omega
  have hb2 : (hSet h1 a (100 * γ + 31, .inl [.ref b1, .int (nI 0), .int ml1, .int (nI (l.length + 1))])).2.2 b1 = some (100 * γ + 60, .inr (cap', f1)) := by rw [hSet_n hne]; exact hb1
  refine g_iload_n (pc := 39) dJ7_append_3_39 rfl rfl ?_
  refine g_i2b (pc := 40) dJ7_append_3_40 ?_
  rw [byN hc]
  refine g_bast (pc := 41) l.length dJ7_append_3_41 hb2 (k60 γ) (by omega) rfl (by omega) (Or.inr rfl) ?_
  rw [byN hc]
  refine g_goto (pc := 42) (tgt := 75) dJ7_append_3_42 rfl ?_
  refine g_aload_n (pc := 75) dJ7_append_3_75 rfl rfl ?_
  refine g_aret (pc := 76) dJ7_append_3_76 rfl (Or.inl ⟨_, rfl⟩) (Or.inr ⟨_, rfl⟩) ?_
  refine ⟨_, rfl, rfl, cap', ⟨hγ, ?_, hcap1, by rw [List.length_append]; exact hle, b1, ml1, _, by rw [List.length_append, hSet_n hne.symm]; exact hSet_s _ _ _, hSet_s _ _ _, fun i hi => ?_⟩, hgr⟩
  · intro x hx
    rcases List.mem_append.mp hx with z | z
    · exact hl x z
    · rw [List.mem_singleton.mp z]; exact hc
  · rw [List.length_append] at hi
    have hi : i < l.length + 1 := hi
    rw [getD_app]
    by_cases q : i < l.length
    · rw [if_pos q, upV_n (by omega)]; exact hf1 i q
    · have e : i = l.length := by omega
      rw [if_neg q, e, upV_s, Nat.sub_self]
      rfl
theorem jc_appendC (d c : Nat) (hs : jSB h γ a cap l) (hc : c < 128) (hm : l.length + 1 ≤ 500000) (l1 : h.1 + 1 ≤ hLC Z) (l2 : h.2.1 + 2 * (l.length + 1) ≤ hLS) : jC Z mJ8_append_3 (d + 5) (jSS γ) [.ref a, .int (nI c)] h (jAp h γ a cap (l ++ [c]) (l.length + 1)) := by
  refine jC.of pnJ8 rfl (Nat.le_of_ble_eq_true rfl) rfl (fun X => ?_)
  have kc := k31 γ
  have hs0 := hs
  obtain ⟨hγ, hl, hcap, hlc, b, ml, f, ha, hb, hf⟩ := hs
  refine g_aload_n (pc := 0) dJ8_append_3_0 rfl rfl ?_
  refine g_iload_n (pc := 1) dJ8_append_3_1 rfl rfl ?_
  refine g_invSU (pc := 2) dJ8_append_3_2 ha kc (jc_appendC7 d c hs0 hc hm l1 l2) meJ7_append_3 (by decide) q585 q586 q2269 q220 rfl rfl (Nat.le_of_ble_eq_true rfl) (by first | exact jF | exact fun _ z => z | assumption | (intro κ z; simp_all)) (jk_n (fun v h1 hp fr => ?_)) jk_x
  obtain ⟨rfl, hp⟩ := hp
  refine g_pop (pc := 5) dJ8_append_3_5 rfl ?_
  refine g_aload_n (pc := 6) dJ8_append_3_6 rfl rfl ?_
  exact g_aret (pc := 7) dJ8_append_3_7 rfl (Or.inl ⟨_, rfl⟩) (Or.inr ⟨_, rfl⟩) ⟨_, rfl, rfl, hp⟩
end JC
