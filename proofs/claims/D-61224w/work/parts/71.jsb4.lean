/-! JDK 11: append(int), init, toString -/
set_option maxRecDepth 100000
theorem decI_11 (v : Int32) : (decI v).length ≤ 11 := by
  unfold decI
  have := decF_len 10 v.toInt.natAbs
  split
  · simp; exact this
  · omega
theorem hFa.ofF {A : Nat → Prop} {h h' : hP} (f : hFr (fun _ => False) h h') : hFa A h h' := ⟨f.1, f.2.1, fun q c e => ⟨fun _ => (f.2.2 q c e).1 (fun z => z), (f.2.2 q c e).2⟩⟩
section JC
variable {Z : hE} {h : hP} {κ γ a cap : Nat} {l : List Nat}
theorem jc_appendI7 (d : Nat) (v : Int32) (hs : jSB h γ a cap l) (hm : l.length + 11 ≤ 500000) (l1 : h.1 + 1 ≤ hLC Z) (l2 : h.2.1 + 2 * (l.length + (decI v).length) ≤ hLS) : jC Z mJ7_append_2 (d + 4) (jSS γ) [.ref a, .int v] h (jAp h γ a cap (l ++ decI v) (l.length + (decI v).length)) := by
  refine jC.of pnJ7 rfl (Nat.le_of_ble_eq_true rfl) rfl (fun X => ?_)
  have kc := k31 γ
  have hs0 := hs
  have h11 := decI_11 v
  obtain ⟨hγ, hl, hcap, hlc, b, ml, f, ha, hb, hf⟩ := hs
  refine g_aload_n (pc := 0) dJ7_append_2_0 rfl rfl ?_
  refine g_get (pc := 1) (r := (RJ8, TJ8, 4)) 3 dJ7_append_2_1 ha kc (Nat.le_of_ble_eq_true rfl) q211 (Or.inl rfl) rfl ?_
  refine g_istore_n (pc := 4) (ls' := [(0, _), (1, _), (2, _)]) dJ7_append_2_4 rfl (Nat.le_of_ble_eq_true rfl) rfl ?_
  refine g_iload_n (pc := 5) dJ7_append_2_5 rfl rfl ?_
  refine g_iload_n (pc := 6) dJ7_append_2_6 rfl rfl ?_
  refine g_invS (pc := 7) dJ7_append_2_7 (jc_stringSize (d + 3) v) meJ16_stringSize q350 q351 rfl rfl (Nat.le_of_ble_eq_true rfl) (by first | exact jF | exact fun _ z => z | assumption | (intro κ z; simp_all)) (jk_e ?_) jk_x
  first | refine g_iaddN (pc := 10) dJ7_append_2_10 ?_ | refine g_iadd (pc := 10) dJ7_append_2_10 ?_
  refine g_istore_n (pc := 11) (ls' := [(0, _), (1, _), (2, _), (3, _)]) dJ7_append_2_11 rfl (Nat.le_of_ble_eq_true rfl) rfl ?_
  refine g_aload_n (pc := 12) dJ7_append_2_12 rfl rfl ?_
  refine g_iload_n (pc := 13) dJ7_append_2_13 rfl rfl ?_
  refine g_invP (pc := 14) dJ7_append_2_14 ha kc (jc_ensure d (l.length + (decI v).length) hs0 (by omega) l1 l2) meJ7_ensureCapacityInternal q234 q236 hsJ8_J7_ensureCapacityInternal rfl rfl (Nat.le_of_ble_eq_true rfl) (by first | exact jF | exact fun _ z => z | assumption | (intro κ z; simp_all)) (jk_n (fun v1 h1 hp fr => ?_)) jk_x
  obtain ⟨rfl, cap', hB, hle, hgr⟩ := hp
  have hB0 := hB
  obtain ⟨_, _, hcap1, hlc1, b1, ml1, f1, ha1, hb1, hf1⟩ := hB
  refine g_aload_n (pc := 17) dJ7_append_2_17 rfl rfl ?_
  refine g_invV (pc := 18) dJ7_append_2_18 ha1 kc (jc_bIsLatin1 (d + 3) hB0) meJ7_isLatin1 q269 q270 q272 rfl rfl (Nat.le_of_ble_eq_true rfl) (by first | exact jF | exact fun _ z => z | assumption | (intro κ z; simp_all)) (jk_e ?_) jk_x
  refine g_if_eqN (pc := 21) (tgt := 37) dJ7_append_2_21 rfl (by omega) (fun q_ => absurd q_ (by omega)) (fun _ => ?_)
  refine g_iload_n (pc := 24) dJ7_append_2_24 rfl rfl ?_
  refine g_iload_n (pc := 25) dJ7_append_2_25 rfl rfl ?_
  refine g_aload_n (pc := 26) dJ7_append_2_26 rfl rfl ?_
  refine g_get (pc := 27) (r := (RJ8, TJ8, 4)) 0 dJ7_append_2_27 ha1 kc (Nat.le_of_ble_eq_true rfl) q207 (Or.inl rfl) rfl ?_
  refine g_invS (pc := 30) dJ7_append_2_30 (jc_getChars (d + 3) (100 * γ + 60) b1 cap' (l.length + (decI v).length) v f1 hb1 (k60 γ) (by omega) hle hcap1 (by omega)) meJ16_getChars q353 q354 rfl rfl (Nat.le_of_ble_eq_true rfl) (fun k z => Or.inr z) (jk_n (fun v2 h2 hp fr2 => ?_)) jk_x
  obtain ⟨⟨z, rfl⟩, g, rfl, hg1, hg2⟩ := hp
  rw [show l.length + (decI v).length - (decI v).length = l.length by omega] at hg1 hg2
  refine g_pop (pc := 33) dJ7_append_2_33 rfl ?_
  refine g_goto (pc := 34) (tgt := 48) dJ7_append_2_34 rfl ?_
  have ha2 := (fr2.2.2 a _ ha1).1 (by show ¬ (100 * γ + 31 = 100 * γ + 60); omega)
  refine g_aload_n (pc := 48) dJ7_append_2_48 rfl rfl ?_
  refine g_iload_n (pc := 49) dJ7_append_2_49 rfl rfl ?_
  refine g_put (pc := 50) (r := (RJ8, TJ8, 4)) 3 dJ7_append_2_50 ha2 kc (Nat.le_of_ble_eq_true rfl) q211 (Or.inl rfl) rfl (by omega) (Or.inl rfl) (tyJ8_ok 3 (Nat.le_of_ble_eq_true rfl)) rfl rfl ?_
  refine g_aload_n (pc := 53) dJ7_append_2_53 rfl rfl ?_
  refine g_aret (pc := 54) dJ7_append_2_54 rfl (Or.inl ⟨_, rfl⟩) (Or.inr ⟨_, rfl⟩) ?_
  refine ⟨_, rfl, rfl, cap', ⟨hγ, ?_, hcap1, by rw [List.length_append]; exact hle, b1, ml1, g, by rw [List.length_append]; exact hSet_s _ _ _, by rw [hSet_n (jBne hb1 ha1)]; exact hSet_s _ _ _, fun i hi => ?_⟩, hgr⟩
  · intro c hc
    rcases List.mem_append.mp hc with z | z
    · exact hl c z
    · exact decI_lt v c z
  · rw [List.length_append] at hi
    rw [getD_app]
    by_cases q : i < l.length
    · rw [if_pos q, hg2 i q]; exact hf1 i q
    · rw [if_neg q]
      have := hg1 (i - l.length) (by omega)
      rw [show l.length + (i - l.length) = i by omega] at this
      exact this
theorem jc_appendI (d : Nat) (v : Int32) (hs : jSB h γ a cap l) (hm : l.length + 11 ≤ 500000) (l1 : h.1 + 1 ≤ hLC Z) (l2 : h.2.1 + 2 * (l.length + (decI v).length) ≤ hLS) : jC Z mJ8_append_2 (d + 5) (jSS γ) [.ref a, .int v] h (jAp h γ a cap (l ++ decI v) (l.length + (decI v).length)) := by
  refine jC.of pnJ8 rfl (Nat.le_of_ble_eq_true rfl) rfl (fun X => ?_)
  have kc := k31 γ
  have hs0 := hs
  obtain ⟨hγ, hl, hcap, hlc, b, ml, f, ha, hb, hf⟩ := hs
  refine g_aload_n (pc := 0) dJ8_append_2_0 rfl rfl ?_
  refine g_iload_n (pc := 1) dJ8_append_2_1 rfl rfl ?_
  refine g_invSU (pc := 2) dJ8_append_2_2 ha kc (jc_appendI7 d v hs0 hm l1 l2) meJ7_append_2 (by decide) q347 q348 q2267 q220 rfl rfl (Nat.le_of_ble_eq_true rfl) (by first | exact jF | exact fun _ z => z | assumption | (intro κ z; simp_all)) (jk_n (fun v1 h1 hp fr => ?_)) jk_x
  obtain ⟨rfl, hp⟩ := hp
  refine g_pop (pc := 5) dJ8_append_2_5 rfl ?_
  refine g_aload_n (pc := 6) dJ8_append_2_6 rfl rfl ?_
  exact g_aret (pc := 7) dJ8_append_2_7 rfl (Or.inl ⟨_, rfl⟩) (Or.inr ⟨_, rfl⟩) ⟨_, rfl, rfl, hp⟩
/-- the builder's constructors: a byte array is made and put in -/
theorem jc_sbInit7 (d n : Nat) (v1 v2 : Value) (z3 z4 : Int32) (hγ : 1 ≤ γ ∧ γ < 9) (ha : h.2.2 a = some (100 * γ + 31, .inl [v1, v2, .int z3, .int z4])) (hn : n ≤ 1000000) (l1 : h.1 + 1 ≤ hLC Z) (l2 : h.2.1 + n ≤ hLS) : jC Z mJ7_init (d + 1) (jSS γ) [.ref a, .int (nI n)] h (fun v h' => v = none ∧ h' = hSet (hNew h (100 * γ + 60, .inr (n, fun _ => .int 0)) n) a (100 * γ + 31, .inl [.ref h.1, .int (nI 0), .int z3, .int z4])) := by
  refine jC.of pnJ7 rfl (Nat.le_of_ble_eq_true rfl) rfl (fun X => ?_)
  have kc := k31 γ
  refine g_aload_n (pc := 0) dJ7_init_0 rfl rfl ?_
  refine g_objInit (pc := 1) dJ7_init_1 q197 q126 q127 (Nat.le_of_ble_eq_true rfl) ?_
  refine g_gets (pc := 4) dJ7_init_4 st_compact q198 (Or.inl rfl) ?_
  refine g_if_eq (pc := 7) (tgt := 25) dJ7_init_7 rfl (fun q_ => absurd q_ (by decide)) (fun _ => ?_)
  refine g_aload_n (pc := 10) dJ7_init_10 rfl rfl ?_
  refine g_iload_n (pc := 11) dJ7_init_11 rfl rfl ?_
  refine g_newa (pc := 12) (ty := .byte) (100 * γ + 60) n dJ7_init_12 (k60 γ) rfl (by omega) rfl (by omega) q221 (by decide) rfl (fun _ e => by cases e) (fun _ e => by cases e) (by first | omega | (simp only [hNew_1, hNew_2, hSet_1, hSet_2]; omega)) (by first | omega | (simp only [hNew_1, hNew_2, hSet_1, hSet_2]; omega)) (fun hwf => ?_)
  have ha1 := jNw (n := n) (c' := (100 * γ + 60, .inr (n, fun _ => defaultValue .byte))) hwf ha
  refine g_put (pc := 14) (r := (RJ8, TJ8, 4)) 0 dJ7_init_14 ha1 kc (Nat.le_of_ble_eq_true rfl) q207 (Or.inl rfl) rfl (by omega) (Or.inl rfl) (tyJ8_ok 0 (Nat.le_of_ble_eq_true rfl)) rfl rfl ?_
  refine g_aload_n (pc := 17) dJ7_init_17 rfl rfl ?_
  refine g_iconst (pc := 18) (v := nI 0) dJ7_init_18 rfl ?_
  have ha2 := hSet_s (hNew h (100 * γ + 60, .inr (n, fun _ => defaultValue .byte)) n) a (100 * γ + 31, .inl [.ref h.1, v2, .int z3, .int z4])
  refine g_put (pc := 19) (r := (RJ8, TJ8, 4)) 1 dJ7_init_19 ha2 kc (Nat.le_of_ble_eq_true rfl) q208 (Or.inl rfl) rfl (by omega) (Or.inl rfl) (tyJ8_ok 1 (Nat.le_of_ble_eq_true rfl)) rfl rfl ?_
  rw [hSet_Set]
  refine g_goto (pc := 22) (tgt := 38) dJ7_init_22 rfl ?_
  exact g_vret (pc := 38) dJ7_init_38 rfl ⟨_, rfl, rfl, rfl⟩
theorem jc_sbInit (d n : Nat) (v1 v2 : Value) (z3 z4 : Int32) (hγ : 1 ≤ γ ∧ γ < 9) (ha : h.2.2 a = some (100 * γ + 31, .inl [v1, v2, .int z3, .int z4])) (hn : n ≤ 1000000) (l1 : h.1 + 1 ≤ hLC Z) (l2 : h.2.1 + n ≤ hLS) : jC Z mJ8_init_2 (d + 2) (jSS γ) [.ref a, .int (nI n)] h (fun v h' => v = none ∧ h' = hSet (hNew h (100 * γ + 60, .inr (n, fun _ => .int 0)) n) a (100 * γ + 31, .inl [.ref h.1, .int (nI 0), .int z3, .int z4])) := by
  refine jC.of pnJ8 rfl (Nat.le_of_ble_eq_true rfl) rfl (fun X => ?_)
  refine g_aload_n (pc := 0) dJ8_init_2_0 rfl rfl ?_
  refine g_iload_n (pc := 1) dJ8_init_2_1 rfl rfl ?_
  refine g_invI (pc := 2) dJ8_init_2_2 (jc_sbInit7 d n v1 v2 z3 z4 hγ ha hn l1 l2) meJ7_init rfl rfl q194 q195 rfl rfl (Nat.le_of_ble_eq_true rfl) (by first | exact jF | exact fun _ z => z | assumption | (intro κ z; simp_all)) (jk_n (fun v h' hp fr => ?_)) jk_x
  obtain ⟨rfl, rfl⟩ := hp
  exact g_vret (pc := 5) dJ8_init_2_5 rfl ⟨_, rfl, rfl, rfl⟩
theorem jc_sbInit0 (d : Nat) (v1 v2 : Value) (z3 z4 : Int32) (hγ : 1 ≤ γ ∧ γ < 9) (ha : h.2.2 a = some (100 * γ + 31, .inl [v1, v2, .int z3, .int z4])) (l1 : h.1 + 1 ≤ hLC Z) (l2 : h.2.1 + 16 ≤ hLS) : jC Z mJ8_init (d + 2) (jSS γ) [.ref a] h (fun v h' => v = none ∧ h' = hSet (hNew h (100 * γ + 60, .inr (16, fun _ => .int 0)) 16) a (100 * γ + 31, .inl [.ref h.1, .int (nI 0), .int z3, .int z4])) := by
  refine jC.of pnJ8 rfl (Nat.le_of_ble_eq_true rfl) rfl (fun X => ?_)
  refine g_aload_n (pc := 0) dJ8_init_0 rfl rfl ?_
  refine g_bipush (pc := 1) (v := nI 16) dJ8_init_1 rfl ?_
  refine g_invI (pc := 3) dJ8_init_3 (jc_sbInit7 d 16 v1 v2 z3 z4 hγ ha (by omega) l1 l2) meJ7_init rfl rfl q194 q195 rfl rfl (Nat.le_of_ble_eq_true rfl) (by first | exact jF | exact fun _ z => z | assumption | (intro κ z; simp_all)) (jk_n (fun v h' hp fr => ?_)) jk_x
  obtain ⟨rfl, rfl⟩ := hp
  exact g_vret (pc := 6) dJ8_init_6 rfl ⟨_, rfl, rfl, rfl⟩
/-- a new builder, just after its constructor -/
theorem jSB.ini {n : Nat} (hγ : 1 ≤ γ ∧ γ < 9) (hn : n ≤ 1000000) (hw : ∀ a c, h.2.2 a = some c → a < h.1) : jSB (hSet (hNew (hNew h (100 * γ + 31, .inl [.null, .int (nI 0), .int (nI 0), .int (nI 0)]) 4) (100 * γ + 60, .inr (n, fun _ => .int 0)) n) h.1 (100 * γ + 31, .inl [.ref (h.1 + 1), .int (nI 0), .int (nI 0), .int (nI 0)])) γ h.1 n [] := by
  refine ⟨hγ, (fun c hc => (by cases hc)), hn, Nat.zero_le _, h.1 + 1, nI 0, (fun _ => .int 0), hSet_s _ _ _, ?_, fun i hi => absurd hi (Nat.not_lt_zero _)⟩
  rw [hSet_n (by omega)]
  exact hNew_s (hNew h _ 4) _ _
theorem jc_strInit2 (d κ q : Nat) (v1 v2 : Value) (hs : jSB h γ a cap l) (hq : h.2.2 q = some (κ, .inl [v1, v2, .int 0, .int 0])) (hκ : κ = 30 ∨ κ = 130) (l1 : h.1 + 1 ≤ hLC Z) (l2 : h.2.1 + l.length ≤ hLS) : jC Z mJ9_init_2 (d + 3) (fun k => k = κ) [.ref q, .ref a, .null] h (fun v h' => v = none ∧ jSt h' κ q l ∧ h'.1 = h.1 + 1 ∧ h'.2.1 = h.2.1 + l.length ∧ hFa (fun x => x = q) h h') := by
  refine jC.of pnJ9 rfl (Nat.le_of_ble_eq_true rfl) rfl (fun X => ?_)
  have kc := k31 γ
  have k9 : κ < 900 := by rcases hκ with e | e <;> omega
  have k30 : κ % 100 = 30 := by rcases hκ with e | e <;> omega
  have kq : hCl (κ % 100) = some (RJ9, TJ9, 4) := by rw [k30]; rfl
  have hs0 := hs
  obtain ⟨hγ, hl, hcap, hlc, b, ml, f, ha, hb, hf⟩ := hs
  refine g_aload_n (pc := 0) dJ9_init_2_0 rfl rfl ?_
  refine g_objInit (pc := 1) dJ9_init_2_1 q380 q126 q127 (Nat.le_of_ble_eq_true rfl) ?_
  refine g_aload_n (pc := 4) dJ9_init_2_4 rfl rfl ?_
  refine g_invV (pc := 5) dJ9_init_2_5 ha kc (jc_bgetValue (d + 2) b ml l.length ha) meJ7_getValue q381 q382 q384 rfl rfl (Nat.le_of_ble_eq_true rfl) (by first | exact jF | exact fun _ z => z | assumption | (intro κ z; simp_all)) (jk_e ?_) jk_x
  refine g_astore_n (pc := 8) (ls' := [(0, _), (1, _), (2, _), (3, _)]) dJ9_init_2_8 rfl (Nat.le_of_ble_eq_true rfl) rfl ?_
  refine g_aload_n (pc := 9) dJ9_init_2_9 rfl rfl ?_
  refine g_invU (pc := 10) dJ9_init_2_10 ha kc (jc_blength (d + 1) hs0) meJ8_length q386 q388 (Or.inr ⟨_, _, _, q387, q393⟩) q390 q389 ⟨⟨by decide, by decide⟩, rfl⟩ rfl rfl (Nat.le_of_ble_eq_true rfl) (by first | exact jF | exact fun _ z => z | assumption | (intro κ z; simp_all)) (jk_e ?_) jk_x
  refine g_istore (pc := 13) (ls' := [(0, _), (1, _), (2, _), (3, _), (4, _)]) dJ9_init_2_13 (Nat.le_of_ble_eq_true rfl) rfl ?_
  refine g_aload_n (pc := 15) dJ9_init_2_15 rfl rfl ?_
  refine g_invV (pc := 16) dJ9_init_2_16 ha kc (jc_bIsLatin1 (d + 2) hs0) meJ7_isLatin1 q394 q270 q272 rfl rfl (Nat.le_of_ble_eq_true rfl) (by first | exact jF | exact fun _ z => z | assumption | (intro κ z; simp_all)) (jk_e ?_) jk_x
  refine g_if_eqN (pc := 19) (tgt := 41) dJ9_init_2_19 rfl (by omega) (fun q_ => absurd q_ (by omega)) (fun _ => ?_)
  refine g_aload_n (pc := 22) dJ9_init_2_22 rfl rfl ?_
  refine g_iconst (pc := 23) (v := nI 0) dJ9_init_2_23 rfl ?_
  refine g_putF (pc := 24) (r := (RJ9, TJ9, 4)) 1 dJ9_init_2_24 hq kq (Nat.le_of_ble_eq_true rfl) q450 rfl rfl rfl k9 rfl (tyJ9_ok 1 (Nat.le_of_ble_eq_true rfl)) rfl rfl ?_
  have hq1 := hSet_s h q (κ, .inl [v1, .int (nI 0), .int 0, .int 0])
  have hbq : b ≠ q := fun e => by
    rw [e] at hb
    have z := congrArg Prod.fst (Option.some.inj (hb.symm.trans hq))
    have z : 100 * γ + 60 = κ := z
    omega
  have hb1 : (hSet h q (κ, .inl [v1, .int (nI 0), .int 0, .int 0])).2.2 b = some (100 * γ + 60, .inr (cap, f)) := by rw [hSet_n hbq]; exact hb
  refine g_aload_n (pc := 27) dJ9_init_2_27 rfl rfl ?_
  refine g_aload_n (pc := 28) dJ9_init_2_28 rfl rfl ?_
  refine g_iconst (pc := 29) (v := nI 0) dJ9_init_2_29 rfl ?_
  refine g_iload (pc := 30) dJ9_init_2_30 rfl ?_
  refine g_invS (pc := 32) dJ9_init_2_32 (jc_copyOfRange d (100 * γ + 60) 60 b cap 0 l.length f hb1 (k60 γ) rfl (by decide) (Nat.zero_le _) hlc (by omega) l1 (by show h.2.1 + (l.length - 0) ≤ _; omega)) meJ13_copyOfRange q395 q396 rfl rfl (Nat.le_of_ble_eq_true rfl) (by first | exact jF | exact fun _ z => z | assumption | (intro κ z; simp_all)) (jk_n (fun v3 h2 hp fr => ?_)) jk_x
  obtain ⟨rfl, g, rfl, hg⟩ := hp
  rw [Nat.sub_zero]
  rw [Nat.sub_zero] at fr hg
  have hq2 := (fr.2.2 q _ hq1).1 (fun z => z)
  have hb2 := hNew_s (hSet h q (κ, .inl [v1, .int (nI 0), .int 0, .int 0])) (60, .inr (l.length, g)) l.length
  refine g_putF (pc := 35) (r := (RJ9, TJ9, 4)) 0 dJ9_init_2_35 hq2 kq (Nat.le_of_ble_eq_true rfl) q449 rfl rfl rfl k9 rfl (tyJ9_ok 0 (Nat.le_of_ble_eq_true rfl)) rfl rfl ?_
  refine g_goto (pc := 38) (tgt := 97) dJ9_init_2_38 rfl ?_
  refine g_vret (pc := 97) dJ9_init_2_97 rfl ?_
  have hne : h.1 ≠ q := fun e => by
    have hb3 := hb2
    have e2 : (hSet h q (κ, .inl [v1, .int (nI 0), .int 0, .int 0])).1 = q := e
    rw [e2] at hb3
    have z := congrArg Prod.fst (Option.some.inj (hb3.symm.trans hq2))
    have z : 60 = κ := z
    omega
  refine ⟨_, rfl, rfl, ⟨by rcases hκ with e | e <;> simp [e], hl, h.1, 60, _, _, hSet_s _ _ _, Or.inl rfl, ⟨g, by rw [hSet_n hne]; exact hb2, rfl, Nat.le_refl _, by omega, fun i hi => ?_⟩, Or.inl ⟨rfl, rfl, by omega⟩⟩, rfl, rfl, hFa.tr (A := fun x => x = q) (hFa.tr (hFa.set (c := (κ, .inl [v1, .int (nI 0), .int 0, .int 0])) hq rfl rfl) (hFa.ofF fr)) (hFa.set hq2 (by rfl) rfl)⟩
  refine (hg i hi).trans ?_
  show f (0 + i) = _
  rw [Nat.zero_add]
  exact hf i hi
theorem jc_strInit (d κ q : Nat) (v1 v2 : Value) (hs : jSB h γ a cap l) (hq : h.2.2 q = some (κ, .inl [v1, v2, .int 0, .int 0])) (hκ : κ = 30 ∨ κ = 130) (l1 : h.1 + 1 ≤ hLC Z) (l2 : h.2.1 + l.length ≤ hLS) : jC Z mJ9_init (d + 4) (fun k => k = κ) [.ref q, .ref a] h (fun v h' => v = none ∧ jSt h' κ q l ∧ h'.1 = h.1 + 1 ∧ h'.2.1 = h.2.1 + l.length ∧ hFa (fun x => x = q) h h') := by
  refine jC.of pnJ9 rfl (Nat.le_of_ble_eq_true rfl) rfl (fun X => ?_)
  refine g_aload_n (pc := 0) dJ9_init_0 rfl rfl ?_
  refine g_aload_n (pc := 1) dJ9_init_1 rfl rfl ?_
  refine g_null (pc := 2) dJ9_init_2 ?_
  refine g_invI (pc := 3) dJ9_init_3 (jc_strInit2 d κ q v1 v2 hs hq hκ l1 l2) meJ9_init_2 rfl rfl q377 q378 rfl rfl (Nat.le_of_ble_eq_true rfl) (by first | exact jF | exact fun _ z => z | assumption | (intro κ z; simp_all)) (jk_n (fun v h' hp fr => ?_)) jk_x
  obtain ⟨rfl, hp⟩ := hp
  exact g_vret (pc := 6) dJ9_init_6 rfl ⟨_, rfl, rfl, hp⟩
theorem jc_toString (d : Nat) (hs : jSB h γ a cap l) (l1 : h.1 + 2 ≤ hLC Z) (l2 : h.2.1 + 4 + l.length ≤ hLS) : jC Z mJ8_toString (d + 5) (fun _ => False) [.ref a] h (fun v h' => v = some (.ref h.1) ∧ jSt h' 30 h.1 l ∧ jRm h h' 2 (4 + l.length)) := by
  refine jC.shr (jC.of pnJ8 rfl (Nat.le_of_ble_eq_true rfl) rfl (fun X => ?_))
  have hγ := hs.1
  refine g_new (pc := 0) (r := (RJ9, TJ9, 4)) (fs := [.null, .int (nI 0), .int (nI 0), .int (nI 0)]) 30 dJ8_toString_0 rfl (by decide) q372 q373 q82 rfl (by first | omega | (simp only [hNew_1, hNew_2, hSet_1, hSet_2]; omega)) (by first | omega | (simp only [hNew_1, hNew_2, hSet_1, hSet_2]; omega)) (fun hwf => ?_)
  have hs1 : jSB (hNew h (30, .inl [.null, .int (nI 0), .int (nI 0), .int (nI 0)]) 4) γ a cap l := jSB.fr (S := fun _ => False) ((hFr.rf h).new hwf) (fun z => z) (fun z => z) hs
  refine g_dup (pc := 3) dJ8_toString_3 rfl ?_
  refine g_aload_n (pc := 4) dJ8_toString_4 rfl rfl ?_
  refine g_invI (pc := 5) dJ8_toString_5 (jc_strInit d 30 h.1 .null (.int (nI 0)) hs1 (hNew_s _ _ _) (Or.inl rfl) (by show h.1 + 1 + 1 ≤ _; omega) (by show h.2.1 + 4 + l.length ≤ _; omega)) meJ9_init rfl rfl q374 q375 rfl rfl (Nat.le_of_ble_eq_true rfl) (by first | exact jF | exact fun _ z => z | assumption | (intro κ z; simp_all)) (jk_n (fun v h2 hp fr => ?_)) jk_x
  obtain ⟨rfl, hst, hr1, hr2, hfa⟩ := hp
  refine g_aret (pc := 8) dJ8_toString_8 rfl (Or.inl ⟨_, rfl⟩) (Or.inr ⟨_, rfl⟩) ?_
  refine ⟨_, rfl, ⟨rfl, hst, ⟨by rw [hr1]; exact Nat.le_refl _, by rw [hr2]; show h.2.1 + 4 + l.length ≤ _; omega⟩⟩, ?_⟩
  refine ⟨by rw [hr1]; show h.1 ≤ h.1 + 1 + 1; omega, by rw [hr2]; show h.2.1 ≤ h.2.1 + 4 + _; omega, fun x c e => ?_⟩
  have hne : x ≠ h.1 := Nat.ne_of_lt (hwf x c e)
  have e1 : (hNew h (30, .inl [.null, .int (nI 0), .int (nI 0), .int (nI 0)]) 4).2.2 x = some c := by rw [hNew_n hne]; exact e
  exact ⟨fun _ => (hfa.2.2 x c e1).1 hne, (hfa.2.2 x c e1).2⟩
end JC
