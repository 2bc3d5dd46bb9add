/-! COMPONENT 4: Output.addChar, addEscaped -/
set_option maxRecDepth 100000
theorem lk_esc {c : Nat} (h1 : c ≠ 34) (h2 : c ≠ 38) (h3 : c ≠ 60) (h4 : c ≠ 62) : Op.lookupswitch.offset [(34, 64), (38, 43), (60, 50), (62, 57)] 71 (c : Int) = 71 := by
  unfold Op.lookupswitch.offset
  rw [if_neg (by omega)]
  unfold Op.lookupswitch.offset
  rw [if_neg (by omega)]
  unfold Op.lookupswitch.offset
  rw [if_neg (by omega)]
  unfold Op.lookupswitch.offset
  rw [if_neg (by omega)]
  rfl
section CO
variable {Z : hE} {h : hP} {κ γ a cap : Nat} {l : List Nat}
theorem coW_out {w : List Nat} {S : Nat → Prop} {X : hX} {M : hM} {d : Nat} {pc : Nat} {ls : List (Nat × Value)} (ht : M.2.2.2.2 = []) : ∀ E h', coW h γ a cap l w (.inr E) h' → hFr S h h' → hGX Z X M d (jSS γ) h (coW h γ a cap l w) pc ls E h' := fun E h' hk _ => gx_out (fun x hx => by rw [ht] at hx; cases hx) hk
theorem co_addChar (d c : Nat) (hs : cO h γ a cap l) (hc : c < 128) (l1 : h.1 + 1 ≤ hLC Z) (l2 : h.2.1 + 802 ≤ hLS) : hCt Z mX2_addChar (d + 8) (jSS γ) [.ref a, .int (nI c)] h (coW h γ a cap l (esc c)) := by
  refine hCt.of pnX2 rfl (Nat.le_of_ble_eq_true rfl) rfl (fun X => ?_)
  have kc := k02 γ
  have kt := k31 γ
  have hs0 := hs
  obtain ⟨q1, q2, t, ha, hB⟩ := hs
  have hB0 := hB
  obtain ⟨hγ, hl, hcap, hlc, b, ml, f, ht, hb, hf⟩ := hB
  have fin : ∀ v h', coW h γ a cap l (esc c) (.inl v) h' → v = none := fun v h' hk => by
    rcases hk with ⟨e, _⟩ | ⟨e, _⟩
    · exact Sum.inl.inj e
    · cases e
  refine g_iload_n (pc := 0) dX2_addChar_0 rfl rfl ?_
  by_cases e38 : c = 38
  · subst e38
    refine g_lookup (pc := 1) (tgt := 44) dX2_addChar_1 (by decide) (by rfl) rfl ?_
    refine g_aload_n (pc := 44) dX2_addChar_44 rfl rfl ?_
    refine g_ldcK (pc := 45) dX2_addChar_45 ksX2_77 (fun hk => ?_)
    refine g_invV (pc := 47) dX2_addChar_47 ha kc (co_add d 930 _ _ hs0 hk (by decide) l1 (by omega)) meX2_add q1761 q1583 q1584 rfl rfl (Nat.le_of_ble_eq_true rfl) (by first | exact jF | exact fun _ z => z | assumption | (intro κ z; simp_all)) (fun v h1 hp fr => ?_) (fun E h1 hp fr => ?_)
    · have e := fin v h1 hp
      subst e
      exact g_vret (pc := 50) dX2_addChar_50 rfl hp
    · exact coW_out rfl E h1 hp fr
  by_cases e60 : c = 60
  · subst e60
    refine g_lookup (pc := 1) (tgt := 51) dX2_addChar_1 (by decide) (by rfl) rfl ?_
    refine g_aload_n (pc := 51) dX2_addChar_51 rfl rfl ?_
    refine g_ldcK (pc := 52) dX2_addChar_52 ksX2_82 (fun hk => ?_)
    refine g_invV (pc := 54) dX2_addChar_54 ha kc (co_add d 930 _ _ hs0 hk (by decide) l1 (by omega)) meX2_add q1761 q1583 q1584 rfl rfl (Nat.le_of_ble_eq_true rfl) (by first | exact jF | exact fun _ z => z | assumption | (intro κ z; simp_all)) (fun v h1 hp fr => ?_) (fun E h1 hp fr => ?_)
    · have e := fin v h1 hp
      subst e
      exact g_vret (pc := 57) dX2_addChar_57 rfl hp
    · exact coW_out rfl E h1 hp fr
  by_cases e62 : c = 62
  · subst e62
    refine g_lookup (pc := 1) (tgt := 58) dX2_addChar_1 (by decide) (by rfl) rfl ?_
    refine g_aload_n (pc := 58) dX2_addChar_58 rfl rfl ?_
    refine g_ldcK (pc := 59) dX2_addChar_59 ksX2_84 (fun hk => ?_)
    refine g_invV (pc := 61) dX2_addChar_61 ha kc (co_add d 930 _ _ hs0 hk (by decide) l1 (by omega)) meX2_add q1761 q1583 q1584 rfl rfl (Nat.le_of_ble_eq_true rfl) (by first | exact jF | exact fun _ z => z | assumption | (intro κ z; simp_all)) (fun v h1 hp fr => ?_) (fun E h1 hp fr => ?_)
    · have e := fin v h1 hp
      subst e
      exact g_vret (pc := 64) dX2_addChar_64 rfl hp
    · exact coW_out rfl E h1 hp fr
  by_cases e34 : c = 34
  · subst e34
    refine g_lookup (pc := 1) (tgt := 65) dX2_addChar_1 (by decide) (by rfl) rfl ?_
    refine g_aload_n (pc := 65) dX2_addChar_65 rfl rfl ?_
    refine g_ldcK (pc := 66) dX2_addChar_66 ksX2_86 (fun hk => ?_)
    refine g_invV (pc := 68) dX2_addChar_68 ha kc (co_add d 930 _ _ hs0 hk (by decide) l1 (by omega)) meX2_add q1761 q1583 q1584 rfl rfl (Nat.le_of_ble_eq_true rfl) (by first | exact jF | exact fun _ z => z | assumption | (intro κ z; simp_all)) (fun v h1 hp fr => ?_) (fun E h1 hp fr => ?_)
    · have e := fin v h1 hp
      subst e
      exact g_vret (pc := 71) dX2_addChar_71 rfl hp
    · exact coW_out rfl E h1 hp fr
  have he : esc c = [c] := by
    unfold esc
    rw [if_neg e38, if_neg e60, if_neg e62, if_neg e34]
  rw [he]
  refine g_lookup (pc := 1) (off := 71) (tgt := 72) dX2_addChar_1 (by decide) (by rw [nI_toInt (by omega)]; exact lk_esc e34 e38 e60 e62) rfl ?_
  refine g_aload_n (pc := 72) dX2_addChar_72 rfl rfl ?_
  refine g_get (pc := 73) (r := (RX2, TX2, 1)) 0 dX2_addChar_73 ha kc (Nat.le_of_ble_eq_true rfl) q490 (Or.inl rfl) rfl ?_
  refine g_invV (pc := 76) dX2_addChar_76 ht kt (jc_blength (d + 6) hB0) meJ8_length q537 q390 q2268 rfl rfl (Nat.le_of_ble_eq_true rfl) (by first | exact jF | exact fun _ z => z | assumption | (intro κ z; simp_all)) (jk_e ?_) jk_x
  refine g_sipush (pc := 79) (v := nI 400) dX2_addChar_79 rfl ?_
  refine g_icmp_neN (pc := 82) (tgt := 93) dX2_addChar_82 rfl (by omega) (by omega) (fun c82 => ?_) (fun c82 => ?_)
  · refine g_aload_n (pc := 93) dX2_addChar_93 rfl rfl ?_
    refine g_get (pc := 94) (r := (RX2, TX2, 1)) 0 dX2_addChar_94 ha kc (Nat.le_of_ble_eq_true rfl) q490 (Or.inl rfl) rfl ?_
    refine g_iload_n (pc := 97) dX2_addChar_97 rfl rfl ?_
    refine g_invV (pc := 98) dX2_addChar_98 ht kt (jc_appendC (d + 2) c hB0 hc (by omega) l1 (by omega)) meJ8_append_3 q1765 q582 q583 rfl rfl (Nat.le_of_ble_eq_true rfl) (by first | exact jF | exact fun _ z => z | assumption | (intro κ z; simp_all)) (jk_n (fun v h1 hp fr => ?_)) jk_x
    obtain ⟨rfl, cap', hB1, hgr⟩ := hp
    refine g_pop (pc := 101) dX2_addChar_101 rfl ?_
    refine g_vret (pc := 102) dX2_addChar_102 rfl ?_
    refine Or.inl ⟨rfl, by show l.length + 1 ≤ 400; omega, cap', ?_, hgr.mo (by omega)⟩
    have := hgr.2.1
    exact cO.up fr ha hB1 (by omega) (by rw [List.length_append]; show l.length + 1 ≤ 400; omega)
  · refine g_make0 (pc := 85) 42 dX2_addChar_85 dX2_addChar_88 dX2_addChar_89 xX2_25 x_st rfl (by decide) rfl rfl (Nat.le_of_ble_eq_true rfl) l1 (by omega) (fun hwf => ?_)
    refine g_athrow (pc := 92) dX2_addChar_92 (hNew_s _ _ _) (by decide) rfl ?_
    refine gx_out (fun x hx => by cases hx) ?_
    exact Or.inr ⟨rfl, by show 400 < l.length + 1; omega, ⟨Nat.le_refl _, Nat.le_refl _⟩⟩
theorem jGr.tr {h h1 h2 : hP} {c c1 c2 m : Nat} (x : jGr h h1 c c1 m) (y : jGr h1 h2 c1 c2 m) : jGr h h2 c c2 m := by
  obtain ⟨x1, x2, x3, x4⟩ := x
  obtain ⟨y1, y2, y3, y4⟩ := y
  exact ⟨by omega, by omega, by omega, by omega⟩
theorem jGr.rf (h : hP) (c m : Nat) : jGr h h c c m := ⟨Nat.le_refl _, Nat.le_max_left _ _, Nat.le_refl _, Nat.le_refl _⟩
/-- the same over longer writing -/
def coV (h : hP) (γ a cap : Nat) (l w : List Nat) : hO → hP → Prop := fun r h' => (r = .inl none ∧ l.length + w.length ≤ 400 ∧ ∃ cap', cO h' γ a cap' (l ++ w) ∧ jGr h h' cap cap' 400) ∨ (r = .inr ISE ∧ 400 < l.length + w.length ∧ jRm h h' 801 1606)
theorem coW.v {w : List Nat} {r : hO} {h' : hP} (x : coW h γ a cap l w r h') : coV h γ a cap l w r h' := by
  rcases x with x | ⟨x1, x2, x3⟩
  · exact Or.inl x
  · exact Or.inr ⟨x1, x2, x3.le (by omega) (by omega)⟩
theorem escL_1 (c : Nat) : escL [c] = esc c := by
  show esc c ++ [] = esc c
  rw [List.append_nil]
theorem take_s {l : List Nat} {i : Nat} (h : i < l.length) : l.take (i + 1) = l.take i ++ [l.getD i 0] := by
  rw [List.take_succ, List.getD_eq_getElem?_getD, List.getElem?_eq_getElem h]
  rfl
theorem co_addEscaped (d γ' a' cap0 : Nat) (l' : List Nat) (hs : cO h γ a cap l) (hs' : cO h γ' a' cap0 l') (hne : γ ≠ γ') (l1 : h.1 + 801 ≤ hLC Z) (l2 : h.2.1 + 2402 ≤ hLS) : hCt Z mX2_addEscaped (d + 9) (jSS γ) [.ref a, .ref a'] h (coV h γ a cap l (escL l')) := by
  refine hCt.of pnX2 rfl (Nat.le_of_ble_eq_true rfl) rfl (fun X => ?_)
  have kc := k02 γ
  have kc' := k02 γ'
  have kt' := k31 γ'
  have loop : ∀ (j i cap1 : Nat) (h1 : hP), i + j = l'.length → cO h1 γ a cap1 (l ++ escL (l'.take i)) → jGr h h1 cap cap1 400 → hFr (jSS γ) h h1 → hG Z X mX2_addEscaped (d + 9) (jSS γ) h (coV h γ a cap l (escL l')) 2 [(0, .ref a), (1, .ref a'), (2, .int (nI i))] [] h1 := by
    intro j
    induction j with
    | zero =>
      intro i cap1 h1 hi hO hgr hfr
      have hO' := hs'.fr hfr (by rintro (z | z) <;> omega) (by rintro (z | z) <;> omega) (by rintro (z | z) <;> omega)
      obtain ⟨q1', q2', t', ha', hB'⟩ := hO'
      have hB0' := hB'
      obtain ⟨hγ', hl', hcap', hlc', b', ml', f', ht', hb', hf'⟩ := hB'
      have hi : i = l'.length := by omega
      subst hi
      refine g_iload_n (pc := 2) dX2_addEscaped_2 rfl rfl ?_
      refine g_aload_n (pc := 3) dX2_addEscaped_3 rfl rfl ?_
      refine g_get (pc := 4) (r := (RX2, TX2, 1)) 0 dX2_addEscaped_4 ha' kc' (Nat.le_of_ble_eq_true rfl) q490 (Or.inl rfl) rfl ?_
      refine g_invV (pc := 7) dX2_addEscaped_7 ht' kt' (jc_blength (d + 7) hB0') meJ8_length q537 q390 q2268 rfl rfl (Nat.le_of_ble_eq_true rfl) (by first | exact jF | exact fun _ z => z | assumption | (intro κ z; simp_all)) (jk_e ?_) jk_x
      refine g_icmp_geN (pc := 10) (tgt := 31) dX2_addEscaped_10 rfl (by omega) (by omega) (fun _ => ?_) (fun q_ => absurd q_ (by omega))
      refine g_vret (pc := 31) dX2_addEscaped_31 rfl ?_
      rw [List.take_length] at hO
      have h4 := hO.2.1
      rw [List.length_append] at h4
      exact Or.inl ⟨rfl, h4, cap1, hO, hgr⟩
    | succ j ih =>
      intro i cap1 h1 hi hO hgr hfr
      have hO' := hs'.fr hfr (by rintro (z | z) <;> omega) (by rintro (z | z) <;> omega) (by rintro (z | z) <;> omega)
      obtain ⟨q1', q2', t', ha', hB'⟩ := hO'
      have hB0' := hB'
      obtain ⟨hγ', hl', hcap', hlc', b', ml', f', ht', hb', hf'⟩ := hB'
      have hO0 := hO
      obtain ⟨q1, q2, t, ha, hB⟩ := hO
      have hil : i < l'.length := by omega
      have hc := hl' _ (getD_mem (d := 0) hil)
      obtain ⟨g1, g2, g3, g4⟩ := hgr
      refine g_iload_n (pc := 2) dX2_addEscaped_2 rfl rfl ?_
      refine g_aload_n (pc := 3) dX2_addEscaped_3 rfl rfl ?_
      refine g_get (pc := 4) (r := (RX2, TX2, 1)) 0 dX2_addEscaped_4 ha' kc' (Nat.le_of_ble_eq_true rfl) q490 (Or.inl rfl) rfl ?_
      refine g_invV (pc := 7) dX2_addEscaped_7 ht' kt' (jc_blength (d + 7) hB0') meJ8_length q537 q390 q2268 rfl rfl (Nat.le_of_ble_eq_true rfl) (by first | exact jF | exact fun _ z => z | assumption | (intro κ z; simp_all)) (jk_e ?_) jk_x
      refine g_icmp_geN (pc := 10) (tgt := 31) dX2_addEscaped_10 rfl (by omega) (by omega) (fun q_ => absurd q_ (by omega)) (fun _ => ?_)
      refine g_aload_n (pc := 13) dX2_addEscaped_13 rfl rfl ?_
      refine g_aload_n (pc := 14) dX2_addEscaped_14 rfl rfl ?_
      refine g_get (pc := 15) (r := (RX2, TX2, 1)) 0 dX2_addEscaped_15 ha' kc' (Nat.le_of_ble_eq_true rfl) q490 (Or.inl rfl) rfl ?_
      refine g_iload_n (pc := 18) dX2_addEscaped_18 rfl rfl ?_
      refine g_invV (pc := 19) dX2_addEscaped_19 ht' kt' (jc_bcharAt (d + 5) i hB0' hil) meJ8_charAt q1612 q1613 q1614 rfl rfl (Nat.le_of_ble_eq_true rfl) (by first | exact jF | exact fun _ z => z | assumption | (intro κ z; simp_all)) (jk_e ?_) jk_x
      refine g_invV (pc := 22) dX2_addEscaped_22 ha kc (co_addChar d (l'.getD i 0) hO0 hc (by omega) (by omega)) meX2_addChar q1756 q1758 qs15 rfl rfl (Nat.le_of_ble_eq_true rfl) (by first | exact jF | exact fun _ z => z | assumption | (intro κ z; simp_all)) (fun v h2 hp fr => ?_) (fun E h2 hp fr => ?_)
      · rcases hp with ⟨e, hle, cap2, hO2, hgr2⟩ | ⟨e, _⟩
        · have e := Sum.inl.inj e
          subst e
          refine g_iincN (pc := 25) (k0 := 1) (ls' := [(0, _), (1, _), (2, _)]) dX2_addEscaped_25 rfl (Nat.le_of_ble_eq_true rfl) rfl ?_
          refine g_goto (pc := 28) (tgt := 2) dX2_addEscaped_28 rfl ?_
          refine ih (i + 1) cap2 h2 (by omega) ?_ (jGr.tr ⟨g1, g2, g3, g4⟩ hgr2) (hfr.tr fr)
          rw [take_s hil, escL_app, escL_1, ← List.append_assoc]
          exact hO2
        · cases e
      · refine gx_out (fun x hx => by cases hx) ?_
        rcases hp with ⟨e, _⟩ | ⟨e, hgt, hrm⟩
        · cases e
        · have e := Sum.inr.inj e
          subst e
          refine Or.inr ⟨rfl, ?_, ⟨?_, ?_⟩⟩
          · have e1 : escL l' = escL (l'.take (i + 1)) ++ escL (l'.drop (i + 1)) := by rw [← escL_app, List.take_append_drop]
            rw [e1, take_s hil, escL_app, escL_1, List.length_append, List.length_append]
            rw [List.length_append] at hgt
            omega
          · have := hrm.1
            omega
          · have := hrm.2
            omega
  refine g_iconst (pc := 0) (v := nI 0) dX2_addEscaped_0 rfl ?_
  refine g_istore_n (pc := 1) (ls' := [(0, _), (1, _), (2, _)]) dX2_addEscaped_1 rfl (Nat.le_of_ble_eq_true rfl) rfl ?_
  exact loop l'.length 0 cap h (by omega) (by rw [List.take_zero]; show cO h γ a cap (l ++ []); rw [List.append_nil]; exact hs) (jGr.rf _ _ _) (hFr.rf h)
end CO
