/-! COMPONENT 26: numerals and quoted texts -/
set_option maxRecDepth 100000
/-- every kind that may be changed -/
def kAll : Nat → Prop := fun κ => κ < 900
/-- an operand, or null -/
def pO (h : hP) (ok : Prop) (o : aO) (c s : Nat) : Option Value → hP → Prop := fun r h' => jRm h h' c s ∧ ((r = some .null ∧ ¬ ok) ∨ (∃ a, r = some (.ref a) ∧ ok ∧ cOp h' o a))
abbrev lF (l : List Nat) : Nat → Nat := fun i => l.getD i 0
section PA
variable {Z : hE} {h : hP} {κ a : Nat} {l : List Nat}
/-- new Fixed(new NumberData(v)) ends here -/
theorem pa_numeral (d : Nat) (hs : jSt h κ a l) (h0 : 0 < l.length) (hL : l.length ≤ 64) (hd : isD (lF l 0) = true) (l1 : h.1 + 10 ≤ hLC Z) (l2 : h.2.1 + 100 ≤ hLS) : hCt Z mX9_numeral (d + 4) (fun _ => False) [.ref a] h (jK (pO h (operE (lF l) l.length 0 = some l.length) (opO (lF l) l.length 0) 2 10)) := by
  have kw := hs.cl
  have hs0 := hs
  obtain ⟨_, hc128, bw, κb, hs1, hz, hsw, _⟩ := hs
  refine hCt.shr (S' := kAll) ?_
  refine hCt.of pnX9 rfl (Nat.le_of_ble_eq_true rfl) rfl (fun X => ?_)
  have ok := op_num (f := lF l) h0 hd
  have loop : ∀ (r i : Nat), i + r = l.length → (∀ j, j < i → isD (lF l j) = true) → hG Z X mX9_numeral (d + 4) kAll h (fun r h' => jK (pO h (operE (lF l) l.length 0 = some l.length) (opO (lF l) l.length 0) 2 10) r h' ∧ hFr (fun _ => False) h h') 4 [(0, .ref a), (1, .int (nI (dcN (l.take i)))), (2, .int (nI i))] [] h := by
    intro r
    induction r with
    | zero =>
      intro i hi hall
      have hi : i = l.length := by omega
      subst hi
      rw [List.take_length]
      refine g_iload_n (pc := 4) dX9_numeral_4 rfl rfl ?_
      refine g_aload_n (pc := 5) dX9_numeral_5 rfl rfl ?_
      refine g_invV (pc := 6) dX9_numeral_6 hsw kw (jc_length (d + 2) hs0) meJ9_length q1118 q301 q302 rfl rfl (Nat.le_of_ble_eq_true rfl) (by first | exact jF | exact fun _ z => z | assumption | (intro κ z; simp_all)) (jk_e ?_) jk_x
      refine g_icmp_geN (pc := 9) (tgt := 48) dX9_numeral_9 rfl (by omega) (by omega) (fun _ => ?_) (fun q_ => absurd q_ (by omega))
      refine g_aload_n (pc := 48) dX9_numeral_48 rfl rfl ?_
      refine g_invV (pc := 49) dX9_numeral_49 hsw kw (jc_length (d + 2) hs0) meJ9_length q1118 q301 q302 rfl rfl (Nat.le_of_ble_eq_true rfl) (by first | exact jF | exact fun _ z => z | assumption | (intro κ z; simp_all)) (jk_e ?_) jk_x
      refine g_iconst (pc := 52) (v := nI 5) dX9_numeral_52 rfl ?_
      refine g_icmp_leN (pc := 53) (tgt := 60) dX9_numeral_53 rfl (by omega) (by omega) (fun c53 => ?_) (fun c53 => ?_)
      · refine g_new (pc := 60) (r := (RX13, TX13, 1)) (fs := [.null]) 13 dX9_numeral_60 rfl (by decide) q1200 q1201 q110 rfl (by first | omega | (simp only [hNew_1, hNew_2, hSet_1, hSet_2]; omega)) (by first | omega | (simp only [hNew_1, hNew_2, hSet_1, hSet_2]; omega)) (fun hwf => ?_)
        have hwf0 := hwf
        have f1 : hFr (fun _ => False) h (hNew h (13, .inl [.null]) 1) := (hFr.rf h).new hwf
        have n1 := hNew_s h (13, .inl [.null]) 1
        refine g_dup (pc := 63) dX9_numeral_63 rfl ?_
        refine g_new (pc := 64) (r := (RX5, TX5, 2)) (fs := [.int (nI 0), .int (nI 0)]) 5 dX9_numeral_64 rfl (by decide) q1215 q611 q96 rfl (by first | omega | (simp only [hNew_1, hNew_2, hSet_1, hSet_2]; omega)) (by first | omega | (simp only [hNew_1, hNew_2, hSet_1, hSet_2]; omega)) (fun hwf => ?_)
        have f2 : hFr (fun _ => False) (hNew h (13, .inl [.null]) 1) (hNew (hNew h (13, .inl [.null]) 1) (5, .inl [.int (nI 0), .int (nI 0)]) 2) := (hFr.rf _).new hwf
        have n2 := hNew_s (hNew h (13, .inl [.null]) 1) (5, .inl [.int (nI 0), .int (nI 0)]) 2
        have n12 := (f2.2.2 _ _ n1).1 (fun z => z)
        refine g_dup (pc := 67) dX9_numeral_67 rfl ?_
        refine g_iload_n (pc := 68) dX9_numeral_68 rfl rfl ?_
        refine g_invI (pc := 69) dX9_numeral_69 (cd_num (d + 1) _ _ _ n2) meX5_init rfl rfl q1216 q613 rfl rfl (Nat.le_of_ble_eq_true rfl) (fun κ z => by rw [z]; exact Nat.le_of_ble_eq_true rfl) (jk_n (fun u h3 hp3 fr3 => ?_)) jk_x
        obtain ⟨rfl, rfl⟩ := hp3
        rw [hSet_New]
        have n13 := jNw (n := 2) (c' := (5, .inl [.int (nI 0), .int (nI (dcN l))])) hwf n1
        have n23 := hNew_s (hNew h (13, .inl [.null]) 1) (5, .inl [.int (nI 0), .int (nI (dcN l))]) 2
        refine g_invIN (pc := 72) dX9_numeral_72 (ci_X13 (d + 1) _ _ n13) meX13_init rfl rfl q1204 q1205 rfl rfl (Nat.le_of_ble_eq_true rfl) (fun κ z => by rw [z]; exact Nat.le_of_ble_eq_true rfl) (jk_n (fun u h4 hp4 fr4 => ?_)) jk_x
        obtain ⟨rfl, rfl⟩ := hp4
        refine g_aret (pc := 75) dX9_numeral_75 rfl (Or.inl ⟨_, rfl⟩) (Or.inr ⟨_, rfl⟩) ?_
        have hne : (hNew h (13, .inl [.null]) 1).1 ≠ h.1 := by simp only [hNew_1]; omega
        have okk : operE (lF l) l.length 0 = some l.length := ok.mpr ⟨fun i hi => hall i hi, by omega⟩
        have ev : opO (lF l) l.length 0 = .inr (.inl (some (.inl (nI (dcN l))))) := by
          unfold opO
          rw [if_neg (by intro z; rw [z] at hd; cases hd), if_pos hd, Nat.sub_zero, sgF_all]
        refine ⟨⟨_, rfl, ⟨by show h.1 + 1 + 1 ≤ h.1 + 2; omega, by show h.2.1 + 1 + 2 ≤ h.2.1 + 10; omega⟩, Or.inr ⟨h.1, rfl, okk, ?_⟩⟩, ?_⟩
        · rw [ev]
          exact ⟨(hNew h (13, .inl [.null]) 1).1, _, hSet_s _ _ _, by rw [hSet_n hne]; exact n23⟩
        · exact ((f1.tr ((hFr.rf _).new hwf)).setN hwf0 (Nat.le_refl _))
      · refine g_null (pc := 56) dX9_numeral_56 ?_
        refine g_goto (pc := 57) (tgt := 75) dX9_numeral_57 rfl ?_
        refine g_aret (pc := 75) dX9_numeral_75 rfl (Or.inl ⟨_, rfl⟩) (Or.inl rfl) ?_
        exact ⟨⟨_, rfl, ⟨by omega, by omega⟩, Or.inl ⟨rfl, fun z => by have := (ok.mp z).2; omega⟩⟩, hFr.rf h⟩
    | succ r ih =>
      intro i hi hall
      have hil : i < l.length := by omega
      have hc := hc128 _ (getD_mem (d := 0) hil)
      have bad : ¬ isD (lF l i) = true → hG Z X mX9_numeral (d + 4) kAll h (fun r h' => jK (pO h (operE (lF l) l.length 0 = some l.length) (opO (lF l) l.length 0) 2 10) r h' ∧ hFr (fun _ => False) h h') 30 [(0, .ref a), (1, .int (nI (dcN (l.take i)))), (2, .int (nI i)), (3, .int (nI (l.getD i 0)))] [] h := by
        intro hb
        refine g_null (pc := 30) dX9_numeral_30 ?_
        refine g_aret (pc := 31) dX9_numeral_31 rfl (Or.inl ⟨_, rfl⟩) (Or.inl rfl) ?_
        exact ⟨⟨_, rfl, ⟨by omega, by omega⟩, Or.inl ⟨rfl, fun z => hb ((ok.mp z).1 i hil)⟩⟩, hFr.rf h⟩
      refine g_iload_n (pc := 4) dX9_numeral_4 rfl rfl ?_
      refine g_aload_n (pc := 5) dX9_numeral_5 rfl rfl ?_
      refine g_invV (pc := 6) dX9_numeral_6 hsw kw (jc_length (d + 2) hs0) meJ9_length q1118 q301 q302 rfl rfl (Nat.le_of_ble_eq_true rfl) (by first | exact jF | exact fun _ z => z | assumption | (intro κ z; simp_all)) (jk_e ?_) jk_x
      refine g_icmp_geN (pc := 9) (tgt := 48) dX9_numeral_9 rfl (by omega) (by omega) (fun q_ => absurd q_ (by omega)) (fun _ => ?_)
      refine g_aload_n (pc := 12) dX9_numeral_12 rfl rfl ?_
      refine g_iload_n (pc := 13) dX9_numeral_13 rfl rfl ?_
      refine g_invV (pc := 14) dX9_numeral_14 hsw kw (jc_charAt d i hs0 hil) meJ9_charAt q1164 q942 q943 rfl rfl (Nat.le_of_ble_eq_true rfl) (by first | exact jF | exact fun _ z => z | assumption | (intro κ z; simp_all)) (jk_e ?_) jk_x
      refine g_istore_n (pc := 17) (ls' := [(0, _), (1, _), (2, _), (3, _)]) dX9_numeral_17 rfl (Nat.le_of_ble_eq_true rfl) rfl ?_
      refine g_iload_n (pc := 18) dX9_numeral_18 rfl rfl ?_
      refine g_bipush (pc := 19) (v := nI 48) dX9_numeral_19 rfl ?_
      refine g_icmp_ltN (pc := 21) (tgt := 30) dX9_numeral_21 rfl (by omega) (by omega) (fun q1 => ?_) (fun q1 => ?_)
      · exact bad (fun z => by have := (isD_iff (c := l.getD i 0)).mp z; omega)
      · refine g_iload_n (pc := 24) dX9_numeral_24 rfl rfl ?_
        refine g_bipush (pc := 25) (v := nI 57) dX9_numeral_25 rfl ?_
        refine g_icmp_leN (pc := 27) (tgt := 32) dX9_numeral_27 rfl (by omega) (by omega) (fun q2 => ?_) (fun q2 => ?_)
        · have hdi : isD (lF l i) = true := (isD_iff (c := l.getD i 0)).mpr (by omega)
          refine g_bipush (pc := 32) (v := nI 10) dX9_numeral_32 rfl ?_
          refine g_iload_n (pc := 34) dX9_numeral_34 rfl rfl ?_
          first | refine g_imulN (pc := 35) dX9_numeral_35 ?_ | refine g_imul (pc := 35) dX9_numeral_35 ?_
          refine g_iload_n (pc := 36) dX9_numeral_36 rfl rfl ?_
          first | refine g_iaddN (pc := 37) dX9_numeral_37 ?_ | refine g_iadd (pc := 37) dX9_numeral_37 ?_
          refine g_bipush (pc := 38) (v := nI 48) dX9_numeral_38 rfl ?_
          first | refine g_isubN (pc := 40) dX9_numeral_40 (by omega) ?_ | refine g_isub (pc := 40) dX9_numeral_40 ?_
          refine g_istore_n (pc := 41) (ls' := [(0, _), (1, _), (2, _), (3, _)]) dX9_numeral_41 rfl (Nat.le_of_ble_eq_true rfl) rfl ?_
          refine g_iincN (pc := 42) (k0 := 1) (ls' := [(0, _), (1, _), (2, _), (3, _)]) dX9_numeral_42 rfl (Nat.le_of_ble_eq_true rfl) rfl ?_
          refine g_goto (pc := 45) (tgt := 4) dX9_numeral_45 rfl ?_
          have e1 : 10 * dcN (l.take i) + l.getD i 0 - 48 = dcN (l.take (i + 1)) := by
            rw [take_s hil, dcN_snoc]
            omega
          rw [e1]
          refine g_drop [0, 1, 2] rfl (ih (i + 1) (by omega) (fun j hj => ?_))
          by_cases z : j = i
          · rw [z]; exact hdi
          · exact hall j (by omega)
        · exact bad (fun z => by have := (isD_iff (c := l.getD i 0)).mp z; omega)
  refine g_iconst (pc := 0) (v := nI 0) dX9_numeral_0 rfl ?_
  refine g_istore_n (pc := 1) (ls' := [(0, _), (1, _)]) dX9_numeral_1 rfl (Nat.le_of_ble_eq_true rfl) rfl ?_
  refine g_iconst (pc := 2) (v := nI 0) dX9_numeral_2 rfl ?_
  refine g_istore_n (pc := 3) (ls' := [(0, _), (1, _), (2, _)]) dX9_numeral_3 rfl (Nat.le_of_ble_eq_true rfl) rfl ?_
  exact loop l.length 0 (by omega) (fun j hj => absurd hj (Nat.not_lt_zero _))
theorem pa_quoted (d : Nat) (hs : jSt h κ a l) (h0 : 0 < l.length) (hL : l.length ≤ 64) (hq : lF l 0 = 34) (l1 : h.1 + 10 ≤ hLC Z) (l2 : h.2.1 + 200 ≤ hLS) : hCt Z mX9_quoted (d + 5) (fun _ => False) [.ref a] h (jK (pO h (operE (lF l) l.length 0 = some l.length) (opO (lF l) l.length 0) 4 80)) := by
  have kw := hs.cl
  have hs0 := hs
  obtain ⟨_, hc128, bw, κb, hs1, hz, hsw, _⟩ := hs
  refine hCt.shr (S' := kAll) ?_
  refine hCt.of pnX9 rfl (Nat.le_of_ble_eq_true rfl) rfl (fun X => ?_)
  have ok := op_quo (f := lF l) h0 hq
  have bad : ¬ operE (lF l) l.length 0 = some l.length → hG Z X mX9_quoted (d + 5) kAll h (fun r h' => jK (pO h (operE (lF l) l.length 0 = some l.length) (opO (lF l) l.length 0) 4 80) r h' ∧ hFr (fun _ => False) h h') 32 [(0, .ref a), (1, .int (nI l.length))] [] h := by
    intro hb
    refine g_null (pc := 32) dX9_quoted_32 ?_
    refine g_aret (pc := 33) dX9_quoted_33 rfl (Or.inl ⟨_, rfl⟩) (Or.inl rfl) ?_
    exact ⟨⟨_, rfl, ⟨by omega, by omega⟩, Or.inl ⟨rfl, hb⟩⟩, hFr.rf h⟩
  refine g_aload_n (pc := 0) dX9_quoted_0 rfl rfl ?_
  refine g_invV (pc := 1) dX9_quoted_1 hsw kw (jc_length (d + 3) hs0) meJ9_length q1118 q301 q302 rfl rfl (Nat.le_of_ble_eq_true rfl) (by first | exact jF | exact fun _ z => z | assumption | (intro κ z; simp_all)) (jk_e ?_) jk_x
  refine g_istore_n (pc := 4) (ls' := [(0, _), (1, _)]) dX9_quoted_4 rfl (Nat.le_of_ble_eq_true rfl) rfl ?_
  refine g_iload_n (pc := 5) dX9_quoted_5 rfl rfl ?_
  refine g_iconst (pc := 6) (v := nI 2) dX9_quoted_6 rfl ?_
  refine g_icmp_ltN (pc := 7) (tgt := 32) dX9_quoted_7 rfl (by omega) (by omega) (fun q1 => ?_) (fun q1 => ?_)
  · exact bad (fun z => by have := (ok.mp z).1; omega)
  · refine g_aload_n (pc := 10) dX9_quoted_10 rfl rfl ?_
    refine g_ldcK (pc := 11) dX9_quoted_11 ksX9_183 (fun hk1 => ?_)
    refine g_iconst (pc := 13) (v := nI 1) dX9_quoted_13 rfl ?_
    refine g_invV (pc := 14) dX9_quoted_14 hsw kw (jc_indexOf (d + 1) 930 _ 1 _ hs0 hk1 (by decide) (by decide) (by omega) (by omega) (by decide)) meJ9_indexOf q1051 q1052 q1053 rfl rfl (Nat.le_of_ble_eq_true rfl) (by first | exact jF | exact fun _ z => z | assumption | (intro κ z; simp_all)) (jk_e ?_) jk_x
    cases hix : ixO l [34] 1 with
    | none =>
      have hn := ixO_inv0 hix
      refine g_iload_n (pc := 17) dX9_quoted_17 rfl rfl ?_
      refine g_iconst (pc := 18) (v := nI 1) dX9_quoted_18 rfl ?_
      first | refine g_isubN (pc := 19) dX9_quoted_19 (by omega) ?_ | refine g_isub (pc := 19) dX9_quoted_19 ?_
      refine g_icmp_ne (pc := 20) (tgt := 32) dX9_quoted_20 rfl (fun _ => bad (fun z => ?_)) (fun q_ => absurd (congrArg Int32.toInt q_) (by rw [nI_toInt (by omega)]; show ¬ ((-1 : Int) = _); omega))
      have := hn (l.length - 1) (by omega) (by omega)
      rw [st1_f (by omega)] at this
      exact this (ok.mp z).2.1
    | some i =>
      obtain ⟨i1, i2, i3, i4⟩ := ixO_inv hix
      rw [st1_t i2] at i3
      show hG Z X mX9_quoted (d + 5) kAll h _ 17 [(0, .ref a), (1, .int (nI l.length))] [.int (nI i)] h
      refine g_iload_n (pc := 17) dX9_quoted_17 rfl rfl ?_
      refine g_iconst (pc := 18) (v := nI 1) dX9_quoted_18 rfl ?_
      first | refine g_isubN (pc := 19) dX9_quoted_19 (by omega) ?_ | refine g_isub (pc := 19) dX9_quoted_19 ?_
      refine g_icmp_neN (pc := 20) (tgt := 32) dX9_quoted_20 rfl (by omega) (by omega) (fun q2 => ?_) (fun q2 => ?_)
      · refine bad (fun z => ?_)
        obtain ⟨z1, z2, z3⟩ := ok.mp z
        exact (z3 i i1 (by omega)).1 i3
      ·
        refine g_aload_n (pc := 23) dX9_quoted_23 rfl rfl ?_
        refine g_ldcK (pc := 24) dX9_quoted_24 ksX9_233 (fun hk2 => ?_)
        refine g_invV (pc := 26) dX9_quoted_26 hsw kw (jc_indexOfA (d + 2) 930 _ _ hs0 hk2 (by decide) (by decide) (by show 1 ≤ l.length; omega) (by omega)) meJ9_indexOf_3 q1186 q1187 q1188 rfl rfl (Nat.le_of_ble_eq_true rfl) (by first | exact jF | exact fun _ z => z | assumption | (intro κ z; simp_all)) (jk_e ?_) jk_x
        cases hix2 : ixO l [125] 0 with
        | some j =>
          obtain ⟨j1, j2, j3, j4⟩ := ixO_inv hix2
          rw [st1_t j2] at j3
          refine g_if_ltN (pc := 29) (tgt := 34) (a := j) dX9_quoted_29 rfl (by omega) ?_
          refine bad (fun z => ?_)
          obtain ⟨z1, z2, z3⟩ := ok.mp z
          by_cases y : j = 0
          · rw [y] at j3
            have := hq.symm.trans j3
            omega
          · by_cases x : j = l.length - 1
            · rw [x] at j3
              have := z2.symm.trans j3
              omega
            · exact (z3 j (by omega) (by omega)).2 j3
        | none =>
          have hn := ixO_inv0 hix2
          have okk : operE (lF l) l.length 0 = some l.length := ok.mpr ⟨by omega, by rw [← q2]; exact i3, fun j j1 j2 => ⟨by have := i4 j j1 (by omega); rw [st1_f (by omega)] at this; exact this, by have := hn j (by omega) (by omega); rw [st1_f (by omega)] at this; exact this⟩⟩
          have ev : opO (lF l) l.length 0 = .inr (.inl (some (.inr (.inl (sbL l 1 (l.length - 1)))))) := by
            unfold opO
            rw [if_pos hq, Nat.zero_add, show l.length - 0 - 2 = l.length - 1 - 1 by omega, sgF_sb]
          refine g_if_lt (pc := 29) (tgt := 34) dX9_quoted_29 rfl (fun _ => ?_) (fun q_ => absurd (by decide) q_)
          refine g_new (pc := 34) (r := (RX13, TX13, 1)) (fs := [.null]) 13 dX9_quoted_34 rfl (by decide) q1200 q1201 q110 rfl (by first | omega | (simp only [hNew_1, hNew_2, hSet_1, hSet_2]; omega)) (by first | omega | (simp only [hNew_1, hNew_2, hSet_1, hSet_2]; omega)) (fun hwf => ?_)
          have hwf0 := hwf
          have f1 : hFr (fun _ => False) h (hNew h (13, .inl [.null]) 1) := (hFr.rf h).new hwf
          have n1 := hNew_s h (13, .inl [.null]) 1
          refine g_dup (pc := 37) dX9_quoted_37 rfl ?_
          refine g_new (pc := 38) (r := (RX6, TX6, 3)) (fs := [.int (nI 0), .null, .null]) 6 dX9_quoted_38 rfl (by decide) q1202 q702 q97 rfl (by first | omega | (simp only [hNew_1, hNew_2, hSet_1, hSet_2]; omega)) (by first | omega | (simp only [hNew_1, hNew_2, hSet_1, hSet_2]; omega)) (fun hwf => ?_)
          have f2 : hFr (fun _ => False) (hNew h (13, .inl [.null]) 1) (hNew (hNew h (13, .inl [.null]) 1) (6, .inl [.int (nI 0), .null, .null]) 3) := (hFr.rf _).new hwf
          have n2 := hNew_s (hNew h (13, .inl [.null]) 1) (6, .inl [.int (nI 0), .null, .null]) 3
          have n12 := (f2.2.2 _ _ n1).1 (fun z => z)
          have f12 := f1.tr f2
          have hs2 := hs0.fr f12 (fun z => z) (fun z => z) (fun z => z)
          have kw2 := hs2.cl
          have hs20 := hs2
          obtain ⟨_, _, bw2, κb2, hs12, hz2, hsw2, _⟩ := hs20
          refine g_dup (pc := 41) dX9_quoted_41 rfl ?_
          refine g_aload_n (pc := 42) dX9_quoted_42 rfl rfl ?_
          refine g_iconst (pc := 43) (v := nI 1) dX9_quoted_43 rfl ?_
          refine g_iload_n (pc := 44) dX9_quoted_44 rfl rfl ?_
          refine g_iconst (pc := 45) (v := nI 1) dX9_quoted_45 rfl ?_
          first | refine g_isubN (pc := 46) dX9_quoted_46 (by omega) ?_ | refine g_isub (pc := 46) dX9_quoted_46 ?_
          refine g_invV (pc := 47) dX9_quoted_47 hsw2 kw2 (jc_substring2 d 30 1 (l.length - 1) hs2 (Or.inl rfl) (by omega) (by omega) (by omega) (by simp only [hNew_1]; omega) (by simp only [hNew_2]; omega)) meJ9_substring_2 q1128 q1096 q1097 rfl rfl (Nat.le_of_ble_eq_true rfl) (by first | exact jF | exact fun _ z => z | assumption | (intro κ z; simp_all)) (jk_n (fun u h3 hp3 fr3 => ?_)) jk_x
          rcases hp3 with ⟨s3, κ3, rfl, j3, k3, rm3⟩ | ⟨z1, _⟩
          · have n13 := (fr3.2.2 _ _ n12).1 (fun z => z)
            have n23 := (fr3.2.2 _ _ n2).1 (fun z => z)
            have hne : (hNew h (13, .inl [.null]) 1).1 ≠ h.1 := by simp only [hNew_1]; omega
            have f13 := f12.tr fr3
            refine g_invI (pc := 50) dX9_quoted_50 (cd_text (d + 2) s3 _ _ _ n23) meX6_init rfl rfl q1203 q705 rfl rfl (Nat.le_of_ble_eq_true rfl) (fun κ z => by rw [z]; exact Nat.le_of_ble_eq_true rfl) (jk_n (fun u h4 hp4 fr4 => ?_)) jk_x
            obtain ⟨rfl, rfl⟩ := hp4
            have fr4' : hFr (fun z => z = 6) h3 (hSet h3 (hNew h (13, .inl [.null]) 1).1 (6, .inl [.int (nI 0), .ref s3, .null])) := fr4
            have n14 : (hSet h3 (hNew h (13, .inl [.null]) 1).1 (6, .inl [.int (nI 0), .ref s3, .null])).2.2 h.1 = some (13, .inl [.null]) := by rw [hSet_n (Ne.symm hne)]; exact n13
            refine g_invIN (pc := 53) dX9_quoted_53 (ci_X13 (d + 2) _ _ n14) meX13_init rfl rfl q1204 q1205 rfl rfl (Nat.le_of_ble_eq_true rfl) (fun κ z => by rw [z]; exact Nat.le_of_ble_eq_true rfl) (jk_n (fun u h5 hp5 fr5 => ?_)) jk_x
            obtain ⟨rfl, rfl⟩ := hp5
            have fr5' : hFr (fun z => z = 13) _ _ := fr5
            refine g_aret (pc := 56) dX9_quoted_56 rfl (Or.inl ⟨_, rfl⟩) (Or.inr ⟨_, rfl⟩) ?_
            have r1 := rm3.1
            have r2 := rm3.2
            simp only [hNew_1, hNew_2] at r1 r2
            rw [sbL_len] at r2
            refine ⟨⟨_, rfl, ⟨by simp only [hSet_1]; omega, by simp only [hSet_2]; omega⟩, Or.inr ⟨h.1, rfl, okk, ?_⟩⟩, ?_⟩
            · rw [ev]
              have j5 : jSt (hSet (hSet h3 (hNew h (13, .inl [.null]) 1).1 (6, .inl [.int (nI 0), .ref s3, .null])) h.1 (13, .inl [.ref (hNew h (13, .inl [.null]) 1).1])) κ3 s3 (sbL l 1 (l.length - 1)) := by
                have j4 := j3.fr fr4' (by show ¬ (κ3 = 6); omega) (by decide) (by decide)
                exact j4.fr fr5' (by show ¬ (κ3 = 13); omega) (by decide) (by decide)
              refine ⟨(hNew h (13, .inl [.null]) 1).1, hSet_s _ _ _, fun n => ?_⟩
              have c6 : (hSet (hSet h3 (hNew h (13, .inl [.null]) 1).1 (6, .inl [.int (nI 0), .ref s3, .null])) h.1 (13, .inl [.ref (hNew h (13, .inl [.null]) 1).1])).2.2 (hNew h (13, .inl [.null]) 1).1 = some (6, .inl [.int (nI 0), .ref s3, .null]) := by rw [hSet_n hne]; exact hSet_s _ _ _
              cases n with
              | zero => exact ⟨_, _, κ3, _, c6, j5, k3, by rw [sbL_len]; omega⟩
              | succ n => exact ⟨_, _, κ3, _, c6, j5, k3, by rw [sbL_len]; omega, Or.inl rfl⟩
            · exact (f13.setN hwf0 (by simp only [hNew_1]; omega)).setN hwf0 (Nat.le_refl _)
          · exact absurd z1 (by decide)
end PA
