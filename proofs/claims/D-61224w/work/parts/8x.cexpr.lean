/-! COMPONENT 29: expressions -/
set_option maxRecDepth 100000
/-- an expression, or null -/
def pE (h : hP) (ok : Prop) (x : aE) (c s : Nat) : Option Value → hP → Prop := fun r h' => jRm h h' c s ∧ cMn h h' ∧ ((r = some .null ∧ ¬ ok) ∨ (∃ a, r = some (.ref a) ∧ ok ∧ cEx h' x a))
def kH (κ : Nat) : Prop := κ = 130 ∨ κ = 930
theorem sub_op {l : List Nat} {b r : Nat} (hb : b ≤ r) (hr : r ≤ l.length) : (operE (lF (sbL l b r)) (sbL l b r).length 0 = some (sbL l b r).length ↔ operE (lF l) r b = some r) ∧ (operE (lF l) r b = some r → opO (lF (sbL l b r)) (sbL l b r).length 0 = opO (lF l) r b) := by
  have H : ∀ i, i < r - b → lF l (b + i) = lF (sbL l b r) i := fun i hi => (sbL_get hi).symm
  have e1 := operE_sh (f := lF l) (f' := lF (sbL l b r)) (b := b) (e := r - b) H 0
  rw [show b + (r - b) = r by omega, Nat.add_zero] at e1
  have k : operE (lF (sbL l b r)) (sbL l b r).length 0 = some (sbL l b r).length ↔ operE (lF l) r b = some r := by
    rw [sbL_len, e1]
    cases hx : operE (lF (sbL l b r)) (r - b) 0 with
    | none => exact ⟨fun z => (by cases z), fun z => (by cases z)⟩
    | some q =>
      have hq := operE_le hx
      constructor
      · intro z
        have z : q = r - b := Option.some.inj z
        show some (b + q) = some r
        congr 1
        omega
      · intro z
        have z : b + q = r := Option.some.inj z
        congr 1
        omega
  refine ⟨k, fun z => ?_⟩
  have z1 := k.mpr z
  rw [sbL_len] at z1 ⊢
  have := opO_sh (F := lF l) (f := lF (sbL l b r)) (b := b) (e := r - b) (p := 0) H z1
  rw [show b + (r - b) = r by omega, Nat.add_zero] at this
  exact this.symm
theorem cMn.one {h h' : hP} (f : hFr (fun κ => κ = 130) h h') (hj : ∀ κ' a' l', jSt h κ' a' l' → jSt h' κ' a' l') : cMn h h' :=
  ⟨fun a l t => t.fr f (by decide) (by decide) (by decide) (by decide) (by decide), fun a l t => hj _ _ _ t, fun a k s c z => ⟨c, (f.2.2 a _ z).1 (by intro z; cases z)⟩⟩
section PX
variable {Z : hE} {h : hP} {κ a : Nat} {l : List Nat}
set_option maxHeartbeats 4000000 in
theorem pa_expr (d : Nat) (hs : jSt h κ a l) (hκ : kK κ) (hL : l.length ≤ 64) (l1 : h.1 + 2000 ≤ hLC Z) (l2 : h.2.1 + 60000 ≤ hLS) : hCt Z mX9_expression (d + 10) (fun κ => κ = 130) [.ref a] h (jK (pE h (isEx (lF l) l.length 0 = true) (exO (lF l) l.length 0) (10 * l.length + 80) (450 * l.length + 900))) := by
  have kw := hs.cl
  have hs0 := hs
  obtain ⟨-, hc128, bw, κb, hs1, hz, hsw, -⟩ := hs0
  refine hCt.shr (S' := kAll) ?_
  refine hCt.of pnX9 rfl (Nat.le_of_ble_eq_true rfl) rfl (fun X => ?_)
  generalize hKK : (fun r h' => jK (pE h (isEx (lF l) l.length 0 = true) (exO (lF l) l.length 0) (10 * l.length + 80) (450 * l.length + 900)) r h' ∧ hFr (fun κ => κ = 130) h h') = KK
  have finN : ∀ h', hFr (fun κ => κ = 130) h h' → cMn h h' → jRm h h' (10 * l.length + 80) (450 * l.length + 900) → ¬ isEx (lF l) l.length 0 = true → KK (.inl (some .null)) h' := fun h' f m r n => by
    rw [← hKK]
    exact ⟨⟨_, rfl, r, m, Or.inl ⟨rfl, n⟩⟩, f⟩
  have finS : ∀ h' o, hFr (fun κ => κ = 130) h h' → cMn h h' → jRm h h' (10 * l.length + 80) (450 * l.length + 900) → isEx (lF l) l.length 0 = true → cEx h' (exO (lF l) l.length 0) o → KK (.inl (some (.ref o))) h' := fun h' o f m r n c => by
    rw [← hKK]
    exact ⟨⟨_, rfl, r, m, Or.inr ⟨o, rfl, n, c⟩⟩, f⟩
  clear hKK
  have fF : ∀ {h1 h2 : hP}, hFr (fun _ => False) h1 h2 → hFr (fun κ => κ = 130) h1 h2 := fun f => hFr.mono (fun _ z => z.elim) f
  have kn : κ ≠ 130 := by rcases hκ with z | z <;> rw [z] <;> decide
  obtain ⟨o1, o2⟩ := opEnd_le (l := l) (k := 0) (Nat.zero_le _)
  generalize he0 : opEnd l 0 = e0 at o1 o2
  refine g_aload_n (pc := 0) dX9_expression_0 rfl rfl ?_
  refine g_iconst (pc := 1) (v := nI 0) dX9_expression_1 rfl ?_
  refine g_invS (pc := 2) dX9_expression_2 (pa_opEnd (d + 5) 0 hs hL (Nat.zero_le _)) meX9_operandEnd q1161 q1162 rfl rfl (Nat.le_of_ble_eq_true rfl) (by first | exact jF | exact fun _ z => z | assumption | (intro κ z; simp_all)) (jk_e ?_) jk_x
  rw [he0]
  refine g_istore_n (pc := 5) (ls' := [(0, _), (1, _)]) dX9_expression_5 rfl (Nat.le_of_ble_eq_true rfl) rfl ?_
  refine g_iload_n (pc := 6) dX9_expression_6 rfl rfl ?_
  refine g_aload_n (pc := 7) dX9_expression_7 rfl rfl ?_
  refine g_invV (pc := 8) dX9_expression_8 hsw kw (jc_length (d + 8) hs) meJ9_length q1118 q301 q302 rfl rfl (Nat.le_of_ble_eq_true rfl) (by first | exact jF | exact fun _ z => z | assumption | (intro κ z; simp_all)) (jk_e ?_) jk_x
  refine g_icmp_neN (pc := 11) (tgt := 19) dX9_expression_11 rfl (by omega) (by omega) (fun q11 => ?_) (fun q11 => ?_)
  · have hlt : e0 < l.length := by omega
    have hc := hc128 _ (getD_mem (d := 0) hlt)
    refine g_aload_n (pc := 19) dX9_expression_19 rfl rfl ?_
    refine g_iconst (pc := 20) (v := nI 0) dX9_expression_20 rfl ?_
    refine g_iload_n (pc := 21) dX9_expression_21 rfl rfl ?_
    refine g_invV (pc := 22) dX9_expression_22 hsw kw (jc_substring2 (d + 5) 130 0 e0 hs (Or.inr rfl) (Nat.zero_le _) o2 (by omega) (by omega) (by omega)) meJ9_substring_2 q1128 q1096 q1097 rfl rfl (Nat.le_of_ble_eq_true rfl) (by first | exact jF | exact fun _ z => z | assumption | (intro κ z; simp_all)) (jk_n (fun v h1 hp1 fr1 => ?_)) jk_x
    rcases hp1 with ⟨s1, κ1, rfl, j1, k10, rm1⟩ | ⟨_, z, _⟩
    · have k1 : kH κ1 := k10
      clear k10
      have r11 := rm1.1
      have r12 : _ ≤ _ + (4 + l.length) := Nat.le_trans rm1.2 (Nat.add_le_add_left (Nat.add_le_add_left (by rw [sbL_len]; omega) _) _)
      have s1l : (sbL l 0 e0).length ≤ 64 := by rw [sbL_len]; omega
      refine g_invS (pc := 25) dX9_expression_25 (pa_operands (d + 5) j1 k1 s1l) meX9_operands q1240 q1241 rfl rfl (Nat.le_of_ble_eq_true rfl) (fun κ z => by rw [z]; exact Nat.le_of_ble_eq_true rfl) (jk_n (fun v h2 hp2 fr2 => ?_)) jk_x
      obtain ⟨rfl, x2, x3, x4⟩ := hp2
      have fr2' : hFr (fun κ => κ = 130) h1 h2 := fr2
      have f2 : hFr (fun κ => κ = 130) h h2 := (fF fr1).tr fr2'
      have m2 : cMn h h2 := (cMn.F fr1).tr (cMn.one fr2' x4)
      have hs2 := x4 _ _ _ (hs.fr fr1 (fun z => z) (fun z => z) (fun z => z))
      have kw2 := hs2.cl
      have hs20 := hs2
      obtain ⟨-, -, bw2, κb2, hs12, hz2, hsw2, -⟩ := hs20
      have opn2 : opN (sbL l 0 e0) ≤ 2 := by
        unfold opN
        split
        · omega
        · split <;> omega
      have bad : ¬ isEx (lF l) l.length 0 = true → ∀ ls, hG Z X mX9_expression (d + 10) kAll h KK 43 ls [] h2 := by
        intro hb ls
        refine g_null (pc := 43) dX9_expression_43 ?_
        exact g_aret (pc := 44) dX9_expression_44 rfl (Or.inl ⟨_, rfl⟩) (Or.inl rfl) (finN _ f2 m2 ⟨by omega, by omega⟩ hb)
      refine g_istore_n (pc := 28) (ls' := [(0, _), (1, _), (2, _)]) dX9_expression_28 rfl (Nat.le_of_ble_eq_true rfl) rfl ?_
      refine g_iload_n (pc := 29) dX9_expression_29 rfl rfl ?_
      refine g_if_eqN (pc := 30) (tgt := 43) dX9_expression_30 rfl (by omega) (fun q30 => ?_) (fun q30 => ?_)
      · refine bad (fun z => ?_) _
        rw [ex_2 he0 hlt (Or.inl q30)] at z
        cases z
      · refine g_aload_n (pc := 33) dX9_expression_33 rfl rfl ?_
        refine g_iload_n (pc := 34) dX9_expression_34 rfl rfl ?_
        refine g_invV (pc := 35) dX9_expression_35 hsw2 kw2 (jc_charAt (d + 6) e0 hs2 hlt) meJ9_charAt q1164 q942 q943 rfl rfl (Nat.le_of_ble_eq_true rfl) (by first | exact jF | exact fun _ z => z | assumption | (intro κ z; simp_all)) (jk_e ?_) jk_x
        refine g_bipush (pc := 38) (v := nI 32) dX9_expression_38 rfl ?_
        refine g_icmp_eqN (pc := 40) (tgt := 45) dX9_expression_40 rfl (by omega) (by omega) (fun q40 => ?_) (fun q40 => ?_)
        · have h32 : lF l e0 = 32 := q40
          have hnz : hpNm (sbL l 0 e0) ≠ 0 := fun z => by unfold opN at q30; rw [if_pos z] at q30; omega
          obtain ⟨p1, p2⟩ := opEnd_le (l := l) (k := e0 + 1) (by omega)
          generalize hnx : opEnd l (e0 + 1) = nx at p1 p2
          refine g_aload_n (pc := 45) dX9_expression_45 rfl rfl ?_
          refine g_iload_n (pc := 46) dX9_expression_46 rfl rfl ?_
          refine g_iconst (pc := 47) (v := nI 1) dX9_expression_47 rfl ?_
          first | refine g_iaddN (pc := 48) dX9_expression_48 ?_ | refine g_iadd (pc := 48) dX9_expression_48 ?_
          refine g_invS (pc := 49) dX9_expression_49 (pa_opEnd (d + 5) (e0 + 1) hs2 hL (by omega)) meX9_operandEnd q1161 q1162 rfl rfl (Nat.le_of_ble_eq_true rfl) (by first | exact jF | exact fun _ z => z | assumption | (intro κ z; simp_all)) (jk_e ?_) jk_x
          rw [hnx]
          refine g_istore_n (pc := 52) (ls' := [(0, _), (1, _), (2, _), (3, _)]) dX9_expression_52 rfl (Nat.le_of_ble_eq_true rfl) rfl ?_
          refine g_aload_n (pc := 53) dX9_expression_53 rfl rfl ?_
          refine g_iload_n (pc := 54) dX9_expression_54 rfl rfl ?_
          refine g_iconst (pc := 55) (v := nI 1) dX9_expression_55 rfl ?_
          first | refine g_iaddN (pc := 56) dX9_expression_56 ?_ | refine g_iadd (pc := 56) dX9_expression_56 ?_
          refine g_iload_n (pc := 57) dX9_expression_57 rfl rfl ?_
          refine g_invV (pc := 58) dX9_expression_58 hsw2 kw2 (jc_substring2 (d + 5) 30 (e0 + 1) nx hs2 (Or.inl rfl) p1 p2 (by omega) (by omega) (by omega)) meJ9_substring_2 q1128 q1096 q1097 rfl rfl (Nat.le_of_ble_eq_true rfl) (by first | exact jF | exact fun _ z => z | assumption | (intro κ z; simp_all)) (jk_n (fun v h3 hp3 fr3 => ?_)) jk_x
          rcases hp3 with ⟨s3, κ3, rfl, j3, k30, rm3⟩ | ⟨z, _⟩
          · have k3 : kK κ3 := k30
            clear k30
            have r31 := rm3.1
            have r32 : _ ≤ _ + (4 + l.length) := Nat.le_trans rm3.2 (Nat.add_le_add_left (Nat.add_le_add_left (by rw [sbL_len]; omega) _) _)
            have s3l : (sbL l (e0 + 1) nx).length ≤ l.length := by rw [sbL_len]; omega
            obtain ⟨u1, u2⟩ := sub_op (l := l) (b := e0 + 1) (r := nx) p1 p2
            refine g_invS (pc := 61) dX9_expression_61 (pa_operand d j3 k3 (by omega) (by omega) (by omega)) meX9_operand q1167 q1168 rfl rfl (Nat.le_of_ble_eq_true rfl) (by first | exact jF | exact fun _ z => z | assumption | (intro κ z; simp_all)) (jk_n (fun v h4 hp4 fr4 => ?_)) jk_x
            have hp4 := hp4.iff u1 u2
            obtain ⟨rm4, hp4⟩ := hp4
            have r41 : h4.1 ≤ h3.1 + (4 * l.length + 20) := by have := rm4.1; omega
            have r42 : h4.2.1 ≤ h3.2.1 + (200 * l.length + 300) := by have := rm4.2; omega
            clear rm4
            have f24 := fr3.tr fr4
            have f4 : hFr (fun κ => κ = 130) h h4 := f2.tr (fF f24)
            have m4 : cMn h h4 := m2.tr (cMn.F f24)
            have hs4 := hs2.fr f24 (fun z => z) (fun z => z) (fun z => z)
            have kw4 := hs4.cl
            have hs40 := hs4
            obtain ⟨-, -, bw4, κb4, hs14, hz4, hsw4, -⟩ := hs40
            rcases hp4 with ⟨rfl, hno⟩ | ⟨oa, rfl, hok, hA⟩
            · refine g_astoreN (pc := 64) (ls' := [(0, _), (1, _), (2, _), (3, _), (4, _)]) dX9_expression_64 (Nat.le_of_ble_eq_true rfl) rfl ?_
              refine g_aloadN (pc := 66) dX9_expression_66 rfl ?_
              refine g_ifnonnullN (pc := 68) dX9_expression_68 ?_
              refine g_null (pc := 71) dX9_expression_71 ?_
              refine g_aret (pc := 72) dX9_expression_72 rfl (Or.inl ⟨_, rfl⟩) (Or.inl rfl) (finN _ f4 m4 ⟨by omega, by omega⟩ (fun z => hno ?_))
              by_cases h4 : hpNm (sbL l 0 e0) < 4
              · have := ((ex_n1 he0 hlt hnz h4 h32).1.mp z).2
                rw [hnx] at this
                exact this
              · have := ((ex_n2 he0 hlt hnz h4 h32).1.mp z).1
                rw [hnx] at this
                exact this
            ·
              refine g_astore (pc := 64) (ls' := [(0, _), (1, _), (2, _), (3, _), (4, _)]) dX9_expression_64 (Nat.le_of_ble_eq_true rfl) rfl ?_
              refine g_aload (pc := 66) dX9_expression_66 rfl ?_
              refine g_ifnonnull (pc := 68) (tgt := 73) dX9_expression_68 rfl ?_
              refine g_aload_n (pc := 73) dX9_expression_73 rfl rfl ?_
              refine g_iconst (pc := 74) (v := nI 0) dX9_expression_74 rfl ?_
              refine g_iload_n (pc := 75) dX9_expression_75 rfl rfl ?_
              refine g_invV (pc := 76) dX9_expression_76 hsw4 kw4 (jc_substring2 (d + 5) 130 0 e0 hs4 (Or.inr rfl) (Nat.zero_le _) o2 (by omega) (by omega) (by omega)) meJ9_substring_2 q1128 q1096 q1097 rfl rfl (Nat.le_of_ble_eq_true rfl) (by first | exact jF | exact fun _ z => z | assumption | (intro κ z; simp_all)) (jk_n (fun v h5 hp5 fr5 => ?_)) jk_x
              rcases hp5 with ⟨s5, κ5, rfl, j5, k50, rm5⟩ | ⟨_, z, _⟩
              · have k5 : kH κ5 := k50
                clear k50
                have r51 := rm5.1
                have r52 : _ ≤ _ + (4 + l.length) := Nat.le_trans rm5.2 (Nat.add_le_add_left (Nat.add_le_add_left (by rw [sbL_len]; omega) _) _)
                have f5 : hFr (fun κ => κ = 130) h h5 := f4.tr (fF fr5)
                have m5 : cMn h h5 := m4.tr (cMn.F fr5)
                have hA5 := hA.kp fr5 cNS.F (cMn.F fr5)
                have hs5 := hs4.fr fr5 (fun z => z) (fun z => z) (fun z => z)
                have kw5 := hs5.cl
                have hs50 := hs5
                obtain ⟨-, -, bw5, κb5, hs15, hz5, hsw5, -⟩ := hs50
                obtain ⟨nm1, nm2, nm3⟩ := hpNm_nm hnz
                have j5n : jSt h5 κ5 s5 (nmH (hpNm (sbL l 0 e0))) := by rw [← nm1]; exact j5
                refine g_astore (pc := 79) (ls' := [(0, _), (1, _), (2, _), (3, _), (4, _), (5, _)]) dX9_expression_79 (Nat.le_of_ble_eq_true rfl) rfl ?_
                refine g_iload_n (pc := 81) dX9_expression_81 rfl rfl ?_
                refine g_iconst (pc := 82) (v := nI 1) dX9_expression_82 rfl ?_
                by_cases h4 : hpNm (sbL l 0 e0) < 4
                · have ho : opN (sbL l 0 e0) = 1 := by unfold opN; rw [if_neg hnz, if_pos h4]
                  obtain ⟨w1, w2⟩ := ex_n1 he0 hlt hnz h4 h32
                  rw [hnx] at w1 w2
                  rw [ho]
                  refine g_icmp_neN (pc := 83) (tgt := 111) dX9_expression_83 rfl (by omega) (by omega) (fun q_ => absurd rfl q_) (fun _ => ?_)
                  refine g_iload_n (pc := 86) dX9_expression_86 rfl rfl ?_
                  refine g_aload_n (pc := 87) dX9_expression_87 rfl rfl ?_
                  refine g_invV (pc := 88) dX9_expression_88 hsw5 kw5 (jc_length (d + 8) hs5) meJ9_length q1118 q301 q302 rfl rfl (Nat.le_of_ble_eq_true rfl) (by first | exact jF | exact fun _ z => z | assumption | (intro κ z; simp_all)) (jk_e ?_) jk_x
                  refine g_icmp_neN (pc := 91) (tgt := 109) dX9_expression_91 rfl (by omega) (by omega) (fun q91 => ?_) (fun q91 => ?_)
                  · refine g_null (pc := 109) dX9_expression_109 ?_
                    exact g_aret (pc := 110) dX9_expression_110 rfl (Or.inl ⟨_, rfl⟩) (Or.inl rfl) (finN _ f5 m5 ⟨by omega, by omega⟩ (fun z => q91 (w1.mp z).1))
                  · refine g_new (pc := 94) (r := (RX15, TX15, 3)) (fs := [.null, .null, .null]) 15 dX9_expression_94 rfl (by decide) q1306 q1307 q112 rfl (by first | omega | (simp only [hNew_1, hNew_2, hSet_1, hSet_2]; omega)) (by first | omega | (simp only [hNew_1, hNew_2, hSet_1, hSet_2]; omega)) (fun hwf => ?_)
                    have n6 := hNew_s h5 (15, .inl [.null, .null, .null]) 3
                    refine g_dup (pc := 97) dX9_expression_97 rfl ?_
                    refine g_aload (pc := 98) dX9_expression_98 rfl ?_
                    refine g_aload (pc := 100) dX9_expression_100 rfl ?_
                    refine g_null (pc := 102) dX9_expression_102 ?_
                    refine g_invIN (pc := 103) dX9_expression_103 (ci_X15n (d + 7) s5 oa _ _ _ n6) meX15_init rfl rfl q1308 q1309 rfl rfl (Nat.le_of_ble_eq_true rfl) (fun κ z => by rw [z]; exact Nat.le_of_ble_eq_true rfl) (jk_n (fun v h6 hp6 fr6 => ?_)) jk_x
                    obtain ⟨rfl, rfl⟩ := hp6
                    rw [hSet_New]
                    refine g_goto (pc := 106) (tgt := 110) dX9_expression_106 rfl ?_
                    refine g_aret (pc := 110) dX9_expression_110 rfl (Or.inl ⟨_, rfl⟩) (Or.inr ⟨_, rfl⟩) ?_
                    have f6 : hFr (fun _ => False) h5 (hNew h5 (15, .inl [.ref s5, .ref oa, .null]) 3) := (hFr.rf h5).new hwf
                    have hex : isEx (lF l) l.length 0 = true := w1.mpr ⟨q91, hok⟩
                    refine finS _ _ (f5.tr (fF f6)) (m5.tr (cMn.F f6)) ⟨by simp only [hNew_1]; omega, by simp only [hNew_2]; omega⟩ hex ?_
                    rw [w2 hex]
                    exact ⟨nm2, nm3, s5, κ5, oa, .null, hNew_s _ _ _, j5n.fr f6 (fun z => z) (fun z => z) (fun z => z), k5, hA5.kp f6 cNS.F (cMn.F f6), Or.inl ⟨rfl, rfl⟩⟩
                · have ho : opN (sbL l 0 e0) = 2 := by unfold opN; rw [if_neg hnz, if_neg h4]
                  obtain ⟨w1, w2⟩ := ex_n2 he0 hlt hnz h4 h32
                  rw [hnx] at w1 w2
                  have bad5 : ¬ isEx (lF l) l.length 0 = true → ∀ ls, hG Z X mX9_expression (d + 10) kAll h KK 129 ls [] h5 := by
                    intro hb ls
                    refine g_null (pc := 129) dX9_expression_129 ?_
                    exact g_aret (pc := 130) dX9_expression_130 rfl (Or.inl ⟨_, rfl⟩) (Or.inl rfl) (finN _ f5 m5 ⟨by omega, by omega⟩ hb)
                  rw [ho]
                  refine g_icmp_neN (pc := 83) (tgt := 111) dX9_expression_83 rfl (by omega) (by omega) (fun _ => ?_) (fun q_ => absurd q_ (by decide))
                  refine g_iload_n (pc := 111) dX9_expression_111 rfl rfl ?_
                  refine g_aload_n (pc := 112) dX9_expression_112 rfl rfl ?_
                  refine g_invV (pc := 113) dX9_expression_113 hsw5 kw5 (jc_length (d + 8) hs5) meJ9_length q1118 q301 q302 rfl rfl (Nat.le_of_ble_eq_true rfl) (by first | exact jF | exact fun _ z => z | assumption | (intro κ z; simp_all)) (jk_e ?_) jk_x
                  refine g_icmp_eqN (pc := 116) (tgt := 129) dX9_expression_116 rfl (by omega) (by omega) (fun q116 => ?_) (fun q116 => ?_)
                  · exact bad5 (fun z => by have := (w1.mp z).2.1; omega) _
                  · have hnl : nx < l.length := by omega
                    have hc2 := hc128 _ (getD_mem (d := 0) hnl)
                    refine g_aload_n (pc := 119) dX9_expression_119 rfl rfl ?_
                    refine g_iload_n (pc := 120) dX9_expression_120 rfl rfl ?_
                    refine g_invV (pc := 121) dX9_expression_121 hsw5 kw5 (jc_charAt (d + 6) nx hs5 hnl) meJ9_charAt q1164 q942 q943 rfl rfl (Nat.le_of_ble_eq_true rfl) (by first | exact jF | exact fun _ z => z | assumption | (intro κ z; simp_all)) (jk_e ?_) jk_x
                    refine g_bipush (pc := 124) (v := nI 32) dX9_expression_124 rfl ?_
                    refine g_icmp_eqN (pc := 126) (tgt := 131) dX9_expression_126 rfl (by omega) (by omega) (fun q126 => ?_) (fun q126 => ?_)
                    · have n32 : lF l nx = 32 := q126
                      obtain ⟨p5, p6⟩ := opEnd_le (l := l) (k := nx + 1) (by omega)
                      generalize hla : opEnd l (nx + 1) = la at p5 p6
                      rw [hla] at w1
                      refine g_aload_n (pc := 131) dX9_expression_131 rfl rfl ?_
                      refine g_iload_n (pc := 132) dX9_expression_132 rfl rfl ?_
                      refine g_iconst (pc := 133) (v := nI 1) dX9_expression_133 rfl ?_
                      first | refine g_iaddN (pc := 134) dX9_expression_134 ?_ | refine g_iadd (pc := 134) dX9_expression_134 ?_
                      refine g_invS (pc := 135) dX9_expression_135 (pa_opEnd (d + 5) (nx + 1) hs5 hL (by omega)) meX9_operandEnd q1161 q1162 rfl rfl (Nat.le_of_ble_eq_true rfl) (by first | exact jF | exact fun _ z => z | assumption | (intro κ z; simp_all)) (jk_e ?_) jk_x
                      rw [hla]
                      refine g_istore (pc := 138) (ls' := [(0, _), (1, _), (2, _), (3, _), (4, _), (5, _), (6, _)]) dX9_expression_138 (Nat.le_of_ble_eq_true rfl) rfl ?_
                      refine g_aload_n (pc := 140) dX9_expression_140 rfl rfl ?_
                      refine g_iload_n (pc := 141) dX9_expression_141 rfl rfl ?_
                      refine g_iconst (pc := 142) (v := nI 1) dX9_expression_142 rfl ?_
                      first | refine g_iaddN (pc := 143) dX9_expression_143 ?_ | refine g_iadd (pc := 143) dX9_expression_143 ?_
                      refine g_iload (pc := 144) dX9_expression_144 rfl ?_
                      refine g_invV (pc := 146) dX9_expression_146 hsw5 kw5 (jc_substring2 (d + 5) 30 (nx + 1) la hs5 (Or.inl rfl) p5 p6 (by omega) (by omega) (by omega)) meJ9_substring_2 q1128 q1096 q1097 rfl rfl (Nat.le_of_ble_eq_true rfl) (by first | exact jF | exact fun _ z => z | assumption | (intro κ z; simp_all)) (jk_n (fun v h6 hp6 fr6 => ?_)) jk_x
                      rcases hp6 with ⟨s6, κ6, rfl, j6, k60, rm6⟩ | ⟨z, _⟩
                      · have k6 : kK κ6 := k60
                        clear k60
                        have r61 := rm6.1
                        have r62 : _ ≤ _ + (4 + l.length) := Nat.le_trans rm6.2 (Nat.add_le_add_left (Nat.add_le_add_left (by rw [sbL_len]; omega) _) _)
                        have s6l : (sbL l (nx + 1) la).length ≤ l.length := by rw [sbL_len]; omega
                        obtain ⟨u3, u4⟩ := sub_op (l := l) (b := nx + 1) (r := la) p5 p6
                        refine g_invS (pc := 149) dX9_expression_149 (pa_operand d j6 k6 (by omega) (by omega) (by omega)) meX9_operand q1167 q1168 rfl rfl (Nat.le_of_ble_eq_true rfl) (by first | exact jF | exact fun _ z => z | assumption | (intro κ z; simp_all)) (jk_n (fun v h7 hp7 fr7 => ?_)) jk_x
                        have hp7 := hp7.iff u3 u4
                        obtain ⟨rm7, hp7⟩ := hp7
                        have r71 : h7.1 ≤ h6.1 + (4 * l.length + 20) := by have := rm7.1; omega
                        have r72 : h7.2.1 ≤ h6.2.1 + (200 * l.length + 300) := by have := rm7.2; omega
                        clear rm7
                        have f57 := fr6.tr fr7
                        have f7 : hFr (fun κ => κ = 130) h h7 := f5.tr (fF f57)
                        have m7 : cMn h h7 := m5.tr (cMn.F f57)
                        have hs7 := hs5.fr f57 (fun z => z) (fun z => z) (fun z => z)
                        have kw7 := hs7.cl
                        have hs70 := hs7
                        obtain ⟨-, -, bw7, κb7, hs17, hz7, hsw7, -⟩ := hs70
                        have bad7 : ¬ isEx (lF l) l.length 0 = true → ∀ ls, hG Z X mX9_expression (d + 10) kAll h KK 168 ls [] h7 := by
                          intro hb ls
                          refine g_null (pc := 168) dX9_expression_168 ?_
                          refine g_goto (pc := 169) (tgt := 185) dX9_expression_169 rfl ?_
                          exact g_aret (pc := 185) dX9_expression_185 rfl (Or.inl ⟨_, rfl⟩) (Or.inl rfl) (finN _ f7 m7 ⟨by omega, by omega⟩ hb)
                        rcases hp7 with ⟨rfl, hno⟩ | ⟨ob, rfl, hok2, hB⟩
                        · refine g_astoreN (pc := 152) (ls' := [(0, _), (1, _), (2, _), (3, _), (4, _), (5, _), (6, _), (7, _)]) dX9_expression_152 (Nat.le_of_ble_eq_true rfl) rfl ?_
                          refine g_aloadN (pc := 154) dX9_expression_154 rfl ?_
                          refine g_ifnullN (pc := 156) (tgt := 168) dX9_expression_156 rfl ?_
                          exact bad7 (fun z => hno (by have z1 := w1.mp z; rw [z1.2.2.2.1]; exact z1.2.2.2.2)) _
                        ·
                          refine g_astore (pc := 152) (ls' := [(0, _), (1, _), (2, _), (3, _), (4, _), (5, _), (6, _), (7, _)]) dX9_expression_152 (Nat.le_of_ble_eq_true rfl) rfl ?_
                          refine g_aload (pc := 154) dX9_expression_154 rfl ?_
                          refine g_ifnull (pc := 156) dX9_expression_156 ?_
                          refine g_iload (pc := 159) dX9_expression_159 rfl ?_
                          refine g_aload_n (pc := 161) dX9_expression_161 rfl rfl ?_
                          refine g_invV (pc := 162) dX9_expression_162 hsw7 kw7 (jc_length (d + 8) hs7) meJ9_length q1118 q301 q302 rfl rfl (Nat.le_of_ble_eq_true rfl) (by first | exact jF | exact fun _ z => z | assumption | (intro κ z; simp_all)) (jk_e ?_) jk_x
                          refine g_icmp_geN (pc := 165) (tgt := 172) dX9_expression_165 rfl (by omega) (by omega) (fun q165 => ?_) (fun q165 => ?_)
                          · have hla2 : la = l.length := by omega
                            refine g_new (pc := 172) (r := (RX15, TX15, 3)) (fs := [.null, .null, .null]) 15 dX9_expression_172 rfl (by decide) q1306 q1307 q112 rfl (by first | omega | (simp only [hNew_1, hNew_2, hSet_1, hSet_2]; omega)) (by first | omega | (simp only [hNew_1, hNew_2, hSet_1, hSet_2]; omega)) (fun hwf => ?_)
                            have n8 := hNew_s h7 (15, .inl [.null, .null, .null]) 3
                            refine g_dup (pc := 175) dX9_expression_175 rfl ?_
                            refine g_aload (pc := 176) dX9_expression_176 rfl ?_
                            refine g_aload (pc := 178) dX9_expression_178 rfl ?_
                            refine g_aload (pc := 180) dX9_expression_180 rfl ?_
                            refine g_invIN (pc := 182) dX9_expression_182 (ci_X15 (d + 7) s5 oa ob _ _ _ n8) meX15_init rfl rfl q1308 q1309 rfl rfl (Nat.le_of_ble_eq_true rfl) (fun κ z => by rw [z]; exact Nat.le_of_ble_eq_true rfl) (jk_n (fun v h8 hp8 fr8 => ?_)) jk_x
                            obtain ⟨rfl, rfl⟩ := hp8
                            rw [hSet_New]
                            refine g_aret (pc := 185) dX9_expression_185 rfl (Or.inl ⟨_, rfl⟩) (Or.inr ⟨_, rfl⟩) ?_
                            have f8 : hFr (fun _ => False) h7 (hNew h7 (15, .inl [.ref s5, .ref oa, .ref ob]) 3) := (hFr.rf h7).new hwf
                            have f58 := f57.tr f8
                            rw [hla2] at hok2 hB
                            have hex : isEx (lF l) l.length 0 = true := w1.mpr ⟨hok, hnl, n32, hla2, hok2⟩
                            refine finS _ _ (f7.tr (fF f8)) (m7.tr (cMn.F f8)) ⟨by simp only [hNew_1]; omega, by simp only [hNew_2]; omega⟩ hex ?_
                            rw [w2 hex]
                            exact ⟨nm2, nm3, s5, κ5, oa, .ref ob, hNew_s _ _ _, j5n.fr f58 (fun z => z) (fun z => z) (fun z => z), k5, hA5.kp f58 cNS.F (cMn.F f58), Or.inr ⟨_, ob, rfl, rfl, hB.kp f8 cNS.F (cMn.F f8)⟩⟩
                          · exact bad7 (fun z => by have := (w1.mp z).2.2.2.1; omega) _
                      · omega
                    · exact bad5 (fun z => q126 (w1.mp z).2.2.1) _
              · omega
          · omega
        · refine bad (fun z => ?_) _
          rw [ex_2 he0 hlt (Or.inr q40)] at z
          cases z
    · omega
  · rw [q11] at he0
    obtain ⟨w1, w2⟩ := ex_1 he0
    refine g_aload_n (pc := 14) dX9_expression_14 rfl rfl ?_
    refine g_invS (pc := 15) dX9_expression_15 (pa_operand d hs hκ hL (by omega) (by omega)) meX9_operand q1167 q1168 rfl rfl (Nat.le_of_ble_eq_true rfl) (by first | exact jF | exact fun _ z => z | assumption | (intro κ z; simp_all)) (jk_n (fun v h1 hp1 fr1 => ?_)) jk_x
    have hp1 := hp1.iff w1.symm (fun _ => rfl)
    obtain ⟨rm1, hp1⟩ := hp1
    have r11 := rm1.1
    have r12 := rm1.2
    rcases hp1 with ⟨rfl, hno⟩ | ⟨oa, rfl, hok, hA⟩
    · exact g_aret (pc := 18) dX9_expression_18 rfl (Or.inl ⟨_, rfl⟩) (Or.inl rfl) (finN _ (fF fr1) (cMn.F fr1) ⟨by omega, by omega⟩ hno)
    · refine g_aret (pc := 18) dX9_expression_18 rfl (Or.inl ⟨_, rfl⟩) (Or.inr ⟨_, rfl⟩) ?_
      refine finS _ _ (fF fr1) (cMn.F fr1) ⟨by omega, by omega⟩ hok ?_
      rw [w2]
      exact hA
end PX
