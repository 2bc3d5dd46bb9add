/-! COMPONENT 28: operands and where they end -/
set_option maxRecDepth 100000
section PC
variable {Z : hE} {h : hP} {κ a : Nat} {l : List Nat}
theorem pO.le {ok : Prop} {o : aO} {c s c' s' : Nat} {r : Option Value} {h' : hP} (x : pO h ok o c s r h') (h1 : c ≤ c') (h2 : s ≤ s') : pO h ok o c' s' r h' := ⟨x.1.le h1 h2, x.2⟩
theorem pO.iff {ok ok' : Prop} {o o' : aO} {c s : Nat} {r : Option Value} {h' : hP} (hk : ok ↔ ok') (ho : ok' → o = o') (x : pO h ok o c s r h') : pO h ok' o' c s r h' := by
  refine ⟨x.1, ?_⟩
  rcases x.2 with ⟨z1, z2⟩ | ⟨b, z1, z2, z3⟩
  · exact Or.inl ⟨z1, fun z => z2 (hk.mpr z)⟩
  · exact Or.inr ⟨b, z1, hk.mp z2, by rw [← ho (hk.mp z2)]; exact z3⟩
theorem pO.nr {ok : Prop} {o : aO} {c s : Nat} {r : Option Value} {h' : hP} (x : pO h ok o c s r h') : ∃ v, r = some v ∧ (v = .null ∨ ∃ b, v = .ref b) := by
  rcases x.2 with ⟨z1, z2⟩ | ⟨b, z1, z2, z3⟩
  · exact ⟨_, z1, Or.inl rfl⟩
  · exact ⟨_, z1, Or.inr ⟨b, rfl⟩⟩
theorem pa_operand (d : Nat) (hs : jSt h κ a l) (hκ : κ = 30 ∨ κ = 930) (hL : l.length ≤ 64) (l1 : h.1 + 400 ≤ hLC Z) (l2 : h.2.1 + 15000 ≤ hLS) : hCt Z mX9_operand (d + 9) (fun _ => False) [.ref a] h (jK (pO h (operE (lF l) l.length 0 = some l.length) (opO (lF l) l.length 0) (4 * l.length + 20) (200 * l.length + 300))) := by
  have kw := hs.cl
  have hs0 := hs
  obtain ⟨_, hc128, bw, κb, hs1, hz, hsw, _⟩ := hs0
  refine hCt.shr (S' := kAll) ?_
  refine hCt.of pnX9 rfl (Nat.le_of_ble_eq_true rfl) rfl (fun X => ?_)
  generalize hKK : (fun r h' => jK (pO h (operE (lF l) l.length 0 = some l.length) (opO (lF l) l.length 0) (4 * l.length + 20) (200 * l.length + 300)) r h' ∧ hFr (fun _ => False) h h') = KK
  have fin : ∀ v h', pO h (operE (lF l) l.length 0 = some l.length) (opO (lF l) l.length 0) (4 * l.length + 20) (200 * l.length + 300) v h' → hFr (fun _ => False) h h' → KK (.inl v) h' := fun v h' x f => by
    rw [← hKK]
    exact ⟨⟨v, rfl, x⟩, f⟩
  have hK0 : ∀ r h', jK (pO h (operE (lF l) l.length 0 = some l.length) (opO (lF l) l.length 0) (4 * l.length + 20) (200 * l.length + 300)) r h' → hFr (fun _ => False) h h' → KK r h' := fun r h' x f => by
    rw [← hKK]
    exact ⟨x, f⟩
  clear hKK
  have turn : ∀ (b : Bool) (w : List Nat), l = w → (w = [64, 105, 110, 100, 101, 120] ∧ b = false ∨ w = [64, 102, 105, 114, 115, 116] ∧ b = true) → operE (lF l) l.length 0 = some l.length ∧ opO (lF l) l.length 0 = .inl b := by
    intro b w hl hw
    subst hl
    rcases hw with ⟨z, rfl⟩ | ⟨z, rfl⟩ <;> subst z <;> exact ⟨by decide, by decide⟩
  refine g_aload_n (pc := 0) dX9_operand_0 rfl rfl ?_
  refine g_ldcK (pc := 1) dX9_operand_1 ksX9_215 (fun hk1 => ?_)
  refine g_invV (pc := 3) dX9_operand_3 hsw kw (jc_equals (d + 7) 930 _ _ hs hk1) meJ9_equals q1148 q965 q966 rfl rfl (Nat.le_of_ble_eq_true rfl) (by first | exact jF | exact fun _ z => z | assumption | (intro κ z; simp_all)) (jk_e ?_) jk_x
  by_cases e0 : l = [64, 105, 110, 100, 101, 120]
  · obtain ⟨t1, t2⟩ := turn false _ e0 (Or.inl ⟨rfl, rfl⟩)
    rw [decide_eq_true e0]
    refine g_if_eq (pc := 6) (tgt := 18) dX9_operand_6 rfl (fun q_ => absurd q_ (by decide)) (fun _ => ?_)
    refine g_new (pc := 9) (r := (RX12, TX12, 1)) (fs := [.int (nI 0)]) 12 dX9_operand_9 rfl (by decide) q1171 q1172 q109 rfl (by first | omega | (simp only [hNew_1, hNew_2, hSet_1, hSet_2]; omega)) (by first | omega | (simp only [hNew_1, hNew_2, hSet_1, hSet_2]; omega)) (fun hwf => ?_)
    have n1 := hNew_s h (12, .inl [.int (nI 0)]) 1
    refine g_dup (pc := 12) dX9_operand_12 rfl ?_
    refine g_iconst (pc := 13) (v := nI 0) dX9_operand_13 rfl ?_
    refine g_invIN (pc := 14) dX9_operand_14 (ci_X12 (d + 6) false _ n1) meX12_init rfl rfl q1173 q1174 rfl rfl (Nat.le_of_ble_eq_true rfl) (fun κ z => by rw [z]; exact Nat.le_of_ble_eq_true rfl) (jk_n (fun v h3 hp3 fr3 => ?_)) jk_x
    obtain ⟨rfl, rfl⟩ := hp3
    rw [hSet_New]
    refine g_aret (pc := 17) dX9_operand_17 rfl (Or.inl ⟨_, rfl⟩) (Or.inr ⟨_, rfl⟩) ?_
    refine fin _ _ ⟨⟨by simp only [hNew_1]; omega, by simp only [hNew_2]; omega⟩, Or.inr ⟨_, rfl, t1, ?_⟩⟩ ((hFr.rf h).new hwf)
    rw [t2]
    exact hNew_s _ _ _
  rw [decide_eq_false e0]
  refine g_if_eq (pc := 6) (tgt := 18) dX9_operand_6 rfl (fun _ => ?_) (fun q_ => absurd rfl q_)
  refine g_aload_n (pc := 18) dX9_operand_18 rfl rfl ?_
  refine g_ldcK (pc := 19) dX9_operand_19 ksX9_222 (fun hk2 => ?_)
  refine g_invV (pc := 21) dX9_operand_21 hsw kw (jc_equals (d + 7) 930 _ _ hs hk2) meJ9_equals q1148 q965 q966 rfl rfl (Nat.le_of_ble_eq_true rfl) (by first | exact jF | exact fun _ z => z | assumption | (intro κ z; simp_all)) (jk_e ?_) jk_x
  by_cases e1 : l = [64, 102, 105, 114, 115, 116]
  · obtain ⟨t1, t2⟩ := turn true _ e1 (Or.inr ⟨rfl, rfl⟩)
    rw [decide_eq_true e1]
    refine g_if_eq (pc := 24) (tgt := 36) dX9_operand_24 rfl (fun q_ => absurd q_ (by decide)) (fun _ => ?_)
    refine g_new (pc := 27) (r := (RX12, TX12, 1)) (fs := [.int (nI 0)]) 12 dX9_operand_27 rfl (by decide) q1171 q1172 q109 rfl (by first | omega | (simp only [hNew_1, hNew_2, hSet_1, hSet_2]; omega)) (by first | omega | (simp only [hNew_1, hNew_2, hSet_1, hSet_2]; omega)) (fun hwf => ?_)
    have n1 := hNew_s h (12, .inl [.int (nI 0)]) 1
    refine g_dup (pc := 30) dX9_operand_30 rfl ?_
    refine g_iconst (pc := 31) (v := nI 1) dX9_operand_31 rfl ?_
    refine g_invIN (pc := 32) dX9_operand_32 (ci_X12 (d + 6) true _ n1) meX12_init rfl rfl q1173 q1174 rfl rfl (Nat.le_of_ble_eq_true rfl) (fun κ z => by rw [z]; exact Nat.le_of_ble_eq_true rfl) (jk_n (fun v h3 hp3 fr3 => ?_)) jk_x
    obtain ⟨rfl, rfl⟩ := hp3
    rw [hSet_New]
    refine g_aret (pc := 35) dX9_operand_35 rfl (Or.inl ⟨_, rfl⟩) (Or.inr ⟨_, rfl⟩) ?_
    refine fin _ _ ⟨⟨by simp only [hNew_1]; omega, by simp only [hNew_2]; omega⟩, Or.inr ⟨_, rfl, t1, ?_⟩⟩ ((hFr.rf h).new hwf)
    rw [t2]
    exact hNew_s _ _ _
  rw [decide_eq_false e1]
  refine g_if_eq (pc := 24) (tgt := 36) dX9_operand_24 rfl (fun _ => ?_) (fun q_ => absurd rfl q_)
  refine g_aload_n (pc := 36) dX9_operand_36 rfl rfl ?_
  refine g_ldcK (pc := 37) dX9_operand_37 ksX9_183 (fun hk3 => ?_)
  refine g_iconst (pc := 39) (v := nI 0) dX9_operand_39 rfl ?_
  refine g_invSN (pc := 40) dX9_operand_40 (cs_starts (d + 4) 930 _ 0 _ hs hk3 (by decide) (by decide) (by omega) (by decide) (by decide)) meX1_starts q1120 q1121 rfl rfl (Nat.le_of_ble_eq_true rfl) (by first | exact jF | exact fun _ z => z | assumption | (intro κ z; simp_all)) (jk_e ?_) jk_x
  by_cases h0 : 0 < l.length
  · by_cases h34 : lF l 0 = 34
    · rw [show stB (fun i => l.getD i 0) l.length 0 [34] = true from (st1_t h0).mpr h34]
      refine g_if_eq (pc := 43) (tgt := 51) dX9_operand_43 rfl (fun q_ => absurd q_ (by decide)) (fun _ => ?_)
      refine g_aload_n (pc := 46) dX9_operand_46 rfl rfl ?_
      refine g_invS (pc := 47) dX9_operand_47 (pa_quoted (d + 3) hs h0 hL h34 (by omega) (by omega)) meX9_quoted q1182 q1183 rfl rfl (Nat.le_of_ble_eq_true rfl) (by first | exact jF | exact fun _ z => z | assumption | (intro κ z; simp_all)) (jk_n (fun v h3 hp3 fr3 => ?_)) jk_x
      obtain ⟨w, rfl, hw⟩ := hp3.nr
      refine g_aret (pc := 50) dX9_operand_50 rfl (Or.inl ⟨_, rfl⟩) hw ?_
      exact fin _ _ (hp3.le (by omega) (by omega)) fr3
    · rw [show stB (fun i => l.getD i 0) l.length 0 [34] = false from (st1_f h0).mpr h34]
      refine g_if_eq (pc := 43) (tgt := 51) dX9_operand_43 rfl (fun _ => ?_) (fun q_ => absurd rfl q_)
      refine g_aload_n (pc := 51) dX9_operand_51 rfl rfl ?_
      refine g_invV (pc := 52) dX9_operand_52 hsw kw (jc_isEmpty (d + 8) hs) meJ9_isEmpty q1129 q957 q958 rfl rfl (Nat.le_of_ble_eq_true rfl) (by first | exact jF | exact fun _ z => z | assumption | (intro κ z; simp_all)) (jk_e ?_) jk_x
      rw [decide_eq_false (show ¬ l = [] from fun z => by rw [z] at h0; exact absurd h0 (Nat.lt_irrefl _))]
      refine g_if_ne (pc := 55) (tgt := 83) dX9_operand_55 rfl (fun q_ => absurd rfl q_) (fun _ => ?_)
      have hc := hc128 _ (getD_mem (d := 0) h0)
      have path : ¬ isD (lF l 0) = true → hG Z X mX9_operand (d + 9) kAll h KK 83 [(0, .ref a)] [] h := by
        intro hnd
        have oe : operE (lF l) l.length 0 = pathE (lF l) l.length 0 := by
          unfold operE
          rw [if_neg (by rw [cA_eq h0]; exact h34), if_neg (by rw [cA_eq h0]; exact hnd)]
        have oo : opO (lF l) l.length 0 = pathO (lF l) l.length 0 := by
          unfold opO
          rw [if_neg h34, if_neg hnd]
        have ok : pathW (lF l) l.length = some l.length ↔ operE (lF l) l.length 0 = some l.length := by
          rw [oe]
          by_cases h64 : lF l 0 = 64
          · rw [pw_at h64]
            refine ⟨fun z => (by cases z), fun z => ?_⟩
            exfalso
            obtain ⟨p1, p2⟩ := path_at h64 z
            unfold pathE at z
            split at z
            · rename_i hst
              rw [Bool.or_eq_true] at hst
              rcases hst with y | y
              · exact e0 ((stB_full (by decide) (by decide)).mpr ⟨by simp; omega, y⟩)
              · exact e1 ((stB_full (by decide) (by decide)).mpr ⟨by simp; omega, y⟩)
            · have hu : upF (lF l) l.length l.length 0 = 0 := upF_no (by omega) _
              have hl0 : lts (lF l) l.length 0 = 0 := lts_stop (by rw [cA_eq h0, h64]; rfl)
              dsimp only at z
              rw [hu, hl0, if_pos (by omega)] at z
              cases z
          · rw [pathE_W (by rw [cA_eq h0]; exact h64)]
        have ox : operE (lF l) l.length 0 = some l.length → pathX (lF l) l.length = opO (lF l) l.length 0 := fun z => by
          rw [oo]
          have h64 : lF l 0 ≠ 64 := fun y => by
            have := ok.mpr z
            rw [pw_at y] at this
            cases this
          unfold pathX pathO
          rw [if_neg h64, Nat.sub_zero]
        refine g_aload_n (pc := 83) dX9_operand_83 rfl rfl ?_
        refine g_invS (pc := 84) dX9_operand_84 (pa_path d hs hκ hL (by omega) (by omega)) meX9_path q1217 q1218 rfl rfl (Nat.le_of_ble_eq_true rfl) (by first | exact jF | exact fun _ z => z | assumption | (intro κ z; simp_all)) (jk_n (fun v h3 hp3 fr3 => ?_)) jk_x
        obtain ⟨w, rfl, hw⟩ := hp3.nr
        refine g_aret (pc := 87) dX9_operand_87 rfl (Or.inl ⟨_, rfl⟩) hw ?_
        exact fin _ _ (hp3.iff ok ox) fr3
      refine g_aload_n (pc := 58) dX9_operand_58 rfl rfl ?_
      refine g_iconst (pc := 59) (v := nI 0) dX9_operand_59 rfl ?_
      refine g_invV (pc := 60) dX9_operand_60 hsw kw (jc_charAt (d + 5) 0 hs h0) meJ9_charAt q1164 q942 q943 rfl rfl (Nat.le_of_ble_eq_true rfl) (by first | exact jF | exact fun _ z => z | assumption | (intro κ z; simp_all)) (jk_e ?_) jk_x
      refine g_bipush (pc := 63) (v := nI 48) dX9_operand_63 rfl ?_
      refine g_icmp_ltN (pc := 65) (tgt := 83) dX9_operand_65 rfl (by omega) (by omega) (fun q1 => ?_) (fun q1 => ?_)
      · exact path (fun z => by have := (isD_iff (c := l.getD 0 0)).mp z; omega)
      · refine g_aload_n (pc := 68) dX9_operand_68 rfl rfl ?_
        refine g_iconst (pc := 69) (v := nI 0) dX9_operand_69 rfl ?_
        refine g_invV (pc := 70) dX9_operand_70 hsw kw (jc_charAt (d + 5) 0 hs h0) meJ9_charAt q1164 q942 q943 rfl rfl (Nat.le_of_ble_eq_true rfl) (by first | exact jF | exact fun _ z => z | assumption | (intro κ z; simp_all)) (jk_e ?_) jk_x
        refine g_bipush (pc := 73) (v := nI 57) dX9_operand_73 rfl ?_
        refine g_icmp_gtN (pc := 75) (tgt := 83) dX9_operand_75 rfl (by omega) (by omega) (fun q2 => ?_) (fun q2 => ?_)
        · exact path (fun z => by have := (isD_iff (c := l.getD 0 0)).mp z; omega)
        · refine g_aload_n (pc := 78) dX9_operand_78 rfl rfl ?_
          refine g_invS (pc := 79) dX9_operand_79 (pa_numeral (d + 4) hs h0 hL ((isD_iff (c := l.getD 0 0)).mpr (by omega)) (by omega) (by omega)) meX9_numeral q1212 q1213 rfl rfl (Nat.le_of_ble_eq_true rfl) (by first | exact jF | exact fun _ z => z | assumption | (intro κ z; simp_all)) (jk_n (fun v h3 hp3 fr3 => ?_)) jk_x
          obtain ⟨w, rfl, hw⟩ := hp3.nr
          refine g_aret (pc := 82) dX9_operand_82 rfl (Or.inl ⟨_, rfl⟩) hw ?_
          exact fin _ _ (hp3.le (by omega) (by omega)) fr3
  · have hl : l = [] := List.eq_nil_of_length_eq_zero (by omega)
    subst hl
    refine g_if_eq (pc := 43) (tgt := 51) dX9_operand_43 rfl (fun _ => ?_) (fun q_ => absurd rfl q_)
    refine g_aload_n (pc := 51) dX9_operand_51 rfl rfl ?_
    refine g_invV (pc := 52) dX9_operand_52 hsw kw (jc_isEmpty (d + 8) hs) meJ9_isEmpty q1129 q957 q958 rfl rfl (Nat.le_of_ble_eq_true rfl) (by first | exact jF | exact fun _ z => z | assumption | (intro κ z; simp_all)) (jk_e ?_) jk_x
    refine g_if_ne (pc := 55) (tgt := 83) dX9_operand_55 rfl (fun _ => ?_) (fun q_ => absurd q_ (by decide))
    refine g_aload_n (pc := 83) dX9_operand_83 rfl rfl ?_
    refine g_invS (pc := 84) dX9_operand_84 (pa_path d hs hκ hL (by omega) (by omega)) meX9_path q1217 q1218 rfl rfl (Nat.le_of_ble_eq_true rfl) (by first | exact jF | exact fun _ z => z | assumption | (intro κ z; simp_all)) (jk_n (fun v h3 hp3 fr3 => ?_)) jk_x
    obtain ⟨w, rfl, hw⟩ := hp3.nr
    refine g_aret (pc := 87) dX9_operand_87 rfl (Or.inl ⟨_, rfl⟩) hw ?_
    refine fin _ _ (hp3.iff ?_ ?_) fr3
    · exact ⟨fun z => absurd z (by decide), fun z => absurd z (by decide)⟩
    · exact fun z => absurd z (by decide)
theorem pa_opEnd (d k : Nat) (hs : jSt h κ a l) (hL : l.length ≤ 64) (hk : k ≤ l.length) : jP Z mX9_operandEnd (d + 4) [.ref a, .int (nI k)] h (some (.int (nI (opEnd l k)))) := by
  have kw := hs.cl
  have hs0 := hs
  obtain ⟨_, hc128, bw, κb, hs1, hz, hsw, _⟩ := hs0
  refine jC.of pnX9 rfl (Nat.le_of_ble_eq_true rfl) rfl (fun X => ?_)
  have bl : ¬ (k < l.length ∧ lF l k = 34) → hG Z X mX9_operandEnd (d + 4) (fun _ => False) h (jK (fun v h' => v = some (.int (nI (opEnd l k))) ∧ h' = h)) 43 [(0, .ref a), (1, .int (nI k))] [] h := by
    intro hb
    refine g_aload_n (pc := 43) dX9_operandEnd_43 rfl rfl ?_
    refine g_ldcK (pc := 44) dX9_operandEnd_44 ksX9_185 (fun hk1 => ?_)
    refine g_iload_n (pc := 46) dX9_operandEnd_46 rfl rfl ?_
    refine g_invV (pc := 47) dX9_operandEnd_47 hsw kw (jc_indexOf d 930 _ k _ hs hk1 (by decide) (by decide) hk (by omega) (by decide)) meJ9_indexOf q1051 q1052 q1053 rfl rfl (Nat.le_of_ble_eq_true rfl) (by first | exact jF | exact fun _ z => z | assumption | (intro κ z; simp_all)) (jk_e ?_) jk_x
    unfold opEnd
    rw [if_neg hb]
    cases hx : ixO l [32] k with
    | none =>
      refine g_istore_n (pc := 50) (ls' := [(0, _), (1, _), (2, _)]) dX9_operandEnd_50 rfl (Nat.le_of_ble_eq_true rfl) rfl ?_
      refine g_iload_n (pc := 51) dX9_operandEnd_51 rfl rfl ?_
      refine g_if_ge (pc := 52) (tgt := 62) dX9_operandEnd_52 rfl (fun z => absurd z (by decide)) (fun _ => ?_)
      refine g_aload_n (pc := 55) dX9_operandEnd_55 rfl rfl ?_
      refine g_invV (pc := 56) dX9_operandEnd_56 hsw kw (jc_length (d + 2) hs) meJ9_length q1118 q301 q302 rfl rfl (Nat.le_of_ble_eq_true rfl) (by first | exact jF | exact fun _ z => z | assumption | (intro κ z; simp_all)) (jk_e ?_) jk_x
      refine g_goto (pc := 59) (tgt := 63) dX9_operandEnd_59 rfl ?_
      exact g_iret (pc := 63) dX9_operandEnd_63 rfl ⟨_, rfl, rfl, rfl⟩
    | some b =>
      have := (ixO_inv hx).2.1
      show hG Z X mX9_operandEnd (d + 4) _ h _ 50 [(0, .ref a), (1, .int (nI k))] [.int (nI b)] h
      refine g_istore_n (pc := 50) (ls' := [(0, _), (1, _), (2, _)]) dX9_operandEnd_50 rfl (Nat.le_of_ble_eq_true rfl) rfl ?_
      refine g_iload_n (pc := 51) dX9_operandEnd_51 rfl rfl ?_
      refine g_if_geN (pc := 52) (tgt := 62) (a := b) dX9_operandEnd_52 rfl (by omega) ?_
      refine g_iload_n (pc := 62) dX9_operandEnd_62 rfl rfl ?_
      exact g_iret (pc := 63) dX9_operandEnd_63 rfl ⟨_, rfl, rfl, rfl⟩
  refine g_iload_n (pc := 0) dX9_operandEnd_0 rfl rfl ?_
  refine g_aload_n (pc := 1) dX9_operandEnd_1 rfl rfl ?_
  refine g_invV (pc := 2) dX9_operandEnd_2 hsw kw (jc_length (d + 2) hs) meJ9_length q1118 q301 q302 rfl rfl (Nat.le_of_ble_eq_true rfl) (by first | exact jF | exact fun _ z => z | assumption | (intro κ z; simp_all)) (jk_e ?_) jk_x
  refine g_icmp_geN (pc := 5) (tgt := 43) dX9_operandEnd_5 rfl (by omega) (by omega) (fun q1 => ?_) (fun q1 => ?_)
  · exact bl (fun z => by omega)
  · have hkl : k < l.length := by omega
    have hc := hc128 _ (getD_mem (d := 0) hkl)
    refine g_aload_n (pc := 8) dX9_operandEnd_8 rfl rfl ?_
    refine g_iload_n (pc := 9) dX9_operandEnd_9 rfl rfl ?_
    refine g_invV (pc := 10) dX9_operandEnd_10 hsw kw (jc_charAt d k hs hkl) meJ9_charAt q1164 q942 q943 rfl rfl (Nat.le_of_ble_eq_true rfl) (by first | exact jF | exact fun _ z => z | assumption | (intro κ z; simp_all)) (jk_e ?_) jk_x
    refine g_bipush (pc := 13) (v := nI 34) dX9_operandEnd_13 rfl ?_
    refine g_icmp_neN (pc := 15) (tgt := 43) dX9_operandEnd_15 rfl (by omega) (by omega) (fun q2 => ?_) (fun q2 => ?_)
    · exact bl (fun z => q2 z.2)
    · refine g_aload_n (pc := 18) dX9_operandEnd_18 rfl rfl ?_
      refine g_ldcK (pc := 19) dX9_operandEnd_19 ksX9_183 (fun hk1 => ?_)
      refine g_iload_n (pc := 21) dX9_operandEnd_21 rfl rfl ?_
      refine g_iconst (pc := 22) (v := nI 1) dX9_operandEnd_22 rfl ?_
      first | refine g_iaddN (pc := 23) dX9_operandEnd_23 ?_ | refine g_iadd (pc := 23) dX9_operandEnd_23 ?_
      refine g_invV (pc := 24) dX9_operandEnd_24 hsw kw (jc_indexOf d 930 _ (k + 1) _ hs hk1 (by decide) (by decide) (by omega) (by omega) (by decide)) meJ9_indexOf q1051 q1052 q1053 rfl rfl (Nat.le_of_ble_eq_true rfl) (by first | exact jF | exact fun _ z => z | assumption | (intro κ z; simp_all)) (jk_e ?_) jk_x
      unfold opEnd
      rw [if_pos ⟨hkl, q2⟩]
      cases hx : ixO l [34] (k + 1) with
      | none =>
        refine g_istore_n (pc := 27) (ls' := [(0, _), (1, _), (2, _)]) dX9_operandEnd_27 rfl (Nat.le_of_ble_eq_true rfl) rfl ?_
        refine g_iload_n (pc := 28) dX9_operandEnd_28 rfl rfl ?_
        refine g_if_ge (pc := 29) (tgt := 39) dX9_operandEnd_29 rfl (fun z => absurd z (by decide)) (fun _ => ?_)
        refine g_aload_n (pc := 32) dX9_operandEnd_32 rfl rfl ?_
        refine g_invV (pc := 33) dX9_operandEnd_33 hsw kw (jc_length (d + 2) hs) meJ9_length q1118 q301 q302 rfl rfl (Nat.le_of_ble_eq_true rfl) (by first | exact jF | exact fun _ z => z | assumption | (intro κ z; simp_all)) (jk_e ?_) jk_x
        refine g_goto (pc := 36) (tgt := 42) dX9_operandEnd_36 rfl ?_
        exact g_iret (pc := 42) dX9_operandEnd_42 rfl ⟨_, rfl, rfl, rfl⟩
      | some b =>
        have := (ixO_inv hx).2.1
        show hG Z X mX9_operandEnd (d + 4) _ h _ 27 [(0, .ref a), (1, .int (nI k))] [.int (nI b)] h
        refine g_istore_n (pc := 27) (ls' := [(0, _), (1, _), (2, _)]) dX9_operandEnd_27 rfl (Nat.le_of_ble_eq_true rfl) rfl ?_
        refine g_iload_n (pc := 28) dX9_operandEnd_28 rfl rfl ?_
        refine g_if_geN (pc := 29) (tgt := 39) (a := b) dX9_operandEnd_29 rfl (by omega) ?_
        refine g_iload_n (pc := 39) dX9_operandEnd_39 rfl rfl ?_
        refine g_iconst (pc := 40) (v := nI 1) dX9_operandEnd_40 rfl ?_
        first | refine g_iaddN (pc := 41) dX9_operandEnd_41 ?_ | refine g_iadd (pc := 41) dX9_operandEnd_41 ?_
        exact g_iret (pc := 42) dX9_operandEnd_42 rfl ⟨_, rfl, rfl, rfl⟩
theorem pa_operands (d : Nat) (hs : jSt h κ a l) (hκ : κ = 130 ∨ κ = 930) (hL : l.length ≤ 64) : jC Z mX9_operands (d + 4) (fun κ => κ = 130) [.ref a] h (fun v h' => v = some (.int (nI (opN l))) ∧ h'.1 = h.1 ∧ h'.2.1 = h.2.1 ∧ ∀ κ' a' l', jSt h κ' a' l' → jSt h' κ' a' l') := by
  have kw := hs.cl
  have hs0 := hs
  obtain ⟨_, hc128, bw, κb, hs1, hz, hsw, _⟩ := hs0
  refine jC.of pnX9 rfl (Nat.le_of_ble_eq_true rfl) rfl (fun X => ?_)
  refine g_aload_n (pc := 0) dX9_operands_0 rfl rfl ?_
  refine g_astore_n (pc := 1) (ls' := [(0, _), (1, _)]) dX9_operands_1 rfl (Nat.le_of_ble_eq_true rfl) rfl ?_
  refine g_iconst (pc := 2) (v := (-1)) dX9_operands_2 rfl ?_
  refine g_istore_n (pc := 3) (ls' := [(0, _), (1, _), (2, _)]) dX9_operands_3 rfl (Nat.le_of_ble_eq_true rfl) rfl ?_
  refine g_aload_n (pc := 4) dX9_operands_4 rfl rfl ?_
  refine g_invV (pc := 5) dX9_operands_5 hsw kw (jc_hashCode d hs hκ (by omega)) meJ9_hashCode q1243 q1244 q1245 rfl rfl (Nat.le_of_ble_eq_true rfl) (by first | exact jF | exact fun _ z => z | assumption | (intro κ z; simp_all)) (jk_n (fun v h1 hp1 fr1 => ?_)) jk_x
  obtain ⟨rfl, x1, x2, x3, x4⟩ := hp1
  have kx := x1.cl
  have x10 := x1
  obtain ⟨_, _, bw', κb', hs1', hz', hsw', _⟩ := x10
  have non : hpNm l = 0 → hG Z X mX9_operands (d + 4) (fun κ => κ = 130) h (jK (fun v h' => v = some (.int (nI (opN l))) ∧ h'.1 = h.1 ∧ h'.2.1 = h.2.1 ∧ ∀ κ' a' l', jSt h κ' a' l' → jSt h' κ' a' l')) 149 [(0, .ref a), (1, .ref a), (2, .int (-1))] [] h1 := by
    intro hn
    refine g_iload_n (pc := 149) dX9_operands_149 rfl rfl ?_
    refine g_tableOut (pc := 150) (tgt := 192) dX9_operands_150 (by decide) rfl ?_
    refine g_iconst (pc := 192) (v := nI 0) dX9_operands_192 rfl ?_
    exact g_iret (pc := 193) dX9_operands_193 rfl ⟨_, rfl, by unfold opN; rw [if_pos hn], x2, x3, x4⟩
  by_cases e1 : hsh l = 3739
  · rw [e1]
    refine g_lookup (pc := 8) (off := 60) (tgt := 68) dX9_operands_8 (by decide) (by decide +kernel) rfl ?_
    refine g_aload_n (pc := 68) dX9_operands_68 rfl rfl ?_
    refine g_ldcK (pc := 69) dX9_operands_69 ksX9_190 (fun hk => ?_)
    refine g_invV (pc := 71) dX9_operands_71 hsw' kx (jc_equals (d + 2) 930 _ _ x1 hk) meJ9_equals q1148 q965 q966 rfl rfl (Nat.le_of_ble_eq_true rfl) (by first | exact jF | exact fun _ z => z | assumption | (intro κ z; simp_all)) (jk_e ?_) jk_x
    by_cases w : l = nmH 1
    · rw [decide_eq_true (show l = [117, 112] from w)]
      refine g_if_eq (pc := 74) (tgt := 149) dX9_operands_74 rfl (fun q_ => absurd q_ (by decide)) (fun _ => ?_)
      refine g_iconst (pc := 77) (v := nI 0) dX9_operands_77 rfl ?_
      refine g_istore_n (pc := 78) (ls' := [(0, _), (1, _), (2, _)]) dX9_operands_78 rfl (Nat.le_of_ble_eq_true rfl) rfl ?_
      refine g_goto (pc := 79) (tgt := 149) dX9_operands_79 rfl ?_
      refine g_iload_n (pc := 149) dX9_operands_149 rfl rfl ?_
      refine g_tableIn (pc := 150) (tgt := 188) dX9_operands_150 (by decide) (by decide) rfl rfl ?_
      refine g_iconst (pc := 188) (v := nI 1) dX9_operands_188 rfl ?_
      exact g_iret (pc := 189) dX9_operands_189 rfl ⟨_, rfl, by rw [w]; decide, x2, x3, x4⟩
    · rw [decide_eq_false (show ¬ l = [117, 112] from w)]
      refine g_if_eq (pc := 74) (tgt := 149) dX9_operands_74 rfl (fun _ => ?_) (fun q_ => absurd rfl q_)
      refine non ?_
      cases hq : hpNm l with
      | zero => rfl
      | succ q0 =>
        exfalso
        obtain ⟨z1, z2, z3⟩ := hpNm_nm (l := l) (by omega)
        rw [hq] at z1 z2 z3
        rw [z1] at e1 w
        rcases (show q0 = 0 ∨ q0 = 1 ∨ q0 = 2 ∨ q0 = 3 ∨ q0 = 4 ∨ q0 = 5 by omega) with y | y | y | y | y | y <;> subst y <;> first | exact absurd rfl w | exact absurd e1 (by decide)
  by_cases e2 : hsh l = 107029
  · rw [e2]
    refine g_lookup (pc := 8) (off := 74) (tgt := 82) dX9_operands_8 (by decide) (by decide +kernel) rfl ?_
    refine g_aload_n (pc := 82) dX9_operands_82 rfl rfl ?_
    refine g_ldcK (pc := 83) dX9_operands_83 ksX9_192 (fun hk => ?_)
    refine g_invV (pc := 85) dX9_operands_85 hsw' kx (jc_equals (d + 2) 930 _ _ x1 hk) meJ9_equals q1148 q965 q966 rfl rfl (Nat.le_of_ble_eq_true rfl) (by first | exact jF | exact fun _ z => z | assumption | (intro κ z; simp_all)) (jk_e ?_) jk_x
    by_cases w : l = nmH 2
    · rw [decide_eq_true (show l = [108, 101, 110] from w)]
      refine g_if_eq (pc := 88) (tgt := 149) dX9_operands_88 rfl (fun q_ => absurd q_ (by decide)) (fun _ => ?_)
      refine g_iconst (pc := 91) (v := nI 1) dX9_operands_91 rfl ?_
      refine g_istore_n (pc := 92) (ls' := [(0, _), (1, _), (2, _)]) dX9_operands_92 rfl (Nat.le_of_ble_eq_true rfl) rfl ?_
      refine g_goto (pc := 93) (tgt := 149) dX9_operands_93 rfl ?_
      refine g_iload_n (pc := 149) dX9_operands_149 rfl rfl ?_
      refine g_tableIn (pc := 150) (tgt := 188) dX9_operands_150 (by decide) (by decide) rfl rfl ?_
      refine g_iconst (pc := 188) (v := nI 1) dX9_operands_188 rfl ?_
      exact g_iret (pc := 189) dX9_operands_189 rfl ⟨_, rfl, by rw [w]; decide, x2, x3, x4⟩
    · rw [decide_eq_false (show ¬ l = [108, 101, 110] from w)]
      refine g_if_eq (pc := 88) (tgt := 149) dX9_operands_88 rfl (fun _ => ?_) (fun q_ => absurd rfl q_)
      refine non ?_
      cases hq : hpNm l with
      | zero => rfl
      | succ q0 =>
        exfalso
        obtain ⟨z1, z2, z3⟩ := hpNm_nm (l := l) (by omega)
        rw [hq] at z1 z2 z3
        rw [z1] at e2 w
        rcases (show q0 = 0 ∨ q0 = 1 ∨ q0 = 2 ∨ q0 = 3 ∨ q0 = 4 ∨ q0 = 5 by omega) with y | y | y | y | y | y <;> subst y <;> first | exact absurd rfl w | exact absurd e2 (by decide)
  by_cases e3 : hsh l = 109267
  · rw [e3]
    refine g_lookup (pc := 8) (off := 88) (tgt := 96) dX9_operands_8 (by decide) (by decide +kernel) rfl ?_
    refine g_aload_n (pc := 96) dX9_operands_96 rfl rfl ?_
    refine g_ldcK (pc := 97) dX9_operands_97 ksX9_194 (fun hk => ?_)
    refine g_invV (pc := 99) dX9_operands_99 hsw' kx (jc_equals (d + 2) 930 _ _ x1 hk) meJ9_equals q1148 q965 q966 rfl rfl (Nat.le_of_ble_eq_true rfl) (by first | exact jF | exact fun _ z => z | assumption | (intro κ z; simp_all)) (jk_e ?_) jk_x
    by_cases w : l = nmH 3
    · rw [decide_eq_true (show l = [110, 111, 116] from w)]
      refine g_if_eq (pc := 102) (tgt := 149) dX9_operands_102 rfl (fun q_ => absurd q_ (by decide)) (fun _ => ?_)
      refine g_iconst (pc := 105) (v := nI 2) dX9_operands_105 rfl ?_
      refine g_istore_n (pc := 106) (ls' := [(0, _), (1, _), (2, _)]) dX9_operands_106 rfl (Nat.le_of_ble_eq_true rfl) rfl ?_
      refine g_goto (pc := 107) (tgt := 149) dX9_operands_107 rfl ?_
      refine g_iload_n (pc := 149) dX9_operands_149 rfl rfl ?_
      refine g_tableIn (pc := 150) (tgt := 188) dX9_operands_150 (by decide) (by decide) rfl rfl ?_
      refine g_iconst (pc := 188) (v := nI 1) dX9_operands_188 rfl ?_
      exact g_iret (pc := 189) dX9_operands_189 rfl ⟨_, rfl, by rw [w]; decide, x2, x3, x4⟩
    · rw [decide_eq_false (show ¬ l = [110, 111, 116] from w)]
      refine g_if_eq (pc := 102) (tgt := 149) dX9_operands_102 rfl (fun _ => ?_) (fun q_ => absurd rfl q_)
      refine non ?_
      cases hq : hpNm l with
      | zero => rfl
      | succ q0 =>
        exfalso
        obtain ⟨z1, z2, z3⟩ := hpNm_nm (l := l) (by omega)
        rw [hq] at z1 z2 z3
        rw [z1] at e3 w
        rcases (show q0 = 0 ∨ q0 = 1 ∨ q0 = 2 ∨ q0 = 3 ∨ q0 = 4 ∨ q0 = 5 by omega) with y | y | y | y | y | y <;> subst y <;> first | exact absurd rfl w | exact absurd e3 (by decide)
  by_cases e4 : hsh l = 96417
  · rw [e4]
    refine g_lookup (pc := 8) (off := 102) (tgt := 110) dX9_operands_8 (by decide) (by decide +kernel) rfl ?_
    refine g_aload_n (pc := 110) dX9_operands_110 rfl rfl ?_
    refine g_ldcK (pc := 111) dX9_operands_111 ksX9_196 (fun hk => ?_)
    refine g_invV (pc := 113) dX9_operands_113 hsw' kx (jc_equals (d + 2) 930 _ _ x1 hk) meJ9_equals q1148 q965 q966 rfl rfl (Nat.le_of_ble_eq_true rfl) (by first | exact jF | exact fun _ z => z | assumption | (intro κ z; simp_all)) (jk_e ?_) jk_x
    by_cases w : l = nmH 4
    · rw [decide_eq_true (show l = [97, 100, 100] from w)]
      refine g_if_eq (pc := 116) (tgt := 149) dX9_operands_116 rfl (fun q_ => absurd q_ (by decide)) (fun _ => ?_)
      refine g_iconst (pc := 119) (v := nI 3) dX9_operands_119 rfl ?_
      refine g_istore_n (pc := 120) (ls' := [(0, _), (1, _), (2, _)]) dX9_operands_120 rfl (Nat.le_of_ble_eq_true rfl) rfl ?_
      refine g_goto (pc := 121) (tgt := 149) dX9_operands_121 rfl ?_
      refine g_iload_n (pc := 149) dX9_operands_149 rfl rfl ?_
      refine g_tableIn (pc := 150) (tgt := 190) dX9_operands_150 (by decide) (by decide) rfl rfl ?_
      refine g_iconst (pc := 190) (v := nI 2) dX9_operands_190 rfl ?_
      exact g_iret (pc := 191) dX9_operands_191 rfl ⟨_, rfl, by rw [w]; decide, x2, x3, x4⟩
    · rw [decide_eq_false (show ¬ l = [97, 100, 100] from w)]
      refine g_if_eq (pc := 116) (tgt := 149) dX9_operands_116 rfl (fun _ => ?_) (fun q_ => absurd rfl q_)
      refine non ?_
      cases hq : hpNm l with
      | zero => rfl
      | succ q0 =>
        exfalso
        obtain ⟨z1, z2, z3⟩ := hpNm_nm (l := l) (by omega)
        rw [hq] at z1 z2 z3
        rw [z1] at e4 w
        rcases (show q0 = 0 ∨ q0 = 1 ∨ q0 = 2 ∨ q0 = 3 ∨ q0 = 4 ∨ q0 = 5 by omega) with y | y | y | y | y | y <;> subst y <;> first | exact absurd rfl w | exact absurd e4 (by decide)
  by_cases e5 : hsh l = 3244
  · rw [e5]
    refine g_lookup (pc := 8) (off := 116) (tgt := 124) dX9_operands_8 (by decide) (by decide +kernel) rfl ?_
    refine g_aload_n (pc := 124) dX9_operands_124 rfl rfl ?_
    refine g_ldcK (pc := 125) dX9_operands_125 ksX9_197 (fun hk => ?_)
    refine g_invV (pc := 127) dX9_operands_127 hsw' kx (jc_equals (d + 2) 930 _ _ x1 hk) meJ9_equals q1148 q965 q966 rfl rfl (Nat.le_of_ble_eq_true rfl) (by first | exact jF | exact fun _ z => z | assumption | (intro κ z; simp_all)) (jk_e ?_) jk_x
    by_cases w : l = nmH 5
    · rw [decide_eq_true (show l = [101, 113] from w)]
      refine g_if_eq (pc := 130) (tgt := 149) dX9_operands_130 rfl (fun q_ => absurd q_ (by decide)) (fun _ => ?_)
      refine g_iconst (pc := 133) (v := nI 4) dX9_operands_133 rfl ?_
      refine g_istore_n (pc := 134) (ls' := [(0, _), (1, _), (2, _)]) dX9_operands_134 rfl (Nat.le_of_ble_eq_true rfl) rfl ?_
      refine g_goto (pc := 135) (tgt := 149) dX9_operands_135 rfl ?_
      refine g_iload_n (pc := 149) dX9_operands_149 rfl rfl ?_
      refine g_tableIn (pc := 150) (tgt := 190) dX9_operands_150 (by decide) (by decide) rfl rfl ?_
      refine g_iconst (pc := 190) (v := nI 2) dX9_operands_190 rfl ?_
      exact g_iret (pc := 191) dX9_operands_191 rfl ⟨_, rfl, by rw [w]; decide, x2, x3, x4⟩
    · rw [decide_eq_false (show ¬ l = [101, 113] from w)]
      refine g_if_eq (pc := 130) (tgt := 149) dX9_operands_130 rfl (fun _ => ?_) (fun q_ => absurd rfl q_)
      refine non ?_
      cases hq : hpNm l with
      | zero => rfl
      | succ q0 =>
        exfalso
        obtain ⟨z1, z2, z3⟩ := hpNm_nm (l := l) (by omega)
        rw [hq] at z1 z2 z3
        rw [z1] at e5 w
        rcases (show q0 = 0 ∨ q0 = 1 ∨ q0 = 2 ∨ q0 = 3 ∨ q0 = 4 ∨ q0 = 5 by omega) with y | y | y | y | y | y <;> subst y <;> first | exact absurd rfl w | exact absurd e5 (by decide)
  by_cases e6 : hsh l = 3123
  · rw [e6]
    refine g_lookup (pc := 8) (off := 130) (tgt := 138) dX9_operands_8 (by decide) (by decide +kernel) rfl ?_
    refine g_aload_n (pc := 138) dX9_operands_138 rfl rfl ?_
    refine g_ldcK (pc := 139) dX9_operands_139 ksX9_199 (fun hk => ?_)
    refine g_invV (pc := 141) dX9_operands_141 hsw' kx (jc_equals (d + 2) 930 _ _ x1 hk) meJ9_equals q1148 q965 q966 rfl rfl (Nat.le_of_ble_eq_true rfl) (by first | exact jF | exact fun _ z => z | assumption | (intro κ z; simp_all)) (jk_e ?_) jk_x
    by_cases w : l = nmH 6
    · rw [decide_eq_true (show l = [97, 116] from w)]
      refine g_if_eq (pc := 144) (tgt := 149) dX9_operands_144 rfl (fun q_ => absurd q_ (by decide)) (fun _ => ?_)
      refine g_iconst (pc := 147) (v := nI 5) dX9_operands_147 rfl ?_
      refine g_istore_n (pc := 148) (ls' := [(0, _), (1, _), (2, _)]) dX9_operands_148 rfl (Nat.le_of_ble_eq_true rfl) rfl ?_
      refine g_iload_n (pc := 149) dX9_operands_149 rfl rfl ?_
      refine g_tableIn (pc := 150) (tgt := 190) dX9_operands_150 (by decide) (by decide) rfl rfl ?_
      refine g_iconst (pc := 190) (v := nI 2) dX9_operands_190 rfl ?_
      exact g_iret (pc := 191) dX9_operands_191 rfl ⟨_, rfl, by rw [w]; decide, x2, x3, x4⟩
    · rw [decide_eq_false (show ¬ l = [97, 116] from w)]
      refine g_if_eq (pc := 144) (tgt := 149) dX9_operands_144 rfl (fun _ => ?_) (fun q_ => absurd rfl q_)
      refine non ?_
      cases hq : hpNm l with
      | zero => rfl
      | succ q0 =>
        exfalso
        obtain ⟨z1, z2, z3⟩ := hpNm_nm (l := l) (by omega)
        rw [hq] at z1 z2 z3
        rw [z1] at e6 w
        rcases (show q0 = 0 ∨ q0 = 1 ∨ q0 = 2 ∨ q0 = 3 ∨ q0 = 4 ∨ q0 = 5 by omega) with y | y | y | y | y | y <;> subst y <;> first | exact absurd rfl w | exact absurd e6 (by decide)
  have n0 : hpNm l = 0 := by
    cases hq : hpNm l with
    | zero => rfl
    | succ q0 =>
      exfalso
      obtain ⟨z1, z2, z3⟩ := hpNm_nm (l := l) (by omega)
      rw [hq] at z1 z2 z3
      rw [z1] at e1 e2 e3 e4 e5 e6
      rcases (show q0 = 0 ∨ q0 = 1 ∨ q0 = 2 ∨ q0 = 3 ∨ q0 = 4 ∨ q0 = 5 by omega) with y | y | y | y | y | y <;> subst y <;> first | exact e1 (by decide) | exact e2 (by decide) | exact e3 (by decide) | exact e4 (by decide) | exact e5 (by decide) | exact e6 (by decide)
  have off : Op.lookupswitch.offset [(3123, 130), (3244, 116), (3739, 60), (96417, 102), (107029, 74), (109267, 88)] 141 (hsh l).toInt = 141 := by
    have ne : ∀ (v : Int32) (i : Int), v.toInt = i → hsh l ≠ v → ¬ (i = (hsh l).toInt) := fun v i e hv z => hv (Int32.toInt_inj.mp (by rw [← z, e]))
    unfold Op.lookupswitch.offset
    rw [if_neg (ne 3123 3123 (by decide) e6)]
    unfold Op.lookupswitch.offset
    rw [if_neg (ne 3244 3244 (by decide) e5)]
    unfold Op.lookupswitch.offset
    rw [if_neg (ne 3739 3739 (by decide) e1)]
    unfold Op.lookupswitch.offset
    rw [if_neg (ne 96417 96417 (by decide) e4)]
    unfold Op.lookupswitch.offset
    rw [if_neg (ne 107029 107029 (by decide) e2)]
    unfold Op.lookupswitch.offset
    rw [if_neg (ne 109267 109267 (by decide) e3)]
    rfl
  refine g_lookup (pc := 8) (off := 141) (tgt := 149) dX9_operands_8 (by decide) off rfl ?_
  exact non n0
end PC
