/-! TWIN 16: registers shown raw -/
set_option maxRecDepth 100000
theorem shX_s {D : aD} {n x : Nat} : shX D (n + 1) x = match D.2 x with
    | .inl v => decI v
    | .inr (.inl l) => l
    | .inr (.inr (true, _)) => [91, 109, 97, 112, 93]
    | .inr (.inr (false, ps)) => jn true (ps.map (fun q => shX D n q.2)) := rfl
theorem shX_ls {D : aD} {n x : Nat} (h : isLs (D.2 x) = true) : shX D (n + 1) x = jn true ((aPs (D.2 x)).map (fun q => shX D n q.2)) := by
  rw [shX_s]
  generalize D.2 x = y at h
  rcases y with v | l | ⟨m, ps⟩
  · cases h
  · cases h
  · cases m
    · rfl
    · cases h
/-- the lists under way in showRaw: the innermost first, each with its next place -/
def stR (τ : tT) : List (Nat × Nat) → Prop
  | [] => True
  | q :: S => τ.2.2.1 44 S.length = q.1 ∧ τ.2.2.1 45 S.length = q.2 ∧ stR τ S
theorem stR.same {a b : tT} : ∀ {S : List (Nat × Nat)}, (∀ i, i < S.length → b.2.2.1 44 i = a.2.2.1 44 i ∧ b.2.2.1 45 i = a.2.2.1 45 i) → stR a S → stR b S
  | [], _, _ => trivial
  | q :: S, h, ⟨x, y, z⟩ => by
    have h1 := h S.length (by simp)
    exact ⟨h1.1.trans x, h1.2.trans y, stR.same (fun i hi => h i (by simp; omega)) z⟩
def shI (D : aD) (τ : tT) (S : List (Nat × Nat)) (l : List Nat) (τc : tT) : Prop := rawL τc l ∧ τc.1 39 = S.length ∧ stR τc S ∧ vK (fun _ => False) τ τc ∧ τc.1 38 = τ.1 38
theorem shI.raw {D : aD} {τ a b : tT} {S : List (Nat × Nat)} {l l' : List Nat} (h : shI D τ S l a) (hk : rK a b) (hl : rawL b l') : shI D τ S l' b :=
  ⟨hl, (hk.1 39 (by decide)).trans h.2.1, h.2.2.1.same (fun i _ => ⟨by rw [hk.2.2.2 44 (by decide)], by rw [hk.2.2.2 45 (by decide)]⟩), h.2.2.2.1.trans hk.vK, (hk.1 38 (by decide)).trans h.2.2.2.2⟩
/-- what rawData does -/
def rdP (D : aD) (x : Nat) (l : List Nat) (τ τ' : tT) : Prop :=
  if isLs (D.2 x) = true then τ' = tFN (tAN (tAN τ 44 (τ.1 39) x) 45 (τ.1 39) 0) 39 (τ.1 39 + 1)
  else rK τ τ' ∧ rawL τ' (l ++ shX D 1 x)
section TW16
variable {Z : hE} {o : Nat} {τ : tT}
theorem tc_copy (d r s : Nat) (D : aD) (v : aV) (hr : r < 18) (hs : s < 18) (hrs : r ≠ s) (hv : vR D τ s v) : tC Z mX3_copy d o [.ref o, .int (nI r), .int (nI s)] τ (fun u τ' => u = none ∧ τ'.1 = τ.1 ∧ vK (fun i => i = r) τ τ' ∧ vR D τ' r v) := by
  refine tC.of rfl rfl (Nat.le_of_ble_eq_true rfl) rfl (fun X hin h hR => ?_)
  generalize hτ1 : tAN (tAI (tAI τ 26 r (τ.2.2.2.1 26 s)) 27 r (τ.2.2.2.1 27 s)) 28 r (τ.2.2.1 28 s) = τ1
  have k1 : vK (fun i => i = r) τ τ1 := by
    rw [← hτ1]
    exact (((vK.refl (fun i => i = r) τ).ai (vKp_r (Or.inl rfl) rfl)).ai (vKp_r (Or.inr (Or.inl rfl)) rfl)).an (vKp_r (Or.inr (Or.inr rfl)) rfl)
  have g1 : τ1.1 = τ.1 := by rw [← hτ1]; rfl
  have g26r : τ1.2.2.2.1 26 r = τ.2.2.2.1 26 s := by rw [← hτ1]; simp [tAN, tAI, up2]
  have g27r : τ1.2.2.2.1 27 r = τ.2.2.2.1 27 s := by rw [← hτ1]; simp [tAN, tAI, up2]
  have g28r : τ1.2.2.1 28 r = τ.2.2.1 28 s := by rw [← hτ1]; simp [tAN, tAI, up2]
  have g26s : τ1.2.2.2.1 26 s = τ.2.2.2.1 26 s := by rw [← hτ1]; simp [tAN, tAI, up2, Ne.symm hrs]
  have g28s : τ1.2.2.1 28 s = τ.2.2.1 28 s := by rw [← hτ1]; simp [tAN, tAI, up2, Ne.symm hrs]
  have go : (∀ l, v ≠ some (.inr (.inl l))) → vR D τ1 r v → ∀ h, tH o τ1 hin h → hG Z X mX3_copy d tS hin (tK o hin (fun u τ' => u = none ∧ τ'.1 = τ.1 ∧ vK (fun i => i = r) τ τ' ∧ vR D τ' r v)) 38 [(0, .ref o), (1, .int (nI r)), (2, .int (nI s)), (3, .int (nI 0))] [] h := by
    intro hno hv1 h hR
    have h26 : τ1.2.2.2.1 26 s ≠ nI 1 := by
      rw [g26s]
      rcases v with _ | v | l | x
      · rw [show τ.2.2.2.1 26 s = -1 from hv]; decide
      · rw [hv.1]; decide
      · exact absurd rfl (hno l)
      · obtain ⟨_, _, m, ps, _, e⟩ := hv
        rw [e]; cases m <;> decide
    refine g_iload_n (pc := 38) dX3_copy_38 rfl rfl ?_
    refine g_aload_n (pc := 39) dX3_copy_39 rfl rfl ?_
    refine t_get (pc := 40) (v := .ref (tAd _ 28)) 28 dX3_copy_40 hR rfl q1827 (Nat.le_of_ble_eq_true rfl) rfl rfl ?_
    refine g_iload_n (pc := 43) dX3_copy_43 rfl rfl ?_
    refine t_iald (pc := 44) dX3_copy_44 hR rfl (by decide) rfl (by decide) (by show _ < 18; omega) ?_
    refine g_icmp_ge (pc := 45) (tgt := 88) dX3_copy_45 rfl (fun q => ?_) (fun q => ?_)
    · exact t_vret (pc := 88) dX3_copy_88 hR rfl (⟨rfl, g1, k1, hv1⟩)
    · refine g_aload_n (pc := 48) dX3_copy_48 rfl rfl ?_
      refine t_get (pc := 49) (v := .ref (tAd _ 26)) 26 dX3_copy_49 hR rfl q1825 (Nat.le_of_ble_eq_true rfl) rfl rfl ?_
      refine g_iload_n (pc := 52) dX3_copy_52 rfl rfl ?_
      refine t_ialdI (pc := 53) dX3_copy_53 hR rfl (by decide) rfl (by decide) (by show _ < 18; omega) ?_
      refine g_iconst (pc := 54) (v := nI 1) dX3_copy_54 rfl ?_
      refine g_icmp_ne (pc := 55) (tgt := 88) dX3_copy_55 rfl (fun q2 => ?_) (fun q2 => ?_)
      · exact t_vret (pc := 88) dX3_copy_88 hR rfl (⟨rfl, g1, k1, hv1⟩)
      · exact absurd q2 h26
  refine g_aload_n (pc := 0) dX3_copy_0 rfl rfl ?_
  refine t_get (pc := 1) (v := .ref (tAd _ 26)) 26 dX3_copy_1 hR rfl q1825 (Nat.le_of_ble_eq_true rfl) rfl rfl ?_
  refine g_iload_n (pc := 4) dX3_copy_4 rfl rfl ?_
  refine g_aload_n (pc := 5) dX3_copy_5 rfl rfl ?_
  refine t_get (pc := 6) (v := .ref (tAd _ 26)) 26 dX3_copy_6 hR rfl q1825 (Nat.le_of_ble_eq_true rfl) rfl rfl ?_
  refine g_iload_n (pc := 9) dX3_copy_9 rfl rfl ?_
  refine t_ialdI (pc := 10) dX3_copy_10 hR rfl (by decide) rfl (by decide) (by show _ < 18; omega) ?_
  refine t_iastI (pc := 11) dX3_copy_11 hR rfl (by decide) rfl (by decide) (by show _ < 18; omega) (fun h hR => ?_)
  refine g_aload_n (pc := 12) dX3_copy_12 rfl rfl ?_
  refine t_get (pc := 13) (v := .ref (tAd _ 27)) 27 dX3_copy_13 hR rfl q1826 (Nat.le_of_ble_eq_true rfl) rfl rfl ?_
  refine g_iload_n (pc := 16) dX3_copy_16 rfl rfl ?_
  refine g_aload_n (pc := 17) dX3_copy_17 rfl rfl ?_
  refine t_get (pc := 18) (v := .ref (tAd _ 27)) 27 dX3_copy_18 hR rfl q1826 (Nat.le_of_ble_eq_true rfl) rfl rfl ?_
  refine g_iload_n (pc := 21) dX3_copy_21 rfl rfl ?_
  refine t_ialdI (pc := 22) dX3_copy_22 hR rfl (by decide) rfl (by decide) (by show _ < 18; omega) ?_
  rw [show (tAI τ 26 r (τ.2.2.2.1 26 s)).2.2.2.1 27 s = τ.2.2.2.1 27 s from rfl]
  refine t_iastI (pc := 23) dX3_copy_23 hR rfl (by decide) rfl (by decide) (by show _ < 18; omega) (fun h hR => ?_)
  refine g_aload_n (pc := 24) dX3_copy_24 rfl rfl ?_
  refine t_get (pc := 25) (v := .ref (tAd _ 28)) 28 dX3_copy_25 hR rfl q1827 (Nat.le_of_ble_eq_true rfl) rfl rfl ?_
  refine g_iload_n (pc := 28) dX3_copy_28 rfl rfl ?_
  refine g_aload_n (pc := 29) dX3_copy_29 rfl rfl ?_
  refine t_get (pc := 30) (v := .ref (tAd _ 28)) 28 dX3_copy_30 hR rfl q1827 (Nat.le_of_ble_eq_true rfl) rfl rfl ?_
  refine g_iload_n (pc := 33) dX3_copy_33 rfl rfl ?_
  refine t_iald (pc := 34) dX3_copy_34 hR rfl (by decide) rfl (by decide) (by show _ < 18; omega) ?_
  rw [show (tAI (tAI τ 26 r (τ.2.2.2.1 26 s)) 27 r (τ.2.2.2.1 27 s)).2.2.1 28 s = τ.2.2.1 28 s from rfl]
  refine t_iast (pc := 35) dX3_copy_35 hR rfl (by decide) rfl (by decide) (by show _ < 18; omega) (fun h hR => ?_)
  refine g_iconst (pc := 36) (v := nI 0) dX3_copy_36 rfl ?_
  refine g_istore_n (pc := 37) (ls' := [(0, _), (1, _), (2, _), (3, _)]) dX3_copy_37 rfl (Nat.le_of_ble_eq_true rfl) rfl ?_
  rw [hτ1] at hR
  rcases v with _ | v | l | x
  · exact go (fun l z => by cases z) (g26r.trans hv) h hR
  · exact go (fun l z => by cases z) ⟨g26r.trans hv.1, g27r.trans hv.2⟩ h hR
  · obtain ⟨v1, v2, v3, v4, v5⟩ := hv
    have loop : ∀ (j k : Nat) (τc : tT), k + j = l.length → τc.1 = τ.1 → vK (fun i => i = r) τ τc → τc.2.2.2.1 26 r = nI 1 → τc.2.2.1 28 r = l.length → (∀ i, i < k → τc.2.2.1 29 (400 * r + i) = l.getD i 0) → ∀ h, tH o τc hin h → hG Z X mX3_copy d tS hin (tK o hin (fun u τ' => u = none ∧ τ'.1 = τ.1 ∧ vK (fun i => i = r) τ τ' ∧ vR D τ' r (some (.inr (.inl l))))) 38 [(0, .ref o), (1, .int (nI r)), (2, .int (nI s)), (3, .int (nI k))] [] h := by
      intro j
      induction j with
      | zero =>
        intro k τc hk c1 c2 c3 c4 c5 h hR
        have hs' := vR.keep c2 (r := s) (Ne.symm hrs) (D := D) (v := some (.inr (.inl l))) ⟨v1, v2, v3, v4, v5⟩
        refine g_iload_n (pc := 38) dX3_copy_38 rfl rfl ?_
        refine g_aload_n (pc := 39) dX3_copy_39 rfl rfl ?_
        refine t_get (pc := 40) (v := .ref (tAd _ 28)) 28 dX3_copy_40 hR rfl q1827 (Nat.le_of_ble_eq_true rfl) rfl rfl ?_
        refine g_iload_n (pc := 43) dX3_copy_43 rfl rfl ?_
        refine t_iald (pc := 44) dX3_copy_44 hR rfl (by decide) rfl (by decide) (by show _ < 18; omega) ?_
        rw [hs'.2.1]
        refine g_icmp_geN (pc := 45) (tgt := 88) dX3_copy_45 rfl (by omega) (by omega) (fun q => ?_) (fun q => ?_)
        · exact t_vret (pc := 88) dX3_copy_88 hR rfl (⟨rfl, c1, c2, c3, c4, v3, v4, fun i hi => c5 i (by omega)⟩)
        · exact absurd q (by omega)
      | succ j ih =>
        intro k τc hk c1 c2 c3 c4 c5 h hR
        have hs' := vR.keep c2 (r := s) (Ne.symm hrs) (D := D) (v := some (.inr (.inl l))) ⟨v1, v2, v3, v4, v5⟩
        have hc128 : l.getD k 0 < 128 := v4 _ (getD_mem (by omega))
        refine g_iload_n (pc := 38) dX3_copy_38 rfl rfl ?_
        refine g_aload_n (pc := 39) dX3_copy_39 rfl rfl ?_
        refine t_get (pc := 40) (v := .ref (tAd _ 28)) 28 dX3_copy_40 hR rfl q1827 (Nat.le_of_ble_eq_true rfl) rfl rfl ?_
        refine g_iload_n (pc := 43) dX3_copy_43 rfl rfl ?_
        refine t_iald (pc := 44) dX3_copy_44 hR rfl (by decide) rfl (by decide) (by show _ < 18; omega) ?_
        rw [hs'.2.1]
        refine g_icmp_geN (pc := 45) (tgt := 88) dX3_copy_45 rfl (by omega) (by omega) (fun q => ?_) (fun q => ?_)
        · exact absurd q (by omega)
        · refine g_aload_n (pc := 48) dX3_copy_48 rfl rfl ?_
          refine t_get (pc := 49) (v := .ref (tAd _ 26)) 26 dX3_copy_49 hR rfl q1825 (Nat.le_of_ble_eq_true rfl) rfl rfl ?_
          refine g_iload_n (pc := 52) dX3_copy_52 rfl rfl ?_
          refine t_ialdI (pc := 53) dX3_copy_53 hR rfl (by decide) rfl (by decide) (by show _ < 18; omega) ?_
          rw [hs'.1]
          refine g_iconst (pc := 54) (v := nI 1) dX3_copy_54 rfl ?_
          refine g_icmp_neN (pc := 55) (tgt := 88) dX3_copy_55 rfl (by omega) (by omega) (fun q2 => ?_) (fun q2 => ?_)
          · exact absurd rfl q2
          · refine g_aload_n (pc := 58) dX3_copy_58 rfl rfl ?_
            refine t_get (pc := 59) (v := .ref (tAd _ 29)) 29 dX3_copy_59 hR rfl q1828 (Nat.le_of_ble_eq_true rfl) rfl rfl ?_
            refine g_iload_n (pc := 62) dX3_copy_62 rfl rfl ?_
            refine g_sipush (pc := 63) (v := nI 400) dX3_copy_63 rfl ?_
            first | refine g_imulN (pc := 66) dX3_copy_66 ?_ | refine g_imul (pc := 66) dX3_copy_66 ?_
            refine g_iload_n (pc := 67) dX3_copy_67 rfl rfl ?_
            first | refine g_iaddN (pc := 68) dX3_copy_68 ?_ | refine g_iadd (pc := 68) dX3_copy_68 ?_
            refine g_aload_n (pc := 69) dX3_copy_69 rfl rfl ?_
            refine t_get (pc := 70) (v := .ref (tAd _ 29)) 29 dX3_copy_70 hR rfl q1828 (Nat.le_of_ble_eq_true rfl) rfl rfl ?_
            refine g_iload_n (pc := 73) dX3_copy_73 rfl rfl ?_
            refine g_sipush (pc := 74) (v := nI 400) dX3_copy_74 rfl ?_
            first | refine g_imulN (pc := 77) dX3_copy_77 ?_ | refine g_imul (pc := 77) dX3_copy_77 ?_
            refine g_iload_n (pc := 78) dX3_copy_78 rfl rfl ?_
            first | refine g_iaddN (pc := 79) dX3_copy_79 ?_ | refine g_iadd (pc := 79) dX3_copy_79 ?_
            rw [Nat.mul_comm s 400]
            refine t_cald (pc := 80) dX3_copy_80 hR rfl (by decide) rfl (by decide) (by show _ < 7200; omega) ?_
            rw [hs'.2.2.2.2 k (by omega), Nat.mul_comm r 400]
            refine t_cast (pc := 81) dX3_copy_81 hR rfl (by decide) rfl (by decide) (by show _ < 7200; omega) (by omega) (fun h hR => ?_)
            refine g_iincN (pc := 82) (k0 := 1) (ls' := [(0, _), (1, _), (2, _), (3, _)]) dX3_copy_82 rfl (Nat.le_of_ble_eq_true rfl) rfl ?_
            refine g_goto (pc := 85) (tgt := 38) dX3_copy_85 rfl ?_
            refine ih (k + 1) (tAN τc 29 (400 * r + k) (l.getD k 0)) (by omega) c1 (c2.an (vKp_w (show (400 * r + k) / 400 = r by omega))) c3 c4 (fun i hi => ?_) h hR
            by_cases e : i = k
            · rw [e]; exact rAN_s
            · rw [rAN_i (by omega)]; exact c5 i (by omega)
    exact loop l.length 0 τ1 (by omega) g1 k1 (g26r.trans v1) (g28r.trans v2) (fun i hi => absurd hi (Nat.not_lt_zero _)) h hR
  · obtain ⟨x1, x2, m, ps, x3, x4⟩ := hv
    exact go (fun l z => by cases z) ⟨x1, g27r.trans x2, m, ps, x3, g26r.trans x4⟩ h hR
theorem tc_rawData (d x : Nat) (D : aD) (l : List Nat) (hD : tD τ D) (hx : x < D.1) (hl : rawL τ l) (h39 : τ.1 39 < 60) : tC Z mX3_rawData (d + 2) o [.ref o, .int (nI x)] τ (fun r τ' => r = none ∧ rdP D x l τ τ') := by
  refine tC.of rfl rfl (Nat.le_of_ble_eq_true rfl) rfl (fun X hin h hR => ?_)
  have hD2 := hD.2.1
  have hit := (hD.2.2 x hx).1
  unfold rdP
  rw [shX_s]
  cases hi : D.2 x with
  | inl v =>
    rw [hi] at hit
    obtain ⟨k8, k9⟩ := hit
    simp only [isLs, Bool.false_eq_true, if_false]
    refine g_aload_n (pc := 0) dX3_rawData_0 rfl rfl ?_
    refine t_get (pc := 1) (v := .ref (tAd _ 8)) 8 dX3_rawData_1 hR rfl q1807 (Nat.le_of_ble_eq_true rfl) rfl rfl ?_
    refine g_iload_n (pc := 4) dX3_rawData_4 rfl rfl ?_
    refine t_iald (pc := 5) dX3_rawData_5 hR rfl (by decide) rfl (by decide) (by show _ < 60; omega) ?_
    rw [k8]
    refine g_if_neN (pc := 6) (tgt := 19) dX3_rawData_6 rfl (by omega) (fun q => ?_) (fun q => ?_)
    · exact absurd q (by decide)
    · refine g_aload_n (pc := 9) dX3_rawData_9 rfl rfl ?_
      refine g_aload_n (pc := 10) dX3_rawData_10 rfl rfl ?_
      refine t_get (pc := 11) (v := .ref (tAd _ 9)) 9 dX3_rawData_11 hR rfl q1808 (Nat.le_of_ble_eq_true rfl) rfl rfl ?_
      refine g_iload_n (pc := 14) dX3_rawData_14 rfl rfl ?_
      refine t_ialdI (pc := 15) dX3_rawData_15 hR rfl (by decide) rfl (by decide) (by show _ < 60; omega) ?_
      rw [k9]
      refine t_inv (pc := 16) dX3_rawData_16 hR (tc_rawNumber _ v l hl) meX3_rawNumber q2188 q2190 qs59 rfl rfl (Nat.le_of_ble_eq_true rfl) (fun r τ1 h hp hR => ?_)
      obtain ⟨rfl, c1, c2⟩ := hp
      have k8' : τ1.2.2.1 8 x = 0 := by rw [c2.2.2.2 8 (by decide)]; exact k8
      refine g_aload_n (pc := 19) dX3_rawData_19 rfl rfl ?_
      refine t_get (pc := 20) (v := .ref (tAd _ 8)) 8 dX3_rawData_20 hR rfl q1807 (Nat.le_of_ble_eq_true rfl) rfl rfl ?_
      refine g_iload_n (pc := 23) dX3_rawData_23 rfl rfl ?_
      refine t_iald (pc := 24) dX3_rawData_24 hR rfl (by decide) rfl (by decide) (by show _ < 60; omega) ?_
      rw [k8']
      refine g_iconst (pc := 25) (v := nI 1) dX3_rawData_25 rfl ?_
      refine g_icmp_neN (pc := 26) (tgt := 57) dX3_rawData_26 rfl (by omega) (by omega) (fun q => ?_) (fun q => ?_)
      · refine g_aload_n (pc := 57) dX3_rawData_57 rfl rfl ?_
        refine t_get (pc := 58) (v := .ref (tAd _ 8)) 8 dX3_rawData_58 hR rfl q1807 (Nat.le_of_ble_eq_true rfl) rfl rfl ?_
        refine g_iload_n (pc := 61) dX3_rawData_61 rfl rfl ?_
        refine t_iald (pc := 62) dX3_rawData_62 hR rfl (by decide) rfl (by decide) (by show _ < 60; omega) ?_
        rw [k8']
        refine g_iconst (pc := 63) (v := nI 3) dX3_rawData_63 rfl ?_
        refine g_icmp_neN (pc := 64) (tgt := 71) dX3_rawData_64 rfl (by omega) (by omega) (fun q => ?_) (fun q => ?_)
        · refine g_aload_n (pc := 71) dX3_rawData_71 rfl rfl ?_
          refine t_get (pc := 72) (v := .ref (tAd _ 8)) 8 dX3_rawData_72 hR rfl q1807 (Nat.le_of_ble_eq_true rfl) rfl rfl ?_
          refine g_iload_n (pc := 75) dX3_rawData_75 rfl rfl ?_
          refine t_iald (pc := 76) dX3_rawData_76 hR rfl (by decide) rfl (by decide) (by show _ < 60; omega) ?_
          rw [k8']
          refine g_iconst (pc := 77) (v := nI 2) dX3_rawData_77 rfl ?_
          refine g_icmp_eqN (pc := 78) (tgt := 82) dX3_rawData_78 rfl (by omega) (by omega) (fun q => ?_) (fun q => ?_)
          · exact absurd q (by decide)
          · exact t_vret (pc := 81) dX3_rawData_81 hR rfl (⟨rfl, c2, c1⟩)
        · exact absurd q (by decide)
      · exact absurd q (by decide)
  | inr y =>
    cases y with
    | inl t =>
      rw [hi] at hit
      obtain ⟨k8, k9, kl, kc, kw, kt⟩ := hit
      simp only [isLs, Bool.false_eq_true, if_false]
      refine g_aload_n (pc := 0) dX3_rawData_0 rfl rfl ?_
      refine t_get (pc := 1) (v := .ref (tAd _ 8)) 8 dX3_rawData_1 hR rfl q1807 (Nat.le_of_ble_eq_true rfl) rfl rfl ?_
      refine g_iload_n (pc := 4) dX3_rawData_4 rfl rfl ?_
      refine t_iald (pc := 5) dX3_rawData_5 hR rfl (by decide) rfl (by decide) (by show _ < 60; omega) ?_
      rw [k8]
      refine g_if_neN (pc := 6) (tgt := 19) dX3_rawData_6 rfl (by omega) (fun q => ?_) (fun q => ?_)
      · refine g_aload_n (pc := 19) dX3_rawData_19 rfl rfl ?_
        refine t_get (pc := 20) (v := .ref (tAd _ 8)) 8 dX3_rawData_20 hR rfl q1807 (Nat.le_of_ble_eq_true rfl) rfl rfl ?_
        refine g_iload_n (pc := 23) dX3_rawData_23 rfl rfl ?_
        refine t_iald (pc := 24) dX3_rawData_24 hR rfl (by decide) rfl (by decide) (by show _ < 60; omega) ?_
        rw [k8]
        refine g_iconst (pc := 25) (v := nI 1) dX3_rawData_25 rfl ?_
        refine g_icmp_neN (pc := 26) (tgt := 57) dX3_rawData_26 rfl (by omega) (by omega) (fun q => ?_) (fun q => ?_)
        · exact absurd rfl q
        · refine g_iconst (pc := 29) (v := nI 0) dX3_rawData_29 rfl ?_
          refine g_istore_n (pc := 30) (ls' := [(0, _), (1, _), (2, _)]) dX3_rawData_30 rfl (Nat.le_of_ble_eq_true rfl) rfl ?_
          have loop : ∀ (j k : Nat) (τc : tT), k + j = t.length → rawL τc (l ++ t.take k) → rK τ τc → ∀ h, tH o τc hin h → hG Z X mX3_rawData (d + 2) tS hin (tK o hin (fun r τ' => r = none ∧ rK τ τ' ∧ rawL τ' (l ++ t))) 31 [(0, .ref o), (1, .int (nI x)), (2, .int (nI k))] [] h := by
            intro j
            induction j with
            | zero =>
              intro k τc hk c1 c2 h hR
              have k8' : τc.2.2.1 8 x = 1 := by rw [c2.2.2.2 8 (by decide)]; exact k8
              have k9' : τc.2.2.2.1 9 x = nI t.length := by rw [c2.2.2.1]; exact k9
              refine g_iload_n (pc := 31) dX3_rawData_31 rfl rfl ?_
              refine g_aload_n (pc := 32) dX3_rawData_32 rfl rfl ?_
              refine t_get (pc := 33) (v := .ref (tAd _ 9)) 9 dX3_rawData_33 hR rfl q1808 (Nat.le_of_ble_eq_true rfl) rfl rfl ?_
              refine g_iload_n (pc := 36) dX3_rawData_36 rfl rfl ?_
              refine t_ialdI (pc := 37) dX3_rawData_37 hR rfl (by decide) rfl (by decide) (by show _ < 60; omega) ?_
              rw [k9']
              refine g_icmp_geN (pc := 38) (tgt := 57) dX3_rawData_38 rfl (by omega) (by omega) (fun q => ?_) (fun q => ?_)
              · refine g_aload_n (pc := 57) dX3_rawData_57 rfl rfl ?_
                refine t_get (pc := 58) (v := .ref (tAd _ 8)) 8 dX3_rawData_58 hR rfl q1807 (Nat.le_of_ble_eq_true rfl) rfl rfl ?_
                refine g_iload_n (pc := 61) dX3_rawData_61 rfl rfl ?_
                refine t_iald (pc := 62) dX3_rawData_62 hR rfl (by decide) rfl (by decide) (by show _ < 60; omega) ?_
                rw [k8']
                refine g_iconst (pc := 63) (v := nI 3) dX3_rawData_63 rfl ?_
                refine g_icmp_neN (pc := 64) (tgt := 71) dX3_rawData_64 rfl (by omega) (by omega) (fun q => ?_) (fun q => ?_)
                · refine g_aload_n (pc := 71) dX3_rawData_71 rfl rfl ?_
                  refine t_get (pc := 72) (v := .ref (tAd _ 8)) 8 dX3_rawData_72 hR rfl q1807 (Nat.le_of_ble_eq_true rfl) rfl rfl ?_
                  refine g_iload_n (pc := 75) dX3_rawData_75 rfl rfl ?_
                  refine t_iald (pc := 76) dX3_rawData_76 hR rfl (by decide) rfl (by decide) (by show _ < 60; omega) ?_
                  rw [k8']
                  refine g_iconst (pc := 77) (v := nI 2) dX3_rawData_77 rfl ?_
                  refine g_icmp_eqN (pc := 78) (tgt := 82) dX3_rawData_78 rfl (by omega) (by omega) (fun q => ?_) (fun q => ?_)
                  · exact absurd q (by decide)
                  · rw [List.take_of_length_le (by omega)] at c1
                    exact t_vret (pc := 81) dX3_rawData_81 hR rfl (⟨rfl, c2, c1⟩)
                · exact absurd q (by decide)
              · exact absurd q (by omega)
            | succ j ih =>
              intro k τc hk c1 c2 h hR
              have k9' : τc.2.2.2.1 9 x = nI t.length := by rw [c2.2.2.1]; exact k9
              have h10 : τc.2.2.1 10 = τ.2.2.1 10 := c2.2.2.2 10 (by decide)
              have hlt : ltW (τc.2.2.1 10) (50 * x) k = t.getD k 0 := by rw [h10]; exact kt k (by omega)
              have hc128 : t.getD k 0 < 128 := kc _ (getD_mem (by omega))
              refine g_iload_n (pc := 31) dX3_rawData_31 rfl rfl ?_
              refine g_aload_n (pc := 32) dX3_rawData_32 rfl rfl ?_
              refine t_get (pc := 33) (v := .ref (tAd _ 9)) 9 dX3_rawData_33 hR rfl q1808 (Nat.le_of_ble_eq_true rfl) rfl rfl ?_
              refine g_iload_n (pc := 36) dX3_rawData_36 rfl rfl ?_
              refine t_ialdI (pc := 37) dX3_rawData_37 hR rfl (by decide) rfl (by decide) (by show _ < 60; omega) ?_
              rw [k9']
              refine g_icmp_geN (pc := 38) (tgt := 57) dX3_rawData_38 rfl (by omega) (by omega) (fun q => ?_) (fun q => ?_)
              · exact absurd q (by omega)
              · refine g_aload_n (pc := 41) dX3_rawData_41 rfl rfl ?_
                refine g_aload_n (pc := 42) dX3_rawData_42 rfl rfl ?_
                refine g_iload_n (pc := 43) dX3_rawData_43 rfl rfl ?_
                refine g_iload_n (pc := 44) dX3_rawData_44 rfl rfl ?_
                refine t_invE (pc := 45) dX3_rawData_45 hR (tc_dataLetter _ x k (by omega) (by omega) (by rw [h10]; exact kw _ (by omega))) meX3_dataLetter q2108 q2110 qs39 rfl rfl (Nat.le_of_ble_eq_true rfl) (fun h hR => ?_)
                rw [hlt]
                refine t_inv (pc := 48) dX3_rawData_48 hR (tc_rawPut _ (t.getD k 0) _ (by omega) c1) meX3_rawPut q2192 q2194 qs60 rfl rfl (Nat.le_of_ble_eq_true rfl) (fun r τ1 h hp hR => ?_)
                obtain ⟨rfl, c3, c4⟩ := hp
                refine g_iincN (pc := 51) (k0 := 1) (ls' := [(0, _), (1, _), (2, _)]) dX3_rawData_51 rfl (Nat.le_of_ble_eq_true rfl) rfl ?_
                refine g_goto (pc := 54) (tgt := 31) dX3_rawData_54 rfl ?_
                refine ih (k + 1) τ1 (by omega) ?_ (c2.trans c4) h hR
                rw [List.append_assoc] at c3
                have e : t.take (k + 1) = t.take k ++ [t.getD k 0] := by
                  rw [List.getD_eq_getElem?_getD, List.getElem?_eq_getElem (by omega)]
                  exact (List.take_append_getElem (by omega)).symm
                rw [e]; exact c3
          exact loop t.length 0 τ (by omega) (by simpa using hl) (rK.refl τ) h hR
      · exact absurd q (by decide)
    | inr p =>
      obtain ⟨m, ps⟩ := p
      rw [hi] at hit
      obtain ⟨k8, k9, kl, kp, kn⟩ := hit
      cases m with
      | true =>
        have k8 : τ.2.2.1 8 x = 3 := k8
        simp only [isLs, Bool.false_eq_true, if_false]
        refine g_aload_n (pc := 0) dX3_rawData_0 rfl rfl ?_
        refine t_get (pc := 1) (v := .ref (tAd _ 8)) 8 dX3_rawData_1 hR rfl q1807 (Nat.le_of_ble_eq_true rfl) rfl rfl ?_
        refine g_iload_n (pc := 4) dX3_rawData_4 rfl rfl ?_
        refine t_iald (pc := 5) dX3_rawData_5 hR rfl (by decide) rfl (by decide) (by show _ < 60; omega) ?_
        rw [k8]
        refine g_if_neN (pc := 6) (tgt := 19) dX3_rawData_6 rfl (by omega) (fun q => ?_) (fun q => ?_)
        · refine g_aload_n (pc := 19) dX3_rawData_19 rfl rfl ?_
          refine t_get (pc := 20) (v := .ref (tAd _ 8)) 8 dX3_rawData_20 hR rfl q1807 (Nat.le_of_ble_eq_true rfl) rfl rfl ?_
          refine g_iload_n (pc := 23) dX3_rawData_23 rfl rfl ?_
          refine t_iald (pc := 24) dX3_rawData_24 hR rfl (by decide) rfl (by decide) (by show _ < 60; omega) ?_
          rw [k8]
          refine g_iconst (pc := 25) (v := nI 1) dX3_rawData_25 rfl ?_
          refine g_icmp_neN (pc := 26) (tgt := 57) dX3_rawData_26 rfl (by omega) (by omega) (fun q => ?_) (fun q => ?_)
          · refine g_aload_n (pc := 57) dX3_rawData_57 rfl rfl ?_
            refine t_get (pc := 58) (v := .ref (tAd _ 8)) 8 dX3_rawData_58 hR rfl q1807 (Nat.le_of_ble_eq_true rfl) rfl rfl ?_
            refine g_iload_n (pc := 61) dX3_rawData_61 rfl rfl ?_
            refine t_iald (pc := 62) dX3_rawData_62 hR rfl (by decide) rfl (by decide) (by show _ < 60; omega) ?_
            rw [k8]
            refine g_iconst (pc := 63) (v := nI 3) dX3_rawData_63 rfl ?_
            refine g_icmp_neN (pc := 64) (tgt := 71) dX3_rawData_64 rfl (by omega) (by omega) (fun q => ?_) (fun q => ?_)
            · exact absurd rfl q
            · refine g_aload_n (pc := 67) dX3_rawData_67 rfl rfl ?_
              refine t_inv (pc := 68) dX3_rawData_68 hR (tc_rawMap _ l hl) meX3_rawMap q2203 q2205 qs62 rfl rfl (Nat.le_of_ble_eq_true rfl) (fun r τ1 h hp hR => ?_)
              obtain ⟨rfl, c1, c2⟩ := hp
              have k8' : τ1.2.2.1 8 x = 3 := by rw [c2.2.2.2 8 (by decide)]; exact k8
              refine g_aload_n (pc := 71) dX3_rawData_71 rfl rfl ?_
              refine t_get (pc := 72) (v := .ref (tAd _ 8)) 8 dX3_rawData_72 hR rfl q1807 (Nat.le_of_ble_eq_true rfl) rfl rfl ?_
              refine g_iload_n (pc := 75) dX3_rawData_75 rfl rfl ?_
              refine t_iald (pc := 76) dX3_rawData_76 hR rfl (by decide) rfl (by decide) (by show _ < 60; omega) ?_
              rw [k8']
              refine g_iconst (pc := 77) (v := nI 2) dX3_rawData_77 rfl ?_
              refine g_icmp_eqN (pc := 78) (tgt := 82) dX3_rawData_78 rfl (by omega) (by omega) (fun q => ?_) (fun q => ?_)
              · exact absurd q (by decide)
              · exact t_vret (pc := 81) dX3_rawData_81 hR rfl (⟨rfl, c2, c1⟩)
          · exact absurd q (by decide)
        · exact absurd q (by decide)
      | false =>
        have k8 : τ.2.2.1 8 x = 2 := k8
        simp only [isLs, if_true]
        refine g_aload_n (pc := 0) dX3_rawData_0 rfl rfl ?_
        refine t_get (pc := 1) (v := .ref (tAd _ 8)) 8 dX3_rawData_1 hR rfl q1807 (Nat.le_of_ble_eq_true rfl) rfl rfl ?_
        refine g_iload_n (pc := 4) dX3_rawData_4 rfl rfl ?_
        refine t_iald (pc := 5) dX3_rawData_5 hR rfl (by decide) rfl (by decide) (by show _ < 60; omega) ?_
        rw [k8]
        refine g_if_neN (pc := 6) (tgt := 19) dX3_rawData_6 rfl (by omega) (fun q => ?_) (fun q => ?_)
        · refine g_aload_n (pc := 19) dX3_rawData_19 rfl rfl ?_
          refine t_get (pc := 20) (v := .ref (tAd _ 8)) 8 dX3_rawData_20 hR rfl q1807 (Nat.le_of_ble_eq_true rfl) rfl rfl ?_
          refine g_iload_n (pc := 23) dX3_rawData_23 rfl rfl ?_
          refine t_iald (pc := 24) dX3_rawData_24 hR rfl (by decide) rfl (by decide) (by show _ < 60; omega) ?_
          rw [k8]
          refine g_iconst (pc := 25) (v := nI 1) dX3_rawData_25 rfl ?_
          refine g_icmp_neN (pc := 26) (tgt := 57) dX3_rawData_26 rfl (by omega) (by omega) (fun q => ?_) (fun q => ?_)
          · refine g_aload_n (pc := 57) dX3_rawData_57 rfl rfl ?_
            refine t_get (pc := 58) (v := .ref (tAd _ 8)) 8 dX3_rawData_58 hR rfl q1807 (Nat.le_of_ble_eq_true rfl) rfl rfl ?_
            refine g_iload_n (pc := 61) dX3_rawData_61 rfl rfl ?_
            refine t_iald (pc := 62) dX3_rawData_62 hR rfl (by decide) rfl (by decide) (by show _ < 60; omega) ?_
            rw [k8]
            refine g_iconst (pc := 63) (v := nI 3) dX3_rawData_63 rfl ?_
            refine g_icmp_neN (pc := 64) (tgt := 71) dX3_rawData_64 rfl (by omega) (by omega) (fun q => ?_) (fun q => ?_)
            · refine g_aload_n (pc := 71) dX3_rawData_71 rfl rfl ?_
              refine t_get (pc := 72) (v := .ref (tAd _ 8)) 8 dX3_rawData_72 hR rfl q1807 (Nat.le_of_ble_eq_true rfl) rfl rfl ?_
              refine g_iload_n (pc := 75) dX3_rawData_75 rfl rfl ?_
              refine t_iald (pc := 76) dX3_rawData_76 hR rfl (by decide) rfl (by decide) (by show _ < 60; omega) ?_
              rw [k8]
              refine g_iconst (pc := 77) (v := nI 2) dX3_rawData_77 rfl ?_
              refine g_icmp_eqN (pc := 78) (tgt := 82) dX3_rawData_78 rfl (by omega) (by omega) (fun q => ?_) (fun q => ?_)
              · refine g_aload_n (pc := 82) dX3_rawData_82 rfl rfl ?_
                refine t_get (pc := 83) (v := .ref (tAd _ 44)) 44 dX3_rawData_83 hR rfl q1843 (Nat.le_of_ble_eq_true rfl) rfl rfl ?_
                refine g_aload_n (pc := 86) dX3_rawData_86 rfl rfl ?_
                refine t_get (pc := 87) (v := .int (nI _)) 39 dX3_rawData_87 hR rfl q1838 (Nat.le_of_ble_eq_true rfl) rfl rfl ?_
                refine g_iload_n (pc := 90) dX3_rawData_90 rfl rfl ?_
                refine t_iast (pc := 91) dX3_rawData_91 hR rfl (by decide) rfl (by decide) (by show _ < 60; omega) (fun h hR => ?_)
                refine g_aload_n (pc := 92) dX3_rawData_92 rfl rfl ?_
                refine t_get (pc := 93) (v := .ref (tAd _ 45)) 45 dX3_rawData_93 hR rfl q1844 (Nat.le_of_ble_eq_true rfl) rfl rfl ?_
                refine g_aload_n (pc := 96) dX3_rawData_96 rfl rfl ?_
                refine t_get (pc := 97) (v := .int (nI _)) 39 dX3_rawData_97 hR rfl q1838 (Nat.le_of_ble_eq_true rfl) rfl rfl ?_
                rw [show (tAN τ 44 (τ.1 39) x).1 39 = τ.1 39 from rfl]
                refine g_iconst (pc := 100) (v := nI 0) dX3_rawData_100 rfl ?_
                refine t_iast (pc := 101) dX3_rawData_101 hR rfl (by decide) rfl (by decide) (by show _ < 60; omega) (fun h hR => ?_)
                refine g_aload_n (pc := 102) dX3_rawData_102 rfl rfl ?_
                refine g_dup (pc := 103) dX3_rawData_103 rfl ?_
                refine t_get (pc := 104) (v := .int (nI _)) 39 dX3_rawData_104 hR rfl q1838 (Nat.le_of_ble_eq_true rfl) rfl rfl ?_
                rw [show (tAN (tAN τ 44 (τ.1 39) x) 45 (τ.1 39) 0).1 39 = τ.1 39 from rfl]
                refine g_iconst (pc := 107) (v := nI 1) dX3_rawData_107 rfl ?_
                first | refine g_iaddN (pc := 108) dX3_rawData_108 ?_ | refine g_iadd (pc := 108) dX3_rawData_108 ?_
                refine t_put (pc := 109) 39 dX3_rawData_109 hR rfl q1838 (Nat.le_of_ble_eq_true rfl) rfl rfl (by decide) rfl rfl (fun h hR => ?_)
                exact t_vret (pc := 112) dX3_rawData_112 hR rfl (⟨rfl, rfl⟩)
              · exact absurd rfl q
            · exact absurd q (by decide)
          · exact absurd q (by decide)
        · exact absurd q (by decide)
end TW16
