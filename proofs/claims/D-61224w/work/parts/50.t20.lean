/-! TWIN 20: upper, alike, expr -/
set_option maxRecDepth 100000
theorem upc_lt {c : Nat} (h : c < 128) : upc c < 128 := by
  unfold upc
  split <;> omega
theorem getD_map {l : List Nat} {f : Nat → Nat} {i : Nat} (h : i < l.length) : (l.map f).getD i 0 = f (l.getD i 0) := by
  rw [List.getD_eq_getElem?_getD, List.getD_eq_getElem?_getD, List.getElem?_map, List.getElem?_eq_getElem h]
  rfl
/-- the texts of data have characters below 128 -/
theorem shX_lt {D : aD} {τ : tT} (hD : tD τ D) : ∀ (n x : Nat), x < D.1 → ∀ c ∈ shX D n x, c < 128
  | 0, _, _, c, h => by cases h
  | n + 1, x, hx, c, h => by
    have hit := (hD.2.2 x hx).1
    have hch := (hD.2.2 x hx).2
    rw [shX_s] at h
    generalize hy : D.2 x = y at h hit hch
    rcases y with v | l | ⟨m, ps⟩
    · exact decI_lt v c h
    · exact hit.2.2.2.1 c h
    · cases m
      · have key : ∀ (b : Bool) (qs : List (List Nat × Nat)), (∀ q ∈ qs, q.2 < D.1) → ∀ c ∈ jn b (qs.map (fun q => shX D n q.2)), c < 128 := by
          intro b qs
          induction qs generalizing b with
          | nil => intro _ c hc; cases b <;> cases hc
          | cons q qs ih =>
            intro hq c hc
            have h1 := shX_lt hD n q.2 (hq q List.mem_cons_self)
            cases b
            · simp only [List.map_cons, jn] at hc
              rcases List.mem_append.mp hc with z | z
              · cases z with
                | head => decide
                | tail _ z => exact h1 c z
              · exact ih false (fun q hq' => hq q (List.mem_cons_of_mem _ hq')) c z
            · simp only [List.map_cons, jn] at hc
              rcases List.mem_append.mp hc with z | z
              · exact h1 c z
              · exact ih false (fun q hq' => hq q (List.mem_cons_of_mem _ hq')) c z
        exact key true ps hch c h
      · simp at h
        omega
theorem shw_lt {D : aD} {τ : tT} {r : Nat} (hD : tD τ D) : ∀ {v : aV}, vR D τ r v → ∀ c ∈ shw D v, c < 128
  | none, _, c, h => by cases h
  | some (.inl v), _, c, h => decI_lt v c h
  | some (.inr (.inl l)), hv, c, h => hv.2.2.2.1 c h
  | some (.inr (.inr x)), hv, c, h => shX_lt hD _ x hv.1 c h
/-- registers 0, 1, 2 -/
def r3 : Nat → Prop := fun i => i < 3
theorem r3_k {i : Nat} (h : 3 ≤ i) : ¬ r3 i := by unfold r3; omega
theorem vK.r3 {R : Nat → Prop} {a b : tT} (h : vK R a b) (hr : ∀ i, R i → i < 3) : vK r3 a b := h.mono hr
section TW20
variable {Z : hE} {o : Nat} {τ : tT}
theorem tc_upper (d : Nat) (D : aD) (v : aV) (hD : tD τ D) (ha : acy D) (hv : vR D τ 0 v) (h38 : τ.1 38 = 0) : tC Z mX3_upper (d + 4) o [.ref o] τ (fun u τ' => u = none ∧ vK (fun i => i = 2) τ τ' ∧ τ'.1 38 = (if 400 < (shw D v).length then 4 else 0) ∧ ((shw D v).length ≤ 400 → vR D τ' 2 (some (.inr (.inl ((shw D v).map upc)))))) := by
  refine tC.of rfl rfl (Nat.le_of_ble_eq_true rfl) rfl (fun X hin h hR => ?_)
  have h128 := shw_lt hD hv
  generalize hl : shw D v = l at h128
  refine g_aload_n (pc := 0) dX3_upper_0 rfl rfl ?_
  refine g_iconst (pc := 1) (v := nI 0) dX3_upper_1 rfl ?_
  refine t_inv (pc := 2) dX3_upper_2 hR (tc_showRaw _ 0 D v (by decide) hD ha hv) meX3_showRaw q2184 q2186 qs58 rfl rfl (Nat.le_of_ble_eq_true rfl) (fun u τ1 h hp hR => ?_)
  obtain ⟨rfl, c1, c2, c3⟩ := hp
  rw [hl] at c1 c3
  rw [h38] at c3
  have c2' : vK (fun i => i = 2) τ τ1 := c2.mono (fun i z => z.elim)
  generalize hm : min l.length 400 = m
  have hm2 : m ≤ 400 := by omega
  -- letters
  have loop : ∀ (j k : Nat) (τc : tT), k + j = m → vK (fun i => i = 2) τ τc → τc.1 38 = τ1.1 38 → rawL τc l → τc.2.2.2.1 26 2 = nI 1 → τc.2.2.1 28 2 = m → (∀ i, i < k → τc.2.2.1 29 (800 + i) = upc (l.getD i 0)) → ∀ h, tH o τc hin h → hG Z X mX3_upper (d + 4) tS hin (tK o hin (fun u τ' => u = none ∧ vK (fun i => i = 2) τ τ' ∧ τ'.1 38 = (if 400 < l.length then 4 else 0) ∧ (l.length ≤ 400 → vR D τ' 2 (some (.inr (.inl (l.map upc))))))) 40 [(0, .ref o), (1, .int (nI k))] [] h := by
    intro j
    induction j with
    | zero =>
      intro k τc hk a1 a2 a3 a4 a5 a6 h hR
      refine g_iload_n (pc := 40) dX3_upper_40 rfl rfl ?_
      refine g_aload_n (pc := 41) dX3_upper_41 rfl rfl ?_
      refine t_get (pc := 42) (v := .ref (tAd _ 28)) 28 dX3_upper_42 hR rfl q1827 (Nat.le_of_ble_eq_true rfl) rfl rfl ?_
      refine g_iconst (pc := 45) (v := nI 2) dX3_upper_45 rfl ?_
      refine t_iald (pc := 46) dX3_upper_46 hR rfl (by decide) rfl (by decide) (by show _ < 18; omega) ?_
      rw [a5]
      refine g_icmp_geN (pc := 47) (tgt := 98) dX3_upper_47 rfl (by omega) (by omega) (fun q => ?_) (fun q => ?_)
      · refine t_vret (pc := 98) dX3_upper_98 hR rfl ⟨rfl, a1, by rw [a2, c3], fun hle => ⟨a4, ?_, ?_, ?_, fun i hi => ?_⟩⟩
        · rw [a5, List.length_map]; omega
        · rw [List.length_map]; exact hle
        · intro c hc
          obtain ⟨c', hc', rfl⟩ := List.mem_map.mp hc
          exact upc_lt (h128 c' hc')
        · rw [List.length_map] at hi
          rw [getD_map hi]
          exact a6 i (by omega)
      · exact absurd q (by omega)
    | succ j ih =>
      intro k τc hk a1 a2 a3 a4 a5 a6 h hR
      have hc : τc.2.2.1 30 k = l.getD k 0 := a3.2 k (by omega) (by omega)
      have hc1 : l.getD k 0 < 128 := h128 _ (getD_mem (by omega))
      have st : ∀ w, w = upc (l.getD k 0) → w < 65536 → ∀ h, tH o τc hin h → hG Z X mX3_upper (d + 4) tS hin (tK o hin (fun u τ' => u = none ∧ vK (fun i => i = 2) τ τ' ∧ τ'.1 38 = (if 400 < l.length then 4 else 0) ∧ (l.length ≤ 400 → vR D τ' 2 (some (.inr (.inl (l.map upc))))))) 91 [(0, .ref o), (1, .int (nI k))] [.int (nI w), .int (nI (800 + k)), .ref (tAd o 29)] h := by
        intro w hw hw2 h hR
        refine t_cast (pc := 91) (k := 29) dX3_upper_91 hR rfl (by decide) rfl (by decide) (by show _ < 7200; omega) hw2 (fun h hR => ?_)
        refine g_iincN (pc := 92) (k0 := 1) (ls' := [(0, _), (1, _)]) dX3_upper_92 rfl (Nat.le_of_ble_eq_true rfl) rfl ?_
        refine g_goto (pc := 95) (tgt := 40) dX3_upper_95 rfl ?_
        refine ih (k + 1) (tAN τc 29 (800 + k) w) (by omega) (a1.an (vKp_w (show (800 + k) / 400 = 2 by omega))) a2 (a3.same rfl rfl) a4 a5 (fun i hi => ?_) h hR
        by_cases e : i = k
        · rw [e, ← hw]; exact rAN_s
        · rw [rAN_i (by omega)]; exact a6 i (by omega)
      refine g_iload_n (pc := 40) dX3_upper_40 rfl rfl ?_
      refine g_aload_n (pc := 41) dX3_upper_41 rfl rfl ?_
      refine t_get (pc := 42) (v := .ref (tAd _ 28)) 28 dX3_upper_42 hR rfl q1827 (Nat.le_of_ble_eq_true rfl) rfl rfl ?_
      refine g_iconst (pc := 45) (v := nI 2) dX3_upper_45 rfl ?_
      refine t_iald (pc := 46) dX3_upper_46 hR rfl (by decide) rfl (by decide) (by show _ < 18; omega) ?_
      rw [a5]
      refine g_icmp_geN (pc := 47) (tgt := 98) dX3_upper_47 rfl (by omega) (by omega) (fun q => ?_) (fun q => ?_)
      · exact absurd q (by omega)
      · refine g_aload_n (pc := 50) dX3_upper_50 rfl rfl ?_
        refine t_get (pc := 51) (v := .ref (tAd _ 29)) 29 dX3_upper_51 hR rfl q1828 (Nat.le_of_ble_eq_true rfl) rfl rfl ?_
        refine g_sipush (pc := 54) (v := nI 800) dX3_upper_54 rfl ?_
        refine g_iload_n (pc := 57) dX3_upper_57 rfl rfl ?_
        first | refine g_iaddN (pc := 58) dX3_upper_58 ?_ | refine g_iadd (pc := 58) dX3_upper_58 ?_
        refine g_aload_n (pc := 59) dX3_upper_59 rfl rfl ?_
        refine g_aload_n (pc := 60) dX3_upper_60 rfl rfl ?_
        refine t_get (pc := 61) (v := .ref (tAd _ 30)) 30 dX3_upper_61 hR rfl q1829 (Nat.le_of_ble_eq_true rfl) rfl rfl ?_
        refine g_iload_n (pc := 64) dX3_upper_64 rfl rfl ?_
        refine t_cald (pc := 65) dX3_upper_65 hR rfl (by decide) rfl (by decide) (by show _ < 401; omega) ?_
        rw [hc]
        refine t_invE (pc := 66) dX3_upper_66 hR (tc_letter _ _ (by omega)) meX3_letter q2004 q2006 qs22 rfl rfl (Nat.le_of_ble_eq_true rfl) (fun h hR => ?_)
        refine g_if_eqB (pc := 69) (tgt := 85) dX3_upper_69 rfl (fun q2 => ?_) (fun q2 => ?_)
        · refine g_aload_n (pc := 85) dX3_upper_85 rfl rfl ?_
          refine t_get (pc := 86) (v := .ref (tAd _ 30)) 30 dX3_upper_86 hR rfl q1829 (Nat.le_of_ble_eq_true rfl) rfl rfl ?_
          refine g_iload_n (pc := 89) dX3_upper_89 rfl rfl ?_
          refine t_cald (pc := 90) dX3_upper_90 hR rfl (by decide) rfl (by decide) (by show _ < 401; omega) ?_
          rw [hc]
          exact st _ (by unfold upc; rw [q2]; rfl) (by omega) h hR
        · have hl2 := isL_iff.mp q2
          refine g_aload_n (pc := 72) dX3_upper_72 rfl rfl ?_
          refine t_get (pc := 73) (v := .ref (tAd _ 30)) 30 dX3_upper_73 hR rfl q1829 (Nat.le_of_ble_eq_true rfl) rfl rfl ?_
          refine g_iload_n (pc := 76) dX3_upper_76 rfl rfl ?_
          refine t_cald (pc := 77) dX3_upper_77 hR rfl (by decide) rfl (by decide) (by show _ < 401; omega) ?_
          rw [hc]
          refine g_bipush (pc := 78) (v := nI 32) dX3_upper_78 rfl ?_
          first | refine g_isubN (pc := 80) dX3_upper_80 (by omega) ?_ | refine g_isub (pc := 80) dX3_upper_80 ?_
          refine g_i2cN (pc := 81) dX3_upper_81 (by omega) ?_
          refine g_goto (pc := 82) (tgt := 91) dX3_upper_82 rfl ?_
          exact st _ (by unfold upc; rw [q2]; rfl) (by omega) h hR
  have fin : ∀ h, tH o (tAI τ1 26 2 (nI 1)) hin h → hG Z X mX3_upper (d + 4) tS hin (tK o hin (fun u τ' => u = none ∧ vK (fun i => i = 2) τ τ' ∧ τ'.1 38 = (if 400 < l.length then 4 else 0) ∧ (l.length ≤ 400 → vR D τ' 2 (some (.inr (.inl (l.map upc))))))) 37 [(0, .ref o)] [.int (nI m), .int (nI 2), .ref (tAd o 28)] h := by
    intro h hR
    refine t_iast (pc := 37) (k := 28) dX3_upper_37 hR rfl (by decide) rfl (by decide) (by decide) (fun h hR => ?_)
    refine g_iconst (pc := 38) (v := nI 0) dX3_upper_38 rfl ?_
    refine g_istore_n (pc := 39) (ls' := [(0, _), (1, _)]) dX3_upper_39 rfl (Nat.le_of_ble_eq_true rfl) rfl ?_
    exact loop m 0 (tAN (tAI τ1 26 2 (nI 1)) 28 2 m) (by omega) ((c2'.ai (vKp_r (Or.inl rfl) rfl)).an (vKp_r (Or.inr (Or.inr rfl)) rfl)) rfl (c1.same rfl rfl) rAI_s rAN_s (fun i hi => absurd hi (Nat.not_lt_zero _)) h hR
  refine g_aload_n (pc := 5) dX3_upper_5 rfl rfl ?_
  refine t_get (pc := 6) (v := .ref (tAd _ 26)) 26 dX3_upper_6 hR rfl q1825 (Nat.le_of_ble_eq_true rfl) rfl rfl ?_
  refine g_iconst (pc := 9) (v := nI 2) dX3_upper_9 rfl ?_
  refine g_iconst (pc := 10) (v := nI 1) dX3_upper_10 rfl ?_
  refine t_iastI (pc := 11) dX3_upper_11 hR rfl (by decide) rfl (by decide) (by show _ < 18; omega) (fun h hR => ?_)
  refine g_aload_n (pc := 12) dX3_upper_12 rfl rfl ?_
  refine t_get (pc := 13) (v := .ref (tAd _ 28)) 28 dX3_upper_13 hR rfl q1827 (Nat.le_of_ble_eq_true rfl) rfl rfl ?_
  refine g_iconst (pc := 16) (v := nI 2) dX3_upper_16 rfl ?_
  refine g_aload_n (pc := 17) dX3_upper_17 rfl rfl ?_
  refine t_get (pc := 18) (v := .int (nI _)) 33 dX3_upper_18 hR rfl q1832 (Nat.le_of_ble_eq_true rfl) rfl rfl ?_
  rw [show (tAI τ1 26 2 (nI 1)).1 33 = min l.length 401 from c1.1]
  refine g_sipush (pc := 21) (v := nI 400) dX3_upper_21 rfl ?_
  refine g_icmp_leN (pc := 24) (tgt := 33) dX3_upper_24 rfl (by omega) (by omega) (fun q => ?_) (fun q => ?_)
  · refine g_aload_n (pc := 33) dX3_upper_33 rfl rfl ?_
    refine t_get (pc := 34) (v := .int (nI _)) 33 dX3_upper_34 hR rfl q1832 (Nat.le_of_ble_eq_true rfl) rfl rfl ?_
    rw [show (tAI τ1 26 2 (nI 1)).1 33 = m from c1.1.trans (by omega)]
    exact fin h hR
  · refine g_sipush (pc := 27) (v := nI 400) dX3_upper_27 rfl ?_
    refine g_goto (pc := 30) (tgt := 37) dX3_upper_30 rfl ?_
    rw [show nI 400 = nI m by congr 1; omega]
    exact fin h hR
theorem tc_alike (d : Nat) (D : aD) (v w : aV) (hD : tD τ D) (ha : acy D) (hv : vR D τ 0 v) (hw : vR D τ 1 w) (h38 : τ.1 38 = 0) : tC Z mX3_alike (d + 4) o [.ref o] τ (fun u τ' => ∃ b : Bool, u = some (.int (nI b.toNat)) ∧ vK (fun i => i = 2) τ τ' ∧ τ'.1 38 = (if 400 < (shw D v).length ∨ 400 < (shw D w).length then 4 else 0) ∧ ((shw D v).length ≤ 400 → (shw D w).length ≤ 400 → b = decide (shw D v = shw D w))) := by
  refine tC.of rfl rfl (Nat.le_of_ble_eq_true rfl) rfl (fun X hin h hR => ?_)
  have h128 := shw_lt hD hv
  have k128 := shw_lt hD hw
  generalize hl : shw D v = l at h128
  generalize hk0 : shw D w = r at k128
  generalize hQ : (fun (u : Option Value) (τ' : tT) => ∃ b : Bool, u = some (.int (nI b.toNat)) ∧ vK (fun i => i = 2) τ τ' ∧ τ'.1 38 = (if 400 < l.length ∨ 400 < r.length then 4 else 0) ∧ (l.length ≤ 400 → r.length ≤ 400 → b = decide (l = r))) = Q
  refine g_aload_n (pc := 0) dX3_alike_0 rfl rfl ?_
  refine g_iconst (pc := 1) (v := nI 0) dX3_alike_1 rfl ?_
  refine t_inv (pc := 2) dX3_alike_2 hR (tc_showRaw _ 0 D v (by decide) hD ha hv) meX3_showRaw q2184 q2186 qs58 rfl rfl (Nat.le_of_ble_eq_true rfl) (fun u τ1 h hp hR => ?_)
  obtain ⟨rfl, c1, c2, c3⟩ := hp
  rw [hl] at c1 c3
  rw [h38] at c3
  have c2' : vK (fun i => i = 2) τ τ1 := c2.mono (fun i z => z.elim)
  refine g_aload_n (pc := 5) dX3_alike_5 rfl rfl ?_
  refine t_get (pc := 6) (v := .int (nI _)) 33 dX3_alike_6 hR rfl q1832 (Nat.le_of_ble_eq_true rfl) rfl rfl ?_
  rw [c1.1]
  refine g_istore_n (pc := 9) (ls' := [(0, _), (1, _)]) dX3_alike_9 rfl (Nat.le_of_ble_eq_true rfl) rfl ?_
  refine g_aload_n (pc := 10) dX3_alike_10 rfl rfl ?_
  refine t_get (pc := 11) (v := .int (nI _)) 38 dX3_alike_11 hR rfl q1837 (Nat.le_of_ble_eq_true rfl) rfl rfl ?_
  rw [c3]
  by_cases h4 : 400 < l.length
  · rw [if_pos h4]
    refine g_if_eqN (pc := 14) (tgt := 19) dX3_alike_14 rfl (by omega) (fun q => ?_) (fun q => ?_)
    · exact absurd q (by decide)
    · refine g_iconst (pc := 17) (v := nI 0) dX3_alike_17 rfl ?_
      subst hQ
      refine t_zret (pc := 18) dX3_alike_18 hR rfl rfl ⟨false, rfl, c2', by rw [c3, if_pos h4, if_pos (Or.inl h4)], fun z => absurd z (by omega)⟩
  · rw [if_neg h4]
    rw [if_neg h4] at c3
    rw [show min l.length 401 = l.length by omega]
    refine g_if_eqN (pc := 14) (tgt := 19) dX3_alike_14 rfl (by omega) (fun q => ?_) (fun q => ?_)
    · refine g_iconst (pc := 19) (v := nI 0) dX3_alike_19 rfl ?_
      refine g_istore_n (pc := 20) (ls' := [(0, _), (1, _), (2, _)]) dX3_alike_20 rfl (Nat.le_of_ble_eq_true rfl) rfl ?_
      -- behind the second
      have cmp : ∀ (j k : Nat) (τc : tT), k + j = l.length → r.length = l.length → vK (fun i => i = 2) τ τc → τc.1 38 = 0 → rawL τc r → (∀ i, i < l.length → τc.2.2.1 29 (800 + i) = l.getD i 0) → (∀ i, i < k → l.getD i 0 = r.getD i 0) → ∀ h, tH o τc hin h → hG Z X mX3_alike (d + 4) tS hin (tK o hin Q) 65 [(0, .ref o), (1, .int (nI l.length)), (2, .int (nI k))] [] h := by
        intro j
        induction j with
        | zero =>
          intro k τc hk hlen a1 a2 a3 a4 a5 h hR
          refine g_iload_n (pc := 65) dX3_alike_65 rfl rfl ?_
          refine g_iload_n (pc := 66) dX3_alike_66 rfl rfl ?_
          refine g_icmp_geN (pc := 67) (tgt := 97) dX3_alike_67 rfl (by omega) (by omega) (fun q1 => ?_) (fun q1 => ?_)
          · refine g_iconst (pc := 97) (v := nI 1) dX3_alike_97 rfl ?_
            subst hQ
            refine t_zret (pc := 98) dX3_alike_98 hR rfl rfl ⟨true, rfl, a1, by rw [a2, if_neg (by omega)], fun _ _ => ?_⟩
            rw [eq_comm, decide_eq_true_eq]
            apply List.ext_getElem hlen.symm
            intro i h1 h2
            have := a5 i (by omega)
            rw [List.getD_eq_getElem?_getD, List.getD_eq_getElem?_getD, List.getElem?_eq_getElem h1, List.getElem?_eq_getElem h2] at this
            exact this
          · exact absurd q1 (by omega)
        | succ j ih =>
          intro k τc hk hlen a1 a2 a3 a4 a5 h hR
          have hc1 : l.getD k 0 < 128 := h128 _ (getD_mem (by omega))
          have hc2 : r.getD k 0 < 128 := k128 _ (getD_mem (by omega))
          refine g_iload_n (pc := 65) dX3_alike_65 rfl rfl ?_
          refine g_iload_n (pc := 66) dX3_alike_66 rfl rfl ?_
          refine g_icmp_geN (pc := 67) (tgt := 97) dX3_alike_67 rfl (by omega) (by omega) (fun q1 => ?_) (fun q1 => ?_)
          · exact absurd q1 (by omega)
          · refine g_aload_n (pc := 70) dX3_alike_70 rfl rfl ?_
            refine t_get (pc := 71) (v := .ref (tAd _ 29)) 29 dX3_alike_71 hR rfl q1828 (Nat.le_of_ble_eq_true rfl) rfl rfl ?_
            refine g_sipush (pc := 74) (v := nI 800) dX3_alike_74 rfl ?_
            refine g_iload_n (pc := 77) dX3_alike_77 rfl rfl ?_
            first | refine g_iaddN (pc := 78) dX3_alike_78 ?_ | refine g_iadd (pc := 78) dX3_alike_78 ?_
            refine t_cald (pc := 79) dX3_alike_79 hR rfl (by decide) rfl (by decide) (by show _ < 7200; omega) ?_
            rw [a4 k (by omega)]
            refine g_aload_n (pc := 80) dX3_alike_80 rfl rfl ?_
            refine t_get (pc := 81) (v := .ref (tAd _ 30)) 30 dX3_alike_81 hR rfl q1829 (Nat.le_of_ble_eq_true rfl) rfl rfl ?_
            refine g_iload_n (pc := 84) dX3_alike_84 rfl rfl ?_
            refine t_cald (pc := 85) dX3_alike_85 hR rfl (by decide) rfl (by decide) (by show _ < 401; omega) ?_
            rw [a3.2 k (by omega) (by omega)]
            refine g_icmp_eqN (pc := 86) (tgt := 91) dX3_alike_86 rfl (by omega) (by omega) (fun q2 => ?_) (fun q2 => ?_)
            · refine g_iincN (pc := 91) (k0 := 1) (ls' := [(0, _), (1, _), (2, _)]) dX3_alike_91 rfl (Nat.le_of_ble_eq_true rfl) rfl ?_
              refine g_goto (pc := 94) (tgt := 65) dX3_alike_94 rfl ?_
              refine ih (k + 1) τc (by omega) hlen a1 a2 a3 a4 (fun i hi => ?_) h hR
              by_cases e : i = k
              · rw [e]; exact q2
              · exact a5 i (by omega)
            · refine g_iconst (pc := 89) (v := nI 0) dX3_alike_89 rfl ?_
              subst hQ
              refine t_zret (pc := 90) dX3_alike_90 hR rfl rfl ⟨false, rfl, a1, by rw [a2, if_neg (by omega)], fun _ _ => ?_⟩
              rw [eq_comm, decide_eq_false_iff_not]
              intro z
              rw [z] at q2
              exact q2 rfl
      have sec : ∀ (τc : tT), vK (fun i => i = 2) τ τc → τc.1 38 = 0 → (∀ i, i < l.length → τc.2.2.1 29 (800 + i) = l.getD i 0) → ∀ k h, tH o τc hin h → hG Z X mX3_alike (d + 4) tS hin (tK o hin Q) 48 [(0, .ref o), (1, .int (nI l.length)), (2, .int (nI k))] [] h := by
        intro τc a1 a2 a3 k h hR
        refine g_aload_n (pc := 48) dX3_alike_48 rfl rfl ?_
        refine g_iconst (pc := 49) (v := nI 1) dX3_alike_49 rfl ?_
        refine t_inv (pc := 50) dX3_alike_50 hR (tc_showRaw _ 1 D w (by decide) (hD.keep a1) ha (vR.keep a1 (by decide) hw)) meX3_showRaw q2184 q2186 qs58 rfl rfl (Nat.le_of_ble_eq_true rfl) (fun u τ2 h hp hR => ?_)
        obtain ⟨rfl, b1, b2, b3⟩ := hp
        rw [hk0] at b1 b3
        rw [a2] at b3
        have b2' : vK (fun i => i = 2) τ τ2 := a1.trans (b2.mono (fun i z => z.elim))
        refine g_iload_n (pc := 53) dX3_alike_53 rfl rfl ?_
        refine g_aload_n (pc := 54) dX3_alike_54 rfl rfl ?_
        refine t_get (pc := 55) (v := .int (nI _)) 33 dX3_alike_55 hR rfl q1832 (Nat.le_of_ble_eq_true rfl) rfl rfl ?_
        rw [b1.1]
        refine g_icmp_eqN (pc := 58) (tgt := 63) dX3_alike_58 rfl (by omega) (by omega) (fun q1 => ?_) (fun q1 => ?_)
        · rw [if_neg (by omega)] at b3
          refine g_iconst (pc := 63) (v := nI 0) dX3_alike_63 rfl ?_
          refine g_istore_n (pc := 64) (ls' := [(0, _), (1, _), (2, _)]) dX3_alike_64 rfl (Nat.le_of_ble_eq_true rfl) rfl ?_
          refine cmp l.length 0 τ2 (by omega) (by omega) b2' b3 b1 (fun i hi => ?_) (fun i hi => absurd hi (Nat.not_lt_zero _)) h hR
          rw [(b2.2.2.2 29 (800 + i) (Or.inr (Or.inr ⟨rfl, fun z => z⟩))).1]
          exact a3 i hi
        · refine g_iconst (pc := 61) (v := nI 0) dX3_alike_61 rfl ?_
          subst hQ
          refine t_zret (pc := 62) dX3_alike_62 hR rfl rfl ⟨false, rfl, b2', ?_, fun _ hr4 => ?_⟩
          · rw [b3]
            by_cases z : 400 < r.length
            · rw [if_pos z, if_pos (Or.inr z)]
            · rw [if_neg z, if_neg (by omega)]
          · rw [eq_comm, decide_eq_false_iff_not]
            intro z
            rw [z] at q1
            omega
      have copy : ∀ (j k : Nat) (τc : tT), k + j = l.length → vK (fun i => i = 2) τ τc → τc.1 38 = 0 → rawL τc l → (∀ i, i < k → τc.2.2.1 29 (800 + i) = l.getD i 0) → ∀ h, tH o τc hin h → hG Z X mX3_alike (d + 4) tS hin (tK o hin Q) 21 [(0, .ref o), (1, .int (nI l.length)), (2, .int (nI k))] [] h := by
        intro j
        induction j with
        | zero =>
          intro k τc hk a1 a2 a3 a4 h hR
          refine g_iload_n (pc := 21) dX3_alike_21 rfl rfl ?_
          refine g_iload_n (pc := 22) dX3_alike_22 rfl rfl ?_
          refine g_icmp_geN (pc := 23) (tgt := 48) dX3_alike_23 rfl (by omega) (by omega) (fun q1 => ?_) (fun q1 => ?_)
          · exact sec τc a1 a2 (fun i hi => a4 i (by omega)) k h hR
          · exact absurd q1 (by omega)
        | succ j ih =>
          intro k τc hk a1 a2 a3 a4 h hR
          have hc1 : l.getD k 0 < 128 := h128 _ (getD_mem (by omega))
          refine g_iload_n (pc := 21) dX3_alike_21 rfl rfl ?_
          refine g_iload_n (pc := 22) dX3_alike_22 rfl rfl ?_
          refine g_icmp_geN (pc := 23) (tgt := 48) dX3_alike_23 rfl (by omega) (by omega) (fun q1 => ?_) (fun q1 => ?_)
          · exact absurd q1 (by omega)
          · refine g_aload_n (pc := 26) dX3_alike_26 rfl rfl ?_
            refine t_get (pc := 27) (v := .ref (tAd _ 29)) 29 dX3_alike_27 hR rfl q1828 (Nat.le_of_ble_eq_true rfl) rfl rfl ?_
            refine g_sipush (pc := 30) (v := nI 800) dX3_alike_30 rfl ?_
            refine g_iload_n (pc := 33) dX3_alike_33 rfl rfl ?_
            first | refine g_iaddN (pc := 34) dX3_alike_34 ?_ | refine g_iadd (pc := 34) dX3_alike_34 ?_
            refine g_aload_n (pc := 35) dX3_alike_35 rfl rfl ?_
            refine t_get (pc := 36) (v := .ref (tAd _ 30)) 30 dX3_alike_36 hR rfl q1829 (Nat.le_of_ble_eq_true rfl) rfl rfl ?_
            refine g_iload_n (pc := 39) dX3_alike_39 rfl rfl ?_
            refine t_cald (pc := 40) dX3_alike_40 hR rfl (by decide) rfl (by decide) (by show _ < 401; omega) ?_
            rw [a3.2 k (by omega) (by omega)]
            refine t_cast (pc := 41) dX3_alike_41 hR rfl (by decide) rfl (by decide) (by show _ < 7200; omega) (by omega) (fun h hR => ?_)
            refine g_iincN (pc := 42) (k0 := 1) (ls' := [(0, _), (1, _), (2, _)]) dX3_alike_42 rfl (Nat.le_of_ble_eq_true rfl) rfl ?_
            refine g_goto (pc := 45) (tgt := 21) dX3_alike_45 rfl ?_
            refine ih (k + 1) (tAN τc 29 (800 + k) (l.getD k 0)) (by omega) (a1.an (vKp_w (show (800 + k) / 400 = 2 by omega))) a2 (a3.same rfl rfl) (fun i hi => ?_) h hR
            by_cases e : i = k
            · rw [e]; exact rAN_s
            · rw [rAN_i (by omega)]; exact a4 i (by omega)
      exact copy l.length 0 τ1 (by omega) c2' c3 c1 (fun i hi => absurd hi (Nat.not_lt_zero _)) h hR
    · exact absurd q (by decide)
end TW20
