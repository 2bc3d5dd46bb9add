/-! TWIN 13: names; add, put, text -/
set_option maxRecDepth 100000
theorem lg_cmp_0 {x y : Int64} : lg_cmp x y = 0 ↔ x = y := by
  unfold lg_cmp
  constructor
  · intro q
    split at q
    · exact absurd q (by decide)
    · split at q
      · assumption
      · exact absurd q (by decide)
  · intro q
    subst q
    rw [if_neg (Int64.lt_irrefl), if_pos rfl]
theorem getD_app1 {α : Type} {l : List α} {a d : α} {i : Nat} (h : i < l.length) : (l ++ [a]).getD i d = l.getD i d := by
  rw [List.getD_eq_getElem?_getD, List.getElem?_append_left h, ← List.getD_eq_getElem?_getD]
theorem getD_app2 {α : Type} {l : List α} {a d : α} : (l ++ [a]).getD l.length d = a := by
  simp [List.getD_eq_getElem?_getD]
theorem getD_set1 {α : Type} {l : List α} {a d : α} {k : Nat} (h : k < l.length) : (l.set k a).getD k d = a := by
  rw [List.getD_eq_getElem?_getD, List.getElem?_set_self h]; rfl
theorem getD_set2 {α : Type} {l : List α} {a d : α} {k i : Nat} (h : i ≠ k) : (l.set k a).getD i d = l.getD i d := by
  rw [List.getD_eq_getElem?_getD, List.getElem?_set_ne (Ne.symm h), ← List.getD_eq_getElem?_getD]
theorem fnP_some {n : List Nat} : ∀ {ps : List (List Nat × Nat)} {k : Nat}, k < ps.length → (ps.getD k ([], 0)).1 = n → (∀ j, j < k → (ps.getD j ([], 0)).1 ≠ n) → fnP n ps = some k
  | [], k, h, _, _ => absurd h (Nat.not_lt_zero _)
  | q :: r, 0, _, h, _ => by
    have h : q.1 = n := h
    unfold fnP; rw [if_pos h]
  | q :: r, k + 1, hk, h, hn => by
    have h0 : q.1 ≠ n := hn 0 (by omega)
    unfold fnP
    rw [if_neg h0, fnP_some (ps := r) (k := k) (by simpa using hk) h (fun j hj => hn (j + 1) (by omega))]
    rfl
theorem fnP_none {n : List Nat} : ∀ {ps : List (List Nat × Nat)}, (∀ j, j < ps.length → (ps.getD j ([], 0)).1 ≠ n) → fnP n ps = none
  | [], _ => rfl
  | q :: r, hn => by
    have h0 : q.1 ≠ n := hn 0 (by simp)
    unfold fnP
    rw [if_neg h0, fnP_none (ps := r) (fun j hj => hn (j + 1) (by simpa using hj))]
    rfl
theorem fnP_at {n : List Nat} : ∀ {ps : List (List Nat × Nat)} {k : Nat}, fnP n ps = some k → k < ps.length ∧ (ps.getD k ([], 0)).1 = n
  | [], k, h => by cases h
  | q :: r, k, h => by
    unfold fnP at h
    split at h
    · rename_i e
      cases h
      exact ⟨by simp, e⟩
    · cases hr : fnP n r with
      | none => rw [hr] at h; cases h
      | some j =>
        rw [hr] at h
        cases h
        have := fnP_at hr
        exact ⟨by simp; omega, this.2⟩
def dAdd (D : aD) (l x : Nat) : aD := (D.1, fun a => if a = l then .inr (.inr (false, aPs (D.2 l) ++ [([], x)])) else D.2 a)
def ptP (n : List Nat) (x : Nat) (ps : List (List Nat × Nat)) : List (List Nat × Nat) := match fnP n ps with
  | some k => ps.set k (n, x)
  | none => ps ++ [(n, x)]
def dPut (D : aD) (m : Nat) (n : List Nat) (x : Nat) : aD := (D.1, fun a => if a = m then .inr (.inr (true, ptP n x (aPs (D.2 m)))) else D.2 a)
def dNew (D : aD) (y : aX) : aD := (D.1 + 1, fun a => if a = D.1 then y else D.2 a)
theorem ptP_mem {n : List Nat} {x : Nat} {ps : List (List Nat × Nat)} {q : List Nat × Nat} (h : q ∈ ptP n x ps) : q ∈ ps ∨ q = (n, x) := by
  unfold ptP at h
  split at h
  · exact List.mem_or_eq_of_mem_set h
  · rcases List.mem_append.mp h with z | z
    · exact Or.inl z
    · exact Or.inr (by simpa using z)
def inR (D : aD) (l : Int32) : Prop := 0 ≤ l.toInt ∧ l.toInt < D.1
theorem tX.ls {τ : tT} {x : Nat} : ∀ {y : aX}, tX τ x y → isLs y = true → y = .inr (.inr (false, aPs y))
  | .inl v, _, h => by cases h
  | .inr (.inl l), _, h => by cases h
  | .inr (.inr (true, ps)), _, h => by cases h
  | .inr (.inr (false, ps)), _, _ => rfl
theorem isLs_eq : ∀ {y : aX}, isLs y = true → y = .inr (.inr (false, aPs y))
  | .inl v, h => by cases h
  | .inr (.inl l), h => by cases h
  | .inr (.inr (true, ps)), h => by cases h
  | .inr (.inr (false, ps)), _ => rfl
theorem isMp_eq : ∀ {y : aX}, isMp y = true → y = .inr (.inr (true, aPs y))
  | .inl v, h => by cases h
  | .inr (.inl l), h => by cases h
  | .inr (.inr (true, ps)), _ => rfl
  | .inr (.inr (false, ps)), h => by cases h
section TW13
variable {Z : hE} {o : Nat} {τ : tT}
theorem tc_lineName (d : Nat) (n : Nat) (hn : τ.1 2 = n) (hn2 : n ≤ 200) (hf : ∀ i, i < n → τ.2.2.1 7 i < 128) : tC Z mX3_lineName (d + 1) o [.ref o] τ (fun r τ' => τ' = τ ∧ ∃ w : Nat, r = some (.long (lN w)) ∧ w < 2 ^ 40 ∧ (nmOK (sgF (τ.2.2.1 7) 0 n) → w = encN (sgF (τ.2.2.1 7) 0 n)) ∧ (¬ nmOK (sgF (τ.2.2.1 7) 0 n) → w = 0)) := by
  refine tC.of rfl rfl (Nat.le_of_ble_eq_true rfl) rfl (fun X hin h hR => ?_)
  generalize hQ : (fun (r : Option Value) (τ' : tT) => τ' = τ ∧ ∃ w : Nat, r = some (.long (lN w)) ∧ w < 2 ^ 40 ∧ (nmOK (sgF (τ.2.2.1 7) 0 n) → w = encN (sgF (τ.2.2.1 7) 0 n)) ∧ (¬ nmOK (sgF (τ.2.2.1 7) 0 n) → w = 0)) = Q
  have bad : (¬ nmOK (sgF (τ.2.2.1 7) 0 n)) → ∀ k w : Nat, ∀ h, tH o τ hin h → hG Z X mX3_lineName (d + 1) tS hin (tK o hin Q) 34 [(0, .ref o), (1, .long (lN w)), (3, .int (nI k))] [] h := by
    intro hb k w h hR
    refine g_lconst (pc := 34) (v := lN 0) dX3_lineName_34 rfl ?_
    subst hQ
    exact t_lret (pc := 35) dX3_lineName_35 hR rfl (⟨rfl, 0, rfl, by decide, fun z => absurd z hb, fun _ => rfl⟩)
  have loop : ∀ (j k : Nat), k + j = n → (∀ i, i < k → isL (τ.2.2.1 7 i) = true) → (0 < k → n ≤ 8) → ∀ h, tH o τ hin h → hG Z X mX3_lineName (d + 1) tS hin (tK o hin Q) 4 [(0, .ref o), (1, .long (lN (encN (sgF (τ.2.2.1 7) 0 k)))), (3, .int (nI k))] [] h := by
    intro j
    induction j with
    | zero =>
      intro k hk h1 h2 h hR
      have e : k = n := by omega
      subst e
      refine g_iload_n (pc := 4) dX3_lineName_4 rfl rfl ?_
      refine g_aload_n (pc := 5) dX3_lineName_5 rfl rfl ?_
      refine t_get (pc := 6) (v := .int (nI _)) 2 dX3_lineName_6 hR rfl q1801 (Nat.le_of_ble_eq_true rfl) rfl rfl ?_
      rw [hn]
      refine g_icmp_geN (pc := 9) (tgt := 60) dX3_lineName_9 rfl (by omega) (by omega) (fun q => ?_) (fun q => ?_)
      · refine g_lload_n (pc := 60) dX3_lineName_60 rfl rfl ?_
        subst hQ
        have hl : ∀ c ∈ sgF (τ.2.2.1 7) 0 k, isL c = true := sgF_mem (P := fun c => isL c = true) (fun i hi => by rw [Nat.zero_add]; exact h1 i hi)
        refine t_lret (pc := 61) dX3_lineName_61 hR rfl ⟨rfl, _, rfl, ?_, fun _ => rfl, fun z => ?_⟩
        · rcases Nat.eq_zero_or_pos k with e | e
          · subst e; show (0 : Nat) < 2 ^ 40; decide
          · exact encN_lt hl (by rw [sgF_len]; exact h2 e)
        · rcases Nat.eq_zero_or_pos k with e | e
          · subst e; rfl
          · exact absurd ⟨hl, by rw [sgF_len]; exact e, by rw [sgF_len]; exact h2 e⟩ z
      · exact absurd q (by omega)
    | succ j ih =>
      intro k hk h1 h2 h hR
      have hc := hf k (by omega)
      refine g_iload_n (pc := 4) dX3_lineName_4 rfl rfl ?_
      refine g_aload_n (pc := 5) dX3_lineName_5 rfl rfl ?_
      refine t_get (pc := 6) (v := .int (nI _)) 2 dX3_lineName_6 hR rfl q1801 (Nat.le_of_ble_eq_true rfl) rfl rfl ?_
      rw [hn]
      refine g_icmp_geN (pc := 9) (tgt := 60) dX3_lineName_9 rfl (by omega) (by omega) (fun q => ?_) (fun q => ?_)
      · exact absurd q (by omega)
      · refine g_aload_n (pc := 12) dX3_lineName_12 rfl rfl ?_
        refine g_aload_n (pc := 13) dX3_lineName_13 rfl rfl ?_
        refine t_get (pc := 14) (v := .ref (tAd _ 7)) 7 dX3_lineName_14 hR rfl q1806 (Nat.le_of_ble_eq_true rfl) rfl rfl ?_
        refine g_iload_n (pc := 17) dX3_lineName_17 rfl rfl ?_
        refine t_cald (pc := 18) dX3_lineName_18 hR rfl (by decide) rfl (by decide) (by show _ < 200; omega) ?_
        refine t_invE (pc := 19) dX3_lineName_19 hR (tc_letter d _ (by omega)) meX3_letter q2004 q2006 qs22 rfl rfl (Nat.le_of_ble_eq_true rfl) (fun h hR => ?_)
        refine g_if_eqB (pc := 22) (tgt := 34) dX3_lineName_22 rfl (fun q1 => ?_) (fun q1 => ?_)
        · refine bad (fun z => ?_) k _ h hR
          have := z.1 (τ.2.2.1 7 k) (by
            have hm : (sgF (τ.2.2.1 7) 0 n).getD k 0 ∈ sgF (τ.2.2.1 7) 0 n := getD_mem (by rw [sgF_len]; omega)
            rw [sgF_get (by omega), Nat.zero_add] at hm
            exact hm)
          rw [q1] at this; cases this
        · refine g_aload_n (pc := 25) dX3_lineName_25 rfl rfl ?_
          refine t_get (pc := 26) (v := .int (nI _)) 2 dX3_lineName_26 hR rfl q1801 (Nat.le_of_ble_eq_true rfl) rfl rfl ?_
          refine g_bipush (pc := 29) (v := nI 8) dX3_lineName_29 rfl ?_
          rw [hn]
          refine g_icmp_leN (pc := 31) (tgt := 36) dX3_lineName_31 rfl (by omega) (by omega) (fun q2 => ?_) (fun q2 => ?_)
          · have hl := isL_iff.mp q1
            refine g_lload_n (pc := 36) dX3_lineName_36 rfl rfl ?_
            refine g_ldc2 (pc := 37) dX3_lineName_37 q2008 ?_
            change hG _ _ _ _ _ _ _ _ _ (.long (lN 32) :: _) _
            first | refine g_lmulN (pc := 40) dX3_lineName_40 ?_ | refine g_lmul (pc := 40) dX3_lineName_40 ?_
            refine g_aload_n (pc := 41) dX3_lineName_41 rfl rfl ?_
            refine t_get (pc := 42) (v := .ref (tAd _ 7)) 7 dX3_lineName_42 hR rfl q1806 (Nat.le_of_ble_eq_true rfl) rfl rfl ?_
            refine g_iload_n (pc := 45) dX3_lineName_45 rfl rfl ?_
            refine t_cald (pc := 46) dX3_lineName_46 hR rfl (by decide) rfl (by decide) (by show _ < 200; omega) ?_
            first | refine g_i2lN (pc := 47) dX3_lineName_47 (by omega) ?_ | refine g_i2l (pc := 47) dX3_lineName_47 ?_
            first | refine g_laddN (pc := 48) dX3_lineName_48 ?_ | refine g_ladd (pc := 48) dX3_lineName_48 ?_
            refine g_ldc2 (pc := 49) dX3_lineName_49 q2009 ?_
            change hG _ _ _ _ _ _ _ _ _ (.long (lN 96) :: _) _
            first | refine g_lsubN (pc := 52) dX3_lineName_52 (by omega) ?_ | refine g_lsub (pc := 52) dX3_lineName_52 ?_
            refine g_lstore_n (pc := 53) (ls' := [(0, _), (1, _), (3, _)]) dX3_lineName_53 rfl (Nat.le_of_ble_eq_true rfl) rfl ?_
            refine g_iincN (pc := 54) (k0 := 1) (ls' := [(0, _), (1, _), (3, _)]) dX3_lineName_54 rfl (Nat.le_of_ble_eq_true rfl) rfl ?_
            refine g_goto (pc := 57) (tgt := 4) dX3_lineName_57 rfl ?_
            have e1 : encN (sgF (τ.2.2.1 7) 0 k) * 32 + τ.2.2.1 7 k - 96 = encN (sgF (τ.2.2.1 7) 0 (k + 1)) := by
              rw [sgF_snoc, encN_snoc, Nat.zero_add]; omega
            rw [e1]
            refine ih (k + 1) (by omega) (fun i hi => ?_) (fun _ => q2) h hR
            by_cases e : i = k
            · rw [e]; exact q1
            · exact h1 i (by omega)
          · refine bad (fun z => ?_) k _ h hR
            have := z.2.2
            rw [sgF_len] at this
            omega
  refine g_lconst (pc := 0) (v := lN 0) dX3_lineName_0 rfl ?_
  refine g_lstore_n (pc := 1) (ls' := [(0, _), (1, _)]) dX3_lineName_1 rfl (Nat.le_of_ble_eq_true rfl) rfl ?_
  refine g_iconst (pc := 2) (v := nI 0) dX3_lineName_2 rfl ?_
  refine g_istore_n (pc := 3) (ls' := [(0, _), (1, _), (3, _)]) dX3_lineName_3 rfl (Nat.le_of_ble_eq_true rfl) rfl ?_
  exact loop n 0 (by omega) (fun i hi => absurd hi (Nat.not_lt_zero _)) (fun z => absurd z (Nat.lt_irrefl _)) h hR
theorem tc_find (d m : Nat) (l : List Nat) (ps : List (List Nat × Nat)) (hm : m < 60) (hl : nmOK l) (hx : tX τ m (.inr (.inr (true, ps)))) : tC Z mX3_find d o [.ref o, .int (nI m), .long (lN (encN l))] τ (fun r τ' => r = some (.int (oI (fnP l ps))) ∧ τ' = τ) := by
  refine tC.of rfl rfl (Nat.le_of_ble_eq_true rfl) rfl (fun X hin h hR => ?_)
  obtain ⟨k8, k9, kl, kp, kn⟩ := hx
  have loop : ∀ (j k : Nat), k + j = ps.length → (∀ i, i < k → (ps.getD i ([], 0)).1 ≠ l) → ∀ h, tH o τ hin h → hG Z X mX3_find d tS hin (tK o hin (fun r τ' => r = some (.int (oI (fnP l ps))) ∧ τ' = τ)) 3 [(0, .ref o), (1, .int (nI m)), (2, .long (lN (encN l))), (4, .int (nI k))] [] h := by
    intro j
    induction j with
    | zero =>
      intro k hk h1 h hR
      refine g_iload (pc := 3) dX3_find_3 rfl ?_
      refine g_aload_n (pc := 5) dX3_find_5 rfl rfl ?_
      refine t_get (pc := 6) (v := .ref (tAd _ 9)) 9 dX3_find_6 hR rfl q1808 (Nat.le_of_ble_eq_true rfl) rfl rfl ?_
      refine g_iload_n (pc := 9) dX3_find_9 rfl rfl ?_
      refine t_ialdI (pc := 10) dX3_find_10 hR rfl (by decide) rfl (by decide) (by show _ < 60; omega) ?_
      rw [k9]
      refine g_icmp_geN (pc := 11) (tgt := 40) dX3_find_11 rfl (by omega) (by omega) (fun q => ?_) (fun q => ?_)
      · refine g_iconst (pc := 40) (v := (-1)) dX3_find_40 rfl ?_
        exact t_iret (pc := 41) dX3_find_41 hR rfl (⟨by rw [fnP_none (fun j hj => h1 j (by omega))]; rfl, rfl⟩)
      · exact absurd q (by omega)
    | succ j ih =>
      intro k hk h1 h hR
      obtain ⟨e1, e2⟩ := kn rfl k (by omega)
      refine g_iload (pc := 3) dX3_find_3 rfl ?_
      refine g_aload_n (pc := 5) dX3_find_5 rfl rfl ?_
      refine t_get (pc := 6) (v := .ref (tAd _ 9)) 9 dX3_find_6 hR rfl q1808 (Nat.le_of_ble_eq_true rfl) rfl rfl ?_
      refine g_iload_n (pc := 9) dX3_find_9 rfl rfl ?_
      refine t_ialdI (pc := 10) dX3_find_10 hR rfl (by decide) rfl (by decide) (by show _ < 60; omega) ?_
      rw [k9]
      refine g_icmp_geN (pc := 11) (tgt := 40) dX3_find_11 rfl (by omega) (by omega) (fun q => ?_) (fun q => ?_)
      · exact absurd q (by omega)
      · refine g_aload_n (pc := 14) dX3_find_14 rfl rfl ?_
        refine t_get (pc := 15) (v := .ref (tAd _ 12)) 12 dX3_find_15 hR rfl q1811 (Nat.le_of_ble_eq_true rfl) rfl rfl ?_
        refine g_iload_n (pc := 18) dX3_find_18 rfl rfl ?_
        refine g_bipush (pc := 19) (v := nI 10) dX3_find_19 rfl ?_
        first | refine g_imulN (pc := 21) dX3_find_21 ?_ | refine g_imul (pc := 21) dX3_find_21 ?_
        refine g_iload (pc := 22) dX3_find_22 rfl ?_
        first | refine g_iaddN (pc := 24) dX3_find_24 ?_ | refine g_iadd (pc := 24) dX3_find_24 ?_
        rw [Nat.mul_comm m 10]
        refine t_lald (pc := 25) dX3_find_25 hR (by omega) ?_
        refine g_lload_n (pc := 26) dX3_find_26 rfl rfl ?_
        refine g_lcmp (pc := 27) dX3_find_27 ?_
        rw [e1]
        refine g_if_ne (pc := 28) (tgt := 34) dX3_find_28 rfl (fun q1 => ?_) (fun q1 => ?_)
        · refine g_iincN (pc := 34) (k0 := 1) (ls' := [(0, _), (1, _), (2, _), (4, _)]) dX3_find_34 rfl (Nat.le_of_ble_eq_true rfl) rfl ?_
          refine g_goto (pc := 37) (tgt := 3) dX3_find_37 rfl ?_
          refine ih (k + 1) (by omega) (fun i hi => ?_) h hR
          by_cases e : i = k
          · rw [e]; intro z; exact q1 (lg_cmp_0.mpr (by rw [z]))
          · exact h1 i (by omega)
        · refine g_iload (pc := 31) dX3_find_31 rfl ?_
          have e3 : (ps.getD k ([], 0)).1 = l := by
            have z := lg_cmp_0.mp q1
            have b1 := encN_lt e2.1 e2.2.2
            have b2 := encN_lt hl.1 hl.2.2
            exact encN_inj e2.1 hl.1 ((pk_lEQ (by omega) (by omega)).mp z)
          exact t_iret (pc := 33) dX3_find_33 hR rfl (⟨by rw [fnP_some (by omega) e3 h1]; rfl, rfl⟩)
  refine g_iconst (pc := 0) (v := nI 0) dX3_find_0 rfl ?_
  refine g_istore (pc := 1) (ls' := [(0, _), (1, _), (2, _), (4, _)]) dX3_find_1 (Nat.le_of_ble_eq_true rfl) rfl ?_
  exact loop ps.length 0 (by omega) (fun i hi => absurd hi (Nat.not_lt_zero _)) h hR
theorem tD_add {a b : Nat} {D : aD} {τ1 : tT} (hD : tD τ1 D) (ha : a < D.1) (hb : b < D.1) (hls : isLs (D.2 a) = true) (hlen : (aPs (D.2 a)).length < 10) : tD (tAI (tAN τ1 11 (10 * a + (aPs (D.2 a)).length) b) 9 a (nI ((aPs (D.2 a)).length + 1))) (dAdd D a b) := by
  refine ⟨hD.1, hD.2.1, fun x hx => ?_⟩
  have hD2 := hD.2.1
  have hx : x < D.1 := hx
  by_cases e : x = a
  · subst e
    have hit := (hD.2.2 x hx).1
    rw [isLs_eq hls] at hit
    obtain ⟨k8, k9, kl, kp, kn⟩ := hit
    have e1 : (dAdd D x b).2 x = .inr (.inr (false, aPs (D.2 x) ++ [([], b)])) := if_pos rfl
    rw [e1]
    refine ⟨⟨k8, ?_, ?_, fun i hi => ?_, fun z => by cases z⟩, fun q hq => ?_⟩
    · show up2 τ1.2.2.2.1 9 x _ 9 x = _
      rw [up2_s, List.length_append]; rfl
    · rw [List.length_append]; simp; omega
    · show up2 τ1.2.2.1 11 _ b 11 (10 * x + i) = _
      rw [List.length_append] at hi
      simp at hi
      by_cases e : i = (aPs (D.2 x)).length
      · rw [e, up2_s, getD_app2]
      · rw [up2_i (by omega), getD_app1 (by omega)]; exact kp i (by omega)
    · rcases List.mem_append.mp hq with z | z
      · exact (hD.2.2 x hx).2 q z
      · simp at z; rw [z]; exact hb
  · have e1 : (dAdd D a b).2 x = D.2 x := if_neg e
    rw [e1]
    refine ⟨tX.same (a := τ1) (by rfl) ?_ (fun _ _ => by rfl) (fun i hi => ?_) (fun _ _ => by rfl) (hD.2.2 x hx).1, (hD.2.2 x hx).2⟩
    · exact rAI_i e
    · exact rAN_i (τ := τ1) (k := 11) (i := 10 * a + (aPs (D.2 a)).length) (i' := 10 * x + i) (v := b) (by omega)
theorem tc_add (d : Nat) (l x : Int32) (D : aD) (hD : tD τ D) : tC Z mX3_add (d + 1) o [.ref o, .int l, .int x] τ (fun r τ' => (∃ z, r = some (.int z)) ∧ ((¬ (inR D l ∧ inR D x) ∧ τ' = tRf τ 1) ∨ ∃ a b, a < D.1 ∧ b < D.1 ∧ l = nI a ∧ x = nI b ∧
    (((isLs (D.2 a) = false ∨ rch D b a) ∧ τ'.1 = (tRf τ 2).1 ∧ tFa [13] τ τ') ∨ (isLs (D.2 a) = true ∧ ¬ rch D b a ∧ (aPs (D.2 a)).length = 10 ∧ τ'.1 = (tRf τ 3).1 ∧ tFa [13] τ τ') ∨
     (isLs (D.2 a) = true ∧ ¬ rch D b a ∧ (aPs (D.2 a)).length < 10 ∧ r = some (.int (nI ((aPs (D.2 a)).length + 1))) ∧ τ'.1 = (tFN τ 0 0).1 ∧ tFa [9, 11, 13] τ τ' ∧ tD τ' (dAdd D a b))))) := by
  refine tC.of rfl rfl (Nat.le_of_ble_eq_true rfl) rfl (fun X hin h hR => ?_)
  have hD2 := hD.2.1
  have hN : τ.1 4 = D.1 := hD.1
  generalize hQ : (fun (r : Option Value) (τ' : tT) => (∃ z, r = some (.int z)) ∧ ((¬ (inR D l ∧ inR D x) ∧ τ' = tRf τ 1) ∨ ∃ a b, a < D.1 ∧ b < D.1 ∧ l = nI a ∧ x = nI b ∧
    (((isLs (D.2 a) = false ∨ rch D b a) ∧ τ'.1 = (tRf τ 2).1 ∧ tFa [13] τ τ') ∨ (isLs (D.2 a) = true ∧ ¬ rch D b a ∧ (aPs (D.2 a)).length = 10 ∧ τ'.1 = (tRf τ 3).1 ∧ tFa [13] τ τ') ∨
     (isLs (D.2 a) = true ∧ ¬ rch D b a ∧ (aPs (D.2 a)).length < 10 ∧ r = some (.int (nI ((aPs (D.2 a)).length + 1))) ∧ τ'.1 = (tFN τ 0 0).1 ∧ tFa [9, 11, 13] τ τ' ∧ tD τ' (dAdd D a b))))) = Q
  have bad : ¬ (inR D l ∧ inR D x) → ∀ h, tH o τ hin h → hG Z X mX3_add (d + 1) tS hin (tK o hin Q) 16 [(0, .ref o), (1, .int l), (2, .int x)] [] h := by
    intro hb h hR
    refine g_aload_n (pc := 16) dX3_add_16 rfl rfl ?_
    refine g_iconst (pc := 17) (v := nI 1) dX3_add_17 rfl ?_
    refine t_invE (pc := 18) dX3_add_18 hR (tc_refuse _ 1) meX3_refuse q1956 q1958 qs16 rfl rfl (Nat.le_of_ble_eq_true rfl) (fun h hR => ?_)
    subst hQ
    exact t_iret (pc := 21) dX3_add_21 hR rfl (⟨⟨_, rfl⟩, Or.inl ⟨hb, rfl⟩⟩)
  refine g_aload_n (pc := 0) dX3_add_0 rfl rfl ?_
  refine g_iload_n (pc := 1) dX3_add_1 rfl rfl ?_
  refine t_inv (pc := 2) dX3_add_2 hR (tc_no _ l (by omega)) meX3_no q1988 q1990 qs19 rfl rfl (Nat.le_of_ble_eq_true rfl) (fun r τ1 h hp hR => ?_)
  obtain ⟨e0, hp⟩ := hp
  rw [e0] at hR
  rw [hN] at hp
  rcases hp with ⟨h1, rfl⟩ | ⟨a, ha, rfl, rfl⟩
  · refine g_if_neN (pc := 5) (tgt := 16) dX3_add_5 rfl (by omega) (fun q => ?_) (fun q => ?_)
    · exact bad (fun z => h1 z.1) h hR
    · exact absurd q (by decide)
  · refine g_if_neN (pc := 5) (tgt := 16) dX3_add_5 rfl (by omega) (fun q => ?_) (fun q => ?_)
    · exact absurd q (by decide)
    · refine g_aload_n (pc := 8) dX3_add_8 rfl rfl ?_
      refine g_iload_n (pc := 9) dX3_add_9 rfl rfl ?_
      refine t_inv (pc := 10) dX3_add_10 hR (tc_no _ x (by omega)) meX3_no q1988 q1990 qs19 rfl rfl (Nat.le_of_ble_eq_true rfl) (fun r τ2 h hp hR => ?_)
      obtain ⟨e0, hp⟩ := hp
      rw [e0] at hR
      rw [hN] at hp
      rcases hp with ⟨h1, rfl⟩ | ⟨b, hb, rfl, rfl⟩
      · refine g_if_eqN (pc := 13) (tgt := 22) dX3_add_13 rfl (by omega) (fun q => ?_) (fun q => ?_)
        · exact absurd q (by decide)
        · exact bad (fun z => h1 z.2) h hR
      · refine g_if_eqN (pc := 13) (tgt := 22) dX3_add_13 rfl (by omega) (fun q => ?_) (fun q => ?_)
        · have hit := (hD.2.2 a ha).1.kind
          have no2 : ∀ (τ1 : tT), τ1.1 = τ.1 → tFa [13] τ τ1 → (isLs (D.2 a) = false ∨ rch D b a) → ∀ h, tH o τ1 hin h → hG Z X mX3_add (d + 1) tS hin (tK o hin Q) 41 [(0, .ref o), (1, .int (nI a)), (2, .int (nI b))] [] h := by
            intro τ1 c1 c2 hno h hR
            refine g_aload_n (pc := 41) dX3_add_41 rfl rfl ?_
            refine g_iconst (pc := 42) (v := nI 2) dX3_add_42 rfl ?_
            refine t_invE (pc := 43) dX3_add_43 hR (tc_refuse _ 2) meX3_refuse q1956 q1958 qs16 rfl rfl (Nat.le_of_ble_eq_true rfl) (fun h hR => ?_)
            subst hQ
            exact t_iret (pc := 46) dX3_add_46 hR rfl (⟨⟨_, rfl⟩, Or.inr ⟨a, b, ha, hb, rfl, rfl, Or.inl ⟨hno, by simp only [tRf, tFN, c1], c2.fn.fn⟩⟩⟩)
          refine g_aload_n (pc := 22) dX3_add_22 rfl rfl ?_
          refine t_get (pc := 23) (v := .ref (tAd _ 8)) 8 dX3_add_23 hR rfl q1807 (Nat.le_of_ble_eq_true rfl) rfl rfl ?_
          refine g_iload_n (pc := 26) dX3_add_26 rfl rfl ?_
          refine t_iald (pc := 27) dX3_add_27 hR rfl (by decide) rfl (by decide) (by show _ < 60; omega) ?_
          refine g_iconst (pc := 28) (v := nI 2) dX3_add_28 rfl ?_
          refine g_icmp_neN (pc := 29) (tgt := 41) dX3_add_29 rfl (by omega) (by omega) (fun q1 => ?_) (fun q1 => ?_)
          · exact no2 τ rfl (tFa.refl _ τ) (Or.inl (by cases z : isLs (D.2 a) with | false => rfl | true => exact absurd (hit.2.2.2.1.mpr z) q1)) h hR
          · have hls := hit.2.2.2.1.mp q1
            refine g_aload_n (pc := 32) dX3_add_32 rfl rfl ?_
            refine g_iload_n (pc := 33) dX3_add_33 rfl rfl ?_
            refine g_iload_n (pc := 34) dX3_add_34 rfl rfl ?_
            refine t_inv (pc := 35) dX3_add_35 hR (tc_holds _ b a D hD hb ha) meX3_holds q1992 q1994 qs20 rfl rfl (Nat.le_of_ble_eq_true rfl) (fun r τ3 h hp hR => ?_)
            obtain ⟨bb, rfl, hrc, c1, c2⟩ := hp
            refine g_if_eqB (pc := 38) (tgt := 47) dX3_add_38 rfl (fun q2 => ?_) (fun q2 => ?_)
            · have hnr : ¬ rch D b a := fun z => by rw [hrc.mpr z] at q2; cases q2
              have hD3 : tD τ3 D := hD.fa c2 (by rw [c1]) (by decide) (by decide) (by decide) (by decide) (by decide)
              have hk3 := (hD3.2.2 a ha).1.kind
              have h8 : τ3.2.2.1 8 a = 2 := hk3.2.2.2.1.mpr hls
              have h9 := hk3.2.2.1 (by omega)
              refine g_aload_n (pc := 47) dX3_add_47 rfl rfl ?_
              refine t_get (pc := 48) (v := .ref (tAd _ 9)) 9 dX3_add_48 hR rfl q1808 (Nat.le_of_ble_eq_true rfl) rfl rfl ?_
              refine g_iload_n (pc := 51) dX3_add_51 rfl rfl ?_
              refine t_ialdI (pc := 52) dX3_add_52 hR rfl (by decide) rfl (by decide) (by show _ < 60; omega) ?_
              rw [h9.1]
              refine g_bipush (pc := 53) (v := nI 10) dX3_add_53 rfl ?_
              refine g_icmp_neN (pc := 55) (tgt := 64) dX3_add_55 rfl (by omega) (by omega) (fun q3 => ?_) (fun q3 => ?_)
              · refine g_aload_n (pc := 64) dX3_add_64 rfl rfl ?_
                refine t_get (pc := 65) (v := .ref (tAd _ 11)) 11 dX3_add_65 hR rfl q1810 (Nat.le_of_ble_eq_true rfl) rfl rfl ?_
                refine g_iload_n (pc := 68) dX3_add_68 rfl rfl ?_
                refine g_bipush (pc := 69) (v := nI 10) dX3_add_69 rfl ?_
                first | refine g_imulN (pc := 71) dX3_add_71 ?_ | refine g_imul (pc := 71) dX3_add_71 ?_
                refine g_aload_n (pc := 72) dX3_add_72 rfl rfl ?_
                refine t_get (pc := 73) (v := .ref (tAd _ 9)) 9 dX3_add_73 hR rfl q1808 (Nat.le_of_ble_eq_true rfl) rfl rfl ?_
                refine g_iload_n (pc := 76) dX3_add_76 rfl rfl ?_
                refine t_ialdI (pc := 77) dX3_add_77 hR rfl (by decide) rfl (by decide) (by show _ < 60; omega) ?_
                rw [h9.1]
                first | refine g_iaddN (pc := 78) dX3_add_78 ?_ | refine g_iadd (pc := 78) dX3_add_78 ?_
                rw [Nat.mul_comm a 10]
                refine g_iload_n (pc := 79) dX3_add_79 rfl rfl ?_
                refine t_iast (pc := 80) dX3_add_80 hR rfl (by decide) rfl (by decide) (by show _ < 600; omega) (fun h hR => ?_)
                refine g_aload_n (pc := 81) dX3_add_81 rfl rfl ?_
                refine t_get (pc := 82) (v := .ref (tAd _ 9)) 9 dX3_add_82 hR rfl q1808 (Nat.le_of_ble_eq_true rfl) rfl rfl ?_
                refine g_iload_n (pc := 85) dX3_add_85 rfl rfl ?_
                refine g_dup2 (pc := 86) dX3_add_86 rfl rfl ?_
                refine t_ialdI (pc := 87) dX3_add_87 hR rfl (by decide) rfl (by decide) (by show _ < 60; omega) ?_
                rw [show (tAN τ3 11 (10 * a + (aPs (D.2 a)).length) b).2.2.2.1 9 a = nI (aPs (D.2 a)).length from h9.1]
                refine g_iconst (pc := 88) (v := nI 1) dX3_add_88 rfl ?_
                first | refine g_iaddN (pc := 89) dX3_add_89 ?_ | refine g_iadd (pc := 89) dX3_add_89 ?_
                refine t_iastI (pc := 90) dX3_add_90 hR rfl (by decide) rfl (by decide) (by show _ < 60; omega) (fun h hR => ?_)
                refine g_aload_n (pc := 91) dX3_add_91 rfl rfl ?_
                refine g_aload_n (pc := 92) dX3_add_92 rfl rfl ?_
                refine t_get (pc := 93) (v := .ref (tAd _ 9)) 9 dX3_add_93 hR rfl q1808 (Nat.le_of_ble_eq_true rfl) rfl rfl ?_
                refine g_iload_n (pc := 96) dX3_add_96 rfl rfl ?_
                refine t_ialdI (pc := 97) dX3_add_97 hR rfl (by decide) rfl (by decide) (by show _ < 60; omega) ?_
                rw [show (tAI (tAN τ3 11 (10 * a + (aPs (D.2 a)).length) b) 9 a (nI ((aPs (D.2 a)).length + 1))).2.2.2.1 9 a = nI ((aPs (D.2 a)).length + 1) from up2_s τ3.2.2.2.1 9 a _]
                refine t_invE (pc := 98) dX3_add_98 hR (tc_fine _ _) meX3_fine q1960 q1962 qs17 rfl rfl (Nat.le_of_ble_eq_true rfl) (fun h hR => ?_)
                subst hQ
                have hlen : (aPs (D.2 a)).length < 10 := by omega
                refine t_iret (pc := 101) dX3_add_101 hR rfl ⟨⟨_, rfl⟩, Or.inr ⟨a, b, ha, hb, rfl, rfl, Or.inr (Or.inr ⟨hls, hnr, hlen, rfl, by simp only [tFN, tAI, tAN, c1], ?_, ?_⟩)⟩⟩
                · exact (((c2.mono (by simp)).an (by simp)).ai (by simp)).fn
                · exact tD.fa (B := []) ((tFa.refl [] _).fn) rfl (by simp) (by simp) (by simp) (by simp) (by simp) (tD_add hD3 ha hb hls hlen)
              · refine g_aload_n (pc := 58) dX3_add_58 rfl rfl ?_
                refine g_iconst (pc := 59) (v := nI 3) dX3_add_59 rfl ?_
                refine t_invE (pc := 60) dX3_add_60 hR (tc_refuse _ 3) meX3_refuse q1956 q1958 qs16 rfl rfl (Nat.le_of_ble_eq_true rfl) (fun h hR => ?_)
                subst hQ
                exact t_iret (pc := 63) dX3_add_63 hR rfl (⟨⟨_, rfl⟩, Or.inr ⟨a, b, ha, hb, rfl, rfl, Or.inr (Or.inl ⟨hls, hnr, q3, by simp only [tRf, tFN, c1], c2.fn.fn⟩)⟩⟩)
            · exact no2 τ3 c1 c2 (Or.inr (hrc.mp q2)) h hR
        · exact absurd q (by decide)
end TW13
