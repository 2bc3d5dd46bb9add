/-! TWIN 23: push, nextTurn, here, underTemplates, tagFrom -/
set_option maxRecDepth 100000
/-- the template at the bottom -/
def botU : Nat → List aU → Nat
  | t, [] => t
  | _, .inl (t', _) :: U => botU t' U
  | t, .inr _ :: U => botU t U
def smP (τ : tT) : Nat → Nat
  | 0 => 0
  | n + 1 => smP τ n + τ.2.2.1 47 n
theorem uR.sm {Tm : Nat → Option aT} {D : aD} {τ : tT} : ∀ {U : List aU} {t : Nat}, uR Tm D τ t U → cpU U = 1 + smP τ U.length ∧ ∀ i, i < U.length → τ.2.2.1 47 i < 2
  | [], _, _ => ⟨rfl, fun i hi => absurd hi (Nat.not_lt_zero _)⟩
  | .inl (t', g) :: U, t, ⟨x1, _, _, _, _, x6⟩ => by
    obtain ⟨h1, h2⟩ := x6.sm
    refine ⟨?_, fun i hi => ?_⟩
    · show cpU U + 1 = 1 + (smP τ U.length + τ.2.2.1 47 U.length)
      rw [h1, x1]; omega
    · have hi : i < U.length + 1 := hi
      by_cases e : i = U.length
      · rw [e, x1]; decide
      · exact h2 i (by omega)
  | .inr (b, ot, k, x) :: U, t, ⟨x1, _, _, _, _, _, x7⟩ => by
    obtain ⟨h1, h2⟩ := x7.sm
    refine ⟨?_, fun i hi => ?_⟩
    · show cpU U = 1 + (smP τ U.length + τ.2.2.1 47 U.length)
      rw [h1, x1]; omega
    · have hi : i < U.length + 1 := hi
      by_cases e : i = U.length
      · rw [e, x1]; decide
      · exact h2 i (by omega)
def pU (τ : tT) (t g pa ot : Nat) : tT := tFN (tAI (tAN (tAN (tAN (tAN (tAN τ 40 (τ.1 37) t) 41 (τ.1 37) g) 47 (τ.1 37) pa) 46 (τ.1 37) ot) 42 (τ.1 37) 0) 43 (τ.1 37) (-1)) 37 (τ.1 37 + 1)
section TW23
variable {Z : hE} {o : Nat} {τ : tT}
theorem tc_push (d t g pa ot : Nat) (hu : τ.1 37 < 20) (hp : pa < 2) (ho : ot < 2) : tC Z mX3_push d o [.ref o, .int (nI t), .int (nI g), .int (nI pa), .int (nI ot)] τ (fun r τ' => r = none ∧ τ' = pU τ t g pa ot) := by
  refine tC.of rfl rfl (Nat.le_of_ble_eq_true rfl) rfl (fun X hin h hR => ?_)
  unfold pU
  generalize hue : τ.1 37 = u at hu
  refine g_aload_n (pc := 0) dX3_push_0 rfl rfl ?_
  refine t_get (pc := 1) (v := .ref (tAd _ 40)) 40 dX3_push_1 hR rfl q1839 (Nat.le_of_ble_eq_true rfl) rfl rfl ?_
  refine g_aload_n (pc := 4) dX3_push_4 rfl rfl ?_
  refine t_get (pc := 5) (v := .int (nI _)) 37 dX3_push_5 hR rfl q1836 (Nat.le_of_ble_eq_true rfl) rfl rfl ?_
  rw [hue]
  refine g_iload_n (pc := 8) dX3_push_8 rfl rfl ?_
  refine t_iast (pc := 9) dX3_push_9 hR rfl (by decide) rfl (by decide) (by show _ < 20; omega) (fun h hR => ?_)
  refine g_aload_n (pc := 10) dX3_push_10 rfl rfl ?_
  refine t_get (pc := 11) (v := .ref (tAd _ 41)) 41 dX3_push_11 hR rfl q1840 (Nat.le_of_ble_eq_true rfl) rfl rfl ?_
  refine g_aload_n (pc := 14) dX3_push_14 rfl rfl ?_
  refine t_get (pc := 15) (v := .int (nI _)) 37 dX3_push_15 hR rfl q1836 (Nat.le_of_ble_eq_true rfl) rfl rfl ?_
  rw [show (tAN τ 40 u t).1 37 = u from hue]
  refine g_iload_n (pc := 18) dX3_push_18 rfl rfl ?_
  refine t_iast (pc := 19) dX3_push_19 hR rfl (by decide) rfl (by decide) (by show _ < 20; omega) (fun h hR => ?_)
  refine g_aload_n (pc := 20) dX3_push_20 rfl rfl ?_
  refine t_get (pc := 21) (v := .ref (tAd _ 47)) 47 dX3_push_21 hR rfl q1846 (Nat.le_of_ble_eq_true rfl) rfl rfl ?_
  refine g_aload_n (pc := 24) dX3_push_24 rfl rfl ?_
  refine t_get (pc := 25) (v := .int (nI _)) 37 dX3_push_25 hR rfl q1836 (Nat.le_of_ble_eq_true rfl) rfl rfl ?_
  rw [show (tAN (tAN τ 40 u t) 41 u g).1 37 = u from hue]
  refine g_iload_n (pc := 28) dX3_push_28 rfl rfl ?_
  refine t_zast (pc := 29) dX3_push_29 hR rfl (by decide) rfl (by decide) (by show _ < 20; omega) (by omega) (fun h hR => ?_)
  refine g_aload_n (pc := 30) dX3_push_30 rfl rfl ?_
  refine t_get (pc := 31) (v := .ref (tAd _ 46)) 46 dX3_push_31 hR rfl q1845 (Nat.le_of_ble_eq_true rfl) rfl rfl ?_
  refine g_aload_n (pc := 34) dX3_push_34 rfl rfl ?_
  refine t_get (pc := 35) (v := .int (nI _)) 37 dX3_push_35 hR rfl q1836 (Nat.le_of_ble_eq_true rfl) rfl rfl ?_
  rw [show (tAN (tAN (tAN τ 40 u t) 41 u g) 47 u pa).1 37 = u from hue]
  refine g_iload (pc := 38) dX3_push_38 rfl ?_
  refine t_zast (pc := 40) dX3_push_40 hR rfl (by decide) rfl (by decide) (by show _ < 20; omega) (by omega) (fun h hR => ?_)
  refine g_aload_n (pc := 41) dX3_push_41 rfl rfl ?_
  refine t_get (pc := 42) (v := .ref (tAd _ 42)) 42 dX3_push_42 hR rfl q1841 (Nat.le_of_ble_eq_true rfl) rfl rfl ?_
  refine g_aload_n (pc := 45) dX3_push_45 rfl rfl ?_
  refine t_get (pc := 46) (v := .int (nI _)) 37 dX3_push_46 hR rfl q1836 (Nat.le_of_ble_eq_true rfl) rfl rfl ?_
  rw [show (tAN (tAN (tAN (tAN τ 40 u t) 41 u g) 47 u pa) 46 u ot).1 37 = u from hue]
  refine g_iconst (pc := 49) (v := nI 0) dX3_push_49 rfl ?_
  refine t_iast (pc := 50) dX3_push_50 hR rfl (by decide) rfl (by decide) (by show _ < 20; omega) (fun h hR => ?_)
  refine g_aload_n (pc := 51) dX3_push_51 rfl rfl ?_
  refine t_get (pc := 52) (v := .ref (tAd _ 43)) 43 dX3_push_52 hR rfl q1842 (Nat.le_of_ble_eq_true rfl) rfl rfl ?_
  refine g_aload_n (pc := 55) dX3_push_55 rfl rfl ?_
  refine t_get (pc := 56) (v := .int (nI _)) 37 dX3_push_56 hR rfl q1836 (Nat.le_of_ble_eq_true rfl) rfl rfl ?_
  rw [show (tAN (tAN (tAN (tAN (tAN τ 40 u t) 41 u g) 47 u pa) 46 u ot) 42 u 0).1 37 = u from hue]
  refine g_iconst (pc := 59) (v := (-1)) dX3_push_59 rfl ?_
  refine t_iastI (pc := 60) dX3_push_60 hR rfl (by decide) rfl (by decide) (by show _ < 20; omega) (fun h hR => ?_)
  refine g_aload_n (pc := 61) dX3_push_61 rfl rfl ?_
  refine g_dup (pc := 62) dX3_push_62 rfl ?_
  refine t_get (pc := 63) (v := .int (nI _)) 37 dX3_push_63 hR rfl q1836 (Nat.le_of_ble_eq_true rfl) rfl rfl ?_
  rw [show (tAI (tAN (tAN (tAN (tAN (tAN τ 40 u t) 41 u g) 47 u pa) 46 u ot) 42 u 0) 43 u (-1)).1 37 = u from hue]
  refine g_iconst (pc := 66) (v := nI 1) dX3_push_66 rfl ?_
  first | refine g_iaddN (pc := 67) dX3_push_67 ?_ | refine g_iadd (pc := 67) dX3_push_67 ?_
  refine t_put (pc := 68) 37 dX3_push_68 hR rfl q1836 (Nat.le_of_ble_eq_true rfl) rfl rfl (by decide) rfl rfl (fun h hR => ?_)
  exact t_vret (pc := 71) dX3_push_71 hR rfl (⟨rfl, rfl⟩)
theorem tc_nextTurn (d u x k c : Nat) (D : aD) (hD : tD τ D) (hu : u < 20) (hx : x < D.1) (h43 : τ.2.2.2.1 43 u = nI x) (h42 : τ.2.2.1 42 u = k) (hk : k < 20) (hm : (aPs (D.2 x)).length = 0 ∨ 2 ≤ τ.2.2.1 8 x) (h2 : 2 ≤ τ.2.2.1 8 x) (h36 : τ.1 36 = c) (hc : c < 16) : tC Z mX3_nextTurn (d + 2) o [.ref o, .int (nI u)] τ (fun r τ' => (k < (aPs (D.2 x)).length ∧ r = some (.int (nI 1)) ∧ τ'.1 = τ.1 ∧ vK (fun i => i = 2 + c) τ τ' ∧ vR D τ' (2 + c) (elX D x k)) ∨ ((aPs (D.2 x)).length ≤ k ∧ r = some (.int (nI 0)) ∧ τ' = τ)) := by
  refine tC.of rfl rfl (Nat.le_of_ble_eq_true rfl) rfl (fun X hin h hR => ?_)
  have hD2 := hD.2.1
  have h9 := (hD.2.2 x hx).1.kind.2.2.1 h2
  refine g_aload_n (pc := 0) dX3_nextTurn_0 rfl rfl ?_
  refine t_get (pc := 1) (v := .ref (tAd _ 43)) 43 dX3_nextTurn_1 hR rfl q1842 (Nat.le_of_ble_eq_true rfl) rfl rfl ?_
  refine g_iload_n (pc := 4) dX3_nextTurn_4 rfl rfl ?_
  refine t_ialdI (pc := 5) dX3_nextTurn_5 hR rfl (by decide) rfl (by decide) (by show _ < 20; omega) ?_
  rw [h43]
  refine g_istore_n (pc := 6) (ls' := [(0, _), (1, _), (2, _)]) dX3_nextTurn_6 rfl (Nat.le_of_ble_eq_true rfl) rfl ?_
  refine g_aload_n (pc := 7) dX3_nextTurn_7 rfl rfl ?_
  refine t_get (pc := 8) (v := .ref (tAd _ 42)) 42 dX3_nextTurn_8 hR rfl q1841 (Nat.le_of_ble_eq_true rfl) rfl rfl ?_
  refine g_iload_n (pc := 11) dX3_nextTurn_11 rfl rfl ?_
  refine t_iald (pc := 12) dX3_nextTurn_12 hR rfl (by decide) rfl (by decide) (by show _ < 20; omega) ?_
  rw [h42]
  refine g_aload_n (pc := 13) dX3_nextTurn_13 rfl rfl ?_
  refine t_get (pc := 14) (v := .ref (tAd _ 9)) 9 dX3_nextTurn_14 hR rfl q1808 (Nat.le_of_ble_eq_true rfl) rfl rfl ?_
  refine g_iload_n (pc := 17) dX3_nextTurn_17 rfl rfl ?_
  refine t_ialdI (pc := 18) dX3_nextTurn_18 hR rfl (by decide) rfl (by decide) (by show _ < 60; omega) ?_
  rw [h9.1]
  refine g_icmp_ltN (pc := 19) (tgt := 24) dX3_nextTurn_19 rfl (by omega) (by omega) (fun q => ?_) (fun q => ?_)
  · refine g_aload_n (pc := 24) dX3_nextTurn_24 rfl rfl ?_
    refine g_iconst (pc := 25) (v := nI 2) dX3_nextTurn_25 rfl ?_
    refine g_aload_n (pc := 26) dX3_nextTurn_26 rfl rfl ?_
    refine t_get (pc := 27) (v := .int (nI _)) 36 dX3_nextTurn_27 hR rfl q1835 (Nat.le_of_ble_eq_true rfl) rfl rfl ?_
    rw [h36]
    first | refine g_iaddN (pc := 30) dX3_nextTurn_30 ?_ | refine g_iadd (pc := 30) dX3_nextTurn_30 ?_
    refine g_aload_n (pc := 31) dX3_nextTurn_31 rfl rfl ?_
    refine t_get (pc := 32) (v := .ref (tAd _ 11)) 11 dX3_nextTurn_32 hR rfl q1810 (Nat.le_of_ble_eq_true rfl) rfl rfl ?_
    refine g_iload_n (pc := 35) dX3_nextTurn_35 rfl rfl ?_
    refine g_bipush (pc := 36) (v := nI 10) dX3_nextTurn_36 rfl ?_
    first | refine g_imulN (pc := 38) dX3_nextTurn_38 ?_ | refine g_imul (pc := 38) dX3_nextTurn_38 ?_
    refine g_aload_n (pc := 39) dX3_nextTurn_39 rfl rfl ?_
    refine t_get (pc := 40) (v := .ref (tAd _ 42)) 42 dX3_nextTurn_40 hR rfl q1841 (Nat.le_of_ble_eq_true rfl) rfl rfl ?_
    refine g_iload_n (pc := 43) dX3_nextTurn_43 rfl rfl ?_
    refine t_iald (pc := 44) dX3_nextTurn_44 hR rfl (by decide) rfl (by decide) (by show _ < 20; omega) ?_
    rw [h42]
    first | refine g_iaddN (pc := 45) dX3_nextTurn_45 ?_ | refine g_iadd (pc := 45) dX3_nextTurn_45 ?_
    rw [Nat.mul_comm x 10]
    refine t_iald (pc := 46) dX3_nextTurn_46 hR rfl (by decide) rfl (by decide) (by show _ < 600; omega) ?_
    rw [h9.2.2 k q]
    have hm : (aPs (D.2 x)).getD k ([], 0) ∈ aPs (D.2 x) := getD_mem q
    refine t_inv (pc := 47) dX3_nextTurn_47 hR (tc_load _ (2 + c) _ D (by omega) hD ((hD.2.2 x hx).2 _ hm)) meX3_load q2104 q2106 qs38 rfl rfl (Nat.le_of_ble_eq_true rfl) (fun v τ1 h hp hR => ?_)
    obtain ⟨rfl, c1, c2, c3⟩ := hp
    refine g_iconst (pc := 50) (v := nI 1) dX3_nextTurn_50 rfl ?_
    refine t_zret (pc := 51) dX3_nextTurn_51 hR rfl rfl (Or.inl ⟨q, rfl, c1, c2, c3⟩)
  · refine g_iconst (pc := 22) (v := nI 0) dX3_nextTurn_22 rfl ?_
    refine t_zret (pc := 23) dX3_nextTurn_23 hR rfl rfl (Or.inr ⟨q, rfl, rfl⟩)
theorem tc_here (d : Nat) (Tm : Nat → Option aT) (D : aD) (t k : Nat) (U : List aU) (hU : uR Tm D τ t U) (hb : botU t U = k) (h37 : τ.1 37 = U.length) (hU20 : U.length ≤ 20) : tC Z mX3_here d o [.ref o, .int (nI k)] τ (fun r τ' => r = some (.int (nI t)) ∧ τ' = τ) := by
  refine tC.of rfl rfl (Nat.le_of_ble_eq_true rfl) rfl (fun X hin h hR => ?_)
  have lp : ∀ (U' : List aU), U'.length ≤ 20 → uR Tm D τ t U' → botU t U' = k → ∀ (w : Int32), (U' = [] → w = -1) → (∀ q S, U' = q :: S → w = nI S.length) → ∀ h, tH o τ hin h → hG Z X mX3_here d tS hin (tK o hin (fun r τ' => r = some (.int (nI t)) ∧ τ' = τ)) 7 [(0, .ref o), (1, .int (nI k)), (2, .int w)] [] h := by
    intro U'
    induction U' with
    | nil =>
      intro _ _ hl w hw _ h hR
      rw [hw rfl]
      have hl : t = k := hl
      subst hl
      refine g_iload_n (pc := 7) dX3_here_7 rfl rfl ?_
      refine g_if_lt (pc := 8) (tgt := 33) dX3_here_8 rfl (fun _ => ?_) (fun z => absurd (by decide) z)
      refine g_iload_n (pc := 33) dX3_here_33 rfl rfl ?_
      exact t_iret (pc := 34) dX3_here_34 hR rfl (⟨rfl, rfl⟩)
    | cons q S ih =>
      intro hS hu hl w _ hw h hR
      rw [hw q S rfl]
      have hS2 : S.length < 20 := by
        have : S.length + 1 ≤ 20 := hS
        omega
      refine g_iload_n (pc := 7) dX3_here_7 rfl rfl ?_
      refine g_if_ltN (pc := 8) (tgt := 33) dX3_here_8 rfl (by omega) ?_
      refine g_aload_n (pc := 11) dX3_here_11 rfl rfl ?_
      refine t_get (pc := 12) (v := .ref (tAd _ 47)) 47 dX3_here_12 hR rfl q1846 (Nat.le_of_ble_eq_true rfl) rfl rfl ?_
      refine g_iload_n (pc := 15) dX3_here_15 rfl rfl ?_
      refine t_zald (pc := 16) dX3_here_16 hR rfl (by decide) rfl (by decide) (by show _ < 20; omega) ?_
      rcases q with ⟨t', g'⟩ | ⟨b, ot, kk, x⟩
      · rw [hu.1]
        refine g_if_eqN (pc := 17) (tgt := 27) dX3_here_17 rfl (by omega) (fun q_ => absurd q_ (by omega)) (fun _ => ?_)
        refine g_aload_n (pc := 20) dX3_here_20 rfl rfl ?_
        refine t_get (pc := 21) (v := .ref (tAd _ 40)) 40 dX3_here_21 hR rfl q1839 (Nat.le_of_ble_eq_true rfl) rfl rfl ?_
        refine g_iload_n (pc := 24) dX3_here_24 rfl rfl ?_
        refine t_iald (pc := 25) dX3_here_25 hR rfl (by decide) rfl (by decide) (by show _ < 20; omega) ?_
        rw [hu.2.1]
        exact t_iret (pc := 26) dX3_here_26 hR rfl (⟨rfl, rfl⟩)
      · obtain ⟨u1, u2, u3, u4, u5, u6, u9⟩ := hu
        rw [u1]
        refine g_if_eqN (pc := 17) (tgt := 27) dX3_here_17 rfl (by omega) (fun _ => ?_) (fun q_ => absurd q_ (by omega))
        cases S with
        | nil =>
          refine g_iinc (pc := 27) (v := -1) (ls' := [(0, _), (1, _), (2, _)]) dX3_here_27 rfl (by decide) (Nat.le_of_ble_eq_true rfl) rfl ?_
          refine g_goto (pc := 30) (tgt := 7) dX3_here_30 rfl ?_
          exact ih (by simp) u9 hl _ (fun _ => rfl) (fun q S z => by cases z) h hR
        | cons q' S' =>
          refine g_iincM (pc := 27) (a := S'.length) (ls' := [(0, _), (1, _), (2, _)]) dX3_here_27 rfl (Nat.le_of_ble_eq_true rfl) rfl ?_
          refine g_goto (pc := 30) (tgt := 7) dX3_here_30 rfl ?_
          exact ih (by omega) u9 hl _ (fun z => by cases z) (fun q S z => by cases z; rfl) h hR
  refine g_aload_n (pc := 0) dX3_here_0 rfl rfl ?_
  refine t_get (pc := 1) (v := .int (nI _)) 37 dX3_here_1 hR rfl q1836 (Nat.le_of_ble_eq_true rfl) rfl rfl ?_
  refine g_iconst (pc := 4) (v := nI 1) dX3_here_4 rfl ?_
  rw [h37]
  cases hUe : U with
  | nil =>
    refine g_isub (pc := 5) dX3_here_5 ?_
    refine g_istore_n (pc := 6) (ls' := [(0, _), (1, _), (2, _)]) dX3_here_6 rfl (Nat.le_of_ble_eq_true rfl) rfl ?_
    exact lp [] (by simp) trivial (by rw [hUe] at hb; exact hb) _ (fun _ => rfl) (fun q S z => by cases z) h hR
  | cons q S =>
    rw [show (q :: S).length = S.length + 1 from rfl]
    first | refine g_isubN (pc := 5) dX3_here_5 (by omega) ?_ | refine g_isub (pc := 5) dX3_here_5 ?_
    refine g_istore_n (pc := 6) (ls' := [(0, _), (1, _), (2, _)]) dX3_here_6 rfl (Nat.le_of_ble_eq_true rfl) rfl ?_
    rw [hUe] at hU hU20 hb
    exact lp (q :: S) hU20 hU hb _ (fun z => by cases z) (fun q' S' z => by cases z; simp) h hR
theorem tc_underTemplates (d : Nat) (Tm : Nat → Option aT) (D : aD) (t : Nat) (U : List aU) (hU : uR Tm D τ t U) (h37 : τ.1 37 = U.length) (hU20 : U.length ≤ 20) : tC Z mX3_underTemplates d o [.ref o] τ (fun r τ' => r = some (.int (nI (cpU U))) ∧ τ' = τ) := by
  refine tC.of rfl rfl (Nat.le_of_ble_eq_true rfl) rfl (fun X hin h hR => ?_)
  obtain ⟨hs, hb⟩ := hU.sm
  have loop : ∀ (j i : Nat), i + j = U.length → ∀ h, tH o τ hin h → hG Z X mX3_underTemplates d tS hin (tK o hin (fun r τ' => r = some (.int (nI (cpU U))) ∧ τ' = τ)) 4 [(0, .ref o), (1, .int (nI (1 + smP τ i))), (2, .int (nI i))] [] h := by
    intro j
    induction j with
    | zero =>
      intro i hi h hR
      have e : i = U.length := by omega
      subst e
      refine g_iload_n (pc := 4) dX3_underTemplates_4 rfl rfl ?_
      refine g_aload_n (pc := 5) dX3_underTemplates_5 rfl rfl ?_
      refine t_get (pc := 6) (v := .int (nI _)) 37 dX3_underTemplates_6 hR rfl q1836 (Nat.le_of_ble_eq_true rfl) rfl rfl ?_
      rw [h37]
      refine g_icmp_geN (pc := 9) (tgt := 30) dX3_underTemplates_9 rfl (by omega) (by omega) (fun q => ?_) (fun q => ?_)
      · refine g_iload_n (pc := 30) dX3_underTemplates_30 rfl rfl ?_
        exact t_iret (pc := 31) dX3_underTemplates_31 hR rfl (⟨by rw [hs], rfl⟩)
      · exact absurd q (by omega)
    | succ j ih =>
      intro i hi h hR
      have hbi := hb i (by omega)
      refine g_iload_n (pc := 4) dX3_underTemplates_4 rfl rfl ?_
      refine g_aload_n (pc := 5) dX3_underTemplates_5 rfl rfl ?_
      refine t_get (pc := 6) (v := .int (nI _)) 37 dX3_underTemplates_6 hR rfl q1836 (Nat.le_of_ble_eq_true rfl) rfl rfl ?_
      rw [h37]
      refine g_icmp_geN (pc := 9) (tgt := 30) dX3_underTemplates_9 rfl (by omega) (by omega) (fun q => ?_) (fun q => ?_)
      · exact absurd q (by omega)
      · refine g_aload_n (pc := 12) dX3_underTemplates_12 rfl rfl ?_
        refine t_get (pc := 13) (v := .ref (tAd _ 47)) 47 dX3_underTemplates_13 hR rfl q1846 (Nat.le_of_ble_eq_true rfl) rfl rfl ?_
        refine g_iload_n (pc := 16) dX3_underTemplates_16 rfl rfl ?_
        refine t_zald (pc := 17) dX3_underTemplates_17 hR rfl (by decide) rfl (by decide) (by show _ < 20; omega) ?_
        refine g_if_eqN (pc := 18) (tgt := 24) dX3_underTemplates_18 rfl (by omega) (fun q2 => ?_) (fun q2 => ?_)
        · refine g_iincN (pc := 24) (k0 := 1) (ls' := [(0, _), (1, _), (2, _)]) dX3_underTemplates_24 rfl (Nat.le_of_ble_eq_true rfl) rfl ?_
          refine g_goto (pc := 27) (tgt := 4) dX3_underTemplates_27 rfl ?_
          have e : smP τ i = smP τ (i + 1) := by show _ = smP τ i + _; rw [q2]; rfl
          rw [e]
          exact ih (i + 1) (by omega) h hR
        · refine g_iincN (pc := 21) (k0 := 1) (ls' := [(0, _), (1, _), (2, _)]) dX3_underTemplates_21 rfl (Nat.le_of_ble_eq_true rfl) rfl ?_
          refine g_iincN (pc := 24) (k0 := 1) (ls' := [(0, _), (1, _), (2, _)]) dX3_underTemplates_24 rfl (Nat.le_of_ble_eq_true rfl) rfl ?_
          refine g_goto (pc := 27) (tgt := 4) dX3_underTemplates_27 rfl ?_
          have e : 1 + smP τ i + 1 = 1 + smP τ (i + 1) := by show _ = 1 + (smP τ i + _); omega
          rw [e]
          exact ih (i + 1) (by omega) h hR
  refine g_iconst (pc := 0) (v := nI 1) dX3_underTemplates_0 rfl ?_
  refine g_istore_n (pc := 1) (ls' := [(0, _), (1, _)]) dX3_underTemplates_1 rfl (Nat.le_of_ble_eq_true rfl) rfl ?_
  refine g_iconst (pc := 2) (v := nI 0) dX3_underTemplates_2 rfl ?_
  refine g_istore_n (pc := 3) (ls' := [(0, _), (1, _), (2, _)]) dX3_underTemplates_3 rfl (Nat.le_of_ble_eq_true rfl) rfl ?_
  exact loop U.length 0 (by omega) h hR
theorem tc_tagFrom (d t p g : Nat) (T : tTb) (ht : t < 4) (hta : tTa τ t g T) (hg : τ.2.2.1 16 t = g) (hg50 : g ≤ 50) (hp : p < 1000) (hb : ∀ j, j < g → (T.1 j).1 < 1000) : tC Z mX3_tagFrom d o [.ref o, .int (nI t), .int (nI (200 * t + p))] τ (fun r τ' => r = some (.int (oS (50 * t) (if tgF T g 0 p < g then some (tgF T g 0 p) else none))) ∧ τ' = τ) := by
  refine tC.of rfl rfl (Nat.le_of_ble_eq_true rfl) rfl (fun X hin h hR => ?_)
  have loop : ∀ (j i : Nat), i + j = g → tgF T g 0 p = tgF T j i p → ∀ h, tH o τ hin h → hG Z X mX3_tagFrom d tS hin (tK o hin (fun r τ' => r = some (.int (oS (50 * t) (if tgF T g 0 p < g then some (tgF T g 0 p) else none))) ∧ τ' = τ)) 5 [(0, .ref o), (1, .int (nI t)), (2, .int (nI (200 * t + p))), (3, .int (nI (50 * t + i)))] [] h := by
    intro j
    induction j with
    | zero =>
      intro i hi he h hR
      have he : tgF T g 0 p = i := he
      refine g_iload_n (pc := 5) dX3_tagFrom_5 rfl rfl ?_
      refine g_iload_n (pc := 6) dX3_tagFrom_6 rfl rfl ?_
      refine g_bipush (pc := 7) (v := nI 50) dX3_tagFrom_7 rfl ?_
      first | refine g_imulN (pc := 9) dX3_tagFrom_9 ?_ | refine g_imul (pc := 9) dX3_tagFrom_9 ?_
      refine g_aload_n (pc := 10) dX3_tagFrom_10 rfl rfl ?_
      refine t_get (pc := 11) (v := .ref (tAd _ 16)) 16 dX3_tagFrom_11 hR rfl q1815 (Nat.le_of_ble_eq_true rfl) rfl rfl ?_
      refine g_iload_n (pc := 14) dX3_tagFrom_14 rfl rfl ?_
      refine t_iald (pc := 15) dX3_tagFrom_15 hR rfl (by decide) rfl (by decide) (by show _ < 5; omega) ?_
      rw [hg, Nat.mul_comm t 50]
      first | refine g_iaddN (pc := 16) dX3_tagFrom_16 ?_ | refine g_iadd (pc := 16) dX3_tagFrom_16 ?_
      refine g_icmp_geN (pc := 17) (tgt := 38) dX3_tagFrom_17 rfl (by omega) (by omega) (fun q => ?_) (fun q => ?_)
      · refine g_iconst (pc := 38) (v := (-1)) dX3_tagFrom_38 rfl ?_
        exact t_iret (pc := 39) dX3_tagFrom_39 hR rfl (⟨by rw [he, if_neg (by omega)]; rfl, rfl⟩)
      · exact absurd q (by omega)
    | succ j ih =>
      intro i hi he h hR
      have he : tgF T g 0 p = (if p ≤ (T.1 i).1 then i else tgF T j (i + 1) p) := he
      have hbi := hb i (by omega)
      refine g_iload_n (pc := 5) dX3_tagFrom_5 rfl rfl ?_
      refine g_iload_n (pc := 6) dX3_tagFrom_6 rfl rfl ?_
      refine g_bipush (pc := 7) (v := nI 50) dX3_tagFrom_7 rfl ?_
      first | refine g_imulN (pc := 9) dX3_tagFrom_9 ?_ | refine g_imul (pc := 9) dX3_tagFrom_9 ?_
      refine g_aload_n (pc := 10) dX3_tagFrom_10 rfl rfl ?_
      refine t_get (pc := 11) (v := .ref (tAd _ 16)) 16 dX3_tagFrom_11 hR rfl q1815 (Nat.le_of_ble_eq_true rfl) rfl rfl ?_
      refine g_iload_n (pc := 14) dX3_tagFrom_14 rfl rfl ?_
      refine t_iald (pc := 15) dX3_tagFrom_15 hR rfl (by decide) rfl (by decide) (by show _ < 5; omega) ?_
      rw [hg, Nat.mul_comm t 50]
      first | refine g_iaddN (pc := 16) dX3_tagFrom_16 ?_ | refine g_iadd (pc := 16) dX3_tagFrom_16 ?_
      refine g_icmp_geN (pc := 17) (tgt := 38) dX3_tagFrom_17 rfl (by omega) (by omega) (fun q => ?_) (fun q => ?_)
      · exact absurd q (by omega)
      · refine g_aload_n (pc := 20) dX3_tagFrom_20 rfl rfl ?_
        refine t_get (pc := 21) (v := .ref (tAd _ 18)) 18 dX3_tagFrom_21 hR rfl q1817 (Nat.le_of_ble_eq_true rfl) rfl rfl ?_
        refine g_iload_n (pc := 24) dX3_tagFrom_24 rfl rfl ?_
        refine t_iald (pc := 25) dX3_tagFrom_25 hR rfl (by decide) rfl (by decide) (by show _ < 250; omega) ?_
        rw [(hta i (by omega)).1]
        refine g_iload_n (pc := 26) dX3_tagFrom_26 rfl rfl ?_
        refine g_icmp_ltN (pc := 27) (tgt := 32) dX3_tagFrom_27 rfl (by omega) (by omega) (fun q2 => ?_) (fun q2 => ?_)
        · refine g_iincN (pc := 32) (k0 := 1) (ls' := [(0, _), (1, _), (2, _), (3, _)]) dX3_tagFrom_32 rfl (Nat.le_of_ble_eq_true rfl) rfl ?_
          refine g_goto (pc := 35) (tgt := 5) dX3_tagFrom_35 rfl ?_
          rw [if_neg (by omega)] at he
          exact ih (i + 1) (by omega) he h hR
        · refine g_iload_n (pc := 30) dX3_tagFrom_30 rfl rfl ?_
          rw [if_pos (by omega)] at he
          exact t_iret (pc := 31) dX3_tagFrom_31 hR rfl (⟨by rw [he, if_pos (by omega)]; rfl, rfl⟩)
  refine g_iload_n (pc := 0) dX3_tagFrom_0 rfl rfl ?_
  refine g_bipush (pc := 1) (v := nI 50) dX3_tagFrom_1 rfl ?_
  first | refine g_imulN (pc := 3) dX3_tagFrom_3 ?_ | refine g_imul (pc := 3) dX3_tagFrom_3 ?_
  rw [Nat.mul_comm t 50]
  refine g_istore_n (pc := 4) (ls' := [(0, _), (1, _), (2, _), (3, _)]) dX3_tagFrom_4 rfl (Nat.le_of_ble_eq_true rfl) rfl ?_
  exact loop g 0 (by omega) rfl h hR
end TW23
