/-! COMPONENT 8: starts, isName -/
set_option maxRecDepth 100000
section CS
variable {Z : hE} {h : hP} {κ a : Nat} {l : List Nat}
theorem cs_starts (d κ' a' k : Nat) (w : List Nat) (hs : jSt h κ a l) (hs' : jSt h κ' a' w) (hw : ∀ c ∈ w, c ≠ 0) (hw0 : w ≠ []) (hL : l.length ≤ 1000000) (hL2 : w.length ≤ 1000000) (hk : k ≤ 1000000) : jP Z mX1_starts (d + 4) [.ref a, .ref a', .int (nI k)] h (some (.int (nI (stB (fun i => l.getD i 0) l.length k w).toNat))) := by
  refine jC.of pnX1 rfl (Nat.le_of_ble_eq_true rfl) rfl (fun X => ?_)
  have hs0 := hs
  have hs0' := hs'
  have kc := hs.cl
  have kc' := hs'.cl
  obtain ⟨_, hl, b, κb, hs1, hz, ha, _⟩ := hs
  obtain ⟨_, hlw, b', κb', hs1', hz', ha', _⟩ := hs'
  have loop : k + w.length ≤ l.length → ∀ (j i : Nat), i + j = w.length → (∀ t, t < i → l.getD (k + t) 0 = w.getD t 0) → hG Z X mX1_starts (d + 4) (fun _ => False) h (jK (fun v h' => v = some (.int (nI (stB (fun i => l.getD i 0) l.length k w).toNat)) ∧ h' = h)) 17 [(0, .ref a), (1, .ref a'), (2, .int (nI k)), (3, .int (nI i))] [] h := by
    intro hle j
    induction j with
    | zero =>
      intro i hi hp
      refine g_iload_n (pc := 17) dX1_starts_17 rfl rfl ?_
      refine g_aload_n (pc := 18) dX1_starts_18 rfl rfl ?_
      refine g_invV (pc := 19) dX1_starts_19 ha' kc' (jc_length (d + 2) hs0') meJ9_length q940 q301 q302 rfl rfl (Nat.le_of_ble_eq_true rfl) (by first | exact jF | exact fun _ z => z | assumption | (intro κ z; simp_all)) (jk_e ?_) jk_x
      refine g_icmp_geN (pc := 22) (tgt := 48) dX1_starts_22 rfl (by omega) (by omega) (fun _ => ?_) (fun q_ => absurd q_ (by omega))
      refine g_iconst (pc := 48) (v := nI 1) dX1_starts_48 rfl ?_
      rw [(stB_iff hle).mpr (fun t ht => hp t (by omega))]
      exact g_zret (pc := 49) dX1_starts_49 rfl (by first | exact bz_n _ | rfl) ⟨_, rfl, rfl, rfl⟩
    | succ j ih =>
      intro i hi hp
      have c1 := hl _ (getD_mem (d := 0) (show k + i < l.length by omega))
      have c2 := hlw _ (getD_mem (d := 0) (show i < w.length by omega))
      refine g_iload_n (pc := 17) dX1_starts_17 rfl rfl ?_
      refine g_aload_n (pc := 18) dX1_starts_18 rfl rfl ?_
      refine g_invV (pc := 19) dX1_starts_19 ha' kc' (jc_length (d + 2) hs0') meJ9_length q940 q301 q302 rfl rfl (Nat.le_of_ble_eq_true rfl) (by first | exact jF | exact fun _ z => z | assumption | (intro κ z; simp_all)) (jk_e ?_) jk_x
      refine g_icmp_geN (pc := 22) (tgt := 48) dX1_starts_22 rfl (by omega) (by omega) (fun q_ => absurd q_ (by omega)) (fun _ => ?_)
      refine g_aload_n (pc := 25) dX1_starts_25 rfl rfl ?_
      refine g_iload_n (pc := 26) dX1_starts_26 rfl rfl ?_
      refine g_iload_n (pc := 27) dX1_starts_27 rfl rfl ?_
      first | refine g_iaddN (pc := 28) dX1_starts_28 ?_ | refine g_iadd (pc := 28) dX1_starts_28 ?_
      refine g_invV (pc := 29) dX1_starts_29 ha kc (jc_charAt d (k + i) hs0 (by omega)) meJ9_charAt q941 q942 q943 rfl rfl (Nat.le_of_ble_eq_true rfl) (by first | exact jF | exact fun _ z => z | assumption | (intro κ z; simp_all)) (jk_e ?_) jk_x
      refine g_aload_n (pc := 32) dX1_starts_32 rfl rfl ?_
      refine g_iload_n (pc := 33) dX1_starts_33 rfl rfl ?_
      refine g_invV (pc := 34) dX1_starts_34 ha' kc' (jc_charAt d i hs0' (by omega)) meJ9_charAt q941 q942 q943 rfl rfl (Nat.le_of_ble_eq_true rfl) (by first | exact jF | exact fun _ z => z | assumption | (intro κ z; simp_all)) (jk_e ?_) jk_x
      refine g_icmp_eqN (pc := 37) (tgt := 42) dX1_starts_37 rfl (by omega) (by omega) (fun c37 => ?_) (fun c37 => ?_)
      · refine g_iincN (pc := 42) (k0 := 1) (ls' := [(0, _), (1, _), (2, _), (3, _)]) dX1_starts_42 rfl (Nat.le_of_ble_eq_true rfl) rfl ?_
        refine g_goto (pc := 45) (tgt := 17) dX1_starts_45 rfl ?_
        exact ih (i + 1) (by omega) (fun t ht => by
          by_cases z : t = i
          · rw [z]; exact c37
          · exact hp t (by omega))
      · refine g_iconst (pc := 40) (v := nI 0) dX1_starts_40 rfl ?_
        have e : stB (fun i => l.getD i 0) l.length k w = false := by
          cases q : stB (fun i => l.getD i 0) l.length k w with
          | false => rfl
          | true => exact absurd ((stB_iff hle).mp q i (by omega)) c37
        rw [e]
        exact g_zret (pc := 41) dX1_starts_41 rfl (by first | exact bz_n _ | rfl) ⟨_, rfl, rfl, rfl⟩
  refine g_iload_n (pc := 0) dX1_starts_0 rfl rfl ?_
  refine g_aload_n (pc := 1) dX1_starts_1 rfl rfl ?_
  refine g_invV (pc := 2) dX1_starts_2 ha' kc' (jc_length (d + 2) hs0') meJ9_length q940 q301 q302 rfl rfl (Nat.le_of_ble_eq_true rfl) (by first | exact jF | exact fun _ z => z | assumption | (intro κ z; simp_all)) (jk_e ?_) jk_x
  first | refine g_iaddN (pc := 5) dX1_starts_5 ?_ | refine g_iadd (pc := 5) dX1_starts_5 ?_
  refine g_aload_n (pc := 6) dX1_starts_6 rfl rfl ?_
  refine g_invV (pc := 7) dX1_starts_7 ha kc (jc_length (d + 2) hs0) meJ9_length q940 q301 q302 rfl rfl (Nat.le_of_ble_eq_true rfl) (by first | exact jF | exact fun _ z => z | assumption | (intro κ z; simp_all)) (jk_e ?_) jk_x
  refine g_icmp_leN (pc := 10) (tgt := 15) dX1_starts_10 rfl (by omega) (by omega) (fun c10 => ?_) (fun c10 => ?_)
  · refine g_iconst (pc := 15) (v := nI 0) dX1_starts_15 rfl ?_
    refine g_istore_n (pc := 16) (ls' := [(0, _), (1, _), (2, _), (3, _)]) dX1_starts_16 rfl (Nat.le_of_ble_eq_true rfl) rfl ?_
    exact loop c10 w.length 0 (by omega) (fun t ht => absurd ht (Nat.not_lt_zero _))
  · refine g_iconst (pc := 13) (v := nI 0) dX1_starts_13 rfl ?_
    have e : stB (fun i => l.getD i 0) l.length k w = false := by
      cases q : stB (fun i => l.getD i 0) l.length k w with
      | false => rfl
      | true =>
        have := stB_len hw hw0 q
        omega
    rw [e]
    exact g_zret (pc := 14) dX1_starts_14 rfl (by first | exact bz_n _ | rfl) ⟨_, rfl, rfl, rfl⟩
end CS
def nmB (l : List Nat) : Bool := l.all isL && (decide (1 ≤ l.length) && decide (l.length ≤ 8))
theorem nmB_iff {l : List Nat} : nmB l = true ↔ nmOK l := by
  unfold nmB nmOK
  rw [Bool.and_eq_true, Bool.and_eq_true, List.all_eq_true, decide_eq_true_eq, decide_eq_true_eq]
section CS
variable {Z : hE} {h : hP} {κ a : Nat} {l : List Nat}
theorem cs_isName (d : Nat) (hs : jSt h κ a l) (hL : l.length ≤ 1000000) : jP Z mX1_isName (d + 4) [.ref a] h (some (.int (nI (nmB l).toNat))) := by
  refine jC.of pnX1 rfl (Nat.le_of_ble_eq_true rfl) rfl (fun X => ?_)
  have hs0 := hs
  have kc := hs.cl
  obtain ⟨_, hl, b, κb, hs1, hz, ha, _⟩ := hs
  have bad : ∀ i, i < l.length → isL (l.getD i 0) = false → nmB l = false := by
    intro i hi e
    cases q : nmB l with
    | false => rfl
    | true =>
      have := (nmB_iff.mp q).1 _ (getD_mem (d := 0) hi)
      rw [e] at this
      cases this
  have loop : ∀ (j i : Nat), i + j = l.length → (∀ t, t < i → isL (l.getD t 0) = true) → hG Z X mX1_isName (d + 4) (fun _ => False) h (jK (fun v h' => v = some (.int (nI (nmB l).toNat)) ∧ h' = h)) 2 [(0, .ref a), (1, .int (nI i))] [] h := by
    intro j
    induction j with
    | zero =>
      intro i hi hp
      have hall : l.all isL = true := by
        rw [List.all_eq_true]
        intro c hc
        obtain ⟨t, ht, e⟩ := List.getElem_of_mem hc
        have := hp t (by omega)
        rw [List.getD_eq_getElem?_getD, List.getElem?_eq_getElem ht, Option.getD_some, e] at this
        exact this
      refine g_iload_n (pc := 2) dX1_isName_2 rfl rfl ?_
      refine g_aload_n (pc := 3) dX1_isName_3 rfl rfl ?_
      refine g_invV (pc := 4) dX1_isName_4 ha kc (jc_length (d + 2) hs0) meJ9_length q940 q301 q302 rfl rfl (Nat.le_of_ble_eq_true rfl) (by first | exact jF | exact fun _ z => z | assumption | (intro κ z; simp_all)) (jk_e ?_) jk_x
      refine g_icmp_geN (pc := 7) (tgt := 38) dX1_isName_7 rfl (by omega) (by omega) (fun _ => ?_) (fun q_ => absurd q_ (by omega))
      refine g_aload_n (pc := 38) dX1_isName_38 rfl rfl ?_
      refine g_invV (pc := 39) dX1_isName_39 ha kc (jc_isEmpty (d + 3) hs0) meJ9_isEmpty q956 q957 q958 rfl rfl (Nat.le_of_ble_eq_true rfl) (by first | exact jF | exact fun _ z => z | assumption | (intro κ z; simp_all)) (jk_e ?_) jk_x
      by_cases e0 : l = []
      · rw [decide_eq_true e0]
        refine g_if_ne (pc := 42) (tgt := 58) dX1_isName_42 rfl (fun _ => ?_) (fun q_ => absurd q_ (by decide))
        refine g_iconst (pc := 58) (v := nI 0) dX1_isName_58 rfl ?_
        rw [show nmB l = false by rw [e0]; rfl]
        exact g_zret (pc := 59) dX1_isName_59 rfl (by first | exact bz_n _ | rfl) ⟨_, rfl, rfl, rfl⟩
      · rw [decide_eq_false e0]
        have h1 : 1 ≤ l.length := Nat.pos_of_ne_zero (fun z => e0 (List.eq_nil_of_length_eq_zero z))
        refine g_if_ne (pc := 42) (tgt := 58) dX1_isName_42 rfl (fun q_ => absurd q_ (by decide)) (fun _ => ?_)
        refine g_aload_n (pc := 45) dX1_isName_45 rfl rfl ?_
        refine g_invV (pc := 46) dX1_isName_46 ha kc (jc_length (d + 2) hs0) meJ9_length q940 q301 q302 rfl rfl (Nat.le_of_ble_eq_true rfl) (by first | exact jF | exact fun _ z => z | assumption | (intro κ z; simp_all)) (jk_e ?_) jk_x
        refine g_bipush (pc := 49) (v := nI 8) dX1_isName_49 rfl ?_
        refine g_icmp_gtN (pc := 51) (tgt := 58) dX1_isName_51 rfl (by omega) (by omega) (fun c51 => ?_) (fun c51 => ?_)
        · refine g_iconst (pc := 58) (v := nI 0) dX1_isName_58 rfl ?_
          rw [show nmB l = false by unfold nmB; rw [decide_eq_false (show ¬ l.length ≤ 8 by omega), Bool.and_false, Bool.and_false]]
          exact g_zret (pc := 59) dX1_isName_59 rfl (by first | exact bz_n _ | rfl) ⟨_, rfl, rfl, rfl⟩
        · refine g_iconst (pc := 54) (v := nI 1) dX1_isName_54 rfl ?_
          refine g_goto (pc := 55) (tgt := 59) dX1_isName_55 rfl ?_
          rw [show nmB l = true by unfold nmB; rw [hall, decide_eq_true h1, decide_eq_true c51]; rfl]
          exact g_zret (pc := 59) dX1_isName_59 rfl (by first | exact bz_n _ | rfl) ⟨_, rfl, rfl, rfl⟩
    | succ j ih =>
      intro i hi hp
      have c1 := hl _ (getD_mem (d := 0) (show i < l.length by omega))
      refine g_iload_n (pc := 2) dX1_isName_2 rfl rfl ?_
      refine g_aload_n (pc := 3) dX1_isName_3 rfl rfl ?_
      refine g_invV (pc := 4) dX1_isName_4 ha kc (jc_length (d + 2) hs0) meJ9_length q940 q301 q302 rfl rfl (Nat.le_of_ble_eq_true rfl) (by first | exact jF | exact fun _ z => z | assumption | (intro κ z; simp_all)) (jk_e ?_) jk_x
      refine g_icmp_geN (pc := 7) (tgt := 38) dX1_isName_7 rfl (by omega) (by omega) (fun q_ => absurd q_ (by omega)) (fun _ => ?_)
      refine g_aload_n (pc := 10) dX1_isName_10 rfl rfl ?_
      refine g_iload_n (pc := 11) dX1_isName_11 rfl rfl ?_
      refine g_invV (pc := 12) dX1_isName_12 ha kc (jc_charAt d i hs0 (by omega)) meJ9_charAt q941 q942 q943 rfl rfl (Nat.le_of_ble_eq_true rfl) (by first | exact jF | exact fun _ z => z | assumption | (intro κ z; simp_all)) (jk_e ?_) jk_x
      refine g_bipush (pc := 15) (v := nI 97) dX1_isName_15 rfl ?_
      refine g_icmp_ltN (pc := 17) (tgt := 30) dX1_isName_17 rfl (by omega) (by omega) (fun c17 => ?_) (fun c17 => ?_)
      · refine g_iconst (pc := 30) (v := nI 0) dX1_isName_30 rfl ?_
        rw [bad i (by omega) (by unfold isL; rw [decide_eq_false (show ¬ 97 ≤ l.getD i 0 by omega)]; rfl)]
        exact g_zret (pc := 31) dX1_isName_31 rfl (by first | exact bz_n _ | rfl) ⟨_, rfl, rfl, rfl⟩
      · refine g_aload_n (pc := 20) dX1_isName_20 rfl rfl ?_
        refine g_iload_n (pc := 21) dX1_isName_21 rfl rfl ?_
        refine g_invV (pc := 22) dX1_isName_22 ha kc (jc_charAt d i hs0 (by omega)) meJ9_charAt q941 q942 q943 rfl rfl (Nat.le_of_ble_eq_true rfl) (by first | exact jF | exact fun _ z => z | assumption | (intro κ z; simp_all)) (jk_e ?_) jk_x
        refine g_bipush (pc := 25) (v := nI 122) dX1_isName_25 rfl ?_
        refine g_icmp_leN (pc := 27) (tgt := 32) dX1_isName_27 rfl (by omega) (by omega) (fun c27 => ?_) (fun c27 => ?_)
        · refine g_iincN (pc := 32) (k0 := 1) (ls' := [(0, _), (1, _)]) dX1_isName_32 rfl (Nat.le_of_ble_eq_true rfl) rfl ?_
          refine g_goto (pc := 35) (tgt := 2) dX1_isName_35 rfl ?_
          exact ih (i + 1) (by omega) (fun t ht => by
            by_cases z : t = i
            · rw [z]; unfold isL; rw [decide_eq_true c17, decide_eq_true c27]; rfl
            · exact hp t (by omega))
        · refine g_iconst (pc := 30) (v := nI 0) dX1_isName_30 rfl ?_
          rw [bad i (by omega) (by unfold isL; rw [decide_eq_false (show ¬ l.getD i 0 ≤ 122 by omega), Bool.and_false])]
          exact g_zret (pc := 31) dX1_isName_31 rfl (by first | exact bz_n _ | rfl) ⟨_, rfl, rfl, rfl⟩
  refine g_iconst (pc := 0) (v := nI 0) dX1_isName_0 rfl ?_
  refine g_istore_n (pc := 1) (ls' := [(0, _), (1, _)]) dX1_isName_1 rfl (Nat.le_of_ble_eq_true rfl) rfl ?_
  exact loop l.length 0 (by omega) (fun t ht => absurd ht (Nat.not_lt_zero _))
end CS
