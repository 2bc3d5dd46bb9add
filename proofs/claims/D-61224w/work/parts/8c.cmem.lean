/-! COMPONENT 13: element, member, place, turns -/
set_option maxRecDepth 100000
/-- element k of a list or map, as it lies in the heap -/
def elA (DA : Nat → Nat) (ps : List (List Nat × Nat)) (k : Int32) : Value := if 0 ≤ k.toInt ∧ k.toInt < ps.length then .ref (DA (ps.getD k.toInt.toNat ([], 0)).2) else .null
theorem elA_n {DA : Nat → Nat} {ps : List (List Nat × Nat)} {i : Nat} (h : i < ps.length) (h2 : ps.length ≤ 10) : elA DA ps (nI i) = .ref (DA (ps.getD i ([], 0)).2) := by
  unfold elA
  rw [nI_toInt (by omega), if_pos (by omega), Int.toNat_natCast]
section CE
variable {Z : hE} {h : hP} {b ar : Nat} {ps : List (List Nat × Nat)} {f : Nat → Value} {DA : Nat → Nat}
theorem cd_elem7 (d : Nat) (j : Value) (k : Int32) (hb : h.2.2 b = some (7, .inl [j, .ref ar, .int (nI ps.length)])) (hr : h.2.2 ar = some (68, .inr (10, f))) (h10 : ps.length ≤ 10) (hf : ∀ i, i < ps.length → f i = .ref (DA (ps.getD i ([], 0)).2)) : jP Z mX7_element d [.ref b, .int k] h (some (elA DA ps k)) := by
  refine jC.of pnX7 rfl (Nat.le_of_ble_eq_true rfl) rfl (fun X => ?_)
  have bad : ¬ (0 ≤ k.toInt ∧ k.toInt < ps.length) → hG Z X mX7_element d (fun _ => False) h (jK (fun v h' => v = some (elA DA ps k) ∧ h' = h)) 21 [(0, .ref b), (1, .int k)] [] h := by
    intro hn
    refine g_null (pc := 21) dX7_element_21 ?_
    refine g_aret (pc := 22) dX7_element_22 rfl (Or.inl ⟨_, rfl⟩) (Or.inl rfl) ?_
    refine ⟨_, rfl, ?_, rfl⟩
    unfold elA
    rw [if_neg hn]
  refine g_iload_n (pc := 0) dX7_element_0 rfl rfl ?_
  refine g_if_lt (pc := 1) (tgt := 21) dX7_element_1 rfl (fun q => ?_) (fun q => ?_)
  · refine bad (fun z => ?_)
    have := Int32.lt_iff_toInt_lt.mp q
    simp at this
    omega
  · obtain ⟨i, hi, rfl⟩ := nI_of q
    refine g_iload_n (pc := 4) dX7_element_4 rfl rfl ?_
    refine g_aload_n (pc := 5) dX7_element_5 rfl rfl ?_
    refine g_get (pc := 6) (r := (RX7, TX7, 3)) 2 dX7_element_6 hb rfl (Nat.le_of_ble_eq_true rfl) q803 (Or.inl rfl) rfl ?_
    refine g_icmp_geN (pc := 9) (tgt := 21) dX7_element_9 rfl (by omega) (by omega) (fun q2 => ?_) (fun q2 => ?_)
    · refine bad (fun z => ?_)
      rw [nI_toInt hi] at z
      omega
    · refine g_aload_n (pc := 12) dX7_element_12 rfl rfl ?_
      refine g_get (pc := 13) (r := (RX7, TX7, 3)) 1 dX7_element_13 hb rfl (Nat.le_of_ble_eq_true rfl) q799 (Or.inl rfl) rfl ?_
      refine g_iload_n (pc := 16) dX7_element_16 rfl rfl ?_
      refine g_aald (pc := 17) i dX7_element_17 hr rfl rfl (by omega) rfl ?_
      rw [hf i (by omega)]
      refine g_goto (pc := 18) (tgt := 22) dX7_element_18 rfl ?_
      exact g_aret (pc := 22) dX7_element_22 rfl (Or.inl ⟨_, rfl⟩) (Or.inr ⟨_, rfl⟩) ⟨_, rfl, by rw [elA_n (by omega) h10], rfl⟩
theorem cd_elem8 (d : Nat) (j : Value) (nr : Value) (k : Int32) (hb : h.2.2 b = some (8, .inl [j, .ref ar, .int (nI ps.length), nr])) (hr : h.2.2 ar = some (68, .inr (10, f))) (h10 : ps.length ≤ 10) (hf : ∀ i, i < ps.length → f i = .ref (DA (ps.getD i ([], 0)).2)) : jP Z mX7_element d [.ref b, .int k] h (some (elA DA ps k)) := by
  refine jC.of pnX7 rfl (Nat.le_of_ble_eq_true rfl) rfl (fun X => ?_)
  have bad : ¬ (0 ≤ k.toInt ∧ k.toInt < ps.length) → hG Z X mX7_element d (fun _ => False) h (jK (fun v h' => v = some (elA DA ps k) ∧ h' = h)) 21 [(0, .ref b), (1, .int k)] [] h := by
    intro hn
    refine g_null (pc := 21) dX7_element_21 ?_
    refine g_aret (pc := 22) dX7_element_22 rfl (Or.inl ⟨_, rfl⟩) (Or.inl rfl) ?_
    refine ⟨_, rfl, ?_, rfl⟩
    unfold elA
    rw [if_neg hn]
  refine g_iload_n (pc := 0) dX7_element_0 rfl rfl ?_
  refine g_if_lt (pc := 1) (tgt := 21) dX7_element_1 rfl (fun q => ?_) (fun q => ?_)
  · refine bad (fun z => ?_)
    have := Int32.lt_iff_toInt_lt.mp q
    simp at this
    omega
  · obtain ⟨i, hi, rfl⟩ := nI_of q
    refine g_iload_n (pc := 4) dX7_element_4 rfl rfl ?_
    refine g_aload_n (pc := 5) dX7_element_5 rfl rfl ?_
    refine g_get (pc := 6) (r := (RX8, TX8, 4)) 2 dX7_element_6 hb rfl (Nat.le_of_ble_eq_true rfl) q803 (Or.inl rfl) rfl ?_
    refine g_icmp_geN (pc := 9) (tgt := 21) dX7_element_9 rfl (by omega) (by omega) (fun q2 => ?_) (fun q2 => ?_)
    · refine bad (fun z => ?_)
      rw [nI_toInt hi] at z
      omega
    · refine g_aload_n (pc := 12) dX7_element_12 rfl rfl ?_
      refine g_get (pc := 13) (r := (RX8, TX8, 4)) 1 dX7_element_13 hb rfl (Nat.le_of_ble_eq_true rfl) q799 (Or.inl rfl) rfl ?_
      refine g_iload_n (pc := 16) dX7_element_16 rfl rfl ?_
      refine g_aald (pc := 17) i dX7_element_17 hr rfl rfl (by omega) rfl ?_
      rw [hf i (by omega)]
      refine g_goto (pc := 18) (tgt := 22) dX7_element_18 rfl ?_
      exact g_aret (pc := 22) dX7_element_22 rfl (Or.inl ⟨_, rfl⟩) (Or.inr ⟨_, rfl⟩) ⟨_, rfl, by rw [elA_n (by omega) h10], rfl⟩
theorem cd_elem0 (d : Nat) (k : Int32) : jP Z mX4_element d [.ref b, .int k] h (some .null) := by
  refine jC.of pnX4 rfl (Nat.le_of_ble_eq_true rfl) rfl (fun X => ?_)
  refine g_null (pc := 0) dX4_element_0 ?_
  exact g_aret (pc := 1) dX4_element_1 rfl (Or.inl ⟨_, rfl⟩) (Or.inl rfl) ⟨_, rfl, rfl, rfl⟩
theorem cd_memb0 (d s : Nat) : jP Z mX4_member d [.ref b, .ref s] h (some .null) := by
  refine jC.of pnX4 rfl (Nat.le_of_ble_eq_true rfl) rfl (fun X => ?_)
  refine g_null (pc := 0) dX4_member_0 ?_
  exact g_aret (pc := 1) dX4_member_1 rfl (Or.inl ⟨_, rfl⟩) (Or.inl rfl) ⟨_, rfl, rfl, rfl⟩
theorem cd_turns0 (d : Nat) : jP Z mX4_turns d [.ref b] h (some (.int (nI 0))) := by
  refine jC.of pnX4 rfl (Nat.le_of_ble_eq_true rfl) rfl (fun X => ?_)
  refine g_iconst (pc := 0) (v := nI 0) dX4_turns_0 rfl ?_
  exact g_iret (pc := 1) dX4_turns_1 rfl ⟨_, rfl, rfl, rfl⟩
theorem cd_memb7 (d κ s : Nat) (nm : List Nat) (j : Value) (hs : jSt h κ s nm) (hn : nm ≠ []) (hb : h.2.2 b = some (7, .inl [j, .ref ar, .int (nI ps.length)])) (hr : h.2.2 ar = some (68, .inr (10, f))) (h10 : ps.length ≤ 10) (hf : ∀ i, i < ps.length → f i = .ref (DA (ps.getD i ([], 0)).2)) : jP Z mX7_member (d + 4) [.ref b, .ref s] h (some (if isD (nm.getD 0 0) = true then elA DA ps (nI (nm.getD 0 0 - 48)) else .null)) := by
  refine jC.of pnX7 rfl (Nat.le_of_ble_eq_true rfl) rfl (fun X => ?_)
  have kw := hs.cl
  have hl : 0 < nm.length := List.length_pos_iff.mpr hn
  have hc := hs.2.1 _ (getD_mem (d := 0) hl)
  have hs0 := hs
  obtain ⟨_, _, bw, κb, hs1, hz, hsw, _⟩ := hs
  have bad : ¬ isD (nm.getD 0 0) = true → hG Z X mX7_member (d + 4) (fun _ => False) h (jK (fun v h' => v = some (if isD (nm.getD 0 0) = true then elA DA ps (nI (nm.getD 0 0 - 48)) else .null) ∧ h' = h)) 29 [(0, .ref b), (1, .ref s), (2, .int (nI (nm.getD 0 0)))] [] h := by
    intro hn
    refine g_null (pc := 29) dX7_member_29 ?_
    refine g_aret (pc := 30) dX7_member_30 rfl (Or.inl ⟨_, rfl⟩) (Or.inl rfl) ?_
    refine ⟨_, rfl, ?_, rfl⟩
    rw [if_neg hn]
  refine g_aload_n (pc := 0) dX7_member_0 rfl rfl ?_
  refine g_iconst (pc := 1) (v := nI 0) dX7_member_1 rfl ?_
  refine g_invV (pc := 2) dX7_member_2 hsw kw (jc_charAt d 0 hs0 hl) meJ9_charAt q1534 q942 q943 rfl rfl (Nat.le_of_ble_eq_true rfl) (by first | exact jF | exact fun _ z => z | assumption | (intro κ z; simp_all)) (jk_e ?_) jk_x
  refine g_istore_n (pc := 5) (ls' := [(0, _), (1, _), (2, _)]) dX7_member_5 rfl (Nat.le_of_ble_eq_true rfl) rfl ?_
  refine g_iload_n (pc := 6) dX7_member_6 rfl rfl ?_
  refine g_bipush (pc := 7) (v := nI 48) dX7_member_7 rfl ?_
  refine g_icmp_ltN (pc := 9) (tgt := 29) dX7_member_9 rfl (by omega) (by omega) (fun q1 => ?_) (fun q1 => ?_)
  · exact bad (fun z => by have := isD_iff.mp z; omega)
  · refine g_iload_n (pc := 12) dX7_member_12 rfl rfl ?_
    refine g_bipush (pc := 13) (v := nI 57) dX7_member_13 rfl ?_
    refine g_icmp_gtN (pc := 15) (tgt := 29) dX7_member_15 rfl (by omega) (by omega) (fun q2 => ?_) (fun q2 => ?_)
    · exact bad (fun z => by have := isD_iff.mp z; omega)
    · have hd : isD (nm.getD 0 0) = true := isD_iff.mpr (by omega)
      refine g_aload_n (pc := 18) dX7_member_18 rfl rfl ?_
      refine g_iload_n (pc := 19) dX7_member_19 rfl rfl ?_
      refine g_bipush (pc := 20) (v := nI 48) dX7_member_20 rfl ?_
      first | refine g_isubN (pc := 22) dX7_member_22 (by omega) ?_ | refine g_isub (pc := 22) dX7_member_22 ?_
      refine g_invV (pc := 23) dX7_member_23 hb rfl (cd_elem7 (d + 3) j _ hb hr h10 hf) meX7_element q1535 q923 q2272 rfl rfl (Nat.le_of_ble_eq_true rfl) (by first | exact jF | exact fun _ z => z | assumption | (intro κ z; simp_all)) (jk_e ?_) jk_x
      refine g_goto (pc := 26) (tgt := 30) dX7_member_26 rfl ?_
      refine g_aret (pc := 30) dX7_member_30 rfl (Or.inl ⟨_, rfl⟩) ?_ ⟨_, rfl, ?_, rfl⟩
      · unfold elA
        split
        · exact Or.inr ⟨_, rfl⟩
        · exact Or.inl rfl
      · rw [if_pos hd]
theorem cd_place (d κ s nr : Nat) (nm : List Nat) (j v1 : Value) (g : Nat → Value) (hs : jSt h κ s nm) (hb : h.2.2 b = some (8, .inl [j, v1, .int (nI ps.length), .ref nr])) (hr : h.2.2 nr = some (69, .inr (10, g))) (h10 : ps.length ≤ 10) (hg : ∀ i, i < ps.length → ∃ s, g i = .ref s ∧ jSt h 30 s (ps.getD i ([], 0)).1 ∧ nmOK (ps.getD i ([], 0)).1) : jP Z mX8_place (d + 2) [.ref b, .ref s] h (some (.int (oI (fnP nm ps)))) := by
  refine jC.of pnX8 rfl (Nat.le_of_ble_eq_true rfl) rfl (fun X => ?_)
  have loop : ∀ (m i : Nat), i + m = ps.length → (∀ k, k < i → (ps.getD k ([], 0)).1 ≠ nm) → hG Z X mX8_place (d + 2) (fun _ => False) h (jK (fun v h' => v = some (.int (oI (fnP nm ps))) ∧ h' = h)) 2 [(0, .ref b), (1, .ref s), (2, .int (nI i))] [] h := by
    intro m
    induction m with
    | zero =>
      intro i hi hk
      refine g_iload_n (pc := 2) dX8_place_2 rfl rfl ?_
      refine g_aload_n (pc := 3) dX8_place_3 rfl rfl ?_
      refine g_get (pc := 4) (r := (RX8, TX8, 4)) 2 dX8_place_4 hb rfl (Nat.le_of_ble_eq_true rfl) q804 (Or.inr q805) rfl ?_
      refine g_icmp_geN (pc := 7) (tgt := 31) dX8_place_7 rfl (by omega) (by omega) (fun _ => ?_) (fun q_ => absurd q_ (by omega))
      refine g_iconst (pc := 31) (v := (-1)) dX8_place_31 rfl ?_
      rw [fnP_none (fun k hk' => hk k (by omega))]
      exact g_iret (pc := 32) dX8_place_32 rfl ⟨_, rfl, rfl, rfl⟩
    | succ m ih =>
      intro i hi hk
      obtain ⟨s', e1, e2, e3⟩ := hg i (by omega)
      have kw := e2.cl
      have e20 := e2
      obtain ⟨_, _, bw, κb, hs1, hz, hsw, _⟩ := e20
      refine g_iload_n (pc := 2) dX8_place_2 rfl rfl ?_
      refine g_aload_n (pc := 3) dX8_place_3 rfl rfl ?_
      refine g_get (pc := 4) (r := (RX8, TX8, 4)) 2 dX8_place_4 hb rfl (Nat.le_of_ble_eq_true rfl) q804 (Or.inr q805) rfl ?_
      refine g_icmp_geN (pc := 7) (tgt := 31) dX8_place_7 rfl (by omega) (by omega) (fun q_ => absurd q_ (by omega)) (fun _ => ?_)
      refine g_aload_n (pc := 10) dX8_place_10 rfl rfl ?_
      refine g_get (pc := 11) (r := (RX8, TX8, 4)) 3 dX8_place_11 hb rfl (Nat.le_of_ble_eq_true rfl) q829 (Or.inl rfl) rfl ?_
      refine g_iload_n (pc := 14) dX8_place_14 rfl rfl ?_
      refine g_aald (pc := 15) i dX8_place_15 hr rfl rfl (by omega) rfl ?_
      rw [e1]
      refine g_aload_n (pc := 16) dX8_place_16 rfl rfl ?_
      refine g_invV (pc := 17) dX8_place_17 hsw kw (jc_equals d κ s nm e2 hs) meJ9_equals q964 q965 q966 rfl rfl (Nat.le_of_ble_eq_true rfl) (by first | exact jF | exact fun _ z => z | assumption | (intro κ z; simp_all)) (jk_e ?_) jk_x
      by_cases z : (ps.getD i ([], 0)).1 = nm
      · rw [show decide ((ps.getD i ([], 0)).1 = nm) = true from decide_eq_true z]
        refine g_if_eq (pc := 20) (tgt := 25) dX8_place_20 rfl (fun q_ => absurd q_ (by decide)) (fun _ => ?_)
        refine g_iload_n (pc := 23) dX8_place_23 rfl rfl ?_
        rw [fnP_some (by omega) z hk]
        exact g_iret (pc := 24) dX8_place_24 rfl ⟨_, rfl, rfl, rfl⟩
      · rw [show decide ((ps.getD i ([], 0)).1 = nm) = false from decide_eq_false z]
        refine g_if_eq (pc := 20) (tgt := 25) dX8_place_20 rfl (fun _ => ?_) (fun q_ => absurd q_ (by decide))
        refine g_iincN (pc := 25) (k0 := 1) (ls' := [(0, _), (1, _), (2, _)]) dX8_place_25 rfl (Nat.le_of_ble_eq_true rfl) rfl ?_
        refine g_goto (pc := 28) (tgt := 2) dX8_place_28 rfl ?_
        refine ih (i + 1) (by omega) (fun k hk' => ?_)
        by_cases y : k = i
        · rw [y]; exact z
        · exact hk k (by omega)
  refine g_iconst (pc := 0) (v := nI 0) dX8_place_0 rfl ?_
  refine g_istore_n (pc := 1) (ls' := [(0, _), (1, _), (2, _)]) dX8_place_1 rfl (Nat.le_of_ble_eq_true rfl) rfl ?_
  exact loop ps.length 0 (by omega) (fun k hk => absurd hk (Nat.not_lt_zero _))
theorem cd_memb8 (d κ s nr : Nat) (nm : List Nat) (j : Value) (g : Nat → Value) (hs : jSt h κ s nm) (hb : h.2.2 b = some (8, .inl [j, .ref ar, .int (nI ps.length), .ref nr])) (hr : h.2.2 ar = some (68, .inr (10, f))) (h10 : ps.length ≤ 10) (hf : ∀ i, i < ps.length → f i = .ref (DA (ps.getD i ([], 0)).2)) (hr2 : h.2.2 nr = some (69, .inr (10, g))) (hg : ∀ i, i < ps.length → ∃ s, g i = .ref s ∧ jSt h 30 s (ps.getD i ([], 0)).1 ∧ nmOK (ps.getD i ([], 0)).1) : jP Z mX8_member (d + 3) [.ref b, .ref s] h (some (match fnP nm ps with | some k => .ref (DA (ps.getD k ([], 0)).2) | none => .null)) := by
  refine jC.of pnX8 rfl (Nat.le_of_ble_eq_true rfl) rfl (fun X => ?_)
  refine g_aload_n (pc := 0) dX8_member_0 rfl rfl ?_
  refine g_aload_n (pc := 1) dX8_member_1 rfl rfl ?_
  refine g_invV (pc := 2) dX8_member_2 hb rfl (cd_place d κ s nr nm j _ g hs hb hr2 h10 hg) meX8_place q976 q961 q962 rfl rfl (Nat.le_of_ble_eq_true rfl) (by first | exact jF | exact fun _ z => z | assumption | (intro κ z; simp_all)) (jk_e ?_) jk_x
  refine g_istore_n (pc := 5) (ls' := [(0, _), (1, _), (2, _)]) dX8_member_5 rfl (Nat.le_of_ble_eq_true rfl) rfl ?_
  refine g_iload_n (pc := 6) dX8_member_6 rfl rfl ?_
  cases hfn : fnP nm ps with
  | none =>
    refine g_if_ge (pc := 7) (tgt := 14) dX8_member_7 rfl (fun z => absurd z (by decide)) (fun _ => ?_)
    refine g_null (pc := 10) dX8_member_10 ?_
    refine g_goto (pc := 11) (tgt := 20) dX8_member_11 rfl ?_
    exact g_aret (pc := 20) dX8_member_20 rfl (Or.inl ⟨_, rfl⟩) (Or.inl rfl) ⟨_, rfl, rfl, rfl⟩
  | some k =>
    obtain ⟨h1, h2⟩ := fnP_at hfn
    refine g_if_geN (pc := 7) (tgt := 14) (a := k) dX8_member_7 rfl (by omega) ?_
    refine g_aload_n (pc := 14) dX8_member_14 rfl rfl ?_
    refine g_get (pc := 15) (r := (RX8, TX8, 4)) 1 dX8_member_15 hb rfl (Nat.le_of_ble_eq_true rfl) q800 (Or.inr q801) rfl ?_
    refine g_iload_n (pc := 18) dX8_member_18 rfl rfl ?_
    refine g_aald (pc := 19) k dX8_member_19 hr rfl rfl (by omega) rfl ?_
    rw [hf k h1]
    exact g_aret (pc := 20) dX8_member_20 rfl (Or.inl ⟨_, rfl⟩) (Or.inr ⟨_, rfl⟩) ⟨_, rfl, rfl, rfl⟩
end CE
abbrev mbL : List (Nat × hM) := [(5, mX4_member), (6, mX4_member), (7, mX7_member), (8, mX8_member), (21, mX4_member)]
/-- member of any value -/
theorem cmm_val {Z : hE} {D : aD} {w : cW} {q κ s : Nat} {nm : List Nat} {h : hP} (hD : cD D w h q) (hs : jSt h κ s nm) (hn : nm ≠ []) : ∀ (n e b : Nat) (v : aV), 4 ≤ e → cV D w.1 h n v (.ref b) → hDs Z e (fun _ => False) b [.ref s] h (jK (fun r h' => ∃ x, r = some x ∧ cV D w.1 h 0 (mbV D v nm) x ∧ h = h')) mbL := by
  intro n
  induction n with
  | zero =>
    intro e b v he hv
    obtain ⟨e, rfl⟩ : ∃ e', e = e' + 4 := ⟨e - 4, by omega⟩
    have hv : vB D w.1 h v (.ref b) := hv
    unfold vB at hv
    split at hv
    · cases hv
    · rename_i k _
      obtain ⟨a', κ', w', e1, e2, e3⟩ := hv
      cases e1
      have hk : κ' % 100 = 5 := by rcases e3 with z | z <;> rw [z]
      exact ⟨_, _, mX4_member, e2, (by rw [hk]; first | exact mm0 | exact mm1 | exact mm2 | exact mm3 | exact mm4), (cd_memb0 (e + 4) s).mono (fun r h' ⟨z1, z2⟩ => ⟨.null, z1, rfl, z2.symm⟩)⟩
    · rename_i t _
      obtain ⟨a', e1, ht⟩ := hv
      cases e1
      obtain ⟨k, s', κ', c, e1, e2, e3, e4⟩ := ht 0
      exact ⟨_, _, mX4_member, e1, (by first | exact mm0 | exact mm1 | exact mm2 | exact mm3 | exact mm4), (cd_memb0 (e + 4) s).mono (fun r h' ⟨z1, z2⟩ => ⟨.null, z1, rfl, z2.symm⟩)⟩
    · rename_i x _
      obtain ⟨e1, e2, ⟨m, ps⟩, e3⟩ := hv
      cases e1
      have hi := hD.1 x e2
      have hac := hD.2.2.2.2.2.2
      have hel : ∀ i, i < ps.length → cV D w.1 h 0 (elX D x i) (.ref (w.1 (ps.getD i ([], 0)).2)) := fun i hi => by
        obtain ⟨ρ, hρ⟩ := hac
        have hm : ps.getD i ([], 0) ∈ aPs (D.2 x) := by rw [e3]; exact getD_mem hi
        have := hD.v (hρ x e2 _ hm).1
        unfold elX
        rw [e3]
        exact this
      unfold cIt at hi
      rw [e3] at hi
      cases m with
      | true =>
        obtain ⟨j, f, g, y1, y2, y3, y4, y5, y6, y7⟩ := hi
        refine ⟨_, _, mX8_member, y2, (by first | exact mm0 | exact mm1 | exact mm2 | exact mm3 | exact mm4), (cd_memb8 (e + 1) κ s _ nm _ g hs y2 y3 y4 y5 y6 y7).mono (fun r h' ⟨z1, z2⟩ => ⟨_, z1, ?_, z2.symm⟩)⟩
        have em : mbV D (some (.inr (.inr x))) nm = (match fnP nm ps with | some k => elX D x k | none => none) := by
          show (if isMp (D.2 x) = true then (match fnP nm (aPs (D.2 x)) with | some k => elX D x k | none => none) else _) = _
          rw [e3]
          rfl
        rw [em]
        cases hfn : fnP nm ps with
        | none => exact (rfl : vB D w.1 h none .null)
        | some k => exact hel k (fnP_at hfn).1
      | false =>
        obtain ⟨j, f, y1, y2, y3, y4, y5⟩ := hi
        refine ⟨_, _, mX7_member, y2, (by first | exact mm0 | exact mm1 | exact mm2 | exact mm3 | exact mm4), (cd_memb7 e κ s nm _ hs hn y2 y3 y4 y5).mono (fun r h' ⟨z1, z2⟩ => ⟨_, z1, ?_, z2.symm⟩)⟩
        have em : mbV D (some (.inr (.inr x))) nm = if isD (nm.getD 0 0) = true then elV D (some (.inr (.inr x))) (nI (nm.getD 0 0 - 48)) else none := by
          show (if isMp (D.2 x) = true then _ else _) = _
          rw [e3]
          rfl
        rw [em]
        by_cases hd : isD (nm.getD 0 0) = true
        · rw [if_pos hd, if_pos hd]
          have hdi := isD_iff.mp hd
          have ee : elV D (some (.inr (.inr x))) (nI (nm.getD 0 0 - 48)) = if isLs (D.2 x) = true ∧ 0 ≤ (nI (nm.getD 0 0 - 48)).toInt ∧ (nI (nm.getD 0 0 - 48)).toInt < (aPs (D.2 x)).length then elX D x (nI (nm.getD 0 0 - 48)).toInt.toNat else none := rfl
          rw [ee, e3]
          unfold elA
          rw [nI_toInt (by omega), Int.toNat_natCast]
          show cV D w.1 h 0 (if (true = true ∧ 0 ≤ ((nm.getD 0 0 - 48 : Nat) : Int) ∧ ((nm.getD 0 0 - 48 : Nat) : Int) < (ps.length : Int)) then _ else _) _
          by_cases hlt : nm.getD 0 0 - 48 < ps.length
          · have hz : 0 ≤ ((nm.getD 0 0 - 48 : Nat) : Int) ∧ ((nm.getD 0 0 - 48 : Nat) : Int) < (ps.length : Int) := by omega
            rw [if_pos ⟨rfl, hz⟩, if_pos hz]
            exact hel _ hlt
          · have hz : ¬ (0 ≤ ((nm.getD 0 0 - 48 : Nat) : Int) ∧ ((nm.getD 0 0 - 48 : Nat) : Int) < (ps.length : Int)) := by omega
            rw [if_neg (fun y => hz y.2), if_neg hz]
            exact (rfl : vB D w.1 h none .null)
        · rw [if_neg hd, if_neg hd]
          exact (rfl : vB D w.1 h none .null)
  | succ n ih =>
    intro e b v he hv
    rcases hv with hv | ⟨a', k, y, v', e1, e2, e3, e4, e5⟩
    · exact ih e b v he hv
    · cases e1
      rw [e3]
      exact ⟨_, _, mX4_member, e2, (by first | exact mm0 | exact mm1 | exact mm2 | exact mm3 | exact mm4), (cd_memb0 e s).mono (fun r h' ⟨z1, z2⟩ => ⟨.null, z1, rfl, z2.symm⟩)⟩
