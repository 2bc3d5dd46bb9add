/-! TWIN 18: element, member, loop, path, operand -/
set_option maxRecDepth 100000
/-- contexts: registers from 3 on, the innermost last -/
def vC (D : aD) (τ : tT) : List aV → Prop
  | [] => True
  | v :: C => vR D τ (3 + C.length) v ∧ vC D τ C
theorem vC.keep {R : Nat → Prop} {a b : tT} {D : aD} (h : vK R a b) : ∀ {C : List aV}, (∀ r, 3 ≤ r → r < 3 + C.length → ¬ R r) → vC D a C → vC D b C
  | [], _, _ => trivial
  | v :: C, hr, ⟨x, y⟩ => ⟨vR.keep h (hr _ (by omega) (by simp)) x, vC.keep h (fun r h1 h2 => hr r h1 (by simp; omega)) y⟩
theorem vC.get {D : aD} {τ : tT} : ∀ {C : List aV} {i : Nat}, vC D τ C → i < C.length → vR D τ (2 + C.length - i) (C.getD i none)
  | [], _, _, h => absurd h (Nat.not_lt_zero _)
  | v :: C, 0, ⟨x, _⟩, _ => by
    have e : 2 + (v :: C).length - 0 = 3 + C.length := by simp; omega
    rw [e]; exact x
  | v :: C, i + 1, ⟨_, y⟩, h => by
    have e : 2 + (v :: C).length - (i + 1) = 2 + C.length - i := by simp; omega
    rw [e]
    exact vC.get (i := i) y (by simpa using h)
/-- what is under way -/
def uR (Tm : Nat → Option aT) (D : aD) (τ : tT) : Nat → List aU → Prop
  | _, [] => True
  | t, .inl (t', g) :: U => τ.2.2.1 47 U.length = 1 ∧ τ.2.2.1 40 U.length = t ∧ τ.2.2.1 41 U.length = 50 * t' + g ∧ t' < 4 ∧ (∃ n f gg T, Tm t' = some (n, f, gg, T) ∧ g < gg) ∧ uR Tm D τ t' U
  | t, .inr (b, ot, k, x) :: U => τ.2.2.1 47 U.length = 0 ∧ τ.2.2.1 46 U.length = ot.toNat ∧ τ.2.2.1 42 U.length = k ∧ τ.2.2.1 41 U.length = 50 * t + b ∧ k < 10 ∧ (∃ n f g T, Tm t = some (n, f, g, T) ∧ b < g ∧ ((T.1 b).2.2.2.2 = 4 → ot = false → (x < D.1 ∧ 0 < (aPs (D.2 x)).length) ∧ τ.2.2.2.1 43 U.length = nI x)) ∧ uR Tm D τ t U
theorem uR.same {Tm : Nat → Option aT} {D : aD} {a b : tT} : ∀ {U : List aU} {t : Nat}, (∀ i, i < U.length → b.2.2.1 47 i = a.2.2.1 47 i ∧ b.2.2.1 40 i = a.2.2.1 40 i ∧ b.2.2.1 41 i = a.2.2.1 41 i ∧ b.2.2.1 42 i = a.2.2.1 42 i ∧ b.2.2.1 46 i = a.2.2.1 46 i ∧ b.2.2.2.1 43 i = a.2.2.2.1 43 i) → uR Tm D a t U → uR Tm D b t U
  | [], _, _, _ => trivial
  | .inl (t', g) :: U, t, h, ⟨x1, x2, x3, x4, x5, x6⟩ => by
    have h1 := h U.length (by simp)
    exact ⟨h1.1.trans x1, h1.2.1.trans x2, h1.2.2.1.trans x3, x4, x5, uR.same (fun i hi => h i (by simp; omega)) x6⟩
  | .inr (bb, ot, k, x) :: U, t, h, ⟨x1, x2, x3, x4, x5, ⟨n, f, g, T, y1, y2, y3⟩, x7⟩ => by
    have h1 := h U.length (by simp)
    exact ⟨h1.1.trans x1, h1.2.2.2.2.1.trans x2, h1.2.2.2.1.trans x3, h1.2.2.1.trans x4, x5, ⟨n, f, g, T, y1, y2, fun z w => ⟨(y3 z w).1, h1.2.2.2.2.2.trans (y3 z w).2⟩⟩, uR.same (fun i hi => h i (by simp; omega)) x7⟩
theorem uR.keep {Tm : Nat → Option aT} {D : aD} {R : Nat → Prop} {a b : tT} (h : vK R a b) {U : List aU} {t : Nat} (q : uR Tm D a t U) : uR Tm D b t U := by
  have hk : ∀ k, 39 < k → k ≠ 44 → k ≠ 45 → ∀ i, b.2.2.1 k i = a.2.2.1 k i ∧ b.2.2.2.1 k i = a.2.2.2.1 k i := fun k h1 h2 h3 i => h.2.2.2 k i (Or.inl (Or.inr (Or.inr (Or.inr ⟨h1, h2, h3⟩))))
  refine q.same (fun i _ => ⟨(hk 47 (by decide) (by decide) (by decide) i).1, (hk 40 (by decide) (by decide) (by decide) i).1, (hk 41 (by decide) (by decide) (by decide) i).1, (hk 42 (by decide) (by decide) (by decide) i).1, (hk 46 (by decide) (by decide) (by decide) i).1, (hk 43 (by decide) (by decide) (by decide) i).2⟩)
theorem lts_all {f : Nat → Nat} {e : Nat} : ∀ {n p : Nat}, lts f e p = n → ∀ i, i < n → p + i < e ∧ isL (f (p + i)) = true
  | 0, _, _, i, hi => absurd hi (Nat.not_lt_zero _)
  | n + 1, p, h, i, hi => by
    cases hz : isL (cA f e p) with
    | false => rw [lts_stop hz] at h; cases h
    | true =>
      have hp := cA_lt (isL_pos hz)
      rw [lts_step hz] at h
      cases i with
      | zero => rw [cA_eq hp] at hz; exact ⟨hp, hz⟩
      | succ i =>
        have := lts_all (f := f) (e := e) (n := n) (p := p + 1) (by omega) i (by omega)
        rw [show p + (i + 1) = p + 1 + i by omega]; exact this
section TW18
variable {Z : hE} {o : Nat} {τ : tT}
theorem vR.is {D : aD} {τ : tT} {r : Nat} : ∀ {v : aV}, vR D τ r v → tD τ D → (τ.2.2.2.1 26 r = nI 2 ∧ ∃ x, v = some (.inr (.inr x)) ∧ x < D.1 ∧ isLs (D.2 x) = true ∧ τ.2.2.2.1 27 r = nI x) ∨ (τ.2.2.2.1 26 r = nI 3 ∧ ∃ x, v = some (.inr (.inr x)) ∧ x < D.1 ∧ isMp (D.2 x) = true ∧ τ.2.2.2.1 27 r = nI x) ∨ (τ.2.2.2.1 26 r ≠ nI 2 ∧ τ.2.2.2.1 26 r ≠ nI 3 ∧ ∀ x, v ≠ some (.inr (.inr x)))
  | none, h, _ => Or.inr (Or.inr ⟨by rw [show τ.2.2.2.1 26 r = -1 from h]; decide, by rw [show τ.2.2.2.1 26 r = -1 from h]; decide, fun x z => by cases z⟩)
  | some (.inl v), h, _ => Or.inr (Or.inr ⟨by rw [h.1]; decide, by rw [h.1]; decide, fun x z => by cases z⟩)
  | some (.inr (.inl l)), h, _ => Or.inr (Or.inr ⟨by rw [h.1]; decide, by rw [h.1]; decide, fun x z => by cases z⟩)
  | some (.inr (.inr x)), ⟨x1, x2, m, ps, x3, x4⟩, _ => by
    cases m with
    | true => exact Or.inr (Or.inl ⟨x4, x, rfl, x1, by rw [x3]; rfl, x2⟩)
    | false => exact Or.inl ⟨x4, x, rfl, x1, by rw [x3]; rfl, x2⟩
theorem tc_element (d r : Nat) (k : Int32) (D : aD) (v : aV) (hr : r < 18) (hD : tD τ D) (hv : vR D τ r v) : tC Z mX3_element (d + 2) o [.ref o, .int (nI r), .int k] τ (fun u τ' => u = none ∧ τ'.1 = τ.1 ∧ vK (fun i => i = r) τ τ' ∧ vR D τ' r (elV D v k)) := by
  refine tC.of rfl rfl (Nat.le_of_ble_eq_true rfl) rfl (fun X hin h hR => ?_)
  have hD2 := hD.2.1
  have bad : elV D v k = none → ∀ h, tH o τ hin h → hG Z X mX3_element (d + 2) tS hin (tK o hin (fun u τ' => u = none ∧ τ'.1 = τ.1 ∧ vK (fun i => i = r) τ τ' ∧ vR D τ' r (elV D v k))) 29 [(0, .ref o), (1, .int (nI r)), (2, .int k)] [] h := by
    intro he h hR
    refine g_aload_n (pc := 29) dX3_element_29 rfl rfl ?_
    refine g_iload_n (pc := 30) dX3_element_30 rfl rfl ?_
    refine t_invE (pc := 31) dX3_element_31 hR (tc_nothing _ r hr) meX3_nothing q2164 q2166 qs53 rfl rfl (Nat.le_of_ble_eq_true rfl) (fun h hR => ?_)
    refine g_goto (pc := 34) (tgt := 58) dX3_element_34 rfl ?_
    exact t_vret (pc := 58) dX3_element_58 hR rfl (⟨rfl, rfl, (vK.refl (fun i => i = r) τ).ai (vKp_r (Or.inl rfl) rfl), by rw [he]; exact rAI_s⟩)
  refine g_aload_n (pc := 0) dX3_element_0 rfl rfl ?_
  refine t_get (pc := 1) (v := .ref (tAd _ 26)) 26 dX3_element_1 hR rfl q1825 (Nat.le_of_ble_eq_true rfl) rfl rfl ?_
  refine g_iload_n (pc := 4) dX3_element_4 rfl rfl ?_
  refine t_ialdI (pc := 5) dX3_element_5 hR rfl (by decide) rfl (by decide) (by show _ < 18; omega) ?_
  refine g_iconst (pc := 6) (v := nI 2) dX3_element_6 rfl ?_
  rcases hv.is hD with ⟨h1, x, rfl, x1, x2, x3⟩ | ⟨h1, x, rfl, x1, x2, x3⟩ | ⟨h1, h2, h3⟩
  · have hkd := (hD.2.2 x x1).1.kind
    have h8 : τ.2.2.1 8 x = 2 := hkd.2.2.2.1.mpr x2
    have h9 := hkd.2.2.1 (by omega)
    rw [h1]
    refine g_icmp_ne (pc := 7) (tgt := 29) dX3_element_7 rfl (fun z => absurd rfl z) (fun _ => ?_)
    refine g_iload_n (pc := 10) dX3_element_10 rfl rfl ?_
    refine g_if_lt (pc := 11) (tgt := 29) dX3_element_11 rfl (fun q => ?_) (fun q => ?_)
    · refine bad ?_ h hR
      have := Int32.lt_iff_toInt_lt.mp q
      simp at this
      show (if _ then _ else _) = _
      rw [if_neg (by omega)]
    · obtain ⟨i, hi, rfl⟩ := nI_of q
      refine g_iload_n (pc := 14) dX3_element_14 rfl rfl ?_
      refine g_aload_n (pc := 15) dX3_element_15 rfl rfl ?_
      refine t_get (pc := 16) (v := .ref (tAd _ 9)) 9 dX3_element_16 hR rfl q1808 (Nat.le_of_ble_eq_true rfl) rfl rfl ?_
      refine g_aload_n (pc := 19) dX3_element_19 rfl rfl ?_
      refine t_get (pc := 20) (v := .ref (tAd _ 27)) 27 dX3_element_20 hR rfl q1826 (Nat.le_of_ble_eq_true rfl) rfl rfl ?_
      refine g_iload_n (pc := 23) dX3_element_23 rfl rfl ?_
      refine t_ialdI (pc := 24) dX3_element_24 hR rfl (by decide) rfl (by decide) (by show _ < 18; omega) ?_
      rw [x3]
      refine t_ialdI (pc := 25) dX3_element_25 hR rfl (by decide) rfl (by decide) (by show _ < 60; omega) ?_
      rw [h9.1]
      refine g_icmp_ltN (pc := 26) (tgt := 37) dX3_element_26 rfl (by omega) (by omega) (fun q2 => ?_) (fun q2 => ?_)
      · refine g_aload_n (pc := 37) dX3_element_37 rfl rfl ?_
        refine g_iload_n (pc := 38) dX3_element_38 rfl rfl ?_
        refine g_aload_n (pc := 39) dX3_element_39 rfl rfl ?_
        refine t_get (pc := 40) (v := .ref (tAd _ 11)) 11 dX3_element_40 hR rfl q1810 (Nat.le_of_ble_eq_true rfl) rfl rfl ?_
        refine g_aload_n (pc := 43) dX3_element_43 rfl rfl ?_
        refine t_get (pc := 44) (v := .ref (tAd _ 27)) 27 dX3_element_44 hR rfl q1826 (Nat.le_of_ble_eq_true rfl) rfl rfl ?_
        refine g_iload_n (pc := 47) dX3_element_47 rfl rfl ?_
        refine t_ialdI (pc := 48) dX3_element_48 hR rfl (by decide) rfl (by decide) (by show _ < 18; omega) ?_
        rw [x3]
        refine g_bipush (pc := 49) (v := nI 10) dX3_element_49 rfl ?_
        first | refine g_imulN (pc := 51) dX3_element_51 ?_ | refine g_imul (pc := 51) dX3_element_51 ?_
        refine g_iload_n (pc := 52) dX3_element_52 rfl rfl ?_
        first | refine g_iaddN (pc := 53) dX3_element_53 ?_ | refine g_iadd (pc := 53) dX3_element_53 ?_
        rw [Nat.mul_comm x 10]
        refine t_iald (pc := 54) dX3_element_54 hR rfl (by decide) rfl (by decide) (by show _ < 600; omega) ?_
        rw [h9.2.2 i q2]
        have hm : (aPs (D.2 x)).getD i ([], 0) ∈ aPs (D.2 x) := getD_mem q2
        refine t_inv (pc := 55) dX3_element_55 hR (tc_load _ r _ D hr hD ((hD.2.2 x x1).2 _ hm)) meX3_load q2104 q2106 qs38 rfl rfl (Nat.le_of_ble_eq_true rfl) (fun u τ1 h hp hR => ?_)
        obtain ⟨rfl, c1, c2, c3⟩ := hp
        have e : elV D (some (.inr (.inr x))) (nI i) = aVof D ((aPs (D.2 x)).getD i ([], 0)).2 := by
          show (if _ then _ else _) = _
          rw [nI_toInt hi, if_pos ⟨x2, by omega, by omega⟩]
          show elX D x _ = _
          unfold elX
          rw [Int.toNat_natCast]
        exact t_vret (pc := 58) dX3_element_58 hR rfl (⟨rfl, c1, c2, by rw [e]; exact c3⟩)
      · refine bad ?_ h hR
        show (if _ then _ else _) = _
        rw [nI_toInt hi, if_neg (by omega)]
  · rw [h1]
    refine g_icmp_ne (pc := 7) (tgt := 29) dX3_element_7 rfl (fun _ => ?_) (fun z => absurd z (by decide))
    refine bad ?_ h hR
    show (if _ then _ else _) = _
    rw [if_neg]
    intro z
    rw [isMp_eq x2] at z
    exact absurd z.1 (by simp [isLs])
  · refine g_icmp_ne (pc := 7) (tgt := 29) dX3_element_7 rfl (fun _ => ?_) (fun z => absurd z h1)
    refine bad ?_ h hR
    rcases v with _ | v | l | x
    · rfl
    · rfl
    · rfl
    · exact absurd rfl (h3 x)
theorem tc_member (d r p n : Nat) (D : aD) (v : aV) (F : Nat → Nat) (hFe : τ.2.2.1 14 = F) (hr : r < 18) (hD : tD τ D) (hv : vR D τ r v) (hn1 : 1 ≤ n) (hn8 : n ≤ 8) (hp : p + n ≤ 1000) (hl : ∀ i, i < n → isL (F (p + i)) = true) : tC Z mX3_member (d + 2) o [.ref o, .int (nI r), .int (nI p), .int (nI n)] τ (fun u τ' => u = none ∧ τ'.1 = τ.1 ∧ vK (fun i => i = r) τ τ' ∧ vR D τ' r (mbV D v (sgF F p n))) := by
  refine tC.of rfl rfl (Nat.le_of_ble_eq_true rfl) rfl (fun X hin h hR => ?_)
  have hD2 := hD.2.1
  have hok : nmOK (sgF F p n) := ⟨sgF_mem (P := fun c => isL c = true) hl, by rw [sgF_len]; exact hn1, by rw [sgF_len]; exact hn8⟩
  have hnd : isD ((sgF F p n).getD 0 0) = false := by
    rw [sgF_get (by omega)]
    have := isL_iff.mp (hl 0 (by omega))
    cases hz : isD (F (p + 0)) with
    | false => rfl
    | true => have := isD_iff.mp hz; omega
  have none_ : mbV D v (sgF F p n) = none → ∀ w k : Int64, ∀ h, tH o τ hin h → hG Z X mX3_member (d + 2) tS hin (tK o hin (fun u τ' => u = none ∧ τ'.1 = τ.1 ∧ vK (fun i => i = r) τ τ' ∧ vR D τ' r (mbV D v (sgF F p n)))) 67 [(0, .ref o), (1, .int (nI r)), (2, .int (nI p)), (3, .int (nI n)), (4, .long w)] [.int (-1)] h := by
    intro he w k h hR
    refine g_istore (pc := 67) (ls' := [(0, _), (1, _), (2, _), (3, _), (4, _), (6, _)]) dX3_member_67 (Nat.le_of_ble_eq_true rfl) rfl ?_
    refine g_iload (pc := 69) dX3_member_69 rfl ?_
    refine g_if_ge (pc := 71) (tgt := 82) dX3_member_71 rfl (fun z => absurd z (by decide)) (fun _ => ?_)
    refine g_aload_n (pc := 74) dX3_member_74 rfl rfl ?_
    refine g_iload_n (pc := 75) dX3_member_75 rfl rfl ?_
    refine t_invE (pc := 76) dX3_member_76 hR (tc_nothing _ r hr) meX3_nothing q2164 q2166 qs53 rfl rfl (Nat.le_of_ble_eq_true rfl) (fun h hR => ?_)
    refine g_goto (pc := 79) (tgt := 104) dX3_member_79 rfl ?_
    exact t_vret (pc := 104) dX3_member_104 hR rfl (⟨rfl, rfl, (vK.refl (fun i => i = r) τ).ai (vKp_r (Or.inl rfl) rfl), by rw [he]; exact rAI_s⟩)
  have done : ∀ h, tH o τ hin h → hG Z X mX3_member (d + 2) tS hin (tK o hin (fun u τ' => u = none ∧ τ'.1 = τ.1 ∧ vK (fun i => i = r) τ τ' ∧ vR D τ' r (mbV D v (sgF F p n)))) 41 [(0, .ref o), (1, .int (nI r)), (2, .int (nI p)), (3, .int (nI n)), (4, .long (lN (encN (sgF F p n))))] [] h := by
    intro h hR
    refine g_aload_n (pc := 41) dX3_member_41 rfl rfl ?_
    refine t_get (pc := 42) (v := .ref (tAd _ 26)) 26 dX3_member_42 hR rfl q1825 (Nat.le_of_ble_eq_true rfl) rfl rfl ?_
    refine g_iload_n (pc := 45) dX3_member_45 rfl rfl ?_
    refine t_ialdI (pc := 46) dX3_member_46 hR rfl (by decide) rfl (by decide) (by show _ < 18; omega) ?_
    refine g_iconst (pc := 47) (v := nI 3) dX3_member_47 rfl ?_
    rcases hv.is hD with ⟨h1, x, rfl, x1, x2, x3⟩ | ⟨h1, x, rfl, x1, x2, x3⟩ | ⟨h1, h2, h3⟩
    · rw [h1]
      refine g_icmp_ne (pc := 48) (tgt := 66) dX3_member_48 rfl (fun _ => ?_) (fun z => absurd z (by decide))
      refine g_iconst (pc := 66) (v := (-1)) dX3_member_66 rfl ?_
      refine none_ ?_ _ 0 h hR
      show (if _ then _ else _) = _
      rw [if_neg (by rw [isLs_eq x2]; simp [isMp]), if_neg (by rw [hnd]; decide)]
    · have hit := (hD.2.2 x x1).1
      have hkd := hit.kind
      have h8 : τ.2.2.1 8 x = 3 := hkd.2.2.2.2.mpr x2
      have h9 := hkd.2.2.1 (by omega)
      rw [isMp_eq x2] at hit
      rw [h1]
      refine g_icmp_ne (pc := 48) (tgt := 66) dX3_member_48 rfl (fun z => absurd rfl z) (fun _ => ?_)
      refine g_aload_n (pc := 51) dX3_member_51 rfl rfl ?_
      refine g_aload_n (pc := 52) dX3_member_52 rfl rfl ?_
      refine t_get (pc := 53) (v := .ref (tAd _ 27)) 27 dX3_member_53 hR rfl q1826 (Nat.le_of_ble_eq_true rfl) rfl rfl ?_
      refine g_iload_n (pc := 56) dX3_member_56 rfl rfl ?_
      refine t_ialdI (pc := 57) dX3_member_57 hR rfl (by decide) rfl (by decide) (by show _ < 18; omega) ?_
      rw [x3]
      refine g_lload (pc := 58) dX3_member_58 rfl ?_
      refine t_invE (pc := 60) dX3_member_60 hR (tc_find _ x (sgF F p n) _ (by omega) hok hit) meX3_find q2010 q2012 qs23 rfl rfl (Nat.le_of_ble_eq_true rfl) (fun h hR => ?_)
      refine g_goto (pc := 63) (tgt := 67) dX3_member_63 rfl ?_
      cases hf : fnP (sgF F p n) (aPs (D.2 x)) with
      | none =>
        refine none_ ?_ _ 0 h hR
        show (if _ then _ else _) = _
        rw [if_pos x2, hf]
      | some k =>
        obtain ⟨k1, k2⟩ := fnP_at hf
        have hmb : mbV D (some (.inr (.inr x))) (sgF F p n) = elX D x k := by
          show (if _ then _ else _) = _
          rw [if_pos x2, hf]
        refine g_istore (pc := 67) (ls' := [(0, _), (1, _), (2, _), (3, _), (4, _), (6, _)]) dX3_member_67 (Nat.le_of_ble_eq_true rfl) rfl ?_
        refine g_iload (pc := 69) dX3_member_69 rfl ?_
        refine g_if_geN (pc := 71) (tgt := 82) dX3_member_71 rfl (by omega) ?_
        refine g_aload_n (pc := 82) dX3_member_82 rfl rfl ?_
        refine g_iload_n (pc := 83) dX3_member_83 rfl rfl ?_
        refine g_aload_n (pc := 84) dX3_member_84 rfl rfl ?_
        refine t_get (pc := 85) (v := .ref (tAd _ 11)) 11 dX3_member_85 hR rfl q1810 (Nat.le_of_ble_eq_true rfl) rfl rfl ?_
        refine g_aload_n (pc := 88) dX3_member_88 rfl rfl ?_
        refine t_get (pc := 89) (v := .ref (tAd _ 27)) 27 dX3_member_89 hR rfl q1826 (Nat.le_of_ble_eq_true rfl) rfl rfl ?_
        refine g_iload_n (pc := 92) dX3_member_92 rfl rfl ?_
        refine t_ialdI (pc := 93) dX3_member_93 hR rfl (by decide) rfl (by decide) (by show _ < 18; omega) ?_
        rw [x3]
        refine g_bipush (pc := 94) (v := nI 10) dX3_member_94 rfl ?_
        first | refine g_imulN (pc := 96) dX3_member_96 ?_ | refine g_imul (pc := 96) dX3_member_96 ?_
        refine g_iload (pc := 97) dX3_member_97 rfl ?_
        first | refine g_iaddN (pc := 99) dX3_member_99 ?_ | refine g_iadd (pc := 99) dX3_member_99 ?_
        rw [Nat.mul_comm x 10]
        refine t_iald (pc := 100) dX3_member_100 hR rfl (by decide) rfl (by decide) (by show _ < 600; omega) ?_
        rw [h9.2.2 k k1]
        have hm : (aPs (D.2 x)).getD k ([], 0) ∈ aPs (D.2 x) := getD_mem k1
        refine t_inv (pc := 101) dX3_member_101 hR (tc_load _ r _ D hr hD ((hD.2.2 x x1).2 _ hm)) meX3_load q2104 q2106 qs38 rfl rfl (Nat.le_of_ble_eq_true rfl) (fun u τ1 h hp hR => ?_)
        obtain ⟨rfl, c1, c2, c3⟩ := hp
        exact t_vret (pc := 104) dX3_member_104 hR rfl (⟨rfl, c1, c2, by rw [hmb]; exact c3⟩)
    · refine g_icmp_ne (pc := 48) (tgt := 66) dX3_member_48 rfl (fun _ => ?_) (fun z => absurd z h2)
      refine g_iconst (pc := 66) (v := (-1)) dX3_member_66 rfl ?_
      refine none_ ?_ _ 0 h hR
      rcases v with _ | v | l | x
      · rfl
      · rfl
      · rfl
      · exact absurd rfl (h3 x)
  have loop : ∀ (j k : Nat), k + j = n → ∀ h, tH o τ hin h → hG Z X mX3_member (d + 2) tS hin (tK o hin (fun u τ' => u = none ∧ τ'.1 = τ.1 ∧ vK (fun i => i = r) τ τ' ∧ vR D τ' r (mbV D v (sgF F p n)))) 6 [(0, .ref o), (1, .int (nI r)), (2, .int (nI p)), (3, .int (nI n)), (4, .long (lN (encN (sgF F p k)))), (6, .int (nI (p + k)))] [] h := by
    intro j
    induction j with
    | zero =>
      intro k hk h hR
      have e : k = n := by omega
      subst e
      refine g_iload (pc := 6) dX3_member_6 rfl ?_
      refine g_iload_n (pc := 8) dX3_member_8 rfl rfl ?_
      refine g_iload_n (pc := 9) dX3_member_9 rfl rfl ?_
      first | refine g_iaddN (pc := 10) dX3_member_10 ?_ | refine g_iadd (pc := 10) dX3_member_10 ?_
      refine g_icmp_geN (pc := 11) (tgt := 41) dX3_member_11 rfl (by omega) (by omega) (fun q => ?_) (fun q => ?_)
      · refine g_drop [0, 1, 2, 3, 4] rfl ?_
        exact done h hR
      · exact absurd q (by omega)
    | succ j ih =>
      intro k hk h hR
      have hc := isL_iff.mp (hl k (by omega))
      refine g_iload (pc := 6) dX3_member_6 rfl ?_
      refine g_iload_n (pc := 8) dX3_member_8 rfl rfl ?_
      refine g_iload_n (pc := 9) dX3_member_9 rfl rfl ?_
      first | refine g_iaddN (pc := 10) dX3_member_10 ?_ | refine g_iadd (pc := 10) dX3_member_10 ?_
      refine g_icmp_geN (pc := 11) (tgt := 41) dX3_member_11 rfl (by omega) (by omega) (fun q => ?_) (fun q => ?_)
      · exact absurd q (by omega)
      · refine g_lload (pc := 14) dX3_member_14 rfl ?_
        refine g_ldc2 (pc := 16) dX3_member_16 q2008 ?_
        change hG _ _ _ _ _ _ _ _ _ (.long (lN 32) :: _) _
        first | refine g_lmulN (pc := 19) dX3_member_19 ?_ | refine g_lmul (pc := 19) dX3_member_19 ?_
        refine g_aload_n (pc := 20) dX3_member_20 rfl rfl ?_
        refine t_get (pc := 21) (v := .ref (tAd _ 14)) 14 dX3_member_21 hR rfl q1813 (Nat.le_of_ble_eq_true rfl) rfl rfl ?_
        refine g_iload (pc := 24) dX3_member_24 rfl ?_
        refine t_cald (pc := 26) dX3_member_26 hR rfl (by decide) rfl (by decide) (by show _ < 1000; omega) ?_
        rw [hFe]
        first | refine g_i2lN (pc := 27) dX3_member_27 (by omega) ?_ | refine g_i2l (pc := 27) dX3_member_27 ?_
        first | refine g_laddN (pc := 28) dX3_member_28 ?_ | refine g_ladd (pc := 28) dX3_member_28 ?_
        refine g_ldc2 (pc := 29) dX3_member_29 q2009 ?_
        change hG _ _ _ _ _ _ _ _ _ (.long (lN 96) :: _) _
        first | refine g_lsubN (pc := 32) dX3_member_32 (by omega) ?_ | refine g_lsub (pc := 32) dX3_member_32 ?_
        refine g_lstore (pc := 33) (ls' := [(0, _), (1, _), (2, _), (3, _), (4, _), (6, _)]) dX3_member_33 (Nat.le_of_ble_eq_true rfl) rfl ?_
        refine g_iincN (pc := 35) (k0 := 1) (ls' := [(0, _), (1, _), (2, _), (3, _), (4, _), (6, _)]) dX3_member_35 rfl (Nat.le_of_ble_eq_true rfl) rfl ?_
        refine g_goto (pc := 38) (tgt := 6) dX3_member_38 rfl ?_
        have e1 : encN (sgF F p k) * 32 + F (p + k) - 96 = encN (sgF F p (k + 1)) := by
          rw [sgF_snoc, encN_snoc]; omega
        rw [e1]
        exact ih (k + 1) (by omega) h hR
  refine g_lconst (pc := 0) (v := lN 0) dX3_member_0 rfl ?_
  refine g_lstore (pc := 1) (ls' := [(0, _), (1, _), (2, _), (3, _), (4, _)]) dX3_member_1 (Nat.le_of_ble_eq_true rfl) rfl ?_
  refine g_iload_n (pc := 3) dX3_member_3 rfl rfl ?_
  refine g_istore (pc := 4) (ls' := [(0, _), (1, _), (2, _), (3, _), (4, _), (6, _)]) dX3_member_4 (Nat.le_of_ble_eq_true rfl) rfl ?_
  exact loop n 0 (by omega) h hR
theorem tc_loop (d : Nat) (Tm : Nat → Option aT) (D : aD) (t : Nat) (U : List aU) (n : Nat) (f : Nat → Nat) (g : Nat) (T : tTb) (ht : t < 4) (hT : Tm t = some (n, f, g, T)) (hta : tTa τ t g T) (hg : g ≤ 50) (hso : ∀ j, (T.1 j).2.2.2.2 ≤ 10) (hU : uR Tm D τ t U) (h37 : τ.1 37 = U.length) (hU20 : U.length ≤ 20) : tC Z mX3_loop d o [.ref o] τ (fun r τ' => τ' = τ ∧ ∃ x : Option Nat, r = some (.int (oI x)) ∧ (x = none → lpU T U = none) ∧ ∀ u, x = some u → u < 20 ∧ lpU T U = some (τ.2.2.1 42 u) ∧ τ.2.2.1 42 u < 10) := by
  refine tC.of rfl rfl (Nat.le_of_ble_eq_true rfl) rfl (fun X hin h hR => ?_)
  generalize hQ : (fun (r : Option Value) (τ' : tT) => τ' = τ ∧ ∃ x : Option Nat, r = some (.int (oI x)) ∧ (x = none → lpU T U = none) ∧ ∀ u, x = some u → u < 20 ∧ lpU T U = some (τ.2.2.1 42 u) ∧ τ.2.2.1 42 u < 10) = Q
  have stop : lpU T U = none → ∀ (w : Int32) (pc : Nat), decode mX3_loop.1 pc = .ok (.iconst (-1), 1) → decode mX3_loop.1 (pc + 1) = .ok (.ireturn, 1) → ∀ h, tH o τ hin h → hG Z X mX3_loop d tS hin (tK o hin Q) pc [(0, .ref o), (1, .int w)] [] h := by
    intro hl w pc d1 d2 h hR
    refine g_iconst (v := (-1)) d1 rfl ?_
    subst hQ
    exact t_iret d2 hR rfl ⟨rfl, none, rfl, fun _ => hl, fun u z => by cases z⟩
  have lp : ∀ (U' : List aU), U'.length ≤ 20 → uR Tm D τ t U' → lpU T U' = lpU T U → ∀ (w : Int32), (U' = [] → w = -1) → (∀ q S, U' = q :: S → w = nI S.length) → ∀ h, tH o τ hin h → hG Z X mX3_loop d tS hin (tK o hin Q) 7 [(0, .ref o), (1, .int w)] [] h := by
    intro U'
    induction U' with
    | nil =>
      intro _ _ hl w hw _ h hR
      rw [hw rfl]
      refine g_iload_n (pc := 7) dX3_loop_7 rfl rfl ?_
      refine g_if_lt (pc := 8) (tgt := 54) dX3_loop_8 rfl (fun _ => ?_) (fun z => absurd (by decide) z)
      exact stop hl.symm _ 54 dX3_loop_54 dX3_loop_55 h hR
    | cons q S ih =>
      intro hS hu hl w _ hw h hR
      rw [hw q S rfl]
      have hS2 : S.length < 20 := by
        have : S.length + 1 ≤ 20 := hS
        omega
      refine g_iload_n (pc := 7) dX3_loop_7 rfl rfl ?_
      refine g_if_ltN (pc := 8) (tgt := 54) dX3_loop_8 rfl (by omega) ?_
      refine g_aload_n (pc := 11) dX3_loop_11 rfl rfl ?_
      refine t_get (pc := 12) (v := .ref (tAd _ 47)) 47 dX3_loop_12 hR rfl q1846 (Nat.le_of_ble_eq_true rfl) rfl rfl ?_
      refine g_iload_n (pc := 15) dX3_loop_15 rfl rfl ?_
      refine t_zald (pc := 16) dX3_loop_16 hR rfl (by decide) rfl (by decide) (by show _ < 20; omega) ?_
      rcases q with ⟨t', g'⟩ | ⟨b, ot, k, x⟩
      · rw [hu.1]
        refine g_if_eqN (pc := 17) (tgt := 22) dX3_loop_17 rfl (by omega) (fun z => ?_) (fun z => ?_)
        · exact absurd z (by decide)
        · exact stop (by rw [← hl]; rfl) _ 20 dX3_loop_20 dX3_loop_21 h hR
      · obtain ⟨u1, u2, u3, u4, u5, ⟨n', f', g', T', u6, u7, u8⟩, u9⟩ := hu
        rw [hT] at u6
        cases u6
        have hsr : τ.2.2.2.1 22 (50 * t + b) = nI (T.1 b).2.2.2.2 := (hta b u7).2.2.2.2.1
        have hso2 := hso b
        rw [u1]
        refine g_if_eqN (pc := 17) (tgt := 22) dX3_loop_17 rfl (by omega) (fun z => ?_) (fun z => ?_)
        · have next : lpU T S = lpU T U → ∀ h, tH o τ hin h → hG Z X mX3_loop d tS hin (tK o hin Q) 48 [(0, .ref o), (1, .int (nI S.length))] [] h := by
            intro hl2 h hR
            cases S with
            | nil =>
              refine g_iinc (pc := 48) (v := -1) (ls' := [(0, _), (1, _)]) dX3_loop_48 rfl (by decide) (Nat.le_of_ble_eq_true rfl) rfl ?_
              refine g_goto (pc := 51) (tgt := 7) dX3_loop_51 rfl ?_
              exact ih (by simp) u9 hl2 _ (fun _ => rfl) (fun q S z => by cases z) h hR
            | cons q' S' =>
              refine g_iincM (pc := 48) (a := S'.length) (ls' := [(0, _), (1, _)]) dX3_loop_48 rfl (Nat.le_of_ble_eq_true rfl) rfl ?_
              refine g_goto (pc := 51) (tgt := 7) dX3_loop_51 rfl ?_
              exact ih (by omega) u9 hl2 _ (fun z => by cases z) (fun q S z => by cases z; rfl) h hR
          refine g_aload_n (pc := 22) dX3_loop_22 rfl rfl ?_
          refine t_get (pc := 23) (v := .ref (tAd _ 22)) 22 dX3_loop_23 hR rfl q1821 (Nat.le_of_ble_eq_true rfl) rfl rfl ?_
          refine g_aload_n (pc := 26) dX3_loop_26 rfl rfl ?_
          refine t_get (pc := 27) (v := .ref (tAd _ 41)) 41 dX3_loop_27 hR rfl q1840 (Nat.le_of_ble_eq_true rfl) rfl rfl ?_
          refine g_iload_n (pc := 30) dX3_loop_30 rfl rfl ?_
          refine t_iald (pc := 31) dX3_loop_31 hR rfl (by decide) rfl (by decide) (by show _ < 20; omega) ?_
          rw [u4]
          refine t_ialdI (pc := 32) (k := 22) dX3_loop_32 hR rfl (by decide) rfl (by decide) (by show _ < 250; omega) ?_
          rw [hsr]
          refine g_iconst (pc := 33) (v := nI 4) dX3_loop_33 rfl ?_
          refine g_icmp_neN (pc := 34) (tgt := 48) dX3_loop_34 rfl (by omega) (by omega) (fun z2 => ?_) (fun z2 => ?_)
          · refine next ?_ h hR
            rw [← hl]
            show _ = (if _ then _ else _)
            rw [if_neg (fun y => z2 y.1)]
          · refine g_aload_n (pc := 37) dX3_loop_37 rfl rfl ?_
            refine t_get (pc := 38) (v := .ref (tAd _ 46)) 46 dX3_loop_38 hR rfl q1845 (Nat.le_of_ble_eq_true rfl) rfl rfl ?_
            refine g_iload_n (pc := 41) dX3_loop_41 rfl rfl ?_
            refine t_zald (pc := 42) dX3_loop_42 hR rfl (by decide) rfl (by decide) (by show _ < 20; omega) ?_
            rw [u2]
            refine g_if_neB (pc := 43) (tgt := 48) dX3_loop_43 rfl (fun z3 => ?_) (fun z3 => ?_)
            · refine next ?_ h hR
              rw [← hl]
              show _ = (if _ then _ else _)
              rw [if_neg (fun y => by rw [y.2] at z3; cases z3)]
            · refine g_iload_n (pc := 46) dX3_loop_46 rfl rfl ?_
              subst hQ
              exact t_iret (pc := 47) dX3_loop_47 hR rfl (⟨rfl, some S.length, rfl, (fun z => by cases z), fun u y => by cases y; exact ⟨hS2, by rw [← hl, u3]; show (if _ then _ else _) = _; rw [if_pos ⟨z2, z3⟩], by rw [u3]; exact u5⟩⟩)
        · exact absurd z (by decide)
  refine g_aload_n (pc := 0) dX3_loop_0 rfl rfl ?_
  refine t_get (pc := 1) (v := .int (nI _)) 37 dX3_loop_1 hR rfl q1836 (Nat.le_of_ble_eq_true rfl) rfl rfl ?_
  refine g_iconst (pc := 4) (v := nI 1) dX3_loop_4 rfl ?_
  rw [h37]
  cases hUe : U with
  | nil =>
    refine g_isub (pc := 5) dX3_loop_5 ?_
    refine g_istore_n (pc := 6) (ls' := [(0, _), (1, _)]) dX3_loop_6 rfl (Nat.le_of_ble_eq_true rfl) rfl ?_
    exact lp [] (by simp) trivial (by rw [hUe]) _ (fun _ => rfl) (fun q S z => by cases z) h hR
  | cons q S =>
    rw [show (q :: S).length = S.length + 1 from rfl]
    first | refine g_isubN (pc := 5) dX3_loop_5 (by omega) ?_ | refine g_isub (pc := 5) dX3_loop_5 ?_
    refine g_istore_n (pc := 6) (ls' := [(0, _), (1, _)]) dX3_loop_6 rfl (Nat.le_of_ble_eq_true rfl) rfl ?_
    rw [hUe] at hU hU20
    exact lp (q :: S) hU20 hU (by rw [hUe]) _ (fun z => by cases z) (fun q' S' z => by cases z; simp) h hR
end TW18
