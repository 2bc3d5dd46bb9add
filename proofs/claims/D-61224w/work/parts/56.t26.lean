/-! TWIN 26: partial, tag, go -/
set_option maxRecDepth 100000
theorem sK.uR {Tm : Nat → Option aT} {D : aD} {a b : tT} (h : sK a b) {U : List aU} {t : Nat} (q : uR Tm D a t U) : uR Tm D b t U := by
  have hk : ∀ k, 39 < k → k ≠ 44 → k ≠ 45 → ∀ i, b.2.2.1 k i = a.2.2.1 k i ∧ b.2.2.2.1 k i = a.2.2.2.1 k i := fun k h1 h2 h3 i => h.2.2.2 k i (Or.inr (Or.inr ⟨h1, h2, h3⟩))
  exact q.same (fun i _ => ⟨(hk 47 (by decide) (by decide) (by decide) i).1, (hk 40 (by decide) (by decide) (by decide) i).1, (hk 41 (by decide) (by decide) (by decide) i).1, (hk 42 (by decide) (by decide) (by decide) i).1, (hk 46 (by decide) (by decide) (by decide) i).1, (hk 43 (by decide) (by decide) (by decide) i).2⟩)
/-- from a state that keeps registers and what is under way, with another text out -/
theorem rnR.sk {Tm : Nat → Option aT} {D : aD} {k : Nat} {τ0 a b : tT} {t p p' : Nat} {U : List aU} {C : List aV} {out out' : List Nat} {seen n : Nat} {f : Nat → Nat} {g : Nat} {T : tTb} (h : sK a b) (hT : Tm t = some (n, f, g, T)) (h38 : b.1 38 = 0) (ho : outL b out') (hp : p' ≤ n) (q : rnR Tm D k τ0 (t, p, U, C, out, seen) a) : rnR Tm D k τ0 (t, p', U, C, out', seen) b := by
  obtain ⟨n', f', g', T', hB, hpn, hbot, hout, h5, h600, _, hgk, hm⟩ := q
  dsimp only at hB hpn hbot hout h5 h600
  obtain ⟨_, ⟨q6, q7, q8⟩, ⟨q9, q10, q11⟩, q12, q13, q14⟩ := hB
  exact rnR.mk (hm.gK h.gK) hT ⟨sK.uR h q6, (h.1 37 (by decide) (by decide) (by decide) (by decide)).trans q7, q8⟩ ⟨q9.same (fun k i hk => h.2.2.2 k i (Or.inl hk)), (h.1 36 (by decide) (by decide) (by decide) (by decide)).trans q10, q11⟩ (q12.gK h.gK) q13 hp hbot ho ((h.1 5 (by decide) (by decide) (by decide) (by decide)).trans h5) h600 h38 (hgk.trans h.gK)
section TW26
variable {Z : hE} {o : Nat} {τ : tT}
theorem tc_partial (d j p k : Nat) (Tm : Nat → Option aT) (D : aD) (t n : Nat) (f : Nat → Nat) (g : Nat) (T : tTb) (U : List aU) (C : List aV) (out : List Nat) (seen : Nat) (τ0 : tT) (hT : Tm t = some (n, f, g, T)) (hr : rnR Tm D k τ0 (t, p, U, C, out, seen) τ) (hj : j < g) (hs : (T.1 j).2.2.2.2 = 10) (x : aZ) (hx : x = (if (Tm (f ((T.1 j).2.1 + 2) - 97)).isNone then .inr (.inl 2) else if cpU U = 3 then .inr (.inl 3) else if 18 < U.length then .inr (.inl 0) else .inl (f ((T.1 j).2.1 + 2) - 97, 0, .inl (t, j) :: U, C, out, seen))) (hnx : x ≠ .inr (.inl 0)) : tC Z mX3_partial (d + 1) o [.ref o, .int (nI (50 * t + j)), .int (nI (cpU U))] τ (mRs Tm D k τ0 x) := by
  refine tC.of rfl rfl (Nat.le_of_ble_eq_true rfl) rfl (fun X hin h hR => ?_)
  obtain ⟨n', f', g', T', hB, hpn, hbot, hout, h5, h600, h38, hgk, hm⟩ := hr
  dsimp only at hB hpn hbot hout h5 h600
  have hTe := hB.1.2.1
  rw [hT] at hTe
  cases hTe
  obtain ⟨⟨q1, q2, q3, q4, q5⟩, ⟨q6, q7, q8⟩, ⟨q9, q10, q11⟩, q12, q13, q14⟩ := hB
  obtain ⟨hTp, hok⟩ := hm.2.2.1 t n f g T hT
  obtain ⟨tg, tsp, tm1, tm2⟩ := hok.tag hj
  have hn180 : n ≤ 180 := hok.1
  unfold tgOK at tg
  obtain ⟨_, _, _, sp4⟩ := tsp _ rfl
  obtain ⟨s1, s2, s3⟩ := sp4 hs
  obtain ⟨r1, r2, r3, r4, r5, r6, r7⟩ := q3 j hj
  generalize hX0 : (T.1 j).2.1 = X0 at *
  have hF : τ.2.2.1 14 (200 * t + X0 + 2) = f (X0 + 2) := by rw [Nat.add_assoc]; exact hTp.2.2.2.1 _ (by omega)
  have hcp : cpU U ≤ 21 := by
    obtain ⟨e1, e2⟩ := q6.sm
    have : ∀ m, m ≤ U.length → smP τ m ≤ m := by
      intro m
      induction m with
      | zero => intro _; exact Nat.le_refl _
      | succ m ih =>
        intro hm
        have := ih (by omega)
        have := e2 m (by omega)
        show smP τ m + τ.2.2.1 47 m ≤ m + 1
        omega
    have := this U.length (Nat.le_refl _)
    omega
  refine g_aload_n (pc := 0) dX3_partial_0 rfl rfl ?_
  refine t_get (pc := 1) (v := .ref (tAd _ 14)) 14 dX3_partial_1 hR rfl q1813 (Nat.le_of_ble_eq_true rfl) rfl rfl ?_
  refine g_aload_n (pc := 4) dX3_partial_4 rfl rfl ?_
  refine t_get (pc := 5) (v := .ref (tAd _ 20)) 20 dX3_partial_5 hR rfl q1819 (Nat.le_of_ble_eq_true rfl) rfl rfl ?_
  refine g_iload_n (pc := 8) dX3_partial_8 rfl rfl ?_
  refine t_iald (pc := 9) dX3_partial_9 hR rfl (by decide) rfl (by decide) (by show _ < 250; omega) ?_
  rw [r2]
  refine g_iconst (pc := 10) (v := nI 2) dX3_partial_10 rfl ?_
  first | refine g_iaddN (pc := 11) dX3_partial_11 ?_ | refine g_iadd (pc := 11) dX3_partial_11 ?_
  refine t_cald (pc := 12) dX3_partial_12 hR rfl (by decide) rfl (by decide) (by show _ < 1000; omega) ?_
  rw [hF]
  refine g_bipush (pc := 13) (v := nI 97) dX3_partial_13 rfl ?_
  first | refine g_isubN (pc := 15) dX3_partial_15 (by omega) ?_ | refine g_isub (pc := 15) dX3_partial_15 ?_
  generalize hy : f (X0 + 2) - 97 = y at hx
  have hy4 : y < 4 := by omega
  refine g_istore_n (pc := 16) (ls' := [(0, _), (1, _), (2, _), (3, _)]) dX3_partial_16 rfl (Nat.le_of_ble_eq_true rfl) rfl ?_
  refine g_aload_n (pc := 17) dX3_partial_17 rfl rfl ?_
  refine t_get (pc := 18) (v := .ref (tAd _ 17)) 17 dX3_partial_18 hR rfl q1816 (Nat.le_of_ble_eq_true rfl) rfl rfl ?_
  refine g_iload_n (pc := 21) dX3_partial_21 rfl rfl ?_
  refine t_zald (pc := 22) dX3_partial_22 hR rfl (by decide) rfl (by decide) (by show _ < 4; omega) ?_
  cases hTy : Tm y with
  | none =>
    rw [hTy] at hx
    have hx : x = .inr (.inl 2) := hx
    subst hx
    rw [hm.2.1 y hy4 hTy]
    refine g_if_neN (pc := 23) (tgt := 34) dX3_partial_23 rfl (by omega) (fun q_ => absurd q_ (by omega)) (fun _ => ?_)
    refine g_aload_n (pc := 26) dX3_partial_26 rfl rfl ?_
    refine g_iconst (pc := 27) (v := nI 2) dX3_partial_27 rfl ?_
    refine t_put (pc := 28) 38 dX3_partial_28 hR rfl q1837 (Nat.le_of_ble_eq_true rfl) rfl rfl (by decide) rfl rfl (fun h hR => ?_)
    refine g_goto (pc := 31) (tgt := 55) dX3_partial_31 rfl ?_
    refine g_iload_n (pc := 55) dX3_partial_55 rfl rfl ?_
    refine g_sipush (pc := 56) (v := nI 200) dX3_partial_56 rfl ?_
    first | refine g_imulN (pc := 59) dX3_partial_59 ?_ | refine g_imul (pc := 59) dX3_partial_59 ?_
    refine t_iret (pc := 60) dX3_partial_60 hR rfl ⟨⟨_, rfl⟩, rFN_s, hgk.fn (by decide)⟩
  | some A =>
    rw [hTy] at hx
    obtain ⟨n1, f1, g1, T1⟩ := A
    have hx : x = (if cpU U = 3 then .inr (.inl 3) else if 18 < U.length then .inr (.inl 0) else .inl (y, 0, .inl (t, j) :: U, C, out, seen)) := hx
    rw [(hm.2.2.1 y n1 f1 g1 T1 hTy).1.1]
    refine g_if_neN (pc := 23) (tgt := 34) dX3_partial_23 rfl (by omega) (fun _ => ?_) (fun q_ => absurd q_ (by omega))
    refine g_iload_n (pc := 34) dX3_partial_34 rfl rfl ?_
    refine g_iconst (pc := 35) (v := nI 3) dX3_partial_35 rfl ?_
    by_cases z3 : cpU U = 3
    · rw [if_pos z3] at hx
      subst hx
      refine g_icmp_neN (pc := 36) (tgt := 47) dX3_partial_36 rfl (by omega) (by omega) (fun q_ => absurd q_ (fun w => w z3)) (fun _ => ?_)
      refine g_aload_n (pc := 39) dX3_partial_39 rfl rfl ?_
      refine g_iconst (pc := 40) (v := nI 3) dX3_partial_40 rfl ?_
      refine t_put (pc := 41) 38 dX3_partial_41 hR rfl q1837 (Nat.le_of_ble_eq_true rfl) rfl rfl (by decide) rfl rfl (fun h hR => ?_)
      refine g_goto (pc := 44) (tgt := 55) dX3_partial_44 rfl ?_
      refine g_iload_n (pc := 55) dX3_partial_55 rfl rfl ?_
      refine g_sipush (pc := 56) (v := nI 200) dX3_partial_56 rfl ?_
      first | refine g_imulN (pc := 59) dX3_partial_59 ?_ | refine g_imul (pc := 59) dX3_partial_59 ?_
      refine t_iret (pc := 60) dX3_partial_60 hR rfl ⟨⟨_, rfl⟩, rFN_s, hgk.fn (by decide)⟩
    · rw [if_neg z3] at hx
      split at hx
      · exact absurd hx hnx
      · rename_i hroom
        subst hx
        refine g_icmp_neN (pc := 36) (tgt := 47) dX3_partial_36 rfl (by omega) (by omega) (fun _ => ?_) (fun q_ => absurd q_ (by omega))
        refine g_aload_n (pc := 47) dX3_partial_47 rfl rfl ?_
        refine g_iload_n (pc := 48) dX3_partial_48 rfl rfl ?_
        refine g_iload_n (pc := 49) dX3_partial_49 rfl rfl ?_
        refine g_iconst (pc := 50) (v := nI 1) dX3_partial_50 rfl ?_
        refine g_iconst (pc := 51) (v := nI 0) dX3_partial_51 rfl ?_
        refine t_inv (pc := 52) dX3_partial_52 hR (tc_push _ y (50 * t + j) 1 0 (by rw [q7]; omega) (by decide) (by decide)) meX3_push q2219 q2221 qs66 rfl rfl (Nat.le_of_ble_eq_true rfl) (fun u τ3 h hp hR => ?_)
        obtain ⟨rfl, e3⟩ := hp
        have g3 : gK τ τ3 := by rw [e3]; exact (gK.refl _).pp
        have k3 : ∀ k i, k < 40 → τ3.2.2.1 k i = τ.2.2.1 k i ∧ τ3.2.2.2.1 k i = τ.2.2.2.1 k i := fun k i hk => by rw [e3]; exact ⟨by rw [(pU_k hk).1], by rw [(pU_k hk).2]⟩
        have s3' : ∀ k i, i ≠ U.length → τ3.2.2.1 k i = τ.2.2.1 k i ∧ τ3.2.2.2.1 k i = τ.2.2.2.1 k i := fun k i hi => by rw [e3]; exact pU_o q7 hi
        have f3 : ∀ k, k ≠ 37 → τ3.1 k = τ.1 k := fun k hk => by rw [e3]; exact pU_f hk
        obtain ⟨z1, z2, z3', z4, z5, z6⟩ := pU_r (t := y) (g := 50 * t + j) (pa := 1) (ot := 0) q7
        rw [← e3] at z1 z2 z3' z4 z5 z6
        refine g_iload_n (pc := 55) dX3_partial_55 rfl rfl ?_
        refine g_sipush (pc := 56) (v := nI 200) dX3_partial_56 rfl ?_
        first | refine g_imulN (pc := 59) dX3_partial_59 ?_ | refine g_imul (pc := 59) dX3_partial_59 ?_
        rw [Nat.mul_comm y 200]
        refine t_iret (pc := 60) dX3_partial_60 hR rfl ⟨rfl, rnR.mk (hm.gK g3) hTy ⟨⟨z3', z1, z2, q1, ⟨n, f, g, T, hT, hj⟩, q6.same (fun i hi => ?_)⟩, z6, by simp; omega⟩ ⟨q9.same (fun k i hk => k3 k i (by omega)), (f3 36 (by decide)).trans q10, q11⟩ (q12.gK g3) q13 (Nat.zero_le _) hbot (hout.same (f3 34 (by decide)) (fun i => (k3 31 i (by decide)).1)) ((f3 5 (by decide)).trans h5) h600 ((f3 38 (by decide)).trans h38) (hgk.trans g3)⟩
        have hne : i ≠ U.length := by omega
        exact ⟨(s3' 47 i hne).1, (s3' 40 i hne).1, (s3' 41 i hne).1, (s3' 42 i hne).1, (s3' 46 i hne).1, (s3' 43 i hne).2⟩
theorem tc_tag (d j p k : Nat) (Tm : Nat → Option aT) (D : aD) (t n : Nat) (f : Nat → Nat) (g : Nat) (T : tTb) (U : List aU) (C : List aV) (out : List Nat) (seen : Nat) (τ0 : tT) (hT : Tm t = some (n, f, g, T)) (hr : rnR Tm D k τ0 (t, p, U, C, out, seen) τ) (hj : j < g) (x : aZ) (hx : x = mTag Tm D f T t j U C out seen) (hnx : x ≠ .inr (.inl 0)) : tC Z mX3_tag (d + 8) o [.ref o, .int (nI (50 * t + j))] τ (mRs Tm D k τ0 x) := by
  refine tC.of rfl rfl (Nat.le_of_ble_eq_true rfl) rfl (fun X hin h hR => ?_)
  have hr0 := hr
  obtain ⟨n', f', g', T', hB, hpn, hbot, hout, h5, h600, h38, hgk, hm⟩ := hr
  dsimp only at hB hpn hbot hout h5 h600
  have hTe := hB.1.2.1
  rw [hT] at hTe
  cases hTe
  obtain ⟨⟨q1, q2, q3, q4, q5⟩, ⟨q6, q7, q8⟩, ⟨q9, q10, q11⟩, q12, q13, q14⟩ := hB
  obtain ⟨hTp, hok⟩ := hm.2.2.1 t n f g T hT
  obtain ⟨tg, tsp, tm1, tm2⟩ := hok.tag hj
  have hn180 : n ≤ 180 := hok.1
  unfold tgOK at tg
  obtain ⟨sp1, _, _, _⟩ := tsp _ rfl
  obtain ⟨r1, r2, r3, r4, r5, r6, r7⟩ := q3 j hj
  unfold mTag at hx
  dsimp only at hx
  have hs10 := q5 j
  generalize hs : (T.1 j).2.2.2.2 = s at hx hs10 sp1
  refine g_aload_n (pc := 0) dX3_tag_0 rfl rfl ?_
  refine t_get (pc := 1) (v := .ref (tAd _ 22)) 22 dX3_tag_1 hR rfl q1821 (Nat.le_of_ble_eq_true rfl) rfl rfl ?_
  refine g_iload_n (pc := 4) dX3_tag_4 rfl rfl ?_
  refine t_ialdI (pc := 5) dX3_tag_5 hR rfl (by decide) rfl (by decide) (by show _ < 250; omega) ?_
  rw [r5, hs]
  refine g_istore_n (pc := 6) (ls' := [(0, _), (1, _), (2, _)]) dX3_tag_6 rfl (Nat.le_of_ble_eq_true rfl) rfl ?_
  refine g_iload_n (pc := 7) dX3_tag_7 rfl rfl ?_
  refine g_iconst (pc := 8) (v := nI 5) dX3_tag_8 rfl ?_
  by_cases he : 5 < s ∧ s < 10
  · rw [if_pos he] at hx
    refine g_icmp_leN (pc := 9) (tgt := 24) dX3_tag_9 rfl (by omega) (by omega) (fun q_ => absurd q_ (by omega)) (fun _ => ?_)
    refine g_iload_n (pc := 12) dX3_tag_12 rfl rfl ?_
    refine g_bipush (pc := 13) (v := nI 10) dX3_tag_13 rfl ?_
    refine g_icmp_geN (pc := 15) (tgt := 24) dX3_tag_15 rfl (by omega) (by omega) (fun q_ => absurd q_ (by omega)) (fun _ => ?_)
    refine g_aload_n (pc := 18) dX3_tag_18 rfl rfl ?_
    refine g_iload_n (pc := 19) dX3_tag_19 rfl rfl ?_
    refine t_inv (pc := 20) dX3_tag_20 hR (tc_ends _ (50 * t + j) p k Tm D t n f g T U C out seen τ0 hT hr0 x hx hnx) meX3_ends q2132 q2134 qs45 rfl rfl (Nat.le_of_ble_eq_true rfl) (fun u τ1 h hp hR => ?_)
    cases x with
    | inl c' =>
      obtain ⟨rfl, hp⟩ := hp
      exact t_iret (pc := 23) dX3_tag_23 hR rfl (⟨rfl, hp⟩)
    | inr y =>
      cases y with
      | inl e =>
        obtain ⟨⟨w, rfl⟩, hp⟩ := hp
        exact t_iret (pc := 23) dX3_tag_23 hR rfl (⟨⟨_, rfl⟩, hp⟩)
      | inr y => exact hp.elim
  · rw [if_neg he] at hx
    have seen_ : ∀ h, tH o τ hin h → hG Z X mX3_tag (d + 8) tS hin (tK o hin (mRs Tm D k τ0 x)) 24 [(0, .ref o), (1, .int (nI (50 * t + j))), (2, .int (nI s))] [] h := by
      intro h hR
      refine g_aload_n (pc := 24) dX3_tag_24 rfl rfl ?_
      refine t_get (pc := 25) (v := .int (nI _)) 5 dX3_tag_25 hR rfl q1804 (Nat.le_of_ble_eq_true rfl) rfl rfl ?_
      rw [h5]
      refine g_sipush (pc := 28) (v := nI 600) dX3_tag_28 rfl ?_
      by_cases h6 : seen = 600
      · rw [if_pos h6] at hx
        subst hx
        refine g_icmp_neN (pc := 31) (tgt := 41) dX3_tag_31 rfl (by omega) (by omega) (fun q_ => absurd q_ (fun w => w h6)) (fun _ => ?_)
        refine g_aload_n (pc := 34) dX3_tag_34 rfl rfl ?_
        refine g_iconst (pc := 35) (v := nI 4) dX3_tag_35 rfl ?_
        refine t_put (pc := 36) 38 dX3_tag_36 hR rfl q1837 (Nat.le_of_ble_eq_true rfl) rfl rfl (by decide) rfl rfl (fun h hR => ?_)
        refine g_iconst (pc := 39) (v := nI 0) dX3_tag_39 rfl ?_
        refine t_iret (pc := 40) dX3_tag_40 hR rfl ⟨⟨_, rfl⟩, rFN_s, hgk.fn (by decide)⟩
      · rw [if_neg h6] at hx
        refine g_icmp_neN (pc := 31) (tgt := 41) dX3_tag_31 rfl (by omega) (by omega) (fun _ => ?_) (fun q_ => absurd q_ (by omega))
        refine g_aload_n (pc := 41) dX3_tag_41 rfl rfl ?_
        refine g_dup (pc := 42) dX3_tag_42 rfl ?_
        refine t_get (pc := 43) (v := .int (nI _)) 5 dX3_tag_43 hR rfl q1804 (Nat.le_of_ble_eq_true rfl) rfl rfl ?_
        rw [h5]
        refine g_iconst (pc := 46) (v := nI 1) dX3_tag_46 rfl ?_
        first | refine g_iaddN (pc := 47) dX3_tag_47 ?_ | refine g_iadd (pc := 47) dX3_tag_47 ?_
        refine t_put (pc := 48) 5 dX3_tag_48 hR rfl q1804 (Nat.le_of_ble_eq_true rfl) rfl rfl (by decide) rfl rfl (fun h hR => ?_)
        have hr1 : rnR Tm D k τ0 (t, p, U, C, out, seen + 1) (tFN τ 5 (seen + 1)) := by
          have g1 : gK τ (tFN τ 5 (seen + 1)) := (gK.refl τ).fn (by decide)
          exact rnR.mk (hm.gK g1) hT ⟨uR.same (a := τ) (fun i _ => by exact ⟨rfl, rfl, rfl, rfl, rfl, rfl⟩) q6, (rFN_n (by decide)).trans q7, q8⟩ ⟨vC.same (a := τ) (fun _ _ _ => by exact ⟨rfl, rfl⟩) q9, (rFN_n (by decide)).trans q10, q11⟩ (q12.gK g1) q13 hpn hbot (hout.same (rFN_n (by decide)) (fun _ => by rfl)) rFN_s (by omega) ((rFN_n (by decide)).trans h38) (hgk.trans g1)
        have r3' : (tFN τ 5 (seen + 1)).2.2.1 21 (50 * t + j) = 200 * t + (T.1 j).2.2.1 := r3
        have r2' : (tFN τ 5 (seen + 1)).2.2.1 20 (50 * t + j) = 200 * t + (T.1 j).2.1 := r2
        generalize tFN τ 5 (seen + 1) = τ1 at hR hr1 r2' r3'
        have hr1' := hr1
        obtain ⟨n', f', g', T', hB1, _, hbot1, hout1, h51, h6001, h381, hgk1, hm1⟩ := hr1'
        dsimp only at hB1 hout1 h51 h6001 hbot1
        have hTe := hB1.1.2.1
        rw [hT] at hTe
        cases hTe
        have endr : ∀ (τ2 : tT), tmR Tm τ2 → τ2.2.2.1 19 (50 * t + j) = 200 * t + (T.1 j).2.2.2.1 := fun τ2 hm2 => ((hm2.2.2.1 t n f g T hT).1.2.2.2.2 j hj).2.2.2.1
        refine g_iload_n (pc := 51) dX3_tag_51 rfl rfl ?_
        refine g_iconst (pc := 52) (v := nI 2) dX3_tag_52 rfl ?_
        by_cases hb3 : 2 < s
        · refine g_icmp_leN (pc := 53) (tgt := 68) dX3_tag_53 rfl (by omega) (by omega) (fun q_ => absurd q_ (by omega)) (fun _ => ?_)
          refine g_iload_n (pc := 56) dX3_tag_56 rfl rfl ?_
          refine g_bipush (pc := 57) (v := nI 6) dX3_tag_57 rfl ?_
          by_cases hb6 : s < 6
          · rw [if_pos ⟨hb3, hb6⟩] at hx
            refine g_icmp_geN (pc := 59) (tgt := 68) dX3_tag_59 rfl (by omega) (by omega) (fun q_ => absurd q_ (by omega)) (fun _ => ?_)
            refine g_aload_n (pc := 62) dX3_tag_62 rfl rfl ?_
            refine g_iload_n (pc := 63) dX3_tag_63 rfl rfl ?_
            refine t_inv (pc := 64) dX3_tag_64 hR (tc_block _ j p k Tm D t n f g T U C out (seen + 1) τ0 hT hr1 hj (by omega) (by omega) x (by rw [hs]; exact hx) hnx) meX3_block q2140 q2142 qs47 rfl rfl (Nat.le_of_ble_eq_true rfl) (fun u τ2 h hp hR => ?_)
            cases x with
            | inl c' =>
              obtain ⟨rfl, hp⟩ := hp
              exact t_iret (pc := 67) dX3_tag_67 hR rfl (⟨rfl, hp⟩)
            | inr y =>
              cases y with
              | inl e =>
                obtain ⟨⟨w, rfl⟩, hp⟩ := hp
                exact t_iret (pc := 67) dX3_tag_67 hR rfl (⟨⟨_, rfl⟩, hp⟩)
              | inr y => exact hp.elim
          · rw [if_neg (by omega)] at hx
            have h10 : s = 10 := by omega
            rw [if_pos h10] at hx
            refine g_icmp_geN (pc := 59) (tgt := 68) dX3_tag_59 rfl (by omega) (by omega) (fun _ => ?_) (fun q_ => absurd q_ (by omega))
            refine g_iload_n (pc := 68) dX3_tag_68 rfl rfl ?_
            refine g_bipush (pc := 69) (v := nI 10) dX3_tag_69 rfl ?_
            refine g_icmp_neN (pc := 71) (tgt := 84) dX3_tag_71 rfl (by omega) (by omega) (fun q_ => absurd q_ (fun w => w h10)) (fun _ => ?_)
            refine g_aload_n (pc := 74) dX3_tag_74 rfl rfl ?_
            refine g_iload_n (pc := 75) dX3_tag_75 rfl rfl ?_
            refine g_aload_n (pc := 76) dX3_tag_76 rfl rfl ?_
            refine t_invE (pc := 77) dX3_tag_77 hR (tc_underTemplates _ Tm D t U hB1.2.1.1 hB1.2.1.2.1 hB1.2.1.2.2) meX3_underTemplates q2223 q2225 qs67 rfl rfl (Nat.le_of_ble_eq_true rfl) (fun h hR => ?_)
            refine t_inv (pc := 80) dX3_tag_80 hR (tc_partial _ j p k Tm D t n f g T U C out (seen + 1) τ0 hT hr1 hj (by omega) x hx hnx) meX3_partial q2227 q2229 qs68 rfl rfl (Nat.le_of_ble_eq_true rfl) (fun u τ2 h hp hR => ?_)
            cases x with
            | inl c' =>
              obtain ⟨rfl, hp⟩ := hp
              exact t_iret (pc := 83) dX3_tag_83 hR rfl (⟨rfl, hp⟩)
            | inr y =>
              cases y with
              | inl e =>
                obtain ⟨⟨w, rfl⟩, hp⟩ := hp
                exact t_iret (pc := 83) dX3_tag_83 hR rfl (⟨⟨_, rfl⟩, hp⟩)
              | inr y => exact hp.elim
        · rw [if_neg (by omega), if_neg (by omega)] at hx
          refine g_icmp_leN (pc := 53) (tgt := 68) dX3_tag_53 rfl (by omega) (by omega) (fun _ => ?_) (fun q_ => absurd q_ (by omega))
          refine g_iload_n (pc := 68) dX3_tag_68 rfl rfl ?_
          refine g_bipush (pc := 69) (v := nI 10) dX3_tag_69 rfl ?_
          refine g_icmp_neN (pc := 71) (tgt := 84) dX3_tag_71 rfl (by omega) (by omega) (fun _ => ?_) (fun q_ => absurd q_ (by omega))
          refine g_iload_n (pc := 84) dX3_tag_84 rfl rfl ?_
          refine g_iconst (pc := 85) (v := nI 2) dX3_tag_85 rfl ?_
          by_cases h2 : s < 2
          · rw [if_pos h2] at hx
            have hex := sp1 h2
            have hexl := isEx_lt hex
            generalize hX0 : (T.1 j).2.1 = X0 at *
            generalize hQ0 : (T.1 j).2.2.1 = Q0 at *
            obtain ⟨hTp1, _⟩ := hm1.2.2.1 t n f g T hT
            have hFH : ∀ i, i < Q0 → τ1.2.2.1 14 (200 * t + i) = f i := fun i hi => hTp1.2.2.2.1 i (by omega)
            have hFx : isEx (τ1.2.2.1 14) (200 * t + Q0) (200 * t + X0) = true := by rw [isEx_sh hFH]; exact hex
            refine g_icmp_geN (pc := 86) (tgt := 126) dX3_tag_86 rfl (by omega) (by omega) (fun q_ => absurd q_ (by omega)) (fun _ => ?_)
            refine g_aload_n (pc := 89) dX3_tag_89 rfl rfl ?_
            refine g_aload_n (pc := 90) dX3_tag_90 rfl rfl ?_
            refine t_get (pc := 91) (v := .ref (tAd _ 20)) 20 dX3_tag_91 hR rfl q1819 (Nat.le_of_ble_eq_true rfl) rfl rfl ?_
            refine g_iload_n (pc := 94) dX3_tag_94 rfl rfl ?_
            refine t_iald (pc := 95) dX3_tag_95 hR rfl (by decide) rfl (by decide) (by show _ < 250; omega) ?_
            rw [r2']
            refine g_aload_n (pc := 96) dX3_tag_96 rfl rfl ?_
            refine t_get (pc := 97) (v := .ref (tAd _ 21)) 21 dX3_tag_97 hR rfl q1820 (Nat.le_of_ble_eq_true rfl) rfl rfl ?_
            refine g_iload_n (pc := 100) dX3_tag_100 rfl rfl ?_
            refine t_iald (pc := 101) dX3_tag_101 hR rfl (by decide) rfl (by decide) (by show _ < 250; omega) ?_
            rw [r3']
            refine t_inv (pc := 102) dX3_tag_102 hR (tc_expr _ (200 * t + X0) (200 * t + Q0) Tm D t n f g T U C hB1 (τ1.2.2.1 14) rfl (by omega) (by omega) (fun i h1 h2 => by have e := hFH (i - 200 * t) (by omega); rw [show 200 * t + (i - 200 * t) = i by omega] at e; rw [e]; exact hok.2.1 _ (by show _ < n; omega)) hFx h381) meX3_expr q2144 q2146 qs48 rfl rfl (Nat.le_of_ble_eq_true rfl) (fun u τ2 h hp hR => ?_)
            obtain ⟨rfl, k1, hres⟩ := hp
            rw [exO_sh hFH hex] at hres
            cases hev : evE D C (lpU T U) (exO f Q0 X0) with
            | none =>
              rw [hev] at hres hx
              have hres : τ2.1 38 = 4 := hres
              subst hx
              refine g_aload_n (pc := 105) dX3_tag_105 rfl rfl ?_
              refine t_get (pc := 106) (v := .int (nI _)) 38 dX3_tag_106 hR rfl q1837 (Nat.le_of_ble_eq_true rfl) rfl rfl ?_
              rw [hres]
              refine g_if_neN (pc := 109) (tgt := 126) dX3_tag_109 rfl (by omega) (fun _ => ?_) (fun q_ => absurd q_ (by omega))
              refine g_aload_n (pc := 126) dX3_tag_126 rfl rfl ?_
              refine t_get (pc := 127) (v := .ref (tAd _ 19)) 19 dX3_tag_127 hR rfl q1818 (Nat.le_of_ble_eq_true rfl) rfl rfl ?_
              refine g_iload_n (pc := 130) dX3_tag_130 rfl rfl ?_
              refine t_iald (pc := 131) dX3_tag_131 hR rfl (by decide) rfl (by decide) (by show _ < 250; omega) ?_
              refine t_iret (pc := 132) dX3_tag_132 hR rfl ⟨⟨_, rfl⟩, hres, hgk1.trans k1.gK⟩
            | some v =>
              rw [hev] at hres hx
              obtain ⟨hr38, hrv⟩ : τ2.1 38 = 0 ∧ vR D τ2 2 v := hres
              have hr2 : rnR Tm D k τ0 (t, p, U, C, out, seen + 1) τ2 := hr1.kp k1 (fun r hr => r3_k hr) hr38
              have hd2 : tD τ2 D := hB1.2.2.2.1.keep k1
              have ho2 : outL τ2 out := hout1.kp k1
              have hx : x = (if 400 < (shw D v).length ∨ 400 < out.length + (shO (decide (s = 1)) (shw D v)).length then .inr (.inl 4) else .inl (t, (T.1 j).2.2.2.1, U, C, out ++ shO (decide (s = 1)) (shw D v), seen + 1)) := hx
              have sh : ∀ (raw : Bool), raw = decide (s = 1) → ∀ h, tH o τ2 hin h → hG Z X mX3_tag (d + 8) tS hin (tK o hin (mRs Tm D k τ0 x)) 123 [(0, .ref o), (1, .int (nI (50 * t + j))), (2, .int (nI s))] [.int (nI raw.toNat), .ref o] h := by
                intro raw hraw h hR
                rw [← hraw] at hx
                refine t_inv (pc := 123) dX3_tag_123 hR (tc_show _ raw D v out hd2 q13 hrv ho2 hr38) meX3_show q2231 q2233 qs69 rfl rfl (Nat.le_of_ble_eq_true rfl) (fun u τ3 h hp hR => ?_)
                obtain ⟨rfl, ks, hp⟩ := hp
                rcases hp with ⟨b1, b2, b3⟩ | ⟨b1, b2⟩
                · rw [if_neg b1] at hx
                  subst hx
                  have hr3 := rnR.sk (p' := (T.1 j).2.2.2.1) ks hT b3 b2 (by omega) hr2
                  obtain ⟨_, _, _, _, _, _, _, _, _, _, _, _, hm3⟩ := id hr3
                  refine g_aload_n (pc := 126) dX3_tag_126 rfl rfl ?_
                  refine t_get (pc := 127) (v := .ref (tAd _ 19)) 19 dX3_tag_127 hR rfl q1818 (Nat.le_of_ble_eq_true rfl) rfl rfl ?_
                  refine g_iload_n (pc := 130) dX3_tag_130 rfl rfl ?_
                  refine t_iald (pc := 131) dX3_tag_131 hR rfl (by decide) rfl (by decide) (by show _ < 250; omega) ?_
                  rw [endr τ3 hm3]
                  exact t_iret (pc := 132) dX3_tag_132 hR rfl (⟨rfl, hr3⟩)
                · rw [if_pos b1] at hx
                  subst hx
                  refine g_aload_n (pc := 126) dX3_tag_126 rfl rfl ?_
                  refine t_get (pc := 127) (v := .ref (tAd _ 19)) 19 dX3_tag_127 hR rfl q1818 (Nat.le_of_ble_eq_true rfl) rfl rfl ?_
                  refine g_iload_n (pc := 130) dX3_tag_130 rfl rfl ?_
                  refine t_iald (pc := 131) dX3_tag_131 hR rfl (by decide) rfl (by decide) (by show _ < 250; omega) ?_
                  refine t_iret (pc := 132) dX3_tag_132 hR rfl ⟨⟨_, rfl⟩, b2, (hgk1.trans k1.gK).trans ks.gK⟩
              refine g_aload_n (pc := 105) dX3_tag_105 rfl rfl ?_
              refine t_get (pc := 106) (v := .int (nI _)) 38 dX3_tag_106 hR rfl q1837 (Nat.le_of_ble_eq_true rfl) rfl rfl ?_
              rw [hr38]
              refine g_if_neN (pc := 109) (tgt := 126) dX3_tag_109 rfl (by omega) (fun q_ => absurd q_ (by omega)) (fun _ => ?_)
              refine g_aload_n (pc := 112) dX3_tag_112 rfl rfl ?_
              refine g_iload_n (pc := 113) dX3_tag_113 rfl rfl ?_
              refine g_iconst (pc := 114) (v := nI 1) dX3_tag_114 rfl ?_
              by_cases h1 : s = 1
              · refine g_icmp_neN (pc := 115) (tgt := 122) dX3_tag_115 rfl (by omega) (by omega) (fun q_ => absurd q_ (fun w => w h1)) (fun _ => ?_)
                refine g_iconst (pc := 118) (v := nI 1) dX3_tag_118 rfl ?_
                refine g_goto (pc := 119) (tgt := 123) dX3_tag_119 rfl ?_
                exact sh true (by simp [h1]) h hR
              · refine g_icmp_neN (pc := 115) (tgt := 122) dX3_tag_115 rfl (by omega) (by omega) (fun _ => ?_) (fun q_ => absurd q_ (by omega))
                refine g_iconst (pc := 122) (v := nI 0) dX3_tag_122 rfl ?_
                exact sh false (by simp [h1]) h hR
          · rw [if_neg h2] at hx
            subst hx
            refine g_icmp_geN (pc := 86) (tgt := 126) dX3_tag_86 rfl (by omega) (by omega) (fun _ => ?_) (fun q_ => absurd q_ (by omega))
            refine g_aload_n (pc := 126) dX3_tag_126 rfl rfl ?_
            refine t_get (pc := 127) (v := .ref (tAd _ 19)) 19 dX3_tag_127 hR rfl q1818 (Nat.le_of_ble_eq_true rfl) rfl rfl ?_
            refine g_iload_n (pc := 130) dX3_tag_130 rfl rfl ?_
            refine t_iald (pc := 131) dX3_tag_131 hR rfl (by decide) rfl (by decide) (by show _ < 250; omega) ?_
            rw [endr τ1 hm1]
            refine t_iret (pc := 132) dX3_tag_132 hR rfl ⟨rfl, rnR.sk (sK.refl τ1) hT h381 hout1 (by omega) hr1⟩
    by_cases h5' : 5 < s
    · refine g_icmp_leN (pc := 9) (tgt := 24) dX3_tag_9 rfl (by omega) (by omega) (fun q_ => absurd q_ (by omega)) (fun _ => ?_)
      refine g_iload_n (pc := 12) dX3_tag_12 rfl rfl ?_
      refine g_bipush (pc := 13) (v := nI 10) dX3_tag_13 rfl ?_
      refine g_icmp_geN (pc := 15) (tgt := 24) dX3_tag_15 rfl (by omega) (by omega) (fun _ => ?_) (fun q_ => absurd q_ (by omega))
      exact seen_ h hR
    · refine g_icmp_leN (pc := 9) (tgt := 24) dX3_tag_9 rfl (by omega) (by omega) (fun _ => ?_) (fun q_ => absurd q_ (by omega))
      exact seen_ h hR
end TW26
