/-! COMPONENT 49: add, put -/
set_option maxRecDepth 100000
theorem dk_add {Z : hE} {X : hX} {d : Nat} {S : Nat → Prop} {hin : hP} {K : hO → hP → Prop} {ls : List (Nat × Value)} {h : hP} {S' : Nat → Prop} {K' : hO → hP → Prop} {b : Nat} {rest : List Value} (hc : hDs Z d S' b [] h K' [(5, mX5_kind), (6, mX6_kind), (7, mX7_kind), (8, mX8_kind), (21, mX21_kind)]) (hw : (rest.map fun v => v.category).sum ≤ 8) (hS : ∀ κ, S' κ → S κ)
    (kn : ∀ v h', K' (.inl v) h' → hFr S' h h' → hG Z X mX1_add (d + 1) S hin K (14 + 3) ls (v.toList ++ rest) h')
    (kx : ∀ E h', K' (.inr E) h' → hFr S' h h' → hGX Z X mX1_add (d + 1) S hin K 14 ls E h') : hG Z X mX1_add (d + 1) S hin K 14 ls (.ref b :: rest) h := by
  obtain ⟨κ, fs, M', hb, hm, hct⟩ := hc
  simp only [List.mem_cons, Prod.mk.injEq, List.not_mem_nil, or_false] at hm
  rcases hm with ⟨hk, rfl⟩ | ⟨hk, rfl⟩ | ⟨hk, rfl⟩ | ⟨hk, rfl⟩ | ⟨hk, rfl⟩
  · exact g_invU (pc := 14) dX1_add_14 (r := (RX5, TX5, 2)) hb (by rw [hk]; rfl) hct meX5_kind q880 q882 (Or.inl q881) q893 q892 ⟨⟨by decide, by decide⟩, rfl⟩ rfl rfl hw hS kn kx
  · exact g_invU (pc := 14) dX1_add_14 (r := (RX6, TX6, 3)) hb (by rw [hk]; rfl) hct meX6_kind q880 q882 (Or.inl q881) q896 q895 ⟨⟨by decide, by decide⟩, rfl⟩ rfl rfl hw hS kn kx
  · exact g_invU (pc := 14) dX1_add_14 (r := (RX7, TX7, 3)) hb (by rw [hk]; rfl) hct meX7_kind q880 q882 (Or.inl q881) q887 q886 ⟨⟨by decide, by decide⟩, rfl⟩ rfl rfl hw hS kn kx
  · exact g_invU (pc := 14) dX1_add_14 (r := (RX8, TX8, 4)) hb (by rw [hk]; rfl) hct meX8_kind q880 q882 (Or.inl q881) q890 q889 ⟨⟨by decide, by decide⟩, rfl⟩ rfl rfl hw hS kn kx
  · exact g_invU (pc := 14) dX1_add_14 (r := (RX21, TX21, 3)) hb (by rw [hk]; rfl) hct meX21_kind q880 q882 (Or.inl q881) q884 q883 ⟨⟨by decide, by decide⟩, rfl⟩ rfl rfl hw hS kn kx
theorem dc_add {Z : hE} {X : hX} {d : Nat} {S : Nat → Prop} {hin : hP} {K : hO → hP → Prop} {ls : List (Nat × Value)} {h : hP} {S' : Nat → Prop} {K' : hO → hP → Prop} {b : Nat} {A1 A2 : Value} {rest : List Value} (hc : hDs Z d S' b [A1, A2] h K' [(5, mX4_contains), (6, mX4_contains), (7, mX4_contains), (8, mX4_contains)]) (hw : (rest.map fun v => v.category).sum ≤ 8) (hS : ∀ κ, S' κ → S κ)
    (kn : ∀ v h', K' (.inl v) h' → hFr S' h h' → hG Z X mX1_add (d + 1) S hin K (35 + 3) ls (v.toList ++ rest) h')
    (kx : ∀ E h', K' (.inr E) h' → hFr S' h h' → hGX Z X mX1_add (d + 1) S hin K 35 ls E h') : hG Z X mX1_add (d + 1) S hin K 35 ls (A2 :: A1 :: .ref b :: rest) h := by
  obtain ⟨κ, fs, M', hb, hm, hct⟩ := hc
  simp only [List.mem_cons, Prod.mk.injEq, List.not_mem_nil, or_false] at hm
  rcases hm with ⟨hk, rfl⟩ | ⟨hk, rfl⟩ | ⟨hk, rfl⟩ | ⟨hk, rfl⟩
  · exact g_invV (pc := 35) dX1_add_35 (r := (RX5, TX5, 2)) hb (by rw [hk]; rfl) hct meX4_contains q898 q899 q904 rfl rfl hw hS kn kx
  · exact g_invV (pc := 35) dX1_add_35 (r := (RX6, TX6, 3)) hb (by rw [hk]; rfl) hct meX4_contains q898 q899 q905 rfl rfl hw hS kn kx
  · exact g_invV (pc := 35) dX1_add_35 (r := (RX7, TX7, 3)) hb (by rw [hk]; rfl) hct meX4_contains q898 q899 q902 rfl rfl hw hS kn kx
  · exact g_invV (pc := 35) dX1_add_35 (r := (RX8, TX8, 4)) hb (by rw [hk]; rfl) hct meX4_contains q898 q899 q903 rfl rfl hw hS kn kx
theorem dc_put {Z : hE} {X : hX} {d : Nat} {S : Nat → Prop} {hin : hP} {K : hO → hP → Prop} {ls : List (Nat × Value)} {h : hP} {S' : Nat → Prop} {K' : hO → hP → Prop} {b : Nat} {A1 A2 : Value} {rest : List Value} (hc : hDs Z d S' b [A1, A2] h K' [(5, mX4_contains), (6, mX4_contains), (7, mX4_contains), (8, mX4_contains)]) (hw : (rest.map fun v => v.category).sum ≤ 8) (hS : ∀ κ, S' κ → S κ)
    (kn : ∀ v h', K' (.inl v) h' → hFr S' h h' → hG Z X mX1_put (d + 1) S hin K (43 + 3) ls (v.toList ++ rest) h')
    (kx : ∀ E h', K' (.inr E) h' → hFr S' h h' → hGX Z X mX1_put (d + 1) S hin K 43 ls E h') : hG Z X mX1_put (d + 1) S hin K 43 ls (A2 :: A1 :: .ref b :: rest) h := by
  obtain ⟨κ, fs, M', hb, hm, hct⟩ := hc
  simp only [List.mem_cons, Prod.mk.injEq, List.not_mem_nil, or_false] at hm
  rcases hm with ⟨hk, rfl⟩ | ⟨hk, rfl⟩ | ⟨hk, rfl⟩ | ⟨hk, rfl⟩
  · exact g_invV (pc := 43) dX1_put_43 (r := (RX5, TX5, 2)) hb (by rw [hk]; rfl) hct meX4_contains q898 q899 q904 rfl rfl hw hS kn kx
  · exact g_invV (pc := 43) dX1_put_43 (r := (RX6, TX6, 3)) hb (by rw [hk]; rfl) hct meX4_contains q898 q899 q905 rfl rfl hw hS kn kx
  · exact g_invV (pc := 43) dX1_put_43 (r := (RX7, TX7, 3)) hb (by rw [hk]; rfl) hct meX4_contains q898 q899 q902 rfl rfl hw hS kn kx
  · exact g_invV (pc := 43) dX1_put_43 (r := (RX8, TX8, 4)) hb (by rw [hk]; rfl) hct meX4_contains q898 q899 q903 rfl rfl hw hS kn kx
/-- what add and put may change -/
def adS : Nat → Prop := fun κ => κ = 1 ∨ aS κ ∨ κ = 68 ∨ κ = 69 ∨ jSS 1 κ
def adA : Nat → Prop := fun κ => κ = 1 ∨ aS κ ∨ κ = 68
section AP
variable {Z : hE} {h : hP} {D : aD} {w : cW} {E dl ta ln rd tg th sr el c0 : Nat} {ea : Int32} {l : List Nat}
theorem mrk_no {q v : Nat} (hD : cD D w h q) (hq : q + 1 ≤ 1000) (hv : v < D.1) : ¬ mrk w h (q + 1) v := by
  rintro ⟨κ, rest, e⟩
  obtain ⟨κ', j, rest', hj, e', -⟩ := hD.as hv
  rw [e] at e'
  have e2 := Option.some.inj e'
  simp only [Prod.mk.injEq, Sum.inl.injEq, List.cons.injEq, Value.int.injEq] at e2
  have := (nI_q (a := q + 1) (b := j) hq (by omega)).mp e2.2.1
  omega
/-- templates are kept by a change of the engine, of lists and maps -/
theorem cTs.k1 {h h' : hP} {ta : Nat} {Tm : Nat → Option aT} (f : hFr (fun κ => κ = 1 ∨ κ = 7 ∨ κ = 8 ∨ κ = 68 ∨ κ = 69 ∨ jSS 1 κ) h h') (x : cTs h ta Tm) : cTs h' ta Tm := by
  refine x.kt f ?_ (by rintro (z | z | z | z | z | z | z) <;> cases z) (cMn.ft f ?_ ?_ ?_ ?_ ?_ ?_)
  · intro κ hκ z
    simp only [List.mem_cons, List.not_mem_nil, or_false] at hκ
    rcases z with z | z | z | z | z | z | z <;> omega
  all_goals (rintro (z | z | z | z | z | z | z) <;> cases z)
/-- the kinds -/
theorem kd_ls {a : Nat} : kdV D (aVof D a) = 2 ↔ isLs (D.2 a) = true := by
  unfold aVof
  cases e : D.2 a with
  | inl v => exact ⟨fun z => (by cases z), fun z => (by cases z)⟩
  | inr y =>
    cases y with
    | inl l => exact ⟨fun z => (by cases z), fun z => (by cases z)⟩
    | inr p =>
      show (if isLs (D.2 a) = true then 2 else 3) = 2 ↔ isLs (.inr (.inr p)) = true
      rw [e]
      cases hl : isLs (.inr (.inr p)) <;> simp
theorem kd_le {a : Nat} : kdV D (aVof D a) ≤ 3 := by
  rcases aVof D a with _ | (k | l | x)
  · exact Nat.zero_le _
  · exact Nat.zero_le _
  · exact (by decide : 1 ≤ 3)
  · show (if isLs (D.2 x) = true then 2 else 3) ≤ 3
    split <;> omega
theorem in_nI {x : Int32} {n : Nat} (hn : n ≤ 60) (h : 0 ≤ x.toInt ∧ x.toInt < n) : ∃ a, a < n ∧ x = nI a ∧ x.toInt.toNat = a := by
  obtain ⟨i, hi, rfl⟩ := nI_of (x := x) (fun z => by have := Int32.lt_iff_toInt_lt.mp z; simp at this; omega)
  rw [nI_toInt hi] at h
  exact ⟨i, by omega, rfl, by rw [nI_toInt hi, Int.toNat_natCast]⟩
/-- after add -/
def eaQ (D : aD) (w : cW) (h : hP) (E dl ta ln rd : Nat) (ea : Int32) (tg th sr : Nat) (l x : Int32) : hO → hP → Prop := fun r h' =>
  (¬ (inR D l ∧ inR D x) ∧ r = .inr NSEE ∧ eTh h E (eF dl ta ln rd ea tg (th + 1) sr) h') ∨
  (∃ a b, a < D.1 ∧ b < D.1 ∧ l = nI a ∧ x = nI b ∧ jRm h h' 1 6 ∧ (∀ ta Tm, cTs h ta Tm → cTs h' ta Tm) ∧ ∃ sr', sr' ≤ sr + 1 ∧ (
    ((isLs (D.2 a) = false ∨ rch D b a) ∧ r = .inr IAE ∧ h'.2.2 E = some (eF dl ta ln rd ea tg (th + 1) sr') ∧ cD D w h' sr') ∨
    (isLs (D.2 a) = true ∧ ¬ rch D b a ∧ (aPs (D.2 a)).length = 10 ∧ r = .inr ISE ∧ h'.2.2 E = some (eF dl ta ln rd ea tg (th + 1) sr') ∧ cD D w h' sr') ∨
    (isLs (D.2 a) = true ∧ ¬ rch D b a ∧ (aPs (D.2 a)).length < 10 ∧ r = .inl (some (.int (nI ((aPs (D.2 a)).length + 1)))) ∧ h'.2.2 E = some (eF dl ta ln rd ea tg th sr') ∧ cD (dAdd D a b) w h' sr')))
set_option maxHeartbeats 4000000 in
theorem en_add (d : Nat) (li x : Int32) (hE : h.2.2 E = some (eF dl ta ln rd ea tg th sr)) (hL : eL Z D w h dl el) (hD : cD D w h sr) (hsr : sr + 1 ≤ 1000) (l1 : h.1 + 1 ≤ hLC Z) (l2 : h.2.1 + 6 ≤ hLS) : hCt Z mX1_add (d + 70) adA [.ref E, .int li, .int x] h (eaQ D w h E dl ta ln rd ea tg th sr li x) := by
  have h60 := hD.2.2.2.2.2.1
  refine hCt.of pnX1 rfl (Nat.le_of_ble_eq_true rfl) rfl (fun X => ?_)
  refine g_aload_n (pc := 0) dX1_add_0 rfl rfl ?_
  refine g_iload_n (pc := 1) dX1_add_1 rfl rfl ?_
  refine g_invV (pc := 2) dX1_add_2 hE rfl (en_any (d + 61) li hE hL hD l1 l2) meX1_any q844 q846 qs7 rfl rfl (Nat.le_of_ble_eq_true rfl) (fun κ z => Or.inl z) (fun v h1 hp1 fr1 => ?_) (fun E' h1 hp1 fr1 => ?_)
  · rcases hp1 with ⟨z1, z2, z3, z4⟩ | ⟨_, z3, _⟩
    · cases z3
      have z4 := z4.symm
      subst z4
      obtain ⟨a, ha, rfl, ea1⟩ := in_nI h60 ⟨z1, z2⟩
      rw [ea1]
      refine g_astore_n (pc := 5) (ls' := [(0, _), (1, _), (2, _), (3, _)]) dX1_add_5 rfl (Nat.le_of_ble_eq_true rfl) rfl ?_
      refine g_aload_n (pc := 6) dX1_add_6 rfl rfl ?_
      refine g_iload_n (pc := 7) dX1_add_7 rfl rfl ?_
      refine g_invV (pc := 8) dX1_add_8 hE rfl (en_any (d + 61) x hE hL hD l1 l2) meX1_any q844 q846 qs7 rfl rfl (Nat.le_of_ble_eq_true rfl) (fun κ z => Or.inl z) (fun v h1 hp1 fr1 => ?_) (fun E' h1 hp1 fr1 => ?_)
      · rcases hp1 with ⟨y1, y2, z3, z4⟩ | ⟨_, z3, _⟩
        · cases z3
          have z4 := z4.symm
          subst z4
          obtain ⟨b, hb, rfl, eb1⟩ := in_nI h60 ⟨y1, y2⟩
          rw [eb1]
          -- a bad argument
          have bad : ∀ (h2 : hP) (sr' : Nat), h2.2.2 E = some (eF dl ta ln rd ea tg th sr') → (isLs (D.2 a) = false ∨ rch D b a) → sr' ≤ sr + 1 → cD D w h2 sr' → h2.1 = h.1 → h2.2.1 = h.2.1 → (∀ ta Tm, cTs h ta Tm → cTs h2 ta Tm) → hG Z X mX1_add (d + 70) adA h (eaQ D w h E dl ta ln rd ea tg th sr (nI a) (nI b)) 41 [(0, .ref E), (1, .int (nI a)), (2, .int (nI b)), (3, .ref (w.1 a)), (4, .ref (w.1 b))] [] h2 := by
            intro h2 sr' hE2 hc hs' hD2 s1 s2 kT
            refine g_aload_n (pc := 41) dX1_add_41 rfl rfl ?_
            refine g_invV (pc := 42) dX1_add_42 hE2 rfl (en_badArgument (d + 62) hE2 (by omega) (by omega)) meX1_badArgument q547 q549 qs1 rfl rfl (Nat.le_of_ble_eq_true rfl) (fun κ z => Or.inl z) (jk_n (fun u h7 hp7 fr7 => ?_)) jk_x
            obtain ⟨rfl, e7, hwf7⟩ := hp7
            have th7 : eTh h2 E (eF dl ta ln rd ea tg (th + 1) sr') h7 := by rw [e7]; exact eTh.mk hE2 rfl rfl hwf7
            have nw7 : h7.2.2 h2.1 = some (41, .inl []) := by rw [e7]; exact hNew_s _ _ _
            refine g_athrow (pc := 45) dX1_add_45 nw7 (by decide) rfl ?_
            refine gx_out (fun x hx => by cases hx) ?_
            obtain ⟨y1, y2, y3⟩ := th7
            have y31 := y3.1
            have y32 := y3.2
            refine Or.inr ⟨a, b, ha, hb, rfl, rfl, ⟨by omega, by omega⟩, fun ta Tm z => (kT ta Tm z).k1 (hFr.mono (fun _ z => Or.inl z) y2), sr', hs', Or.inl ⟨hc, rfl, y1, ?_⟩⟩
            exact hD2.kt y2 (by intro κ hκ z; rw [z] at hκ; revert hκ; decide) (cMn.ft y2 (by decide) (by decide) (by decide) (by decide) (by decide) (by decide))
          refine g_astore (pc := 11) (ls' := [(0, _), (1, _), (2, _), (3, _), (4, _)]) dX1_add_11 (Nat.le_of_ble_eq_true rfl) rfl ?_
          refine g_aload_n (pc := 13) dX1_add_13 rfl rfl ?_
          refine dk_add (ck_val hD (d + 69) (hD.v ha)) (Nat.le_of_ble_eq_true rfl) jF (jk_e ?_) jk_x
          have k3 := kd_le (D := D) (a := a)
          refine g_iconst (pc := 17) (v := nI 2) dX1_add_17 rfl ?_
          refine g_icmp_neN (pc := 18) (tgt := 41) dX1_add_18 rfl (by omega) (by omega) (fun q18 => ?_) (fun q18 => ?_)
          · refine bad h sr hE (Or.inl ?_) (by omega) hD rfl rfl (fun _ _ z => z)
            cases hi : isLs (D.2 a) with
            | false => rfl
            | true => exact absurd (kd_ls.mpr hi) q18
          · have hi : isLs (D.2 a) = true := kd_ls.mp q18
            obtain ⟨ps, hy⟩ : ∃ ps, D.2 a = .inr (.inr (false, ps)) := ⟨_, isLs_eq hi⟩
            have hps : aPs (D.2 a) = ps := by rw [hy]; rfl
            refine g_aload (pc := 21) dX1_add_21 rfl ?_
            refine g_aload_n (pc := 23) dX1_add_23 rfl rfl ?_
            refine g_aload_n (pc := 24) dX1_add_24 rfl rfl ?_
            refine g_dup (pc := 25) dX1_add_25 rfl ?_
            refine g_get (pc := 26) (r := (RX1, TX1, 8)) 7 dX1_add_26 hE rfl (Nat.le_of_ble_eq_true rfl) q502 (Or.inl rfl) rfl ?_
            refine g_iconst (pc := 29) (v := nI 1) dX1_add_29 rfl ?_
            first | refine g_iaddN (pc := 30) dX1_add_30 ?_ | refine g_iadd (pc := 30) dX1_add_30 ?_
            refine g_dup_x1 (pc := 31) dX1_add_31 rfl rfl ?_
            refine g_put (pc := 32) (r := (RX1, TX1, 8)) 7 dX1_add_32 hE rfl (Nat.le_of_ble_eq_true rfl) q502 (Or.inl rfl) rfl (by decide) (Or.inl rfl) (tyX1_ok 7 (Nat.le_of_ble_eq_true rfl)) rfl rfl ?_
            show hG Z X mX1_add (d + 70) adA h _ 35 _ [.int (nI (sr + 1)), .ref (w.1 a), .ref (w.1 b)] (hSet h E (eF dl ta ln rd ea tg th (sr + 1)))
            have fr1' : hFr (fun κ => κ = 1) h (hSet h E (eF dl ta ln rd ea tg th (sr + 1))) := (hFr.rf h).set hE rfl rfl
            have hE1 := hSet_s h E (eF dl ta ln rd ea tg th (sr + 1))
            have z11 : (hSet h E (eF dl ta ln rd ea tg th (sr + 1))).1 = h.1 := rfl
            have z12 : (hSet h E (eF dl ta ln rd ea tg th (sr + 1))).2.1 = h.2.1 := rfl
            generalize hSet h E (eF dl ta ln rd ea tg th (sr + 1)) = h1 at fr1' hE1 z11 z12 ⊢
            have nd1 : cND (fun κ => κ = 1) := by intro κ hκ z; rw [z] at hκ; revert hκ; decide
            have m1 : cMn h h1 := cMn.ft fr1' (by decide) (by decide) (by decide) (by decide) (by decide) (by decide)
            have hD1 := hD.kt fr1' nd1 m1
            obtain ⟨ρ, hρ⟩ := hD.2.2.2.2.2.2
            have pre : ∀ v, v < D.1 → mrk w h1 (sr + 1) v → ¬ rch D v a ∨ ρ b < ρ v := fun v hv z => absurd z (mrk_no hD1 hsr hv)
            refine dc_add (ct_all ρ hρ ha hsr D.1 b h1 (d + 69) (hD.2.2.2.2.2.2.hgt hb) (by omega) hb (hD1.up (by omega) hsr) pre) (Nat.le_of_ble_eq_true rfl) (fun κ z => Or.inr (Or.inl z)) (jk_n (fun v h2 hp2 fr2 => ?_)) jk_x
            obtain ⟨bb, rfl, hD2, aM2, s1, s2, ht, hf⟩ := hp2
            have hE2 := (aM2.1.2.2 _ _ hE1).1 (by rintro (z | z | z | z) <;> cases z)
            have kT : ∀ ta Tm, cTs h ta Tm → cTs h2 ta Tm := fun ta Tm z => (z.k1 (hFr.mono (fun _ z => Or.inl z) fr1')).ka aM2
            cases bb with
            | true =>
              refine g_if_eq (pc := 38) (tgt := 46) dX1_add_38 rfl (fun q_ => absurd q_ (by decide)) (fun _ => ?_)
              exact bad h2 (sr + 1) hE2 (Or.inr (ht rfl)) (Nat.le_refl _) hD2 (by omega) (by omega) kT
            | false =>
              have hnr := (hf rfl).1
              refine g_if_eq (pc := 38) (tgt := 46) dX1_add_38 rfl (fun _ => ?_) (fun q_ => absurd rfl q_)
              have hi2 := hD2.1 a ha
              unfold cIt at hi2
              rw [hy] at hi2
              obtain ⟨j, f, hj, c1, c2, c3, c4⟩ := hi2
              refine g_aload_n (pc := 46) dX1_add_46 rfl rfl ?_
              refine g_cast (pc := 47) (r := (RX7, TX7, 3)) dX1_add_47 c1 rfl q791 (Or.inl rfl) ?_
              refine g_astore (pc := 50) (ls' := [(0, _), (1, _), (2, _), (3, _), (4, _), (5, _)]) dX1_add_50 (Nat.le_of_ble_eq_true rfl) rfl ?_
              refine g_aload (pc := 52) dX1_add_52 rfl ?_
              refine g_get (pc := 54) (r := (RX7, TX7, 3)) 2 dX1_add_54 c1 rfl (Nat.le_of_ble_eq_true rfl) q806 (Or.inl rfl) rfl ?_
              refine g_bipush (pc := 57) (v := nI 10) dX1_add_57 rfl ?_
              refine g_icmp_neN (pc := 59) (tgt := 67) dX1_add_59 rfl (by omega) (by omega) (fun q59 => ?_) (fun q59 => ?_)
              · obtain ⟨κb, fb, rb, b1, b2, b3⟩ := hD2.kd hb
                refine g_aload (pc := 67) dX1_add_67 rfl ?_
                refine g_get (pc := 69) (r := (RX7, TX7, 3)) 1 dX1_add_69 c1 rfl (Nat.le_of_ble_eq_true rfl) q802 (Or.inl rfl) rfl ?_
                refine g_aload (pc := 72) dX1_add_72 rfl ?_
                refine g_get (pc := 74) (r := (RX7, TX7, 3)) 2 dX1_add_74 c1 rfl (Nat.le_of_ble_eq_true rfl) q806 (Or.inl rfl) rfl ?_
                refine g_aload (pc := 77) dX1_add_77 rfl ?_
                refine g_aast (pc := 79) ps.length dX1_add_79 c2 rfl (by omega) rfl (by decide) (Or.inr (Or.inr rfl)) b1 b2 (Or.inr b3) (by decide) ?_
                have hne : w.1 a ≠ w.2.1 a := by
                  intro z
                  rw [z, c2] at c1
                  cases c1
                have c1' : (hSet h2 (w.2.1 a) (68, .inr (10, upV f ps.length (.ref (w.1 b))))).2.2 (w.1 a) = some (7, .inl [.int (nI j), .ref (w.2.1 a), .int (nI ps.length)]) := by rw [hSet_n hne]; exact c1
                have fa := (hFr.rf (S := fun κ => κ = 1 ∨ κ = 7 ∨ κ = 8 ∨ κ = 68 ∨ κ = 69 ∨ jSS 1 κ) h2).set (c := (68, .inr (10, upV f ps.length (.ref (w.1 b))))) c2 rfl (Or.inr (Or.inr (Or.inr (Or.inl rfl))))
                refine g_aload (pc := 80) dX1_add_80 rfl ?_
                refine g_dup (pc := 82) dX1_add_82 rfl ?_
                refine g_get (pc := 83) (r := (RX7, TX7, 3)) 2 dX1_add_83 c1' rfl (Nat.le_of_ble_eq_true rfl) q806 (Or.inl rfl) rfl ?_
                refine g_iconst (pc := 86) (v := nI 1) dX1_add_86 rfl ?_
                first | refine g_iaddN (pc := 87) dX1_add_87 ?_ | refine g_iadd (pc := 87) dX1_add_87 ?_
                refine g_put (pc := 88) (r := (RX7, TX7, 3)) 2 dX1_add_88 c1' rfl (Nat.le_of_ble_eq_true rfl) q806 (Or.inl rfl) rfl (by decide) (Or.inr (Or.inl (Or.inr (Or.inr (Or.inl rfl))))) (tyX7_ok 2 (Nat.le_of_ble_eq_true rfl)) rfl rfl ?_
                have hD3 := hD2.add ha hb hy (by omega) hnr c1 hj c2 c4
                have c1'' := hSet_s (hSet h2 (w.2.1 a) (68, .inr (10, upV f ps.length (.ref (w.1 b))))) (w.1 a) (7, .inl [.int (nI j), .ref (w.2.1 a), .int (nI (ps.length + 1))])
                have fb2 := fa.set (c := (7, .inl [.int (nI j), .ref (w.2.1 a), .int (nI (ps.length + 1))])) c1' rfl (Or.inr (Or.inl rfl))
                have hE3 : (hSet (hSet h2 (w.2.1 a) (68, .inr (10, upV f ps.length (.ref (w.1 b))))) (w.1 a) (7, .inl [.int (nI j), .ref (w.2.1 a), .int (nI (ps.length + 1))])).2.2 E = some (eF dl ta ln rd ea tg th (sr + 1)) := by
                  rw [hSet_n (fun z => by rw [z, c1] at hE2; cases hE2), hSet_n (fun z => by rw [z, c2] at hE2; cases hE2)]
                  exact hE2
                refine g_aload (pc := 91) dX1_add_91 rfl ?_
                refine g_get (pc := 93) (r := (RX7, TX7, 3)) 2 dX1_add_93 c1'' rfl (Nat.le_of_ble_eq_true rfl) q806 (Or.inl rfl) rfl ?_
                refine g_iret (pc := 96) dX1_add_96 rfl ?_
                refine Or.inr ⟨a, b, ha, hb, rfl, rfl, ⟨by show h2.1 ≤ _; omega, by show h2.2.1 ≤ _; omega⟩, fun ta Tm z => (kT ta Tm z).k1 fb2, sr + 1, Nat.le_refl _, Or.inr (Or.inr ⟨hi, hnr, by rw [hps]; omega, by rw [hps], hE3, hD3⟩)⟩
              · refine g_aload_n (pc := 62) dX1_add_62 rfl rfl ?_
                refine g_invV (pc := 63) dX1_add_63 hE2 rfl (en_badState (d + 62) hE2 (by omega) (by omega)) meX1_badState q562 q564 qs2 rfl rfl (Nat.le_of_ble_eq_true rfl) (fun κ z => Or.inl z) (jk_n (fun u h7 hp7 fr7 => ?_)) jk_x
                obtain ⟨rfl, e7, hwf7⟩ := hp7
                have th7 : eTh h2 E (eF dl ta ln rd ea tg (th + 1) (sr + 1)) h7 := by rw [e7]; exact eTh.mk hE2 rfl rfl hwf7
                have nw7 : h7.2.2 h2.1 = some (42, .inl []) := by rw [e7]; exact hNew_s _ _ _
                refine g_athrow (pc := 66) dX1_add_66 nw7 (by decide) rfl ?_
                refine gx_out (fun x hx => by cases hx) ?_
                obtain ⟨y1, y2, y3⟩ := th7
                have y31 := y3.1
                have y32 := y3.2
                refine Or.inr ⟨a, b, ha, hb, rfl, rfl, ⟨by omega, by omega⟩, fun ta Tm z => (kT ta Tm z).k1 (hFr.mono (fun _ z => Or.inl z) y2), sr + 1, Nat.le_refl _, Or.inr (Or.inl ⟨hi, hnr, by rw [hps]; exact q59, rfl, y1, ?_⟩)⟩
                exact hD2.kt y2 nd1 (cMn.ft y2 (by decide) (by decide) (by decide) (by decide) (by decide) (by decide))
        · cases z3
      · refine gx_out (fun x hx => by cases hx) ?_
        rcases hp1 with ⟨_, _, z3, _⟩ | ⟨y1, y2, y3⟩
        · cases z3
        · exact Or.inl ⟨fun z => y1 z.2, y2, y3⟩
    · cases z3
  · refine gx_out (fun x hx => by cases hx) ?_
    rcases hp1 with ⟨_, _, z3, _⟩ | ⟨z1, z2, z3⟩
    · cases z3
    · exact Or.inl ⟨fun z => z1 z.1, z2, z3⟩
end AP
