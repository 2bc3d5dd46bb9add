/-! COMPONENT 34: contains -/
set_option maxRecDepth 100000
/-- the item is marked in this search -/
def mrk (w : cW) (h : hP) (q v : Nat) : Prop := ∃ κ rest, h.2.2 (w.1 v) = some (κ, .inl (.int (nI q) :: rest))
/-- an answer of a search from a on -/
def ctQ (D : aD) (w : cW) (q a x : Nat) (h : hP) : Option Value → hP → Prop := fun r h' => ∃ b : Bool, r = some (.int (nI b.toNat)) ∧ cD D w h' q ∧ aMn h h' ∧ h'.1 = h.1 ∧ h'.2.1 = h.2.1 ∧ (b = true → rch D a x) ∧ (b = false → ¬ rch D a x ∧ mrk w h' q a ∧ (∀ v, v < D.1 → mrk w h' q v → mrk w h q v ∨ ¬ rch D v x) ∧ ∀ v, v < D.1 → mrk w h q v → mrk w h' q v)
abbrev ctL : List (Nat × hM) := [(5, mX4_contains), (6, mX4_contains), (7, mX4_contains), (8, mX4_contains)]
theorem dc_X4 {Z : hE} {X : hX} {d : Nat} {S : Nat → Prop} {hin : hP} {K : hO → hP → Prop} {ls : List (Nat × Value)} {h : hP} {S' : Nat → Prop} {K' : hO → hP → Prop} {b : Nat} {A1 A2 : Value} {rest : List Value} (hc : hDs Z d S' b [A1, A2] h K' [(5, mX4_contains), (6, mX4_contains), (7, mX4_contains), (8, mX4_contains)]) (hw : (rest.map fun v => v.category).sum ≤ 8) (hS : ∀ κ, S' κ → S κ)
    (kn : ∀ v h', K' (.inl v) h' → hFr S' h h' → hG Z X mX4_contains (d + 1) S hin K (39 + 3) ls (v.toList ++ rest) h')
    (kx : ∀ E h', K' (.inr E) h' → hFr S' h h' → hGX Z X mX4_contains (d + 1) S hin K 39 ls E h') : hG Z X mX4_contains (d + 1) S hin K 39 ls (A2 :: A1 :: .ref b :: rest) h := by
  obtain ⟨κ, fs, M', hb, hm, hct⟩ := hc
  simp only [List.mem_cons, Prod.mk.injEq, List.not_mem_nil, or_false] at hm
  rcases hm with ⟨hk, rfl⟩ | ⟨hk, rfl⟩ | ⟨hk, rfl⟩ | ⟨hk, rfl⟩
  · exact g_invV (pc := 39) dX4_contains_39 (r := (RX5, TX5, 2)) hb (by rw [hk]; rfl) hct meX4_contains q929 q899 q904 rfl rfl hw hS kn kx
  · exact g_invV (pc := 39) dX4_contains_39 (r := (RX6, TX6, 3)) hb (by rw [hk]; rfl) hct meX4_contains q929 q899 q905 rfl rfl hw hS kn kx
  · exact g_invV (pc := 39) dX4_contains_39 (r := (RX7, TX7, 3)) hb (by rw [hk]; rfl) hct meX4_contains q929 q899 q902 rfl rfl hw hS kn kx
  · exact g_invV (pc := 39) dX4_contains_39 (r := (RX8, TX8, 4)) hb (by rw [hk]; rfl) hct meX4_contains q929 q899 q903 rfl rfl hw hS kn kx
theorem nI_q {a b : Nat} (ha : a ≤ 1000) (hb : b ≤ 1000) : nI a = nI b ↔ a = b := by
  constructor
  · intro h
    have := congrArg Int32.toInt h
    rw [nI_toInt (by omega), nI_toInt (by omega)] at this
    omega
  · intro h; rw [h]
/-- no child reaches x: nor does a -/
theorem rch_no {D : aD} {a x : Nat} (hne : a ≠ x) (h : ∀ c ∈ aPs (D.2 a), ¬ rch D c.2 x) : ¬ rch D a x := by
  intro z
  have := z (fun v => v = a ∨ ∃ c ∈ aPs (D.2 a), rch D c.2 v) (Or.inl rfl) (fun v hv c hc => by
    rcases hv with rfl | ⟨c0, hc0, hr⟩
    · exact Or.inr ⟨c, hc, rch.refl D _⟩
    · exact Or.inr ⟨c0, hc0, hr.step hc⟩)
  rcases this with y | ⟨c, hc, hr⟩
  · exact hne y.symm
  · exact h c hc hr
section CT
variable {Z : hE} {D : aD} {w : cW} {q x : Nat}
theorem ct_leaf5 (d a j : Nat) (v1 : Int32) {h : hP} (ha : a < D.1) (hx : x < D.1) (hq1 : j ≤ 1000) (hq : q ≤ 1000) (hD : cD D w h q) (hb : h.2.2 (w.1 a) = some (5, .inl [.int (nI j), .int v1])) (hp : aPs (D.2 a) = []) (pre : mrk w h q a → ¬ rch D a x) : hCt Z mX4_contains (d + 1) aS [.ref (w.1 a), .ref (w.1 x), .int (nI q)] h (jK (ctQ D w q a x h)) := by
  refine hCt.of pnX4 rfl (Nat.le_of_ble_eq_true rfl) rfl (fun X => ?_)
  have hinj := hD.2.1
  refine g_aload_n (pc := 0) dX4_contains_0 rfl rfl ?_
  refine g_aload_n (pc := 1) dX4_contains_1 rfl rfl ?_
  refine g_acmp_ne (some (w.1 a)) (some (w.1 x)) (pc := 2) (tgt := 7) dX4_contains_2 rfl rfl rfl (fun ne => ?_) (fun eq => ?_)
  · have hne : a ≠ x := fun z => ne (by rw [z])
    refine g_aload_n (pc := 7) dX4_contains_7 rfl rfl ?_
    refine g_get (pc := 8) (r := (RX5, TX5, 2)) 0 dX4_contains_8 hb rfl (Nat.le_of_ble_eq_true rfl) q621 (Or.inl rfl) rfl ?_
    refine g_iload_n (pc := 11) dX4_contains_11 rfl rfl ?_
    refine g_icmp_neN (pc := 12) (tgt := 17) dX4_contains_12 rfl (by omega) (by omega) (fun c12 => ?_) (fun c12 => ?_)
    · obtain ⟨hk, hD2⟩ := hD.ask (Nat.le_refl q) hq ha hb
      have m2 := aMn.set (k' := nI q) hk hb
      have hb2 := hSet_s h (w.1 a) (5, .inl [.int (nI q), .int v1])
      refine g_aload_n (pc := 17) dX4_contains_17 rfl rfl ?_
      refine g_iload_n (pc := 18) dX4_contains_18 rfl rfl ?_
      refine g_put (pc := 19) (r := (RX5, TX5, 2)) 0 dX4_contains_19 hb rfl (Nat.le_of_ble_eq_true rfl) q621 (Or.inl rfl) rfl (by decide) (Or.inl rfl) (tyX5_ok 0 (Nat.le_of_ble_eq_true rfl)) rfl rfl ?_
      refine g_iconst (pc := 22) (v := nI 0) dX4_contains_22 rfl ?_
      refine g_istore_n (pc := 23) (ls' := [(0, _), (1, _), (2, _), (3, _)]) dX4_contains_23 rfl (Nat.le_of_ble_eq_true rfl) rfl ?_
      refine g_iload_n (pc := 24) dX4_contains_24 rfl rfl ?_
      refine g_aload_n (pc := 25) dX4_contains_25 rfl rfl ?_
      refine g_invV (pc := 26) dX4_contains_26 hb2 rfl (cd_turns0 d) meX4_turns q907 q908 q915 rfl rfl (Nat.le_of_ble_eq_true rfl) (by first | exact jF | exact fun _ z => z | assumption | (intro κ z; simp_all)) (jk_e ?_) jk_x
      refine g_icmp_geN (pc := 29) (tgt := 53) dX4_contains_29 rfl (by omega) (by omega) (fun _ => ?_) (fun q_ => absurd q_ (by omega))
      refine g_iconst (pc := 53) (v := nI 0) dX4_contains_53 rfl ?_
      refine g_zret (pc := 54) dX4_contains_54 rfl (by first | exact bz_n _ | rfl) ?_
      refine ⟨_, rfl, false, rfl, hD2, m2, rfl, rfl, fun z => (by cases z), fun _ => ⟨?_, ⟨_, _, hSet_s _ _ _⟩, fun v hv ⟨κ, r, hm⟩ => ?_, fun v hv ⟨κ, r, hm⟩ => ?_⟩⟩
      · exact rch_no hne (fun c hc => by rw [hp] at hc; cases hc)
      · by_cases z : v = a
        · exact Or.inr (by rw [z]; exact rch_no hne (fun c hc => by rw [hp] at hc; cases hc))
        · exact Or.inl ⟨κ, r, by rw [hSet_n (fun y => z (hinj v a hv ha y))] at hm; exact hm⟩
      · by_cases z : v = a
        · rw [z]; exact ⟨_, _, hSet_s _ _ _⟩
        · exact ⟨κ, r, by rw [hSet_n (fun y => z (hinj v a hv ha y))]; exact hm⟩
    · have hj : j = q := c12
      refine g_iconst (pc := 15) (v := nI 0) dX4_contains_15 rfl ?_
      refine g_zret (pc := 16) dX4_contains_16 rfl (by first | exact bz_n _ | rfl) ?_
      subst hj
      have hm : mrk w h j a := ⟨_, _, hb⟩
      exact ⟨_, rfl, false, rfl, hD, aMn.rf h, rfl, rfl, fun z => (by cases z), fun _ => ⟨pre hm, hm, fun v hv hm => Or.inl hm, fun v hv hm => hm⟩⟩
  · have hax : a = x := hinj a x ha hx (Option.some.inj eq)
    refine g_iconst (pc := 5) (v := nI 1) dX4_contains_5 rfl ?_
    refine g_zret (pc := 6) dX4_contains_6 rfl (by first | exact bz_n _ | rfl) ?_
    refine ⟨_, rfl, true, rfl, hD, aMn.rf h, rfl, rfl, fun _ => ?_, fun z => (by cases z)⟩
    rw [hax]
    exact rch.refl D x
theorem ct_leaf6 (d a j : Nat) (v1 : Nat) (v2 : Value) {h : hP} (ha : a < D.1) (hx : x < D.1) (hq1 : j ≤ 1000) (hq : q ≤ 1000) (hD : cD D w h q) (hb : h.2.2 (w.1 a) = some (6, .inl [.int (nI j), .ref v1, v2])) (hp : aPs (D.2 a) = []) (pre : mrk w h q a → ¬ rch D a x) : hCt Z mX4_contains (d + 1) aS [.ref (w.1 a), .ref (w.1 x), .int (nI q)] h (jK (ctQ D w q a x h)) := by
  refine hCt.of pnX4 rfl (Nat.le_of_ble_eq_true rfl) rfl (fun X => ?_)
  have hinj := hD.2.1
  refine g_aload_n (pc := 0) dX4_contains_0 rfl rfl ?_
  refine g_aload_n (pc := 1) dX4_contains_1 rfl rfl ?_
  refine g_acmp_ne (some (w.1 a)) (some (w.1 x)) (pc := 2) (tgt := 7) dX4_contains_2 rfl rfl rfl (fun ne => ?_) (fun eq => ?_)
  · have hne : a ≠ x := fun z => ne (by rw [z])
    refine g_aload_n (pc := 7) dX4_contains_7 rfl rfl ?_
    refine g_get (pc := 8) (r := (RX6, TX6, 3)) 0 dX4_contains_8 hb rfl (Nat.le_of_ble_eq_true rfl) q621 (Or.inl rfl) rfl ?_
    refine g_iload_n (pc := 11) dX4_contains_11 rfl rfl ?_
    refine g_icmp_neN (pc := 12) (tgt := 17) dX4_contains_12 rfl (by omega) (by omega) (fun c12 => ?_) (fun c12 => ?_)
    · obtain ⟨hk, hD2⟩ := hD.ask (Nat.le_refl q) hq ha hb
      have m2 := aMn.set (k' := nI q) hk hb
      have hb2 := hSet_s h (w.1 a) (6, .inl [.int (nI q), .ref v1, v2])
      refine g_aload_n (pc := 17) dX4_contains_17 rfl rfl ?_
      refine g_iload_n (pc := 18) dX4_contains_18 rfl rfl ?_
      refine g_put (pc := 19) (r := (RX6, TX6, 3)) 0 dX4_contains_19 hb rfl (Nat.le_of_ble_eq_true rfl) q621 (Or.inl rfl) rfl (by decide) (Or.inr (Or.inl rfl)) (tyX6_ok 0 (Nat.le_of_ble_eq_true rfl)) rfl rfl ?_
      refine g_iconst (pc := 22) (v := nI 0) dX4_contains_22 rfl ?_
      refine g_istore_n (pc := 23) (ls' := [(0, _), (1, _), (2, _), (3, _)]) dX4_contains_23 rfl (Nat.le_of_ble_eq_true rfl) rfl ?_
      refine g_iload_n (pc := 24) dX4_contains_24 rfl rfl ?_
      refine g_aload_n (pc := 25) dX4_contains_25 rfl rfl ?_
      refine g_invV (pc := 26) dX4_contains_26 hb2 rfl (cd_turns0 d) meX4_turns q907 q908 q916 rfl rfl (Nat.le_of_ble_eq_true rfl) (by first | exact jF | exact fun _ z => z | assumption | (intro κ z; simp_all)) (jk_e ?_) jk_x
      refine g_icmp_geN (pc := 29) (tgt := 53) dX4_contains_29 rfl (by omega) (by omega) (fun _ => ?_) (fun q_ => absurd q_ (by omega))
      refine g_iconst (pc := 53) (v := nI 0) dX4_contains_53 rfl ?_
      refine g_zret (pc := 54) dX4_contains_54 rfl (by first | exact bz_n _ | rfl) ?_
      refine ⟨_, rfl, false, rfl, hD2, m2, rfl, rfl, fun z => (by cases z), fun _ => ⟨?_, ⟨_, _, hSet_s _ _ _⟩, fun v hv ⟨κ, r, hm⟩ => ?_, fun v hv ⟨κ, r, hm⟩ => ?_⟩⟩
      · exact rch_no hne (fun c hc => by rw [hp] at hc; cases hc)
      · by_cases z : v = a
        · exact Or.inr (by rw [z]; exact rch_no hne (fun c hc => by rw [hp] at hc; cases hc))
        · exact Or.inl ⟨κ, r, by rw [hSet_n (fun y => z (hinj v a hv ha y))] at hm; exact hm⟩
      · by_cases z : v = a
        · rw [z]; exact ⟨_, _, hSet_s _ _ _⟩
        · exact ⟨κ, r, by rw [hSet_n (fun y => z (hinj v a hv ha y))]; exact hm⟩
    · have hj : j = q := c12
      refine g_iconst (pc := 15) (v := nI 0) dX4_contains_15 rfl ?_
      refine g_zret (pc := 16) dX4_contains_16 rfl (by first | exact bz_n _ | rfl) ?_
      subst hj
      have hm : mrk w h j a := ⟨_, _, hb⟩
      exact ⟨_, rfl, false, rfl, hD, aMn.rf h, rfl, rfl, fun z => (by cases z), fun _ => ⟨pre hm, hm, fun v hv hm => Or.inl hm, fun v hv hm => hm⟩⟩
  · have hax : a = x := hinj a x ha hx (Option.some.inj eq)
    refine g_iconst (pc := 5) (v := nI 1) dX4_contains_5 rfl ?_
    refine g_zret (pc := 6) dX4_contains_6 rfl (by first | exact bz_n _ | rfl) ?_
    refine ⟨_, rfl, true, rfl, hD, aMn.rf h, rfl, rfl, fun _ => ?_, fun z => (by cases z)⟩
    rw [hax]
    exact rch.refl D x
theorem ct_cont7 (d a j ar : Nat) (ps : List (List Nat × Nat)) (f : Nat → Value) (m : Bool) (ρ : Nat → Nat) {h : hP} (ha : a < D.1) (hx : x < D.1) (hq1 : j ≤ 1000) (hq : q ≤ 1000) (hD : cD D w h q) (hb : h.2.2 (w.1 a) = some (7, .inl [.int (nI j), .ref ar, .int (nI ps.length)])) (hr : h.2.2 ar = some (68, .inr (10, f))) (h10 : ps.length ≤ 10) (hf : ∀ i, i < ps.length → f i = .ref (w.1 (ps.getD i ([], 0)).2)) (hp : aPs (D.2 a) = ps) (hρ : ∀ y, y < D.1 → ∀ c ∈ aPs (D.2 y), c.2 < D.1 ∧ ρ c.2 < ρ y) (pre : ∀ v, v < D.1 → mrk w h q v → ¬ rch D v x ∨ ρ a < ρ v)
    (IH : ∀ c ∈ ps, ∀ h1 : hP, cD D w h1 q → (∀ v, v < D.1 → mrk w h1 q v → ¬ rch D v x ∨ ρ c.2 < ρ v) → hDs Z d aS (w.1 c.2) [.ref (w.1 x), .int (nI q)] h1 (jK (ctQ D w q c.2 x h1)) ctL) : hCt Z mX4_contains (d + 1) aS [.ref (w.1 a), .ref (w.1 x), .int (nI q)] h (jK (ctQ D w q a x h)) := by
  refine hCt.of pnX4 rfl (Nat.le_of_ble_eq_true rfl) rfl (fun X => ?_)
  have hinj := hD.2.1
  have loop : a ≠ x → ∀ (r i : Nat) (h1 : hP), i + r = ps.length → cD D w h1 q → aMn h h1 → h1.1 = h.1 → h1.2.1 = h.2.1 → mrk w h1 q a → (∀ v, v < D.1 → mrk w h1 q v → mrk w h q v ∨ v = a ∨ ¬ rch D v x) → (∀ v, v < D.1 → mrk w h q v → mrk w h1 q v) → (∀ k, k < i → ¬ rch D (ps.getD k ([], 0)).2 x) → hG Z X mX4_contains (d + 1) aS h (jK (ctQ D w q a x h)) 24 [(0, .ref (w.1 a)), (1, .ref (w.1 x)), (2, .int (nI q)), (3, .int (nI i))] [] h1 := by
    intro hne r
    induction r with
    | zero =>
      intro i h1 hi hD1 m1 e1 e2 mk1 ms1 kp1 ch1
      obtain ⟨k', hb1⟩ := m1.2 _ 7 _ _ (Or.inr (Or.inr (Or.inl rfl))) hb
      have no : ¬ rch D a x := rch_no hne (fun c hc => by
        rw [hp] at hc
        obtain ⟨k, hk, hkc⟩ := List.getElem_of_mem hc
        have := ch1 k (by omega)
        rw [List.getD_eq_getElem?_getD, List.getElem?_eq_getElem hk] at this
        rw [← hkc]
        exact this)
      refine g_iload_n (pc := 24) dX4_contains_24 rfl rfl ?_
      refine g_aload_n (pc := 25) dX4_contains_25 rfl rfl ?_
      refine g_invU (pc := 26) dX4_contains_26 hb1 rfl (cd_turns7 d _ _ _ hb1) meX7_turns q907 q909 (Or.inr ⟨_, _, _, q908, q917⟩) q912 q911 ⟨⟨by decide, by decide⟩, rfl⟩ rfl rfl (Nat.le_of_ble_eq_true rfl) (by first | exact jF | exact fun _ z => z | assumption | (intro κ z; simp_all)) (jk_e ?_) jk_x
      refine g_icmp_geN (pc := 29) (tgt := 53) dX4_contains_29 rfl (by omega) (by omega) (fun _ => ?_) (fun q_ => absurd q_ (by omega))
      refine g_iconst (pc := 53) (v := nI 0) dX4_contains_53 rfl ?_
      refine g_zret (pc := 54) dX4_contains_54 rfl (by first | exact bz_n _ | rfl) ?_
      refine ⟨_, rfl, false, rfl, hD1, m1, e1, e2, fun z => (by cases z), fun _ => ⟨no, mk1, fun v hv hm => ?_, kp1⟩⟩
      rcases ms1 v hv hm with z | z | z
      · exact Or.inl z
      · exact Or.inr (by rw [z]; exact no)
      · exact Or.inr z
    | succ r ih =>
      intro i h1 hi hD1 m1 e1 e2 mk1 ms1 kp1 ch1
      obtain ⟨k', hb1⟩ := m1.2 _ 7 _ _ (Or.inr (Or.inr (Or.inl rfl))) hb
      have hr1 := (m1.1.2.2 _ _ hr).1 (aS_no (show 8 < 68 by decide))
      have hil : i < ps.length := by omega
      have hmem : ps.getD i ([], 0) ∈ ps := getD_mem hil
      have hcρ := hρ a ha _ (by rw [hp]; exact hmem)
      have hc := IH _ hmem h1 hD1 (fun v hv hm => by
        rcases ms1 v hv hm with z | z | z
        · rcases pre v hv z with y | y
          · exact Or.inl y
          · exact Or.inr (by omega)
        · exact Or.inr (by rw [z]; exact hcρ.2)
        · exact Or.inl z)
      refine g_iload_n (pc := 24) dX4_contains_24 rfl rfl ?_
      refine g_aload_n (pc := 25) dX4_contains_25 rfl rfl ?_
      refine g_invU (pc := 26) dX4_contains_26 hb1 rfl (cd_turns7 d _ _ _ hb1) meX7_turns q907 q909 (Or.inr ⟨_, _, _, q908, q917⟩) q912 q911 ⟨⟨by decide, by decide⟩, rfl⟩ rfl rfl (Nat.le_of_ble_eq_true rfl) (by first | exact jF | exact fun _ z => z | assumption | (intro κ z; simp_all)) (jk_e ?_) jk_x
      refine g_icmp_geN (pc := 29) (tgt := 53) dX4_contains_29 rfl (by omega) (by omega) (fun q_ => absurd q_ (by omega)) (fun _ => ?_)
      refine g_aload_n (pc := 32) dX4_contains_32 rfl rfl ?_
      refine g_iload_n (pc := 33) dX4_contains_33 rfl rfl ?_
      refine g_invU (pc := 34) dX4_contains_34 hb1 rfl (cd_elem7 d _ (nI i) hb1 hr1 h10 hf) meX7_element q918 q920 (Or.inr ⟨_, _, _, q919, q928⟩) q923 q922 ⟨⟨by decide, by decide⟩, rfl⟩ rfl rfl (Nat.le_of_ble_eq_true rfl) (by first | exact jF | exact fun _ z => z | assumption | (intro κ z; simp_all)) (jk_e ?_) jk_x
      rw [elA_n hil h10]
      refine g_aload_n (pc := 37) dX4_contains_37 rfl rfl ?_
      refine g_iload_n (pc := 38) dX4_contains_38 rfl rfl ?_
      refine dc_X4 hc (Nat.le_of_ble_eq_true rfl) (fun κ z => z) (jk_n (fun v h2 hp2 fr2 => ?_)) jk_x
      obtain ⟨b, rfl, hD2, m2, g1, g2, g3, g4⟩ := hp2
      have hreach : rch D a (ps.getD i ([], 0)).2 := (rch.refl D a).step (by rw [hp]; exact hmem)
      cases b with
      | true =>
        refine g_if_eq (pc := 42) (tgt := 47) dX4_contains_42 rfl (fun q_ => absurd q_ (by decide)) (fun _ => ?_)
        refine g_iconst (pc := 45) (v := nI 1) dX4_contains_45 rfl ?_
        refine g_zret (pc := 46) dX4_contains_46 rfl (by first | exact bz_n _ | rfl) ?_
        exact ⟨_, rfl, true, rfl, hD2, m1.tr m2, by omega, by omega, fun _ => hreach.trans (g3 rfl), fun z => (by cases z)⟩
      | false =>
        obtain ⟨n1, n2, n3, n4⟩ := g4 rfl
        refine g_if_eq (pc := 42) (tgt := 47) dX4_contains_42 rfl (fun _ => ?_) (fun q_ => absurd rfl q_)
        refine g_iincN (pc := 47) (k0 := 1) (ls' := [(0, _), (1, _), (2, _), (3, _)]) dX4_contains_47 rfl (Nat.le_of_ble_eq_true rfl) rfl ?_
        refine g_goto (pc := 50) (tgt := 24) dX4_contains_50 rfl ?_
        refine ih (i + 1) h2 (by omega) hD2 (m1.tr m2) (by omega) (by omega) (n4 a ha mk1) (fun v hv hm => ?_) (fun v hv hm => n4 v hv (kp1 v hv hm)) (fun k hk => ?_)
        · rcases n3 v hv hm with z | z
          · exact ms1 v hv z
          · exact Or.inr (Or.inr z)
        · by_cases z : k = i
          · rw [z]; exact n1
          · exact ch1 k (by omega)
  refine g_aload_n (pc := 0) dX4_contains_0 rfl rfl ?_
  refine g_aload_n (pc := 1) dX4_contains_1 rfl rfl ?_
  refine g_acmp_ne (some (w.1 a)) (some (w.1 x)) (pc := 2) (tgt := 7) dX4_contains_2 rfl rfl rfl (fun ne => ?_) (fun eq => ?_)
  · have hne : a ≠ x := fun z => ne (by rw [z])
    refine g_aload_n (pc := 7) dX4_contains_7 rfl rfl ?_
    refine g_get (pc := 8) (r := (RX7, TX7, 3)) 0 dX4_contains_8 hb rfl (Nat.le_of_ble_eq_true rfl) q621 (Or.inl rfl) rfl ?_
    refine g_iload_n (pc := 11) dX4_contains_11 rfl rfl ?_
    refine g_icmp_neN (pc := 12) (tgt := 17) dX4_contains_12 rfl (by omega) (by omega) (fun c12 => ?_) (fun c12 => ?_)
    · obtain ⟨hk, hD2⟩ := hD.ask (Nat.le_refl q) hq ha hb
      have m2 := aMn.set (k' := nI q) hk hb
      refine g_aload_n (pc := 17) dX4_contains_17 rfl rfl ?_
      refine g_iload_n (pc := 18) dX4_contains_18 rfl rfl ?_
      refine g_put (pc := 19) (r := (RX7, TX7, 3)) 0 dX4_contains_19 hb rfl (Nat.le_of_ble_eq_true rfl) q621 (Or.inl rfl) rfl (by decide) (Or.inr (Or.inr (Or.inl rfl))) (tyX7_ok 0 (Nat.le_of_ble_eq_true rfl)) rfl rfl ?_
      refine g_iconst (pc := 22) (v := nI 0) dX4_contains_22 rfl ?_
      refine g_istore_n (pc := 23) (ls' := [(0, _), (1, _), (2, _), (3, _)]) dX4_contains_23 rfl (Nat.le_of_ble_eq_true rfl) rfl ?_
      refine loop hne ps.length 0 _ (by omega) hD2 m2 rfl rfl ⟨_, _, hSet_s _ _ _⟩ (fun v hv ⟨κ, r, hm⟩ => ?_) (fun v hv ⟨κ, r, hm⟩ => ?_) (fun k hk => absurd hk (Nat.not_lt_zero _))
      · by_cases z : v = a
        · exact Or.inr (Or.inl z)
        · exact Or.inl ⟨κ, r, by rw [hSet_n (fun y => z (hinj v a hv ha y))] at hm; exact hm⟩
      · by_cases z : v = a
        · rw [z]; exact ⟨_, _, hSet_s _ _ _⟩
        · exact ⟨κ, r, by rw [hSet_n (fun y => z (hinj v a hv ha y))]; exact hm⟩
    · have hj : j = q := c12
      refine g_iconst (pc := 15) (v := nI 0) dX4_contains_15 rfl ?_
      refine g_zret (pc := 16) dX4_contains_16 rfl (by first | exact bz_n _ | rfl) ?_
      subst hj
      have hm : mrk w h j a := ⟨_, _, hb⟩
      refine ⟨_, rfl, false, rfl, hD, aMn.rf h, rfl, rfl, fun z => (by cases z), fun _ => ⟨?_, hm, fun v hv hm => Or.inl hm, fun v hv hm => hm⟩⟩
      rcases pre a ha hm with z | z
      · exact z
      · exact absurd z (Nat.lt_irrefl _)
  · have hax : a = x := hinj a x ha hx (Option.some.inj eq)
    refine g_iconst (pc := 5) (v := nI 1) dX4_contains_5 rfl ?_
    refine g_zret (pc := 6) dX4_contains_6 rfl (by first | exact bz_n _ | rfl) ?_
    refine ⟨_, rfl, true, rfl, hD, aMn.rf h, rfl, rfl, fun _ => ?_, fun z => (by cases z)⟩
    rw [hax]
    exact rch.refl D x
theorem ct_cont8 (d a j ar : Nat) (nr : Value) (ps : List (List Nat × Nat)) (f : Nat → Value) (m : Bool) (ρ : Nat → Nat) {h : hP} (ha : a < D.1) (hx : x < D.1) (hq1 : j ≤ 1000) (hq : q ≤ 1000) (hD : cD D w h q) (hb : h.2.2 (w.1 a) = some (8, .inl [.int (nI j), .ref ar, .int (nI ps.length), nr])) (hr : h.2.2 ar = some (68, .inr (10, f))) (h10 : ps.length ≤ 10) (hf : ∀ i, i < ps.length → f i = .ref (w.1 (ps.getD i ([], 0)).2)) (hp : aPs (D.2 a) = ps) (hρ : ∀ y, y < D.1 → ∀ c ∈ aPs (D.2 y), c.2 < D.1 ∧ ρ c.2 < ρ y) (pre : ∀ v, v < D.1 → mrk w h q v → ¬ rch D v x ∨ ρ a < ρ v)
    (IH : ∀ c ∈ ps, ∀ h1 : hP, cD D w h1 q → (∀ v, v < D.1 → mrk w h1 q v → ¬ rch D v x ∨ ρ c.2 < ρ v) → hDs Z d aS (w.1 c.2) [.ref (w.1 x), .int (nI q)] h1 (jK (ctQ D w q c.2 x h1)) ctL) : hCt Z mX4_contains (d + 1) aS [.ref (w.1 a), .ref (w.1 x), .int (nI q)] h (jK (ctQ D w q a x h)) := by
  refine hCt.of pnX4 rfl (Nat.le_of_ble_eq_true rfl) rfl (fun X => ?_)
  have hinj := hD.2.1
  have loop : a ≠ x → ∀ (r i : Nat) (h1 : hP), i + r = ps.length → cD D w h1 q → aMn h h1 → h1.1 = h.1 → h1.2.1 = h.2.1 → mrk w h1 q a → (∀ v, v < D.1 → mrk w h1 q v → mrk w h q v ∨ v = a ∨ ¬ rch D v x) → (∀ v, v < D.1 → mrk w h q v → mrk w h1 q v) → (∀ k, k < i → ¬ rch D (ps.getD k ([], 0)).2 x) → hG Z X mX4_contains (d + 1) aS h (jK (ctQ D w q a x h)) 24 [(0, .ref (w.1 a)), (1, .ref (w.1 x)), (2, .int (nI q)), (3, .int (nI i))] [] h1 := by
    intro hne r
    induction r with
    | zero =>
      intro i h1 hi hD1 m1 e1 e2 mk1 ms1 kp1 ch1
      obtain ⟨k', hb1⟩ := m1.2 _ 8 _ _ (Or.inr (Or.inr (Or.inr rfl))) hb
      have no : ¬ rch D a x := rch_no hne (fun c hc => by
        rw [hp] at hc
        obtain ⟨k, hk, hkc⟩ := List.getElem_of_mem hc
        have := ch1 k (by omega)
        rw [List.getD_eq_getElem?_getD, List.getElem?_eq_getElem hk] at this
        rw [← hkc]
        exact this)
      refine g_iload_n (pc := 24) dX4_contains_24 rfl rfl ?_
      refine g_aload_n (pc := 25) dX4_contains_25 rfl rfl ?_
      refine g_invU (pc := 26) dX4_contains_26 hb1 rfl (cd_turns8 d _ _ _ _ hb1) meX7_turns q907 q909 (Or.inr ⟨_, _, _, q908, q917⟩) q912 q914 ⟨⟨by decide, by decide⟩, rfl⟩ rfl rfl (Nat.le_of_ble_eq_true rfl) (by first | exact jF | exact fun _ z => z | assumption | (intro κ z; simp_all)) (jk_e ?_) jk_x
      refine g_icmp_geN (pc := 29) (tgt := 53) dX4_contains_29 rfl (by omega) (by omega) (fun _ => ?_) (fun q_ => absurd q_ (by omega))
      refine g_iconst (pc := 53) (v := nI 0) dX4_contains_53 rfl ?_
      refine g_zret (pc := 54) dX4_contains_54 rfl (by first | exact bz_n _ | rfl) ?_
      refine ⟨_, rfl, false, rfl, hD1, m1, e1, e2, fun z => (by cases z), fun _ => ⟨no, mk1, fun v hv hm => ?_, kp1⟩⟩
      rcases ms1 v hv hm with z | z | z
      · exact Or.inl z
      · exact Or.inr (by rw [z]; exact no)
      · exact Or.inr z
    | succ r ih =>
      intro i h1 hi hD1 m1 e1 e2 mk1 ms1 kp1 ch1
      obtain ⟨k', hb1⟩ := m1.2 _ 8 _ _ (Or.inr (Or.inr (Or.inr rfl))) hb
      have hr1 := (m1.1.2.2 _ _ hr).1 (aS_no (show 8 < 68 by decide))
      have hil : i < ps.length := by omega
      have hmem : ps.getD i ([], 0) ∈ ps := getD_mem hil
      have hcρ := hρ a ha _ (by rw [hp]; exact hmem)
      have hc := IH _ hmem h1 hD1 (fun v hv hm => by
        rcases ms1 v hv hm with z | z | z
        · rcases pre v hv z with y | y
          · exact Or.inl y
          · exact Or.inr (by omega)
        · exact Or.inr (by rw [z]; exact hcρ.2)
        · exact Or.inl z)
      refine g_iload_n (pc := 24) dX4_contains_24 rfl rfl ?_
      refine g_aload_n (pc := 25) dX4_contains_25 rfl rfl ?_
      refine g_invU (pc := 26) dX4_contains_26 hb1 rfl (cd_turns8 d _ _ _ _ hb1) meX7_turns q907 q909 (Or.inr ⟨_, _, _, q908, q917⟩) q912 q914 ⟨⟨by decide, by decide⟩, rfl⟩ rfl rfl (Nat.le_of_ble_eq_true rfl) (by first | exact jF | exact fun _ z => z | assumption | (intro κ z; simp_all)) (jk_e ?_) jk_x
      refine g_icmp_geN (pc := 29) (tgt := 53) dX4_contains_29 rfl (by omega) (by omega) (fun q_ => absurd q_ (by omega)) (fun _ => ?_)
      refine g_aload_n (pc := 32) dX4_contains_32 rfl rfl ?_
      refine g_iload_n (pc := 33) dX4_contains_33 rfl rfl ?_
      refine g_invU (pc := 34) dX4_contains_34 hb1 rfl (cd_elem8 d _ _ (nI i) hb1 hr1 h10 hf) meX7_element q918 q920 (Or.inr ⟨_, _, _, q919, q928⟩) q923 q925 ⟨⟨by decide, by decide⟩, rfl⟩ rfl rfl (Nat.le_of_ble_eq_true rfl) (by first | exact jF | exact fun _ z => z | assumption | (intro κ z; simp_all)) (jk_e ?_) jk_x
      rw [elA_n hil h10]
      refine g_aload_n (pc := 37) dX4_contains_37 rfl rfl ?_
      refine g_iload_n (pc := 38) dX4_contains_38 rfl rfl ?_
      refine dc_X4 hc (Nat.le_of_ble_eq_true rfl) (fun κ z => z) (jk_n (fun v h2 hp2 fr2 => ?_)) jk_x
      obtain ⟨b, rfl, hD2, m2, g1, g2, g3, g4⟩ := hp2
      have hreach : rch D a (ps.getD i ([], 0)).2 := (rch.refl D a).step (by rw [hp]; exact hmem)
      cases b with
      | true =>
        refine g_if_eq (pc := 42) (tgt := 47) dX4_contains_42 rfl (fun q_ => absurd q_ (by decide)) (fun _ => ?_)
        refine g_iconst (pc := 45) (v := nI 1) dX4_contains_45 rfl ?_
        refine g_zret (pc := 46) dX4_contains_46 rfl (by first | exact bz_n _ | rfl) ?_
        exact ⟨_, rfl, true, rfl, hD2, m1.tr m2, by omega, by omega, fun _ => hreach.trans (g3 rfl), fun z => (by cases z)⟩
      | false =>
        obtain ⟨n1, n2, n3, n4⟩ := g4 rfl
        refine g_if_eq (pc := 42) (tgt := 47) dX4_contains_42 rfl (fun _ => ?_) (fun q_ => absurd rfl q_)
        refine g_iincN (pc := 47) (k0 := 1) (ls' := [(0, _), (1, _), (2, _), (3, _)]) dX4_contains_47 rfl (Nat.le_of_ble_eq_true rfl) rfl ?_
        refine g_goto (pc := 50) (tgt := 24) dX4_contains_50 rfl ?_
        refine ih (i + 1) h2 (by omega) hD2 (m1.tr m2) (by omega) (by omega) (n4 a ha mk1) (fun v hv hm => ?_) (fun v hv hm => n4 v hv (kp1 v hv hm)) (fun k hk => ?_)
        · rcases n3 v hv hm with z | z
          · exact ms1 v hv z
          · exact Or.inr (Or.inr z)
        · by_cases z : k = i
          · rw [z]; exact n1
          · exact ch1 k (by omega)
  refine g_aload_n (pc := 0) dX4_contains_0 rfl rfl ?_
  refine g_aload_n (pc := 1) dX4_contains_1 rfl rfl ?_
  refine g_acmp_ne (some (w.1 a)) (some (w.1 x)) (pc := 2) (tgt := 7) dX4_contains_2 rfl rfl rfl (fun ne => ?_) (fun eq => ?_)
  · have hne : a ≠ x := fun z => ne (by rw [z])
    refine g_aload_n (pc := 7) dX4_contains_7 rfl rfl ?_
    refine g_get (pc := 8) (r := (RX8, TX8, 4)) 0 dX4_contains_8 hb rfl (Nat.le_of_ble_eq_true rfl) q621 (Or.inl rfl) rfl ?_
    refine g_iload_n (pc := 11) dX4_contains_11 rfl rfl ?_
    refine g_icmp_neN (pc := 12) (tgt := 17) dX4_contains_12 rfl (by omega) (by omega) (fun c12 => ?_) (fun c12 => ?_)
    · obtain ⟨hk, hD2⟩ := hD.ask (Nat.le_refl q) hq ha hb
      have m2 := aMn.set (k' := nI q) hk hb
      refine g_aload_n (pc := 17) dX4_contains_17 rfl rfl ?_
      refine g_iload_n (pc := 18) dX4_contains_18 rfl rfl ?_
      refine g_put (pc := 19) (r := (RX8, TX8, 4)) 0 dX4_contains_19 hb rfl (Nat.le_of_ble_eq_true rfl) q621 (Or.inl rfl) rfl (by decide) (Or.inr (Or.inr (Or.inr rfl))) (tyX8_ok 0 (Nat.le_of_ble_eq_true rfl)) rfl rfl ?_
      refine g_iconst (pc := 22) (v := nI 0) dX4_contains_22 rfl ?_
      refine g_istore_n (pc := 23) (ls' := [(0, _), (1, _), (2, _), (3, _)]) dX4_contains_23 rfl (Nat.le_of_ble_eq_true rfl) rfl ?_
      refine loop hne ps.length 0 _ (by omega) hD2 m2 rfl rfl ⟨_, _, hSet_s _ _ _⟩ (fun v hv ⟨κ, r, hm⟩ => ?_) (fun v hv ⟨κ, r, hm⟩ => ?_) (fun k hk => absurd hk (Nat.not_lt_zero _))
      · by_cases z : v = a
        · exact Or.inr (Or.inl z)
        · exact Or.inl ⟨κ, r, by rw [hSet_n (fun y => z (hinj v a hv ha y))] at hm; exact hm⟩
      · by_cases z : v = a
        · rw [z]; exact ⟨_, _, hSet_s _ _ _⟩
        · exact ⟨κ, r, by rw [hSet_n (fun y => z (hinj v a hv ha y))]; exact hm⟩
    · have hj : j = q := c12
      refine g_iconst (pc := 15) (v := nI 0) dX4_contains_15 rfl ?_
      refine g_zret (pc := 16) dX4_contains_16 rfl (by first | exact bz_n _ | rfl) ?_
      subst hj
      have hm : mrk w h j a := ⟨_, _, hb⟩
      refine ⟨_, rfl, false, rfl, hD, aMn.rf h, rfl, rfl, fun z => (by cases z), fun _ => ⟨?_, hm, fun v hv hm => Or.inl hm, fun v hv hm => hm⟩⟩
      rcases pre a ha hm with z | z
      · exact z
      · exact absurd z (Nat.lt_irrefl _)
  · have hax : a = x := hinj a x ha hx (Option.some.inj eq)
    refine g_iconst (pc := 5) (v := nI 1) dX4_contains_5 rfl ?_
    refine g_zret (pc := 6) dX4_contains_6 rfl (by first | exact bz_n _ | rfl) ?_
    refine ⟨_, rfl, true, rfl, hD, aMn.rf h, rfl, rfl, fun _ => ?_, fun z => (by cases z)⟩
    rw [hax]
    exact rch.refl D x
theorem ct_all (ρ : Nat → Nat) (hρ : ∀ y, y < D.1 → ∀ c ∈ aPs (D.2 y), c.2 < D.1 ∧ ρ c.2 < ρ y) (hx : x < D.1) (hq : q ≤ 1000) : ∀ (n a : Nat) (h : hP) (e : Nat), hgt D n a → n ≤ e → a < D.1 → cD D w h q → (∀ v, v < D.1 → mrk w h q v → ¬ rch D v x ∨ ρ a < ρ v) → hDs Z e aS (w.1 a) [.ref (w.1 x), .int (nI q)] h (jK (ctQ D w q a x h)) ctL
  | 0, _, _, _, hh, _, _, _, _ => hh.elim
  | n + 1, a, h, e, hh, he, ha, hD, pre => by
    obtain ⟨e, rfl⟩ : ∃ e', e = e' + 1 := ⟨e - 1, by omega⟩
    have hi := hD.1 a ha
    have p1 : mrk w h q a → ¬ rch D a x := fun z => by
      rcases pre a ha z with y | y
      · exact y
      · exact absurd y (Nat.lt_irrefl _)
    unfold cIt at hi
    cases ey : D.2 a with
    | inl v =>
      rw [ey] at hi
      obtain ⟨j, z1, z2⟩ := hi
      exact ⟨_, _, mX4_contains, z2, mm0, ct_leaf5 e a j v ha hx (by omega) hq hD z2 (by rw [ey]; rfl) p1⟩
    | inr y =>
      cases y with
      | inl l =>
        rw [ey] at hi
        obtain ⟨z0, j, s, c, z1, z2⟩ := hi
        exact ⟨_, _, mX4_contains, z2, mm1, ct_leaf6 e a j s c ha hx (by omega) hq hD z2 (by rw [ey]; rfl) p1⟩
      | inr p =>
        obtain ⟨m, ps⟩ := p
        have hps : aPs (D.2 a) = ps := by rw [ey]; rfl
        have IH : ∀ c ∈ ps, ∀ h1 : hP, cD D w h1 q → (∀ v, v < D.1 → mrk w h1 q v → ¬ rch D v x ∨ ρ c.2 < ρ v) → hDs Z e aS (w.1 c.2) [.ref (w.1 x), .int (nI q)] h1 (jK (ctQ D w q c.2 x h1)) ctL := fun c hc h1 hD1 pr => ct_all ρ hρ hx hq n c.2 h1 e (hh c (by rw [hps]; exact hc)) (by omega) (hρ a ha c (by rw [hps]; exact hc)).1 hD1 pr
        cases m with
        | false =>
          rw [ey] at hi
          obtain ⟨j, f, z1, z2, z3, z4, z5⟩ := hi
          exact ⟨_, _, mX4_contains, z2, mm2, ct_cont7 e a j _ ps f false ρ ha hx (by omega) hq hD z2 z3 z4 z5 hps hρ pre IH⟩
        | true =>
          rw [ey] at hi
          obtain ⟨j, f, g, z1, z2, z3, z4, z5, z6⟩ := hi
          exact ⟨_, _, mX4_contains, z2, mm3, ct_cont8 e a j _ _ ps f true ρ ha hx (by omega) hq hD z2 z3 z4 z5 hps hρ pre IH⟩
end CT
