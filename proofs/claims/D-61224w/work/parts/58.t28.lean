/-! TWIN 28: render, size -/
set_option maxRecDepth 100000
/-- what render keeps -/
def hK (τ τ' : tT) : Prop := (∀ k, k ≠ 0 → k ≠ 1 → k ≠ 5 → k ≠ 6 → k ≠ 33 → k ≠ 34 → k ≠ 35 → k ≠ 36 → k ≠ 37 → k ≠ 38 → k ≠ 39 → τ'.1 k = τ.1 k) ∧ τ'.2.1 = τ.2.1 ∧ τ'.2.2.2.2 = τ.2.2.2.2 ∧ ∀ k i, k < 26 → τ'.2.2.1 k i = τ.2.2.1 k i ∧ τ'.2.2.2.1 k i = τ.2.2.2.1 k i
theorem hK.refl (τ : tT) : hK τ τ := ⟨fun _ _ _ _ _ _ _ _ _ _ _ _ => rfl, rfl, rfl, fun _ _ _ => ⟨rfl, rfl⟩⟩
theorem hK.trans {a b c : tT} (h : hK a b) (g : hK b c) : hK a c := ⟨fun k x1 x2 x3 x4 x5 x6 x7 x8 x9 x10 x11 => (g.1 k x1 x2 x3 x4 x5 x6 x7 x8 x9 x10 x11).trans (h.1 k x1 x2 x3 x4 x5 x6 x7 x8 x9 x10 x11), g.2.1.trans h.2.1, g.2.2.1.trans h.2.2.1, fun k i q => ⟨(g.2.2.2 k i q).1.trans (h.2.2.2 k i q).1, (g.2.2.2 k i q).2.trans (h.2.2.2 k i q).2⟩⟩
theorem gK.hk {a b : tT} (h : gK a b) : hK a b := ⟨fun k _ _ x3 _ x5 x6 _ x8 x9 x10 x11 => h.1 k x3 x5 x6 x8 x9 x10 x11, h.2.1, h.2.2.1, fun k i q => h.2.2.2 k i (Or.inl q)⟩
theorem hK.fn {a b : tT} {k v : Nat} (h : hK a b) (hk : k = 0 ∨ k = 1 ∨ k = 5 ∨ k = 6 ∨ k = 33 ∨ k = 34 ∨ k = 35 ∨ k = 36 ∨ k = 37 ∨ k = 38 ∨ k = 39) : hK a (tFN b k v) := h.trans ⟨fun j _ _ _ _ _ _ _ _ _ _ _ => rFN_n (by omega), rfl, rfl, fun _ _ _ => ⟨rfl, rfl⟩⟩
theorem hK.an {a b : tT} {k i v : Nat} (h : hK a b) (hk : 26 ≤ k) : hK a (tAN b k i v) := h.trans ⟨fun _ _ _ _ _ _ _ _ _ _ _ _ => rfl, rfl, rfl, fun k' i' q => ⟨congrFun (rAN_k (τ := b) (by omega)) i', rfl⟩⟩
def rdQ (τ : tT) (res : Nat ⊕ (List Nat × Nat)) (r : Option Value) (τ' : tT) : Prop := hK τ τ' ∧ match res with
  | .inl e => (∃ z, r = some (.int z)) ∧ τ'.1 0 = e ∧ τ'.1 1 = τ.1 1 + 1 ∧ τ'.1 6 = τ.1 6 ∧ τ'.1 35 = τ.1 35 ∧ ∀ i, τ'.2.2.1 32 i = τ.2.2.1 32 i
  | .inr (out, seen) => r = some (.int (nI out.length)) ∧ τ'.1 0 = 0 ∧ τ'.1 1 = τ.1 1 ∧ τ'.1 6 = seen ∧ τ'.1 35 = out.length ∧ out.length ≤ 400 ∧ ∀ i, i < out.length → τ'.2.2.1 32 i = out.getD i 0
section TW28
variable {Z : hE} {o : Nat} {τ : tT}
theorem tc_renderX (d : Nat) (k x : Int32) (hk : ¬ (0 ≤ k.toInt ∧ k.toInt ≤ 3)) : tC Z mX3_render (d + 1) o [.ref o, .int k, .int x] τ (fun r τ' => (∃ z, r = some (.int z)) ∧ τ' = tRf τ 1) := by
  refine tC.of rfl rfl (Nat.le_of_ble_eq_true rfl) rfl (fun X hin h hR => ?_)
  have no : ∀ h, tH o τ hin h → hG Z X mX3_render (d + 1) tS hin (tK o hin (fun r τ' => (∃ z, r = some (.int z)) ∧ τ' = tRf τ 1)) 9 [(0, .ref o), (1, .int k), (2, .int x)] [] h := by
    intro h hR
    refine g_aload_n (pc := 9) dX3_render_9 rfl rfl ?_
    refine g_iconst (pc := 10) (v := nI 1) dX3_render_10 rfl ?_
    refine t_invE (pc := 11) dX3_render_11 hR (tc_refuse _ 1) meX3_refuse q1956 q1958 qs16 rfl rfl (Nat.le_of_ble_eq_true rfl) (fun h hR => ?_)
    exact t_iret (pc := 14) dX3_render_14 hR rfl (⟨⟨_, rfl⟩, rfl⟩)
  refine g_iload_n (pc := 0) dX3_render_0 rfl rfl ?_
  refine g_if_lt (pc := 1) (tgt := 9) dX3_render_1 rfl (fun c1 => ?_) (fun c1 => ?_)
  · exact no h hR
  · refine g_iload_n (pc := 4) dX3_render_4 rfl rfl ?_
    refine g_iconst (pc := 5) (v := nI 3) dX3_render_5 rfl ?_
    refine g_icmp_le (pc := 6) (tgt := 15) dX3_render_6 rfl (fun c2 => ?_) (fun c2 => ?_)
    · obtain ⟨kk, hkk, rfl⟩ := nI_of2 (M := nI 3) (n := 3) (by decide) c1 c2
      exact absurd ⟨by rw [nI_toInt (by omega)]; omega, by rw [nI_toInt (by omega)]; omega⟩ hk
    · exact no h hR
theorem tc_renderN (d k : Nat) (x : Int32) (hk : k < 4) (Tm : Nat → Option aT) (D : aD) (hm : tmR Tm τ) (hD : tD τ D) (hno : Tm k = none ∨ ¬ inR D x) : tC Z mX3_render (d + 1) o [.ref o, .int (nI k), .int x] τ (fun r τ' => (∃ z, r = some (.int z)) ∧ τ' = tRf τ 2) := by
  refine tC.of rfl rfl (Nat.le_of_ble_eq_true rfl) rfl (fun X hin h hR => ?_)
  have no : ∀ h, tH o τ hin h → hG Z X mX3_render (d + 1) tS hin (tK o hin (fun r τ' => (∃ z, r = some (.int z)) ∧ τ' = tRf τ 2)) 32 [(0, .ref o), (1, .int (nI k)), (2, .int x)] [] h := by
    intro h hR
    refine g_aload_n (pc := 32) dX3_render_32 rfl rfl ?_
    refine g_iconst (pc := 33) (v := nI 2) dX3_render_33 rfl ?_
    refine t_invE (pc := 34) dX3_render_34 hR (tc_refuse _ 2) meX3_refuse q1956 q1958 qs16 rfl rfl (Nat.le_of_ble_eq_true rfl) (fun h hR => ?_)
    exact t_iret (pc := 37) dX3_render_37 hR rfl (⟨⟨_, rfl⟩, rfl⟩)
  have hD60 := hD.2.1
  refine g_iload_n (pc := 0) dX3_render_0 rfl rfl ?_
  refine g_if_ltN (pc := 1) (tgt := 9) dX3_render_1 rfl (by omega) ?_
  refine g_iload_n (pc := 4) dX3_render_4 rfl rfl ?_
  refine g_iconst (pc := 5) (v := nI 3) dX3_render_5 rfl ?_
  refine g_icmp_leN (pc := 6) (tgt := 15) dX3_render_6 rfl (by omega) (by omega) (fun _ => ?_) (fun q_ => absurd q_ (by omega))
  refine g_aload_n (pc := 15) dX3_render_15 rfl rfl ?_
  refine t_get (pc := 16) (v := .ref (tAd _ 17)) 17 dX3_render_16 hR rfl q1816 (Nat.le_of_ble_eq_true rfl) rfl rfl ?_
  refine g_iload_n (pc := 19) dX3_render_19 rfl rfl ?_
  refine t_zald (pc := 20) dX3_render_20 hR rfl (by decide) rfl (by decide) (by show _ < 4; omega) ?_
  cases hT : Tm k with
  | none =>
    rw [hm.2.1 k hk hT]
    refine g_if_eqN (pc := 21) (tgt := 32) dX3_render_21 rfl (by omega) (fun _ => ?_) (fun q_ => absurd q_ (by omega))
    exact no h hR
  | some A =>
    obtain ⟨n, f, g, T⟩ := A
    rw [(hm.2.2.1 k n f g T hT).1.1]
    refine g_if_eqN (pc := 21) (tgt := 32) dX3_render_21 rfl (by omega) (fun q_ => absurd q_ (by omega)) (fun _ => ?_)
    refine g_aload_n (pc := 24) dX3_render_24 rfl rfl ?_
    refine g_iload_n (pc := 25) dX3_render_25 rfl rfl ?_
    refine t_inv (pc := 26) dX3_render_26 hR (tc_no _ x (by rw [hD.1]; omega)) meX3_no q1988 q1990 qs19 rfl rfl (Nat.le_of_ble_eq_true rfl) (fun r τ1 h hp hR => ?_)
    obtain ⟨e0, hp⟩ := hp
    rw [e0] at hR
    rw [hD.1] at hp
    rcases hp with ⟨h1, rfl⟩ | ⟨a, ha, rfl, rfl⟩
    · refine g_if_eqN (pc := 29) (tgt := 38) dX3_render_29 rfl (by omega) (fun q_ => absurd q_ (by omega)) (fun _ => ?_)
      exact no h hR
    · rcases hno with z | z
      · rw [z] at hT; cases hT
      · exact absurd ⟨by rw [nI_toInt (by omega)]; omega, by rw [nI_toInt (by omega)]; omega⟩ z
theorem tc_render (d k x : Nat) (hk : k < 4) (Tm : Nat → Option aT) (D : aD) (hm : tmR Tm τ) (hD : tD τ D) (ha : acy D) (A : aT) (hT : Tm k = some A) (hx : x < D.1) (res : Nat ⊕ (List Nat × Nat)) (hrun : mFn Tm D (k, 0, [], [aVof D x], [], 0) res) (hres : ∀ e, res = .inl e → 0 < e ∧ e < 5) : tC Z mX3_render (d + 10) o [.ref o, .int (nI k), .int (nI x)] τ (rdQ τ res) := by
  refine tC.of rfl rfl (Nat.le_of_ble_eq_true rfl) rfl (fun X hin h hR => ?_)
  have hD60 := hD.2.1
  obtain ⟨n, f, g, T⟩ := A
  obtain ⟨N, hN⟩ := hrun
  refine g_iload_n (pc := 0) dX3_render_0 rfl rfl ?_
  refine g_if_ltN (pc := 1) (tgt := 9) dX3_render_1 rfl (by omega) ?_
  refine g_iload_n (pc := 4) dX3_render_4 rfl rfl ?_
  refine g_iconst (pc := 5) (v := nI 3) dX3_render_5 rfl ?_
  refine g_icmp_leN (pc := 6) (tgt := 15) dX3_render_6 rfl (by omega) (by omega) (fun _ => ?_) (fun q_ => absurd q_ (by omega))
  refine g_aload_n (pc := 15) dX3_render_15 rfl rfl ?_
  refine t_get (pc := 16) (v := .ref (tAd _ 17)) 17 dX3_render_16 hR rfl q1816 (Nat.le_of_ble_eq_true rfl) rfl rfl ?_
  refine g_iload_n (pc := 19) dX3_render_19 rfl rfl ?_
  refine t_zald (pc := 20) dX3_render_20 hR rfl (by decide) rfl (by decide) (by show _ < 4; omega) ?_
  rw [(hm.2.2.1 k n f g T hT).1.1]
  refine g_if_eqN (pc := 21) (tgt := 32) dX3_render_21 rfl (by omega) (fun q_ => absurd q_ (by omega)) (fun _ => ?_)
  refine g_aload_n (pc := 24) dX3_render_24 rfl rfl ?_
  refine g_iload_n (pc := 25) dX3_render_25 rfl rfl ?_
  refine t_inv (pc := 26) dX3_render_26 hR (tc_no _ (nI x) (by rw [hD.1]; omega)) meX3_no q1988 q1990 qs19 rfl rfl (Nat.le_of_ble_eq_true rfl) (fun r τ1 h hp hR => ?_)
  obtain ⟨e0, hp⟩ := hp
  rw [e0] at hR
  rw [hD.1] at hp
  rcases hp with ⟨h1, rfl⟩ | ⟨a, ha', _, rfl⟩
  · exact absurd ⟨by rw [nI_toInt (by omega)]; omega, by rw [nI_toInt (by omega)]; omega⟩ h1
  · refine g_if_eqN (pc := 29) (tgt := 38) dX3_render_29 rfl (by omega) (fun _ => ?_) (fun q_ => absurd q_ (by omega))
    refine g_aload_n (pc := 38) dX3_render_38 rfl rfl ?_
    refine g_iconst (pc := 39) (v := nI 0) dX3_render_39 rfl ?_
    refine t_put (pc := 40) 5 dX3_render_40 hR rfl q1804 (Nat.le_of_ble_eq_true rfl) rfl rfl (by decide) rfl rfl (fun h hR => ?_)
    refine g_aload_n (pc := 43) dX3_render_43 rfl rfl ?_
    refine g_iconst (pc := 44) (v := nI 0) dX3_render_44 rfl ?_
    refine t_put (pc := 45) 37 dX3_render_45 hR rfl q1836 (Nat.le_of_ble_eq_true rfl) rfl rfl (by decide) rfl rfl (fun h hR => ?_)
    refine g_aload_n (pc := 48) dX3_render_48 rfl rfl ?_
    refine g_iconst (pc := 49) (v := nI 1) dX3_render_49 rfl ?_
    refine t_put (pc := 50) 36 dX3_render_50 hR rfl q1835 (Nat.le_of_ble_eq_true rfl) rfl rfl (by decide) rfl rfl (fun h hR => ?_)
    refine g_aload_n (pc := 53) dX3_render_53 rfl rfl ?_
    refine g_iconst (pc := 54) (v := nI 0) dX3_render_54 rfl ?_
    refine t_put (pc := 55) 34 dX3_render_55 hR rfl q1833 (Nat.le_of_ble_eq_true rfl) rfl rfl (by decide) rfl rfl (fun h hR => ?_)
    refine g_aload_n (pc := 58) dX3_render_58 rfl rfl ?_
    refine g_iconst (pc := 59) (v := nI 0) dX3_render_59 rfl ?_
    refine t_put (pc := 60) 38 dX3_render_60 hR rfl q1837 (Nat.le_of_ble_eq_true rfl) rfl rfl (by decide) rfl rfl (fun h hR => ?_)
    refine g_aload_n (pc := 63) dX3_render_63 rfl rfl ?_
    refine g_iconst (pc := 64) (v := nI 3) dX3_render_64 rfl ?_
    refine g_iload_n (pc := 65) dX3_render_65 rfl rfl ?_
    have g1 : gK τ (tFN (tFN (tFN (tFN (tFN τ 5 0) 37 0) 36 1) 34 0) 38 0) := (((((gK.refl τ).fn (by decide)).fn (by decide)).fn (by decide)).fn (by decide)).fn (by decide)
    have f5 : (tFN (tFN (tFN (tFN (tFN τ 5 0) 37 0) 36 1) 34 0) 38 0).1 5 = 0 := by rw [rFN_n (by decide), rFN_n (by decide), rFN_n (by decide), rFN_n (by decide), rFN_s]
    have f37 : (tFN (tFN (tFN (tFN (tFN τ 5 0) 37 0) 36 1) 34 0) 38 0).1 37 = 0 := by rw [rFN_n (by decide), rFN_n (by decide), rFN_n (by decide), rFN_s]
    have f36 : (tFN (tFN (tFN (tFN (tFN τ 5 0) 37 0) 36 1) 34 0) 38 0).1 36 = 1 := by rw [rFN_n (by decide), rFN_n (by decide), rFN_s]
    have f34 : (tFN (tFN (tFN (tFN (tFN τ 5 0) 37 0) 36 1) 34 0) 38 0).1 34 = 0 := by rw [rFN_n (by decide), rFN_s]
    have f38 : (tFN (tFN (tFN (tFN (tFN τ 5 0) 37 0) 36 1) 34 0) 38 0).1 38 = 0 := rFN_s
    generalize tFN (tFN (tFN (tFN (tFN τ 5 0) 37 0) 36 1) 34 0) 38 0 = τ1 at hR g1 f5 f37 f36 f34 f38
    refine t_inv (pc := 66) dX3_render_66 hR (tc_load _ 3 x D (by decide) (hD.gK g1) hx) meX3_load q2104 q2106 qs38 rfl rfl (Nat.le_of_ble_eq_true rfl) (fun r τ2 h hp hR => ?_)
    obtain ⟨rfl, c1, c2, c3⟩ := hp
    have hr2 : rnR Tm D k τ2 (k, 0, [], [aVof D x], [], 0) τ2 := rnR.mk ((hm.gK g1).gK c2.gK) hT ⟨trivial, by rw [c1]; exact f37, by decide⟩ ⟨⟨c3, trivial⟩, by rw [c1]; exact f36, Nat.le_of_ble_eq_true rfl⟩ ((hD.gK g1).gK c2.gK) ha (Nat.zero_le _) rfl ⟨by rw [c1]; exact f34, by decide, fun i hi => absurd hi (Nat.not_lt_zero _)⟩ (by rw [c1]; exact f5) (by decide) (by rw [c1]; exact f38) (gK.refl τ2)
    refine g_aload_n (pc := 69) dX3_render_69 rfl rfl ?_
    refine g_iload_n (pc := 70) dX3_render_70 rfl rfl ?_
    refine t_inv (pc := 71) dX3_render_71 hR (tc_go _ k hk Tm D _ res N hN hres hr2 ⟨rfl, rfl⟩) meX3_go q2112 q2114 qs40 rfl rfl (Nat.le_of_ble_eq_true rfl) (fun r τ3 h hp hR => ?_)
    obtain ⟨rfl, g3, hp⟩ := hp
    have g03 : gK τ τ3 := (g1.trans c2.gK).trans g3
    cases res with
    | inl e =>
      have hp : τ3.1 38 = e := hp
      obtain ⟨e1, e2⟩ := hres e rfl
      refine g_aload_n (pc := 74) dX3_render_74 rfl rfl ?_
      refine t_get (pc := 75) (v := .int (nI _)) 38 dX3_render_75 hR rfl q1837 (Nat.le_of_ble_eq_true rfl) rfl rfl ?_
      rw [hp]
      refine g_if_eqN (pc := 78) (tgt := 90) dX3_render_78 rfl (by omega) (fun q_ => absurd q_ (by omega)) (fun _ => ?_)
      refine g_aload_n (pc := 81) dX3_render_81 rfl rfl ?_
      refine g_aload_n (pc := 82) dX3_render_82 rfl rfl ?_
      refine t_get (pc := 83) (v := .int (nI _)) 38 dX3_render_83 hR rfl q1837 (Nat.le_of_ble_eq_true rfl) rfl rfl ?_
      rw [hp]
      refine t_invE (pc := 86) dX3_render_86 hR (tc_refuse _ e) meX3_refuse q1956 q1958 qs16 rfl rfl (Nat.le_of_ble_eq_true rfl) (fun h hR => ?_)
      refine t_iret (pc := 89) dX3_render_89 hR rfl ⟨(g03.hk.fn (by decide)).fn (by decide), ⟨_, rfl⟩, ?_, ?_, ?_, ?_, fun i => ?_⟩
      · rw [rFN_n (by decide), rFN_s]
      · rw [rFN_s, g03.1 1 (by decide) (by decide) (by decide) (by decide) (by decide) (by decide) (by decide)]
      · rw [rFN_n (by decide), rFN_n (by decide)]; exact g03.1 6 (by decide) (by decide) (by decide) (by decide) (by decide) (by decide) (by decide)
      · rw [rFN_n (by decide), rFN_n (by decide)]; exact g03.1 35 (by decide) (by decide) (by decide) (by decide) (by decide) (by decide) (by decide)
      · exact (g03.2.2.2 32 i (Or.inr rfl)).1
    | inr y =>
      obtain ⟨out, seen⟩ := y
      obtain ⟨p1, p2, p3, p4⟩ : τ3.1 38 = 0 ∧ outL τ3 out ∧ τ3.1 5 = seen ∧ seen ≤ 600 := hp
      have hol := p2.2.1
      refine g_aload_n (pc := 74) dX3_render_74 rfl rfl ?_
      refine t_get (pc := 75) (v := .int (nI _)) 38 dX3_render_75 hR rfl q1837 (Nat.le_of_ble_eq_true rfl) rfl rfl ?_
      rw [p1]
      refine g_if_eqN (pc := 78) (tgt := 90) dX3_render_78 rfl (by omega) (fun _ => ?_) (fun q_ => absurd q_ (by omega))
      refine g_aload_n (pc := 90) dX3_render_90 rfl rfl ?_
      refine g_aload_n (pc := 91) dX3_render_91 rfl rfl ?_
      refine t_get (pc := 92) (v := .int (nI _)) 34 dX3_render_92 hR rfl q1833 (Nat.le_of_ble_eq_true rfl) rfl rfl ?_
      rw [p2.1]
      refine t_put (pc := 95) 35 dX3_render_95 hR rfl q1834 (Nat.le_of_ble_eq_true rfl) rfl rfl (by decide) rfl rfl (fun h hR => ?_)
      refine g_iconst (pc := 98) (v := nI 0) dX3_render_98 rfl ?_
      refine g_istore_n (pc := 99) (ls' := [(0, _), (1, _), (2, _), (3, _)]) dX3_render_99 rfl (Nat.le_of_ble_eq_true rfl) rfl ?_
      have loop : ∀ (j i : Nat) (τc : tT), i + j = out.length → hK τ τc → τc.1 1 = τ.1 1 → τc.1 5 = seen → τc.1 35 = out.length → outL τc out → (∀ i', i' < i → τc.2.2.1 32 i' = out.getD i' 0) → ∀ h, tH o τc hin h → hG Z X mX3_render (d + 10) tS hin (tK o hin (rdQ τ (.inr (out, seen)))) 100 [(0, .ref o), (1, .int (nI k)), (2, .int (nI x)), (3, .int (nI i))] [] h := by
        intro j
        induction j with
        | zero =>
          intro i τc hi a1 a2 a3 a4 a5 a6 h hR
          refine g_iload_n (pc := 100) dX3_render_100 rfl rfl ?_
          refine g_aload_n (pc := 101) dX3_render_101 rfl rfl ?_
          refine t_get (pc := 102) (v := .int (nI _)) 34 dX3_render_102 hR rfl q1833 (Nat.le_of_ble_eq_true rfl) rfl rfl ?_
          rw [a5.1]
          refine g_icmp_geN (pc := 105) (tgt := 126) dX3_render_105 rfl (by omega) (by omega) (fun q => ?_) (fun q => ?_)
          · refine g_aload_n (pc := 126) dX3_render_126 rfl rfl ?_
            refine g_aload_n (pc := 127) dX3_render_127 rfl rfl ?_
            refine t_get (pc := 128) (v := .int (nI _)) 5 dX3_render_128 hR rfl q1804 (Nat.le_of_ble_eq_true rfl) rfl rfl ?_
            rw [a3]
            refine t_put (pc := 131) 6 dX3_render_131 hR rfl q1805 (Nat.le_of_ble_eq_true rfl) rfl rfl (by decide) rfl rfl (fun h hR => ?_)
            refine g_aload_n (pc := 134) dX3_render_134 rfl rfl ?_
            refine g_aload_n (pc := 135) dX3_render_135 rfl rfl ?_
            refine t_get (pc := 136) (v := .int (nI _)) 35 dX3_render_136 hR rfl q1834 (Nat.le_of_ble_eq_true rfl) rfl rfl ?_
            rw [show (tFN τc 6 seen).1 35 = out.length from (rFN_n (by decide)).trans a4]
            refine t_invE (pc := 139) dX3_render_139 hR (tc_fine _ _) meX3_fine q1960 q1962 qs17 rfl rfl (Nat.le_of_ble_eq_true rfl) (fun h hR => ?_)
            refine t_iret (pc := 142) dX3_render_142 hR rfl ⟨(a1.fn (by decide)).fn (by decide), rfl, rFN_s, ?_, ?_, ?_, hol, fun i' hi' => a6 i' (by omega)⟩
            · rw [rFN_n (by decide), rFN_n (by decide)]; exact a2
            · rw [rFN_n (by decide), rFN_s]
            · rw [rFN_n (by decide), rFN_n (by decide)]; exact a4
          · exact absurd q (by omega)
        | succ j ih =>
          intro i τc hi a1 a2 a3 a4 a5 a6 h hR
          refine g_iload_n (pc := 100) dX3_render_100 rfl rfl ?_
          refine g_aload_n (pc := 101) dX3_render_101 rfl rfl ?_
          refine t_get (pc := 102) (v := .int (nI _)) 34 dX3_render_102 hR rfl q1833 (Nat.le_of_ble_eq_true rfl) rfl rfl ?_
          rw [a5.1]
          refine g_icmp_geN (pc := 105) (tgt := 126) dX3_render_105 rfl (by omega) (by omega) (fun q => ?_) (fun q => ?_)
          · exact absurd q (by omega)
          · refine g_aload_n (pc := 108) dX3_render_108 rfl rfl ?_
            refine t_get (pc := 109) (v := .ref (tAd _ 32)) 32 dX3_render_109 hR rfl q1831 (Nat.le_of_ble_eq_true rfl) rfl rfl ?_
            refine g_iload_n (pc := 112) dX3_render_112 rfl rfl ?_
            refine g_aload_n (pc := 113) dX3_render_113 rfl rfl ?_
            refine t_get (pc := 114) (v := .ref (tAd _ 31)) 31 dX3_render_114 hR rfl q1830 (Nat.le_of_ble_eq_true rfl) rfl rfl ?_
            refine g_iload_n (pc := 117) dX3_render_117 rfl rfl ?_
            refine t_cald (pc := 118) dX3_render_118 hR rfl (by decide) rfl (by decide) (by show _ < 400; omega) ?_
            have hci := (a5.2.2 i (by omega)).2
            rw [(a5.2.2 i (by omega)).1]
            refine t_cast (pc := 119) dX3_render_119 hR rfl (by decide) rfl (by decide) (by show _ < 400; omega) (by omega) (fun h hR => ?_)
            refine g_iincN (pc := 120) (k0 := 1) (ls' := [(0, _), (1, _), (2, _), (3, _)]) dX3_render_120 rfl (Nat.le_of_ble_eq_true rfl) rfl ?_
            refine g_goto (pc := 123) (tgt := 100) dX3_render_123 rfl ?_
            refine ih (i + 1) (tAN τc 32 i (out.getD i 0)) (by omega) (a1.an (by decide)) a2 a3 a4 (a5.same (by rfl) (fun i' => by exact congrFun (rAN_k (τ := τc) (by decide)) i')) (fun i' hi' => ?_) h hR
            by_cases e : i' = i
            · rw [e]; exact rAN_s
            · rw [rAN_i e]; exact a6 i' (by omega)
      exact loop out.length 0 (tFN τ3 35 out.length) (by omega) (g03.hk.fn (by decide)) ((rFN_n (by decide)).trans (g03.1 1 (by decide) (by decide) (by decide) (by decide) (by decide) (by decide) (by decide))) ((rFN_n (by decide)).trans p3) rFN_s (p2.same (rFN_n (by decide)) (fun _ => by rfl)) (fun i' hi' => absurd hi' (Nat.not_lt_zero _)) h hR
theorem tc_size (d : Nat) (x : Int32) (D : aD) (hD : tD τ D) (ha : acy D) : tC Z mX3_size (d + 5) o [.ref o, .int x] τ (fun r τ' => (¬ inR D x ∧ (∃ z, r = some (.int z)) ∧ τ' = tRf τ 1) ∨ ∃ a, a < D.1 ∧ x = nI a ∧ r = some (.int (nI (lnV D (aVof D a)))) ∧ hK τ τ' ∧ τ'.1 0 = 0 ∧ τ'.1 1 = τ.1 1 ∧ τ'.1 6 = τ.1 6 ∧ τ'.1 35 = τ.1 35 ∧ ∀ i, τ'.2.2.1 32 i = τ.2.2.1 32 i) := by
  refine tC.of rfl rfl (Nat.le_of_ble_eq_true rfl) rfl (fun X hin h hR => ?_)
  have hD60 := hD.2.1
  refine g_aload_n (pc := 0) dX3_size_0 rfl rfl ?_
  refine g_iload_n (pc := 1) dX3_size_1 rfl rfl ?_
  refine t_inv (pc := 2) dX3_size_2 hR (tc_no _ x (by rw [hD.1]; omega)) meX3_no q1988 q1990 qs19 rfl rfl (Nat.le_of_ble_eq_true rfl) (fun r τ1 h hp hR => ?_)
  obtain ⟨e0, hp⟩ := hp
  rw [e0] at hR
  rw [hD.1] at hp
  rcases hp with ⟨h1, rfl⟩ | ⟨a, ha', rfl, rfl⟩
  · refine g_if_eqN (pc := 5) (tgt := 14) dX3_size_5 rfl (by omega) (fun q_ => absurd q_ (by omega)) (fun _ => ?_)
    refine g_aload_n (pc := 8) dX3_size_8 rfl rfl ?_
    refine g_iconst (pc := 9) (v := nI 1) dX3_size_9 rfl ?_
    refine t_invE (pc := 10) dX3_size_10 hR (tc_refuse _ 1) meX3_refuse q1956 q1958 qs16 rfl rfl (Nat.le_of_ble_eq_true rfl) (fun h hR => ?_)
    exact t_iret (pc := 13) dX3_size_13 hR rfl (Or.inl ⟨h1, ⟨_, rfl⟩, rfl⟩)
  · refine g_if_eqN (pc := 5) (tgt := 14) dX3_size_5 rfl (by omega) (fun _ => ?_) (fun q_ => absurd q_ (by omega))
    refine g_aload_n (pc := 14) dX3_size_14 rfl rfl ?_
    refine g_iconst (pc := 15) (v := nI 0) dX3_size_15 rfl ?_
    refine g_iload_n (pc := 16) dX3_size_16 rfl rfl ?_
    refine t_inv (pc := 17) dX3_size_17 hR (tc_load _ 0 a D (by decide) hD ha') meX3_load q2104 q2106 qs38 rfl rfl (Nat.le_of_ble_eq_true rfl) (fun r τ2 h hp hR => ?_)
    obtain ⟨rfl, c1, c2, c3⟩ := hp
    refine g_aload_n (pc := 20) dX3_size_20 rfl rfl ?_
    refine g_aload_n (pc := 21) dX3_size_21 rfl rfl ?_
    refine g_iconst (pc := 22) (v := nI 0) dX3_size_22 rfl ?_
    refine t_inv (pc := 23) dX3_size_23 hR (tc_lengthOf _ 0 D _ (by decide) (hD.keep c2) ha c3) meX3_lengthOf q2207 q2209 qs63 rfl rfl (Nat.le_of_ble_eq_true rfl) (fun r τ3 h hp hR => ?_)
    obtain ⟨rfl, g1, g2⟩ := hp
    have g03 : gK τ τ3 := c2.gK.trans g1.gK
    refine t_invE (pc := 26) dX3_size_26 hR (tc_fine _ _) meX3_fine q1960 q1962 qs17 rfl rfl (Nat.le_of_ble_eq_true rfl) (fun h hR => ?_)
    refine t_iret (pc := 29) dX3_size_29 hR rfl (Or.inr ⟨a, ha', rfl, rfl, g03.hk.fn (by decide), rFN_s, ?_, ?_, ?_, fun i => (g03.2.2.2 32 i (Or.inr rfl)).1⟩)
    · rw [rFN_n (by decide)]; exact g03.1 1 (by decide) (by decide) (by decide) (by decide) (by decide) (by decide) (by decide)
    · rw [rFN_n (by decide)]; exact g03.1 6 (by decide) (by decide) (by decide) (by decide) (by decide) (by decide) (by decide)
    · rw [rFN_n (by decide)]; exact g03.1 35 (by decide) (by decide) (by decide) (by decide) (by decide) (by decide) (by decide)
end TW28
