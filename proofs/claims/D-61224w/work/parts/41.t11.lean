/-! TWIN 11: data and registers -/
set_option maxRecDepth 100000
/-- item x of the twin's data -/
def tX (τ : tT) (x : Nat) : aX → Prop
  | .inl v => τ.2.2.1 8 x = 0 ∧ τ.2.2.2.1 9 x = v
  | .inr (.inl l) => τ.2.2.1 8 x = 1 ∧ τ.2.2.2.1 9 x = nI l.length ∧ l.length ≤ 200 ∧ (∀ c ∈ l, c < 128) ∧ (∀ q, q < 50 → τ.2.2.1 10 (50 * x + q) < 2 ^ 31) ∧ ∀ i, i < l.length → ltW (τ.2.2.1 10) (50 * x) i = l.getD i 0
  | .inr (.inr (m, ps)) => τ.2.2.1 8 x = (if m then 3 else 2) ∧ τ.2.2.2.1 9 x = nI ps.length ∧ ps.length ≤ 10 ∧ (∀ i, i < ps.length → τ.2.2.1 11 (10 * x + i) = (ps.getD i ([], 0)).2) ∧ (m = true → ∀ i, i < ps.length → τ.2.2.2.2 (10 * x + i) = lN (encN (ps.getD i ([], 0)).1) ∧ nmOK (ps.getD i ([], 0)).1)
def tD (τ : tT) (D : aD) : Prop := τ.1 4 = D.1 ∧ D.1 ≤ 60 ∧ ∀ x, x < D.1 → tX τ x (D.2 x) ∧ ∀ q ∈ aPs (D.2 x), q.2 < D.1
/-- register r holds v -/
def vR (D : aD) (τ : tT) (r : Nat) : aV → Prop
  | none => τ.2.2.2.1 26 r = -1
  | some (.inl v) => τ.2.2.2.1 26 r = nI 0 ∧ τ.2.2.2.1 27 r = v
  | some (.inr (.inl l)) => τ.2.2.2.1 26 r = nI 1 ∧ τ.2.2.1 28 r = l.length ∧ l.length ≤ 400 ∧ (∀ c ∈ l, c < 128) ∧ ∀ i, i < l.length → τ.2.2.1 29 (400 * r + i) = l.getD i 0
  | some (.inr (.inr x)) => x < D.1 ∧ τ.2.2.2.1 27 r = nI x ∧ ∃ m ps, D.2 x = .inr (.inr (m, ps)) ∧ τ.2.2.2.1 26 r = nI (if m then 3 else 2)
/-- what is kept while values are worked out: all but the registers of R, and raw -/
def vKp (R : Nat → Prop) (k i : Nat) : Prop := (k < 26 ∨ k = 31 ∨ k = 32 ∨ (39 < k ∧ k ≠ 44 ∧ k ≠ 45)) ∨ ((k = 26 ∨ k = 27 ∨ k = 28) ∧ ¬ R i) ∨ (k = 29 ∧ ¬ R (i / 400))
def vK (R : Nat → Prop) (τ τ' : tT) : Prop := (∀ k, k ≠ 33 → k ≠ 38 → k ≠ 39 → τ'.1 k = τ.1 k) ∧ τ'.2.1 = τ.2.1 ∧ τ'.2.2.2.2 = τ.2.2.2.2 ∧ ∀ k i, vKp R k i → τ'.2.2.1 k i = τ.2.2.1 k i ∧ τ'.2.2.2.1 k i = τ.2.2.2.1 k i
theorem vK.refl (R : Nat → Prop) (τ : tT) : vK R τ τ := ⟨fun _ _ _ _ => rfl, rfl, rfl, fun _ _ _ => ⟨rfl, rfl⟩⟩
theorem vK.trans {R : Nat → Prop} {a b c : tT} (h1 : vK R a b) (h2 : vK R b c) : vK R a c :=
  ⟨fun k x y z => (h2.1 k x y z).trans (h1.1 k x y z), h2.2.1.trans h1.2.1, h2.2.2.1.trans h1.2.2.1, fun k i q => ⟨(h2.2.2.2 k i q).1.trans (h1.2.2.2 k i q).1, (h2.2.2.2 k i q).2.trans (h1.2.2.2 k i q).2⟩⟩
theorem vK.mono {R R' : Nat → Prop} {a b : tT} (h : vK R a b) (hr : ∀ i, R i → R' i) : vK R' a b :=
  ⟨h.1, h.2.1, h.2.2.1, fun k i q => h.2.2.2 k i (by
    rcases q with q | ⟨q, n⟩ | ⟨q, n⟩
    · exact Or.inl q
    · exact Or.inr (Or.inl ⟨q, fun z => n (hr _ z)⟩)
    · exact Or.inr (Or.inr ⟨q, fun z => n (hr _ z)⟩))⟩
theorem vK.an {R : Nat → Prop} {a b : tT} {k i v : Nat} (h : vK R a b) (hk : ¬ vKp R k i) : vK R a (tAN b k i v) := by
  refine h.trans ⟨fun _ _ _ _ => rfl, rfl, rfl, fun k' i' q => ⟨?_, rfl⟩⟩
  by_cases e : k' = k
  · subst e
    by_cases e2 : i' = i
    · subst e2; exact absurd q hk
    · exact up2_i e2
  · exact congrFun (up2_k e) i'
theorem vK.ai {R : Nat → Prop} {a b : tT} {k i : Nat} {v : Int32} (h : vK R a b) (hk : ¬ vKp R k i) : vK R a (tAI b k i v) := by
  refine h.trans ⟨fun _ _ _ _ => rfl, rfl, rfl, fun k' i' q => ⟨rfl, ?_⟩⟩
  by_cases e : k' = k
  · subst e
    by_cases e2 : i' = i
    · subst e2; exact absurd q hk
    · exact up2_i e2
  · exact congrFun (up2_k e) i'
theorem vK.fn {R : Nat → Prop} {a b : tT} {k v : Nat} (h : vK R a b) (hk : k = 33 ∨ k = 38 ∨ k = 39) : vK R a (tFN b k v) := by
  refine h.trans ⟨fun j x y z => ?_, rfl, rfl, fun _ _ _ => ⟨rfl, rfl⟩⟩
  exact upN_n (by omega)
theorem vKp_r {R : Nat → Prop} {k i : Nat} (hk : k = 26 ∨ k = 27 ∨ k = 28) (hR : R i) : ¬ vKp R k i := by
  intro q
  rcases q with q | ⟨_, n⟩ | ⟨q, _⟩
  · omega
  · exact n hR
  · omega
theorem vKp_w {R : Nat → Prop} {i : Nat} (hR : R (i / 400)) : ¬ vKp R 29 i := by
  intro q
  rcases q with q | ⟨q, _⟩ | ⟨_, n⟩
  · omega
  · omega
  · exact n hR
theorem vKp_x {R : Nat → Prop} {k i : Nat} (hk : k = 30 ∨ k = 44 ∨ k = 45) : ¬ vKp R k i := by
  intro q
  rcases q with q | ⟨q, _⟩ | ⟨q, _⟩ <;> omega
theorem tX.keep {R : Nat → Prop} {a b : tT} (h : vK R a b) {x : Nat} : ∀ {y : aX}, tX a x y → tX b x y := by
  have g8 := (h.2.2.2 8 x (Or.inl (Or.inl (by decide)))).1
  have g9 := (h.2.2.2 9 x (Or.inl (Or.inl (by decide)))).2
  have g10 : ∀ i, b.2.2.1 10 i = a.2.2.1 10 i := fun i => (h.2.2.2 10 i (Or.inl (Or.inl (by decide)))).1
  have g11 : ∀ i, b.2.2.1 11 i = a.2.2.1 11 i := fun i => (h.2.2.2 11 i (Or.inl (Or.inl (by decide)))).1
  intro y
  rcases y with v | l | ⟨m, ps⟩
  · rintro ⟨p, q⟩; exact ⟨g8.trans p, g9.trans q⟩
  · rintro ⟨p, q, r, s, t, u⟩
    exact ⟨g8.trans p, g9.trans q, r, s, fun j hj => by rw [g10]; exact t j hj, fun i hi => by unfold ltW; rw [g10]; exact u i hi⟩
  · rintro ⟨p, q, r, s, t⟩
    exact ⟨g8.trans p, g9.trans q, r, fun i hi => by rw [g11]; exact s i hi, fun hm i hi => by rw [h.2.2.1]; exact t hm i hi⟩
theorem tD.keep {R : Nat → Prop} {a b : tT} {D : aD} (h : vK R a b) (q : tD a D) : tD b D :=
  ⟨(h.1 4 (by decide) (by decide) (by decide)).trans q.1, q.2.1, fun x hx => ⟨(q.2.2 x hx).1.keep h, (q.2.2 x hx).2⟩⟩
theorem vR.keep {R : Nat → Prop} {a b : tT} {D : aD} (h : vK R a b) {r : Nat} (hr : ¬ R r) : ∀ {v : aV}, vR D a r v → vR D b r v := by
  have g26 := (h.2.2.2 26 r (Or.inr (Or.inl ⟨Or.inl rfl, hr⟩))).2
  have g27 := (h.2.2.2 27 r (Or.inr (Or.inl ⟨Or.inr (Or.inl rfl), hr⟩))).2
  have g28 := (h.2.2.2 28 r (Or.inr (Or.inl ⟨Or.inr (Or.inr rfl), hr⟩))).1
  have g29 : ∀ i, i < 400 → b.2.2.1 29 (400 * r + i) = a.2.2.1 29 (400 * r + i) := fun i hi => (h.2.2.2 29 _ (Or.inr (Or.inr ⟨rfl, by rw [show (400 * r + i) / 400 = r by omega]; exact hr⟩))).1
  intro v
  rcases v with _ | v | l | x
  · intro p; exact g26.trans p
  · rintro ⟨p, q⟩; exact ⟨g26.trans p, g27.trans q⟩
  · rintro ⟨p, q, r, s, t⟩; exact ⟨g26.trans p, g28.trans q, r, s, fun i hi => by rw [g29 i (by omega)]; exact t i hi⟩
  · rintro ⟨p, q, m, ps, s, t⟩; exact ⟨p, g27.trans q, m, ps, s, g26.trans t⟩
section TW11
variable {Z : hE} {o : Nat} {τ : tT}
theorem tc_dataLetter (d x k : Nat) (hx : x < 60) (hk : k < 200) (hw : τ.2.2.1 10 (50 * x + k / 4) < 2 ^ 31) : tC Z mX3_dataLetter d o [.ref o, .int (nI x), .int (nI k)] τ (fun r τ' => r = some (.int (nI (ltW (τ.2.2.1 10) (50 * x) k))) ∧ τ' = τ) := by
  refine tC.of rfl rfl (Nat.le_of_ble_eq_true rfl) rfl (fun X hin h hR => ?_)
  refine g_aload_n (pc := 0) dX3_dataLetter_0 rfl rfl ?_
  refine t_get (pc := 1) (v := .ref (tAd _ 10)) 10 dX3_dataLetter_1 hR rfl q1809 (Nat.le_of_ble_eq_true rfl) rfl rfl ?_
  refine g_iload_n (pc := 4) dX3_dataLetter_4 rfl rfl ?_
  refine g_bipush (pc := 5) (v := nI 50) dX3_dataLetter_5 rfl ?_
  first | refine g_imulN (pc := 7) dX3_dataLetter_7 ?_ | refine g_imul (pc := 7) dX3_dataLetter_7 ?_
  refine g_iload_n (pc := 8) dX3_dataLetter_8 rfl rfl ?_
  refine g_iconst (pc := 9) (v := nI 4) dX3_dataLetter_9 rfl ?_
  refine g_idivN (pc := 10) dX3_dataLetter_10 (by omega) (by omega) (by omega) ?_
  first | refine g_iaddN (pc := 11) dX3_dataLetter_11 ?_ | refine g_iadd (pc := 11) dX3_dataLetter_11 ?_
  rw [Nat.mul_comm x 50]
  refine t_iald (pc := 12) dX3_dataLetter_12 hR rfl (by decide) rfl (by decide) (by show _ < 3000; omega) ?_
  refine g_bipush (pc := 13) (v := nI 8) dX3_dataLetter_13 rfl ?_
  refine g_iload_n (pc := 15) dX3_dataLetter_15 rfl rfl ?_
  refine g_iconst (pc := 16) (v := nI 4) dX3_dataLetter_16 rfl ?_
  refine g_iremN (pc := 17) dX3_dataLetter_17 (by omega) (by omega) (by omega) ?_
  first | refine g_imulN (pc := 18) dX3_dataLetter_18 ?_ | refine g_imul (pc := 18) dX3_dataLetter_18 ?_
  refine g_ishr (pc := 19) dX3_dataLetter_19 ?_
  refine g_sipush (pc := 20) (v := nI 255) dX3_dataLetter_20 rfl ?_
  refine g_iand (pc := 23) dX3_dataLetter_23 ?_
  rw [pk_let _ _ (Nat.mod_lt _ (by decide)) hw]
  exact t_iret (pc := 24) dX3_dataLetter_24 hR rfl (⟨rfl, rfl⟩)
theorem tc_load (d r x : Nat) (D : aD) (hr : r < 18) (hD : tD τ D) (hx : x < D.1) : tC Z mX3_load (d + 1) o [.ref o, .int (nI r), .int (nI x)] τ (fun u τ' => u = none ∧ τ'.1 = τ.1 ∧ vK (fun i => i = r) τ τ' ∧ vR D τ' r (aVof D x)) := by
  refine tC.of rfl rfl (Nat.le_of_ble_eq_true rfl) rfl (fun X hin h hR => ?_)
  have hD2 := hD.2.1
  have hit := (hD.2.2 x hx).1
  unfold aVof
  cases hi : D.2 x with
  | inl v =>
    rw [hi] at hit
    obtain ⟨k8, k9⟩ := hit
    refine g_aload_n (pc := 0) dX3_load_0 rfl rfl ?_
    refine t_get (pc := 1) (v := .ref (tAd _ 26)) 26 dX3_load_1 hR rfl q1825 (Nat.le_of_ble_eq_true rfl) rfl rfl ?_
    refine g_iload_n (pc := 4) dX3_load_4 rfl rfl ?_
    refine g_aload_n (pc := 5) dX3_load_5 rfl rfl ?_
    refine t_get (pc := 6) (v := .ref (tAd _ 8)) 8 dX3_load_6 hR rfl q1807 (Nat.le_of_ble_eq_true rfl) rfl rfl ?_
    refine g_iload_n (pc := 9) dX3_load_9 rfl rfl ?_
    refine t_iald (pc := 10) dX3_load_10 hR rfl (by decide) rfl (by decide) (by show _ < 60; omega) ?_
    rw [k8]
    refine t_iastI (pc := 11) dX3_load_11 hR rfl (by decide) rfl (by decide) (by show _ < 18; omega) (fun h hR => ?_)
    refine g_aload_n (pc := 12) dX3_load_12 rfl rfl ?_
    refine t_get (pc := 13) (v := .ref (tAd _ 27)) 27 dX3_load_13 hR rfl q1826 (Nat.le_of_ble_eq_true rfl) rfl rfl ?_
    refine g_iload_n (pc := 16) dX3_load_16 rfl rfl ?_
    refine g_aload_n (pc := 17) dX3_load_17 rfl rfl ?_
    refine t_get (pc := 18) (v := .ref (tAd _ 8)) 8 dX3_load_18 hR rfl q1807 (Nat.le_of_ble_eq_true rfl) rfl rfl ?_
    refine g_iload_n (pc := 21) dX3_load_21 rfl rfl ?_
    refine t_iald (pc := 22) dX3_load_22 hR rfl (by decide) rfl (by decide) (by show _ < 60; omega) ?_
    rw [show (tAI τ 26 r (nI 0)).2.2.1 8 x = 0 from k8]
    refine g_if_neN (pc := 23) (tgt := 35) dX3_load_23 rfl (by omega) (fun q => ?_) (fun q => ?_)
    · exact absurd q (by decide)
    · refine g_aload_n (pc := 26) dX3_load_26 rfl rfl ?_
      refine t_get (pc := 27) (v := .ref (tAd _ 9)) 9 dX3_load_27 hR rfl q1808 (Nat.le_of_ble_eq_true rfl) rfl rfl ?_
      refine g_iload_n (pc := 30) dX3_load_30 rfl rfl ?_
      refine t_ialdI (pc := 31) dX3_load_31 hR rfl (by decide) rfl (by decide) (by show _ < 60; omega) ?_
      refine g_goto (pc := 32) (tgt := 36) dX3_load_32 rfl ?_
      refine t_iastI (pc := 36) dX3_load_36 hR rfl (by decide) rfl (by decide) (by show _ < 18; omega) (fun h hR => ?_)
      refine g_aload_n (pc := 37) dX3_load_37 rfl rfl ?_
      refine t_get (pc := 38) (v := .ref (tAd _ 8)) 8 dX3_load_38 hR rfl q1807 (Nat.le_of_ble_eq_true rfl) rfl rfl ?_
      refine g_iload_n (pc := 41) dX3_load_41 rfl rfl ?_
      refine t_iald (pc := 42) dX3_load_42 hR rfl (by decide) rfl (by decide) (by show _ < 60; omega) ?_
      rw [show (tAI (tAI τ 26 r (nI 0)) 27 r ((tAI τ 26 r (nI 0)).2.2.2.1 9 x)).2.2.1 8 x = 0 from k8]
      refine g_iconst (pc := 43) (v := nI 1) dX3_load_43 rfl ?_
      refine g_icmp_eqN (pc := 44) (tgt := 48) dX3_load_44 rfl (by omega) (by omega) (fun q => ?_) (fun q => ?_)
      · exact absurd q (by decide)
      · refine t_vret (pc := 47) dX3_load_47 hR rfl ⟨rfl, rfl, ((vK.refl (fun i => i = r) τ).ai (vKp_r (Or.inl rfl) rfl)).ai (vKp_r (Or.inr (Or.inl rfl)) rfl), ?_⟩
        refine ⟨?_, ?_⟩ <;> simp [tAI, up2, k9]
  | inr y =>
    cases y with
    | inl l =>
      rw [hi] at hit
      obtain ⟨k8, k9, kl, kc, kw, kt⟩ := hit
      refine g_aload_n (pc := 0) dX3_load_0 rfl rfl ?_
      refine t_get (pc := 1) (v := .ref (tAd _ 26)) 26 dX3_load_1 hR rfl q1825 (Nat.le_of_ble_eq_true rfl) rfl rfl ?_
      refine g_iload_n (pc := 4) dX3_load_4 rfl rfl ?_
      refine g_aload_n (pc := 5) dX3_load_5 rfl rfl ?_
      refine t_get (pc := 6) (v := .ref (tAd _ 8)) 8 dX3_load_6 hR rfl q1807 (Nat.le_of_ble_eq_true rfl) rfl rfl ?_
      refine g_iload_n (pc := 9) dX3_load_9 rfl rfl ?_
      refine t_iald (pc := 10) dX3_load_10 hR rfl (by decide) rfl (by decide) (by show _ < 60; omega) ?_
      rw [k8]
      refine t_iastI (pc := 11) dX3_load_11 hR rfl (by decide) rfl (by decide) (by show _ < 18; omega) (fun h hR => ?_)
      refine g_aload_n (pc := 12) dX3_load_12 rfl rfl ?_
      refine t_get (pc := 13) (v := .ref (tAd _ 27)) 27 dX3_load_13 hR rfl q1826 (Nat.le_of_ble_eq_true rfl) rfl rfl ?_
      refine g_iload_n (pc := 16) dX3_load_16 rfl rfl ?_
      refine g_aload_n (pc := 17) dX3_load_17 rfl rfl ?_
      refine t_get (pc := 18) (v := .ref (tAd _ 8)) 8 dX3_load_18 hR rfl q1807 (Nat.le_of_ble_eq_true rfl) rfl rfl ?_
      refine g_iload_n (pc := 21) dX3_load_21 rfl rfl ?_
      refine t_iald (pc := 22) dX3_load_22 hR rfl (by decide) rfl (by decide) (by show _ < 60; omega) ?_
      rw [show (tAI τ 26 r (nI 1)).2.2.1 8 x = 1 from k8]
      refine g_if_neN (pc := 23) (tgt := 35) dX3_load_23 rfl (by omega) (fun q => ?_) (fun q => ?_)
      · refine g_iload_n (pc := 35) dX3_load_35 rfl rfl ?_
        refine t_iastI (pc := 36) dX3_load_36 hR rfl (by decide) rfl (by decide) (by show _ < 18; omega) (fun h hR => ?_)
        refine g_aload_n (pc := 37) dX3_load_37 rfl rfl ?_
        refine t_get (pc := 38) (v := .ref (tAd _ 8)) 8 dX3_load_38 hR rfl q1807 (Nat.le_of_ble_eq_true rfl) rfl rfl ?_
        refine g_iload_n (pc := 41) dX3_load_41 rfl rfl ?_
        refine t_iald (pc := 42) dX3_load_42 hR rfl (by decide) rfl (by decide) (by show _ < 60; omega) ?_
        rw [show (tAI (tAI τ 26 r (nI 1)) 27 r (nI x)).2.2.1 8 x = 1 from k8]
        refine g_iconst (pc := 43) (v := nI 1) dX3_load_43 rfl ?_
        refine g_icmp_eqN (pc := 44) (tgt := 48) dX3_load_44 rfl (by omega) (by omega) (fun q => ?_) (fun q => ?_)
        · refine g_aload_n (pc := 48) dX3_load_48 rfl rfl ?_
          refine t_get (pc := 49) (v := .ref (tAd _ 28)) 28 dX3_load_49 hR rfl q1827 (Nat.le_of_ble_eq_true rfl) rfl rfl ?_
          refine g_iload_n (pc := 52) dX3_load_52 rfl rfl ?_
          refine g_aload_n (pc := 53) dX3_load_53 rfl rfl ?_
          refine t_get (pc := 54) (v := .ref (tAd _ 9)) 9 dX3_load_54 hR rfl q1808 (Nat.le_of_ble_eq_true rfl) rfl rfl ?_
          refine g_iload_n (pc := 57) dX3_load_57 rfl rfl ?_
          refine t_ialdI (pc := 58) dX3_load_58 hR rfl (by decide) rfl (by decide) (by show _ < 60; omega) ?_
          rw [show (tAI (tAI τ 26 r (nI 1)) 27 r (nI x)).2.2.2.1 9 x = nI l.length from k9]
          refine t_iast (pc := 59) dX3_load_59 hR rfl (by decide) rfl (by decide) (by show _ < 18; omega) (fun h hR => ?_)
          refine g_iconst (pc := 60) (v := nI 0) dX3_load_60 rfl ?_
          refine g_istore_n (pc := 61) (ls' := [(0, _), (1, _), (2, _), (3, _)]) dX3_load_61 rfl (Nat.le_of_ble_eq_true rfl) rfl ?_
          have loop : ∀ (j k : Nat) (τc : tT), k + j = l.length → τc.1 = τ.1 → vK (fun i => i = r) τ τc → τc.2.2.2.1 26 r = nI 1 → τc.2.2.1 28 r = l.length → (∀ i, i < k → τc.2.2.1 29 (400 * r + i) = l.getD i 0) → ∀ h, tH o τc hin h → hG Z X mX3_load (d + 1) tS hin (tK o hin (fun u τ' => u = none ∧ τ'.1 = τ.1 ∧ vK (fun i => i = r) τ τ' ∧ vR D τ' r (some (.inr (.inl l))))) 62 [(0, .ref o), (1, .int (nI r)), (2, .int (nI x)), (3, .int (nI k))] [] h := by
            intro j
            induction j with
            | zero =>
              intro k τc hk c1 c2 c3 c4 c5 h hR
              refine g_iload_n (pc := 62) dX3_load_62 rfl rfl ?_
              refine g_aload_n (pc := 63) dX3_load_63 rfl rfl ?_
              refine t_get (pc := 64) (v := .ref (tAd _ 28)) 28 dX3_load_64 hR rfl q1827 (Nat.le_of_ble_eq_true rfl) rfl rfl ?_
              refine g_iload_n (pc := 67) dX3_load_67 rfl rfl ?_
              refine t_iald (pc := 68) dX3_load_68 hR rfl (by decide) rfl (by decide) (by show _ < 18; omega) ?_
              rw [c4]
              refine g_icmp_geN (pc := 69) (tgt := 97) dX3_load_69 rfl (by omega) (by omega) (fun q1 => ?_) (fun q1 => ?_)
              · exact t_vret (pc := 97) dX3_load_97 hR rfl (⟨rfl, c1, c2, c3, c4, by omega, kc, fun i hi => c5 i (by omega)⟩)
              · exact absurd q1 (by omega)
            | succ j ih =>
              intro k τc hk c1 c2 c3 c4 c5 h hR
              have hwk : τc.2.2.1 10 = τ.2.2.1 10 := by
                funext i
                exact (c2.2.2.2 10 i (Or.inl (Or.inl (by decide)))).1
              have hlt : ltW (τc.2.2.1 10) (50 * x) k = l.getD k 0 := by rw [hwk]; exact kt k (by omega)
              have hc128 : l.getD k 0 < 128 := by
                rw [List.getD_eq_getElem?_getD, List.getElem?_eq_getElem (by omega)]
                exact kc _ (List.getElem_mem _)
              refine g_iload_n (pc := 62) dX3_load_62 rfl rfl ?_
              refine g_aload_n (pc := 63) dX3_load_63 rfl rfl ?_
              refine t_get (pc := 64) (v := .ref (tAd _ 28)) 28 dX3_load_64 hR rfl q1827 (Nat.le_of_ble_eq_true rfl) rfl rfl ?_
              refine g_iload_n (pc := 67) dX3_load_67 rfl rfl ?_
              refine t_iald (pc := 68) dX3_load_68 hR rfl (by decide) rfl (by decide) (by show _ < 18; omega) ?_
              rw [c4]
              refine g_icmp_geN (pc := 69) (tgt := 97) dX3_load_69 rfl (by omega) (by omega) (fun q1 => ?_) (fun q1 => ?_)
              · exact absurd q1 (by omega)
              · refine g_aload_n (pc := 72) dX3_load_72 rfl rfl ?_
                refine t_get (pc := 73) (v := .ref (tAd _ 29)) 29 dX3_load_73 hR rfl q1828 (Nat.le_of_ble_eq_true rfl) rfl rfl ?_
                refine g_iload_n (pc := 76) dX3_load_76 rfl rfl ?_
                refine g_sipush (pc := 77) (v := nI 400) dX3_load_77 rfl ?_
                first | refine g_imulN (pc := 80) dX3_load_80 ?_ | refine g_imul (pc := 80) dX3_load_80 ?_
                refine g_iload_n (pc := 81) dX3_load_81 rfl rfl ?_
                first | refine g_iaddN (pc := 82) dX3_load_82 ?_ | refine g_iadd (pc := 82) dX3_load_82 ?_
                refine g_aload_n (pc := 83) dX3_load_83 rfl rfl ?_
                refine g_iload_n (pc := 84) dX3_load_84 rfl rfl ?_
                refine g_iload_n (pc := 85) dX3_load_85 rfl rfl ?_
                refine t_invE (pc := 86) dX3_load_86 hR (tc_dataLetter _ x k (by omega) (by omega) (by rw [hwk]; exact kw _ (by omega))) meX3_dataLetter q2108 q2110 qs39 rfl rfl (Nat.le_of_ble_eq_true rfl) (fun h hR => ?_)
                rw [hlt, Nat.mul_comm r 400]
                refine g_i2cN (pc := 89) dX3_load_89 (by omega) ?_
                refine t_cast (pc := 90) dX3_load_90 hR rfl (by decide) rfl (by decide) (by show _ < 7200; omega) (by omega) (fun h hR => ?_)
                refine g_iincN (pc := 91) (k0 := 1) (ls' := [(0, _), (1, _), (2, _), (3, _)]) dX3_load_91 rfl (Nat.le_of_ble_eq_true rfl) rfl ?_
                refine g_goto (pc := 94) (tgt := 62) dX3_load_94 rfl ?_
                refine ih (k + 1) (tAN τc 29 (400 * r + k) (l.getD k 0)) (by omega) c1 (c2.an (vKp_w (show (400 * r + k) / 400 = r by omega))) c3 c4 (fun i hi => ?_) h hR
                show up2 τc.2.2.1 29 (400 * r + k) _ 29 (400 * r + i) = _
                by_cases e : i = k
                · rw [e, up2_s]
                · rw [up2_i (by omega)]; exact c5 i (by omega)
          refine loop l.length 0 (tAN (tAI (tAI τ 26 r (nI 1)) 27 r (nI x)) 28 r l.length) (by omega) rfl ((((vK.refl (fun i => i = r) τ).ai (vKp_r (Or.inl rfl) rfl)).ai (vKp_r (Or.inr (Or.inl rfl)) rfl)).an (vKp_r (Or.inr (Or.inr rfl)) rfl)) ?_ ?_ (fun i hi => absurd hi (Nat.not_lt_zero _)) h hR
          · simp [tAI, tAN, up2]
          · simp [tAI, tAN, up2]
        · exact absurd rfl q
      · exact absurd q (by decide)
    | inr p =>
      obtain ⟨m, ps⟩ := p
      rw [hi] at hit
      obtain ⟨k8, k9, kl, kp, kn⟩ := hit
      have k8b : τ.2.2.1 8 x < 4 := by rw [k8]; split <;> omega
      have k8c : 2 ≤ τ.2.2.1 8 x := by rw [k8]; split <;> omega
      refine g_aload_n (pc := 0) dX3_load_0 rfl rfl ?_
      refine t_get (pc := 1) (v := .ref (tAd _ 26)) 26 dX3_load_1 hR rfl q1825 (Nat.le_of_ble_eq_true rfl) rfl rfl ?_
      refine g_iload_n (pc := 4) dX3_load_4 rfl rfl ?_
      refine g_aload_n (pc := 5) dX3_load_5 rfl rfl ?_
      refine t_get (pc := 6) (v := .ref (tAd _ 8)) 8 dX3_load_6 hR rfl q1807 (Nat.le_of_ble_eq_true rfl) rfl rfl ?_
      refine g_iload_n (pc := 9) dX3_load_9 rfl rfl ?_
      refine t_iald (pc := 10) dX3_load_10 hR rfl (by decide) rfl (by decide) (by show _ < 60; omega) ?_
      refine t_iastI (pc := 11) dX3_load_11 hR rfl (by decide) rfl (by decide) (by show _ < 18; omega) (fun h hR => ?_)
      refine g_aload_n (pc := 12) dX3_load_12 rfl rfl ?_
      refine t_get (pc := 13) (v := .ref (tAd _ 27)) 27 dX3_load_13 hR rfl q1826 (Nat.le_of_ble_eq_true rfl) rfl rfl ?_
      refine g_iload_n (pc := 16) dX3_load_16 rfl rfl ?_
      refine g_aload_n (pc := 17) dX3_load_17 rfl rfl ?_
      refine t_get (pc := 18) (v := .ref (tAd _ 8)) 8 dX3_load_18 hR rfl q1807 (Nat.le_of_ble_eq_true rfl) rfl rfl ?_
      refine g_iload_n (pc := 21) dX3_load_21 rfl rfl ?_
      refine t_iald (pc := 22) dX3_load_22 hR rfl (by decide) rfl (by decide) (by show _ < 60; omega) ?_
      rw [show (tAI τ 26 r (nI (τ.2.2.1 8 x))).2.2.1 8 x = τ.2.2.1 8 x from rfl]
      refine g_if_neN (pc := 23) (tgt := 35) dX3_load_23 rfl (by omega) (fun q => ?_) (fun q => ?_)
      · refine g_iload_n (pc := 35) dX3_load_35 rfl rfl ?_
        refine t_iastI (pc := 36) dX3_load_36 hR rfl (by decide) rfl (by decide) (by show _ < 18; omega) (fun h hR => ?_)
        refine g_aload_n (pc := 37) dX3_load_37 rfl rfl ?_
        refine t_get (pc := 38) (v := .ref (tAd _ 8)) 8 dX3_load_38 hR rfl q1807 (Nat.le_of_ble_eq_true rfl) rfl rfl ?_
        refine g_iload_n (pc := 41) dX3_load_41 rfl rfl ?_
        refine t_iald (pc := 42) dX3_load_42 hR rfl (by decide) rfl (by decide) (by show _ < 60; omega) ?_
        rw [show (tAI (tAI τ 26 r (nI (τ.2.2.1 8 x))) 27 r (nI x)).2.2.1 8 x = τ.2.2.1 8 x from rfl]
        refine g_iconst (pc := 43) (v := nI 1) dX3_load_43 rfl ?_
        refine g_icmp_eqN (pc := 44) (tgt := 48) dX3_load_44 rfl (by omega) (by omega) (fun q => ?_) (fun q => ?_)
        · exact absurd q (by omega)
        · refine t_vret (pc := 47) dX3_load_47 hR rfl ⟨rfl, rfl, ((vK.refl (fun i => i = r) τ).ai (vKp_r (Or.inl rfl) rfl)).ai (vKp_r (Or.inr (Or.inl rfl)) rfl), ?_⟩
          refine ⟨hx, ?_, m, ps, hi, ?_⟩
          · simp [tAI, up2]
          · show up2 (up2 τ.2.2.2.1 26 r (nI (τ.2.2.1 8 x))) 27 r (nI x) 26 r = _
            rw [up2_k (by decide), up2_s, k8]
      · exact absurd q (by omega)
end TW11
