/-! COMPONENT 11: write -/
set_option maxRecDepth 100000
abbrev wrL : List (Nat × hM) := [(5, mX5_write), (6, mX6_write), (7, mX7_write), (8, mX8_write), (21, mX21_write)]
/-- after a try to write w: written, or too long -/
def coU (h : hP) (γ a cap : Nat) (l w : List Nat) : hO → hP → Prop := fun r h' => (r = .inl none ∧ l.length + w.length ≤ 400 ∧ ∃ cap', cO h' γ a cap' (l ++ w) ∧ jGr h h' cap cap' 400) ∨ (r = .inr ISE ∧ 400 < l.length + w.length ∧ h'.1 + cap ≤ h.1 + 801 ∧ h'.2.1 + 2 * cap ≤ h.2.1 + 1606)
theorem coW.u {h h' : hP} {γ a cap : Nat} {l w : List Nat} {r : hO} (hc : cap ≤ 800) (x : coW h γ a cap l w r h') : coU h γ a cap l w r h' := by
  rcases x with x | ⟨x1, x2, x3⟩
  · exact Or.inl x
  · have e1 := x3.1
    have e2 := x3.2
    exact Or.inr ⟨x1, x2, by omega, by omega⟩
theorem coU.nn {h h' : hP} {γ a cap : Nat} {l w : List Nat} {v : Option Value} (x : coU h γ a cap l w (.inl v) h') : v = none := by
  rcases x with ⟨e, _⟩ | ⟨e, _⟩
  · exact Sum.inl.inj e
  · cases e
/-- one after another -/
theorem coU.seq {h h1 h' : hP} {γ a cap cap1 : Nat} {l w w' W : List Nat} {r : hO} (g : jGr h h1 cap cap1 400) (x : coU h1 γ a cap1 (l ++ w) w' r h') (e : ∃ t, W = w ++ w' ++ t) (hn : ∀ v, r = .inl v → W = w ++ w') : coU h γ a cap l W r h' := by
  obtain ⟨t, e⟩ := e
  obtain ⟨g1, g2, g3, g4⟩ := g
  rcases x with ⟨x1, x2, cap', x3, x4⟩ | ⟨x1, x2, x3, x4⟩
  · have e := hn _ x1
    rw [e]
    rw [List.length_append] at x2
    refine Or.inl ⟨x1, by rw [List.length_append]; omega, cap', by rw [← List.append_assoc]; exact x3, jGr.tr ⟨g1, g2, g3, g4⟩ x4⟩
  · refine Or.inr ⟨x1, ?_, by omega, by omega⟩
    rw [e]
    simp only [List.length_append] at x2 ⊢
    omega
section CW
variable {Z : hE} {h : hP} {γ a b cap : Nat} {l : List Nat}
theorem cw_num (d κ : Nat) (w : Value) (v : Int32) (hk : κ % 100 = 5) (hb : h.2.2 b = some (κ, .inl [w, .int v])) (hs : cO h γ a cap l) (l1 : h.1 + 1 ≤ hLC Z) (l2 : h.2.1 + 822 ≤ hLS) : hCt Z mX5_write (d + 8) (jSS γ) [.ref b, .ref a] h (coU h γ a cap l (decI v)) := by
  refine hCt.of pnX5 rfl (Nat.le_of_ble_eq_true rfl) rfl (fun X => ?_)
  have kb : hCl (κ % 100) = some (RX5, TX5, 2) := by rw [hk]; rfl
  have kc := k02 γ
  have hs0 := hs
  obtain ⟨q1, q2, t, ha, hB⟩ := hs
  refine g_aload_n (pc := 0) dX5_write_0 rfl rfl ?_
  refine g_aload_n (pc := 1) dX5_write_1 rfl rfl ?_
  refine g_get (pc := 2) (r := (RX5, TX5, 2)) 1 dX5_write_2 hb kb (Nat.le_of_ble_eq_true rfl) q619 (Or.inl rfl) rfl ?_
  refine g_invV (pc := 5) dX5_write_5 ha kc (co_addNumber d v hs0 l1 l2) meX2_addNumber q1597 q1598 q1599 rfl rfl (Nat.le_of_ble_eq_true rfl) (by first | exact jF | exact fun _ z => z | assumption | (intro κ z; simp_all)) (fun v h1 hp fr => ?_) (fun E h1 hp fr => ?_)
  · have hp := hp.u q1
    have e := hp.nn
    subst e
    exact g_vret (pc := 8) dX5_write_8 rfl hp
  · exact gx_out (fun x hx => by cases hx) (hp.u q1)
theorem cw_text (d κ s : Nat) (k c : Value) (w : List Nat) (hb : h.2.2 b = some (6, .inl [k, .ref s, c])) (hw : jSt h κ s w) (hwl : w.length ≤ 1000) (hs : cO h γ a cap l) (l1 : h.1 + 1 ≤ hLC Z) (l2 : h.2.1 + 800 ≤ hLS) : hCt Z mX6_write (d + 8) (jSS γ) [.ref b, .ref a] h (coU h γ a cap l w) := by
  refine hCt.of pnX6 rfl (Nat.le_of_ble_eq_true rfl) rfl (fun X => ?_)
  have kc := k02 γ
  have hs0 := hs
  obtain ⟨q1, q2, t, ha, hB⟩ := hs
  refine g_aload_n (pc := 0) dX6_write_0 rfl rfl ?_
  refine g_aload_n (pc := 1) dX6_write_1 rfl rfl ?_
  refine g_get (pc := 2) (r := (RX6, TX6, 3)) 1 dX6_write_2 hb rfl (Nat.le_of_ble_eq_true rfl) q708 (Or.inl rfl) rfl ?_
  refine g_invV (pc := 5) dX6_write_5 ha kc (co_add d κ s w hs0 hw hwl l1 l2) meX2_add q1607 q1583 q1584 rfl rfl (Nat.le_of_ble_eq_true rfl) (by first | exact jF | exact fun _ z => z | assumption | (intro κ z; simp_all)) (fun v h1 hp fr => ?_) (fun E h1 hp fr => ?_)
  · have hp := hp.u q1
    have e := hp.nn
    subst e
    exact g_vret (pc := 8) dX6_write_8 rfl hp
  · exact gx_out (fun x hx => by cases hx) (hp.u q1)
theorem cw_map (d : Nat) (hs : cO h γ a cap l) (l1 : h.1 + 1 ≤ hLC Z) (l2 : h.2.1 + 800 ≤ hLS) : hCt Z mX8_write (d + 8) (jSS γ) [.ref b, .ref a] h (coU h γ a cap l [91, 109, 97, 112, 93]) := by
  refine hCt.of pnX8 rfl (Nat.le_of_ble_eq_true rfl) rfl (fun X => ?_)
  have kc := k02 γ
  have hs0 := hs
  obtain ⟨q1, q2, t, ha, hB⟩ := hs
  refine g_aload_n (pc := 0) dX8_write_0 rfl rfl ?_
  refine g_ldcK (pc := 1) dX8_write_1 ksX8_15 (fun hk => ?_)
  refine g_invV (pc := 3) dX8_write_3 ha kc (co_add d 930 _ _ hs0 hk (by decide) l1 l2) meX2_add q1594 q1583 q1584 rfl rfl (Nat.le_of_ble_eq_true rfl) (by first | exact jF | exact fun _ z => z | assumption | (intro κ z; simp_all)) (fun v h1 hp fr => ?_) (fun E h1 hp fr => ?_)
  · have hp := hp.u q1
    have e := hp.nn
    subst e
    exact g_vret (pc := 6) dX8_write_6 rfl hp
  · exact gx_out (fun x hx => by cases hx) (hp.u q1)
theorem cw_list (D : aD) (DA : Nat → Nat) (d n ar : Nat) (ps : List (List Nat × Nat)) (j : Value) (f : Nat → Value) (hb : h.2.2 b = some (7, .inl [j, .ref ar, .int (nI ps.length)])) (hr : h.2.2 ar = some (68, .inr (10, f))) (h10 : ps.length ≤ 10) (hf : ∀ i, i < ps.length → f i = .ref (DA (ps.getD i ([], 0)).2)) (hs : cO h γ a cap l) (hg : 2 ≤ γ ∧ γ < 9) (l1 : h.1 + 801 ≤ hLC Z + cap) (l2 : h.2.1 + 2500 ≤ hLS + 2 * cap)
    (hel : ∀ i, i < ps.length → ∀ (h1 : hP) (cap1 : Nat) (l1 : List Nat), hFr (jSS γ) h h1 → cO h1 γ a cap1 l1 → h1.1 + 801 ≤ hLC Z + cap1 → h1.2.1 + 2500 ≤ hLS + 2 * cap1 → hDs Z (d + 7) (jSS γ) (DA (ps.getD i ([], 0)).2) [.ref a] h1 (coU h1 γ a cap1 l1 (shX D n (ps.getD i ([], 0)).2)) wrL) : hCt Z mX7_write (d + 8) (jSS γ) [.ref b, .ref a] h (coU h γ a cap l (jnR D n ps 0)) := by
  refine hCt.of pnX7 rfl (Nat.le_of_ble_eq_true rfl) rfl (fun X => ?_)
  have kc := k02 γ
  have loop : ∀ (m i cap1 : Nat) (p : List Nat) (h1 : hP), i + m = ps.length → cO h1 γ a cap1 (l ++ p) → jnR D n ps 0 = p ++ jnR D n ps i → jGr h h1 cap cap1 400 → hFr (jSS γ) h h1 → hG Z X mX7_write (d + 8) (jSS γ) h (coU h γ a cap l (jnR D n ps 0)) 2 [(0, .ref b), (1, .ref a), (2, .int (nI i))] [] h1 := by
    intro m
    induction m with
    | zero =>
      intro i cap1 p h1 hi hO hp hgr hfr
      have hb1 := (hfr.2.2 b _ hb).1 (by rintro (z | z) <;> omega)
      refine g_iload_n (pc := 2) dX7_write_2 rfl rfl ?_
      refine g_aload_n (pc := 3) dX7_write_3 rfl rfl ?_
      refine g_get (pc := 4) (r := (RX7, TX7, 3)) 2 dX7_write_4 hb1 rfl (Nat.le_of_ble_eq_true rfl) q803 (Or.inl rfl) rfl ?_
      refine g_icmp_geN (pc := 7) (tgt := 36) dX7_write_7 rfl (by omega) (by omega) (fun _ => ?_) (fun q_ => absurd q_ (by omega))
      refine g_vret (pc := 36) dX7_write_36 rfl ?_
      rw [jnR_end (i := i) (by omega), List.append_nil] at hp
      rw [hp]
      have h4 := hO.2.1
      rw [List.length_append] at h4
      exact Or.inl ⟨rfl, h4, cap1, hO, hgr⟩
    | succ m ih =>
      intro i cap1 p h1 hi hO hp hgr hfr
      have hil : i < ps.length := by omega
      have hst := jnR_step (D := D) (n := n) hil
      have elem : ∀ (cap2 : Nat) (h2 : hP), cO h2 γ a cap2 (l ++ (p ++ if i = 0 then [] else [44])) → jGr h h2 cap cap2 400 → hFr (jSS γ) h h2 → hG Z X mX7_write (d + 8) (jSS γ) h (coU h γ a cap l (jnR D n ps 0)) 20 [(0, .ref b), (1, .ref a), (2, .int (nI i))] [] h2 := by
        intro cap2 h2 hO2 hgr2 hfr2
        have hb2 := (hfr2.2.2 b _ hb).1 (by rintro (z | z) <;> omega)
        have hr2 := (hfr2.2.2 ar _ hr).1 (by rintro (z | z) <;> omega)
        have hgr3 := hgr2
        obtain ⟨g1, g2, g3, g4⟩ := hgr3
        refine g_aload_n (pc := 20) dX7_write_20 rfl rfl ?_
        refine g_get (pc := 21) (r := (RX7, TX7, 3)) 1 dX7_write_21 hb2 rfl (Nat.le_of_ble_eq_true rfl) q799 (Or.inl rfl) rfl ?_
        refine g_iload_n (pc := 24) dX7_write_24 rfl rfl ?_
        refine g_aald (pc := 25) i dX7_write_25 hr2 rfl rfl (by omega) rfl ?_
        rw [hf i hil]
        refine g_aload_n (pc := 26) dX7_write_26 rfl rfl ?_
        refine dw_X7 (hel i hil h2 cap2 _ hfr2 hO2 (by omega) (by omega)) (Nat.le_of_ble_eq_true rfl) (by first | exact jF | exact fun _ z => z | assumption | (intro κ z; simp_all)) (fun v h3 hp3 fr3 => ?_) (fun E h3 hp3 fr3 => ?_)
        · have e := hp3.nn
          subst e
          rcases hp3 with ⟨_, x2, cap3, x3, x4⟩ | ⟨x1, _⟩
          · refine g_iincN (pc := 30) (k0 := 1) (ls' := [(0, _), (1, _), (2, _)]) dX7_write_30 rfl (Nat.le_of_ble_eq_true rfl) rfl ?_
            refine g_goto (pc := 33) (tgt := 2) dX7_write_33 rfl ?_
            refine ih (i + 1) cap3 (p ++ (if i = 0 then [] else [44]) ++ shX D n (ps.getD i ([], 0)).2) h3 (by omega) (by rw [← List.append_assoc]; exact x3) ?_ (hgr2.tr x4) (hfr2.tr fr3)
            rw [hp, hst]
            simp only [List.append_assoc]
          · cases x1
        · refine gx_out (fun x hx => by cases hx) ?_
          refine coU.seq hgr2 hp3 ⟨jnR D n ps (i + 1), ?_⟩ ?_
          · rw [hp, hst]
            simp only [List.append_assoc]
          · intro v e
            rcases hp3 with ⟨x1, _⟩ | ⟨x1, _⟩
            · cases x1
            · rw [x1] at e; cases e
      have hb1 := (hfr.2.2 b _ hb).1 (by rintro (z | z) <;> omega)
      have hO0 := hO
      obtain ⟨q1, q2, t, ha, hB⟩ := hO0
      refine g_iload_n (pc := 2) dX7_write_2 rfl rfl ?_
      refine g_aload_n (pc := 3) dX7_write_3 rfl rfl ?_
      refine g_get (pc := 4) (r := (RX7, TX7, 3)) 2 dX7_write_4 hb1 rfl (Nat.le_of_ble_eq_true rfl) q803 (Or.inl rfl) rfl ?_
      refine g_icmp_geN (pc := 7) (tgt := 36) dX7_write_7 rfl (by omega) (by omega) (fun q_ => absurd q_ (by omega)) (fun _ => ?_)
      refine g_iload_n (pc := 10) dX7_write_10 rfl rfl ?_
      by_cases hi0 : i = 0
      · refine g_if_leN (pc := 11) (tgt := 20) dX7_write_11 rfl (by omega) (fun _ => ?_) (fun q_ => absurd q_ (by omega))
        refine elem cap1 h1 ?_ hgr hfr
        rw [if_pos hi0, List.append_nil]
        exact hO
      ·
        refine g_if_leN (pc := 11) (tgt := 20) dX7_write_11 rfl (by omega) (fun q_ => absurd q_ (by omega)) (fun _ => ?_)
        have hgr3 := hgr
        obtain ⟨g1, g2, g3, g4⟩ := hgr3
        refine g_aload_n (pc := 14) dX7_write_14 rfl rfl ?_
        refine g_ldcK (pc := 15) dX7_write_15 ksX7_17 (fun hk => ?_)
        refine g_invV (pc := 17) dX7_write_17 ha kc (co_add d 930 _ _ hO hk (by decide) (by omega) (by omega)) meX2_add q1582 q1583 q1584 rfl rfl (Nat.le_of_ble_eq_true rfl) (by first | exact jF | exact fun _ z => z | assumption | (intro κ z; simp_all)) (fun v h2 hp2 fr2 => ?_) (fun E h2 hp2 fr2 => ?_)
        · have hp2 := hp2.u q1
          have e := hp2.nn
          subst e
          rcases hp2 with ⟨_, x2, cap3, x3, x4⟩ | ⟨x1, _⟩
          · refine elem cap3 h2 ?_ (hgr.tr x4) (hfr.tr fr2)
            rw [if_neg hi0, ← List.append_assoc]
            exact x3
          · cases x1
        · refine gx_out (fun x hx => by cases hx) ?_
          have hp2 := hp2.u q1
          refine coU.seq hgr hp2 ⟨shX D n (ps.getD i ([], 0)).2 ++ jnR D n ps (i + 1), ?_⟩ ?_
          · rw [hp, hst, if_neg hi0]
            simp only [List.append_assoc]
          · intro v e
            rcases hp2 with ⟨x1, _⟩ | ⟨x1, _⟩
            · cases x1
            · rw [x1] at e; cases e
  refine g_iconst (pc := 0) (v := nI 0) dX7_write_0 rfl ?_
  refine g_istore_n (pc := 1) (ls' := [(0, _), (1, _), (2, _)]) dX7_write_1 rfl (Nat.le_of_ble_eq_true rfl) rfl ?_
  exact loop ps.length 0 cap [] h (by omega) (by rw [List.append_nil]; exact hs) rfl (jGr.rf _ _ _) (hFr.rf h)
theorem cw_caps (d : Nat) (k y n : Value) (w : List Nat) (hb : h.2.2 b = some (21, .inl [k, y, n])) (hs : cO h γ a cap l) (hy : y = .null ∧ w = [] ∨ ∃ c, y = .ref c ∧ hDs Z (d + 7) (jSS γ) c [.ref a] h (coU h γ a cap l w) wrL) : hCt Z mX21_write (d + 8) (jSS γ) [.ref b, .ref a] h (coU h γ a cap l (w.map upc)) := by
  refine hCt.of pnX21 rfl (Nat.le_of_ble_eq_true rfl) rfl (fun X => ?_)
  have kc := k02 γ
  have fin : ∀ (cap1 : Nat) (h1 : hP), l.length + w.length ≤ 400 → cO h1 γ a cap1 (l ++ w) → jGr h h1 cap cap1 400 → hG Z X mX21_write (d + 8) (jSS γ) h (coU h γ a cap l (w.map upc)) 20 [(0, .ref b), (1, .ref a), (2, .int (nI l.length))] [] h1 := by
    intro cap1 h1 hlw hO hgr
    have hO0 := hO
    obtain ⟨q1, q2, t, ha, hB⟩ := hO0
    refine g_aload_n (pc := 20) dX21_write_20 rfl rfl ?_
    refine g_iload_n (pc := 21) dX21_write_21 rfl rfl ?_
    refine g_invV (pc := 22) dX21_write_22 ha kc (co_capitals (d + 3) l.length hO (by rw [List.length_append]; omega)) meX2_capitals q1608 q1609 q1610 rfl rfl (Nat.le_of_ble_eq_true rfl) (by first | exact jF | exact fun _ z => z | assumption | (intro κ z; simp_all)) (jk_n (fun v h2 hp2 fr2 => ?_)) jk_x
    obtain ⟨rfl, x1, x2, x3⟩ := hp2
    refine g_vret (pc := 25) dX21_write_25 rfl ?_
    obtain ⟨g1, g2, g3, g4⟩ := hgr
    refine Or.inl ⟨rfl, by rw [List.length_map]; exact hlw, cap1, ?_, ⟨g1, g2, by omega, by omega⟩⟩
    unfold cpL at x1
    rw [List.take_left, List.drop_left] at x1
    exact x1
  have hs0 := hs
  obtain ⟨q1, q2, t, ha, hB⟩ := hs
  refine g_aload_n (pc := 0) dX21_write_0 rfl rfl ?_
  refine g_invV (pc := 1) dX21_write_1 ha kc (co_length (d + 5) hs0) meX2_length q1577 q534 q535 rfl rfl (Nat.le_of_ble_eq_true rfl) (by first | exact jF | exact fun _ z => z | assumption | (intro κ z; simp_all)) (jk_e ?_) jk_x
  refine g_istore_n (pc := 4) (ls' := [(0, _), (1, _), (2, _)]) dX21_write_4 rfl (Nat.le_of_ble_eq_true rfl) rfl ?_
  refine g_aload_n (pc := 5) dX21_write_5 rfl rfl ?_
  refine g_get (pc := 6) (r := (RX21, TX21, 3)) 1 dX21_write_6 hb rfl (Nat.le_of_ble_eq_true rfl) q1645 (Or.inl rfl) rfl ?_
  rcases hy with ⟨rfl, rfl⟩ | ⟨c, rfl, hc⟩
  · refine g_ifnullN (pc := 9) (tgt := 20) dX21_write_9 rfl ?_
    exact fin cap h (by have := hs0.2.1; simpa using this) (by rw [List.append_nil]; exact hs0) (jGr.rf _ _ _)
  ·
    refine g_ifnull (pc := 9) dX21_write_9 ?_
    refine g_aload_n (pc := 12) dX21_write_12 rfl rfl ?_
    refine g_get (pc := 13) (r := (RX21, TX21, 3)) 1 dX21_write_13 hb rfl (Nat.le_of_ble_eq_true rfl) q1645 (Or.inl rfl) rfl ?_
    refine g_aload_n (pc := 16) dX21_write_16 rfl rfl ?_
    refine dw_X21 hc (Nat.le_of_ble_eq_true rfl) (by first | exact jF | exact fun _ z => z | assumption | (intro κ z; simp_all)) (fun v h1 hp fr => ?_) (fun E h1 hp fr => ?_)
    · have e := hp.nn
      subst e
      rcases hp with ⟨_, x2, cap3, x3, x4⟩ | ⟨x1, _⟩
      · exact fin cap3 h1 x2 x3 x4
      · cases x1
    · refine gx_out (fun x hx => by cases hx) ?_
      rcases hp with ⟨e, _⟩ | ⟨e, x2, x3⟩
      · cases e
      · exact Or.inr ⟨e, by rw [List.length_map]; exact x2, x3⟩
end CW
section CW
variable {Z : hE} {γ a : Nat}
theorem cw_item {D : aD} {w : cW} {q : Nat} (hg : 2 ≤ γ ∧ γ < 9) : ∀ (n e x : Nat) (h : hP) (cap : Nat) (l : List Nat), x < D.1 → hgt D n x → n + 7 ≤ e → cD D w h q → cO h γ a cap l → h.1 + 801 ≤ hLC Z + cap → h.2.1 + 2500 ≤ hLS + 2 * cap → hDs Z e (jSS γ) (w.1 x) [.ref a] h (coU h γ a cap l (shX D n x)) wrL
  | 0, _, _, _, _, _, _, hh, _, _, _, _, _ => hh.elim
  | n + 1, e, x, h, cap, l, hx, hh, he, hD, hs, l1, l2 => by
    obtain ⟨e, rfl⟩ : ∃ e', e = e' + 8 := ⟨e - 8, by omega⟩
    have hc8 := hs.1
    have hi := hD.1 x hx
    have hac := hD.2.2.2.2.2.2
    unfold cIt at hi
    rw [shX_s]
    cases ex : D.2 x with
    | inl v =>
      rw [ex] at hi
      obtain ⟨j, e1, e2⟩ := hi
      exact ⟨_, _, mX5_write, e2, (by first | exact mm0 | exact mm1 | exact mm2 | exact mm3 | exact mm4), cw_num e 5 _ v rfl e2 hs (by omega) (by omega)⟩
    | inr y =>
      cases y with
      | inl t =>
        rw [ex] at hi
        obtain ⟨ht, -⟩ := hi
        obtain ⟨k, s, κ, c, e1, e2, e3, e4⟩ := ht 0
        exact ⟨_, _, mX6_write, e1, (by first | exact mm0 | exact mm1 | exact mm2 | exact mm3 | exact mm4), cw_text e κ s _ c t e1 e2 (by omega) hs (by omega) (by omega)⟩
      | inr p =>
        obtain ⟨m, ps⟩ := p
        cases m with
        | true =>
          rw [ex] at hi
          obtain ⟨j, f, g, e1, e2, e3⟩ := hi
          exact ⟨_, _, mX8_write, e2, (by first | exact mm0 | exact mm1 | exact mm2 | exact mm3 | exact mm4), cw_map e hs (by omega) (by omega)⟩
        | false =>
          rw [ex] at hi
          obtain ⟨j, f, e1, e2, e3, e4, e5⟩ := hi
          refine ⟨_, _, mX7_write, e2, (by first | exact mm0 | exact mm1 | exact mm2 | exact mm3 | exact mm4), ?_⟩
          have hz : jn true (ps.map (fun q => shX D n q.2)) = jnR D n ps 0 := rfl
          dsimp only
          rw [hz]
          refine cw_list D w.1 e n _ ps _ f e2 e3 e4 e5 hs hg l1 l2 (fun i hi h1 cap1 l3 f1 o1 r1 r2 => ?_)
          have hm : ps.getD i ([], 0) ∈ aPs (D.2 x) := by
            rw [ex]
            rw [List.getD_eq_getElem?_getD, List.getElem?_eq_getElem hi]
            exact List.getElem_mem hi
          obtain ⟨ρ, hρ⟩ := hac
          exact cw_item hg n (e + 7) _ h1 cap1 l3 (hρ x hx _ hm).1 (hh _ hm) (by omega) (hD.kp f1 (cNS.jss γ hg) (cMn.jss f1 hg)) o1 r1 r2
/-- any value writes itself -/
theorem cw_val {D : aD} {w : cW} {q : Nat} (hg : 2 ≤ γ ∧ γ < 9) : ∀ (n e b : Nat) (v : aV) (h : hP) (cap : Nat) (l : List Nat), D.1 + n + 8 ≤ e → cV D w.1 h n v (.ref b) → cD D w h q → cO h γ a cap l → h.1 + 801 ≤ hLC Z + cap → h.2.1 + 2500 ≤ hLS + 2 * cap → hDs Z e (jSS γ) b [.ref a] h (coU h γ a cap l (shw D v)) wrL
  | 0, e, b, v, h, cap, l, he, hv, hD, hs, l1, l2 => by
    obtain ⟨e, rfl⟩ : ∃ e', e = e' + 8 := ⟨e - 8, by omega⟩
    have hc8 := hs.1
    have hv : vB D w.1 h v (.ref b) := hv
    unfold vB at hv
    split at hv
    · cases hv
    · rename_i k _
      obtain ⟨a', κ, w', e1, e2, e3⟩ := hv
      cases e1
      have hk : κ % 100 = 5 := by rcases e3 with z | z <;> rw [z]
      exact ⟨_, _, mX5_write, e2, (by rw [hk]; first | exact mm0 | exact mm1 | exact mm2 | exact mm3 | exact mm4), cw_num e κ _ k hk e2 hs (by omega) (by omega)⟩
    · rename_i t _
      obtain ⟨a', e1, ht⟩ := hv
      cases e1
      obtain ⟨k, s, κ, c, e1, e2, e3, e4⟩ := ht 0
      exact ⟨_, _, mX6_write, e1, (by first | exact mm0 | exact mm1 | exact mm2 | exact mm3 | exact mm4), cw_text e κ s _ c t e1 e2 (by omega) hs (by omega) (by omega)⟩
    · rename_i k _
      obtain ⟨e1, e2, e3⟩ := hv
      cases e1
      exact cw_item hg D.1 (e + 8) k h cap l e2 (hD.2.2.2.2.2.2.hgt e2) (by omega) hD hs l1 l2
  | n + 1, e, b, v, h, cap, l, he, hv, hD, hs, l1, l2 => by
    rcases hv with hv | ⟨a', k, y, v', e1, e2, e3, e4, e5⟩
    · exact cw_val hg n e b v h cap l (by omega) hv hD hs l1 l2
    · cases e1
      obtain ⟨e, rfl⟩ : ∃ e', e = e' + 8 := ⟨e - 8, by omega⟩
      rw [e3]
      refine ⟨_, _, mX21_write, e2, (by first | exact mm0 | exact mm1 | exact mm2 | exact mm3 | exact mm4), cw_caps e _ y _ (shw D v') e2 hs ?_⟩
      cases y with
      | null =>
        refine Or.inl ⟨rfl, ?_⟩
        rw [e5.nul]
        rfl
      | ref c => exact Or.inr ⟨c, rfl, cw_val hg n (e + 7) c v' h cap l (by omega) e5 hD hs l1 l2⟩
      | _ =>
        exfalso
        rcases e5.nr with z | ⟨_, z⟩ <;> cases z
end CW
