/-! COMPONENT 12: Output.of, inCapitals; the cache -/
set_option maxRecDepth 100000
/-- the cache is filled -/
theorem txt.set {h : hP} {a s κ q : Nat} {k c : Value} {l : List Nat} (ha : h.2.2 a = some (6, .inl [k, .ref s, c])) (hs : jSt h κ s l) (hq : txt h q (l.map upc)) : ∀ (n b : Nat) (l' : List Nat), txtN n h b l' → txtN n (hSet h a (6, .inl [k, .ref s, .ref q])) b l' := by
  have fr : hFr (fun z => z = 6) h (hSet h a (6, .inl [k, .ref s, .ref q])) := (hFr.rf h).set ha rfl rfl
  have fs : ∀ κ' s' l', (κ' = 30 ∨ κ' = 930) → jSt h κ' s' l' → jSt (hSet h a (6, .inl [k, .ref s, .ref q])) κ' s' l' := fun κ' s' l' e j => jSt.fr (S := fun z => z = 6) fr (by show ¬ (κ' = 6); omega) (by decide) (by decide) j
  intro n
  induction n with
  | zero =>
    intro b l' ⟨k', s', κ', c', e1, e2, e3, e4⟩
    by_cases z : b = a
    · subst z
      rw [ha] at e1
      cases e1
      exact ⟨_, s, κ', .ref q, hSet_s _ _ _, fs _ _ _ e3 e2, e3, e4⟩
    · exact ⟨k', s', κ', c', by rw [hSet_n z]; exact e1, fs _ _ _ e3 e2, e3, e4⟩
  | succ n ih =>
    intro b l' ⟨k', s', κ', c', e1, e2, e3, e4, e5⟩
    by_cases z : b = a
    · subst z
      rw [ha] at e1
      cases e1
      refine ⟨_, s, κ', .ref q, hSet_s _ _ _, fs _ _ _ e3 e2, e3, e4, Or.inr ⟨q, rfl, ?_⟩⟩
      rw [jSt.uniq e2 hs]
      exact ih q _ (hq n)
    · refine ⟨k', s', κ', c', by rw [hSet_n z]; exact e1, fs _ _ _ e3 e2, e3, e4, ?_⟩
      rcases e5 with y | ⟨q', y, y'⟩
      · exact Or.inl y
      · exact Or.inr ⟨q', y, ih q' _ y'⟩
theorem cMn.cap {h : hP} {a s κ q : Nat} {k : Int32} {c : Value} {l : List Nat} (ha : h.2.2 a = some (6, .inl [.int k, .ref s, c])) (hs : jSt h κ s l) (hq : txt h q (l.map upc)) : cMn h (hSet h a (6, .inl [.int k, .ref s, .ref q])) := by
  have fr : hFr (fun z => z = 6) h (hSet h a (6, .inl [.int k, .ref s, .ref q])) := (hFr.rf h).set ha rfl rfl
  refine ⟨fun b l' t n => txt.set ha hs hq n b l' (t n), fun b l' j => j.fr fr (by decide) (by decide) (by decide), fun b k' s' c' e => ?_⟩
  by_cases z : b = a
  · subst z
    rw [ha] at e
    cases e
    exact ⟨_, hSet_s _ _ _⟩
  · exact ⟨c', by rw [hSet_n z]; exact e⟩
/-- after of(x) -/
def coF (h : hP) (γ a cap : Nat) (w : List Nat) : hO → hP → Prop := fun r h' => (r = .inl (some (.ref a)) ∧ w.length ≤ 400 ∧ ∃ cap', cO h' γ a cap' w ∧ jGr h h' cap cap' 400) ∨ (r = .inr ISE ∧ 400 < w.length ∧ h'.1 + cap ≤ h.1 + 801 ∧ h'.2.1 + 2 * cap ≤ h.2.1 + 1606)
section CF
variable {Z : hE} {h : hP} {γ a b cap : Nat} {l : List Nat}
theorem co_of {D : aD} {w : cW} {q n e : Nat} {v : aV} {x : Value} (hg : 2 ≤ γ ∧ γ < 9) (he : D.1 + n + 9 ≤ e) (hv : cV D w.1 h n v x) (hD : cD D w h q) (hs : cO h γ a cap l) (l1 : h.1 + 801 ≤ hLC Z + cap) (l2 : h.2.1 + 2500 ≤ hLS + 2 * cap) : hCt Z mX2_of e (jSS γ) [.ref a, x] h (coF h γ a cap (shw D v)) := by
  obtain ⟨e, rfl⟩ : ∃ e', e = e' + 9 := ⟨e - 9, by omega⟩
  have kc := k02 γ
  have kt := k31 γ
  obtain ⟨q1, q2, t, ha, hB⟩ := hs
  have hB0 := hB
  obtain ⟨hγ, hl, hcap, hlc, b, ml, f, ht, hb, hf⟩ := hB
  rcases hv.nr with rfl | ⟨c, rfl⟩
  · refine hCt.of pnX2 rfl (Nat.le_of_ble_eq_true rfl) rfl (fun X => ?_)
    rw [hv.nul]
    refine g_aload_n (pc := 0) dX2_of_0 rfl rfl ?_
    refine g_get (pc := 1) (r := (RX2, TX2, 1)) 0 dX2_of_1 ha kc (Nat.le_of_ble_eq_true rfl) q490 (Or.inl rfl) rfl ?_
    refine g_iconst (pc := 4) (v := nI 0) dX2_of_4 rfl ?_
    refine g_invV (pc := 5) dX2_of_5 ht kt (jc_setLength (e + 3) 0 hB0 (by omega) (by omega) (by omega) (by omega)) meJ8_setLength q1570 q717 q718 rfl rfl (Nat.le_of_ble_eq_true rfl) (by first | exact jF | exact fun _ z => z | assumption | (intro κ z; simp_all)) (jk_n (fun v h1 hp fr => ?_)) jk_x
    obtain ⟨rfl, x1, x2, x3⟩ := hp
    have x1 : jSB h1 γ t cap [] := x1
    refine g_aload_nN (pc := 8) dX2_of_8 rfl rfl ?_
    refine g_ifnullN (pc := 9) (tgt := 17) dX2_of_9 rfl ?_
    refine g_aload_n (pc := 17) dX2_of_17 rfl rfl ?_
    refine g_aret (pc := 18) dX2_of_18 rfl (Or.inl ⟨_, rfl⟩) (Or.inr ⟨_, rfl⟩) ?_
    refine Or.inl ⟨rfl, Nat.zero_le _, cap, ?_, ⟨Nat.le_refl _, Nat.le_max_left _ _, by omega, by omega⟩⟩
    exact cO.up fr ha x1 q1 (Nat.zero_le _)
  · refine hCt.of pnX2 rfl (Nat.le_of_ble_eq_true rfl) rfl (fun X => ?_)
    refine g_aload_n (pc := 0) dX2_of_0 rfl rfl ?_
    refine g_get (pc := 1) (r := (RX2, TX2, 1)) 0 dX2_of_1 ha kc (Nat.le_of_ble_eq_true rfl) q490 (Or.inl rfl) rfl ?_
    refine g_iconst (pc := 4) (v := nI 0) dX2_of_4 rfl ?_
    refine g_invV (pc := 5) dX2_of_5 ht kt (jc_setLength (e + 3) 0 hB0 (by omega) (by omega) (by omega) (by omega)) meJ8_setLength q1570 q717 q718 rfl rfl (Nat.le_of_ble_eq_true rfl) (by first | exact jF | exact fun _ z => z | assumption | (intro κ z; simp_all)) (jk_n (fun v h1 hp fr => ?_)) jk_x
    obtain ⟨rfl, x1, x2, x3⟩ := hp
    have x1 : jSB h1 γ t cap [] := x1
    have hO1 : cO h1 γ a cap [] := cO.up fr ha x1 q1 (Nat.zero_le _)
    have m1 := cMn.jss fr hg
    refine g_aload_n (pc := 8) dX2_of_8 rfl rfl ?_
    refine g_ifnull (pc := 9) dX2_of_9 ?_
    refine g_aload_n (pc := 12) dX2_of_12 rfl rfl ?_
    refine g_aload_n (pc := 13) dX2_of_13 rfl rfl ?_
    refine dw_X2 (cw_val hg n (e + 8) c _ h1 cap [] (by omega) (hv.kp fr (cNS.jss γ hg) m1) (hD.kp fr (cNS.jss γ hg) m1) hO1 (by omega) (by omega)) (Nat.le_of_ble_eq_true rfl) (by first | exact jF | exact fun _ z => z | assumption | (intro κ z; simp_all)) (fun v h2 hp fr2 => ?_) (fun E h2 hp fr2 => ?_)
    · have e := hp.nn
      subst e
      rcases hp with ⟨_, y2, cap3, y3, g1, g2, g3, g4⟩ | ⟨y1, _⟩
      · refine g_aload_n (pc := 17) dX2_of_17 rfl rfl ?_
        refine g_aret (pc := 18) dX2_of_18 rfl (Or.inl ⟨_, rfl⟩) (Or.inr ⟨_, rfl⟩) ?_
        exact Or.inl ⟨rfl, by simpa using y2, cap3, by simpa using y3, ⟨g1, g2, by omega, by omega⟩⟩
      · cases y1
    · refine gx_out (fun x hx => by cases hx) ?_
      rcases hp with ⟨e, _⟩ | ⟨e, y2, y3, y4⟩
      · cases e
      · exact Or.inr ⟨e, by simpa using y2, by omega, by omega⟩
/-- the text in capital letters, new -/
theorem co_inCapitals {D : aD} {w : cW} {q e : Nat} (hg : 2 ≤ γ ∧ γ < 9) (he : D.1 + 10 ≤ e) (ht : txt h b l) (hD : cD D w h q) {l0 : List Nat} (hs : cO h γ a cap l0) (l1 : h.1 + 901 ≤ hLC Z + cap) (l2 : h.2.1 + 2700 ≤ hLS + 2 * cap) : hCt Z mX2_inCapitals e (jSS γ) [.ref a, .ref b] h (jK (fun r h' => ∃ p cap' l', r = some (.ref p) ∧ txt h' p (l.map upc) ∧ cO h' γ a cap' l' ∧ cap ≤ cap' ∧ h'.1 + cap ≤ h.1 + cap' + 3 ∧ h'.2.1 + 2 * cap ≤ h.2.1 + 2 * cap' + 71)) := by
  obtain ⟨e, rfl⟩ : ∃ e', e = e' + 10 := ⟨e - 10, by omega⟩
  have hll : l.length ≤ 64 := by obtain ⟨_, _, _, _, _, _, _, z⟩ := ht 0; exact z
  have kc := k02 γ
  have kt := k31 γ
  have hv : cV D w.1 h 0 (some (.inr (.inl l))) (.ref b) := ⟨b, rfl, ht⟩
  have hs0 := hs
  obtain ⟨q1, q2, t, ha, hB⟩ := hs
  refine hCt.shr (S' := fun k => k = 6 ∨ jSS γ k) ?_
  refine hCt.of pnX2 rfl (Nat.le_of_ble_eq_true rfl) rfl (fun X => ?_)
  refine g_wf (fun hwf0 => ?_)
  refine g_aload_n (pc := 0) dX2_inCapitals_0 rfl rfl ?_
  refine g_aload_n (pc := 1) dX2_inCapitals_1 rfl rfl ?_
  refine g_invV (pc := 2) dX2_inCapitals_2 ha kc (co_of hg (n := 0) (e := e + 9) (by omega) hv hD hs0 (by omega) (by omega)) meX2_of q1566 q1567 q1568 rfl rfl (Nat.le_of_ble_eq_true rfl) (fun κ z => Or.inr z) (fun v h1 hp fr => ?_) (fun E h1 hp fr => ?_)
  · rcases hp with ⟨e1, y2, cap1, y3, g1, g2, g3, g4⟩ | ⟨y1, _⟩
    · have e1 := Sum.inl.inj e1
      subst e1
      have y3 : cO h1 γ a cap1 l := y3
      have ha1 := (fr.2.2 a _ ha).1 (by rintro (z | z) <;> omega)
      refine g_pop (pc := 5) dX2_inCapitals_5 rfl ?_
      refine g_aload_n (pc := 6) dX2_inCapitals_6 rfl rfl ?_
      refine g_iconst (pc := 7) (v := nI 0) dX2_inCapitals_7 rfl ?_
      refine g_invV (pc := 8) dX2_inCapitals_8 ha1 kc (co_capitals (e + 5) 0 y3 (by omega)) meX2_capitals q1633 q1609 q1610 rfl rfl (Nat.le_of_ble_eq_true rfl) (fun κ z => Or.inr z) (jk_n (fun v h2 hp fr2 => ?_)) jk_x
      obtain ⟨rfl, z1, z2, z3⟩ := hp
      have z1 : cO h2 γ a cap1 (l.map upc) := z1
      have hO2 := z1
      obtain ⟨p1, p2, t2, ha2, hB2⟩ := z1
      have hB3 := hB2
      obtain ⟨hγ, hl, hcap, hlc, b2, ml, f, ht2, hb2, hf⟩ := hB2
      refine g_new (pc := 11) (r := (RX6, TX6, 3)) (fs := [.int (nI 0), .null, .null]) 6 dX2_inCapitals_11 rfl (by decide) q1634 q702 q97 rfl (by first | omega | (simp only [hNew_1, hNew_2, hSet_1, hSet_2]; omega)) (by first | omega | (simp only [hNew_1, hNew_2, hSet_1, hSet_2]; omega)) (fun hwf => ?_)
      have ne1 : ∀ {a c}, h2.2.2 a = some c → (hNew h2 (6, .inl [.int (nI 0), .null, .null]) 3).2.2 a = some c := fun hc => jNw (n := 3) (c' := (6, .inl [.int (nI 0), .null, .null])) hwf hc
      have ha3 := ne1 ha2
      have ht3 := ne1 ht2
      have fr3 : hFr (jSS γ) h2 (hNew h2 (6, .inl [.int (nI 0), .null, .null]) 3) := (hFr.rf h2).new hwf
      have hO3 : cO (hNew h2 (6, .inl [.int (nI 0), .null, .null]) 3) γ a cap1 (l.map upc) := ⟨p1, p2, t2, ha3, hB3.fr ((hFr.rf h2).new hwf : hFr (fun _ => False) h2 _) (fun z => z) (fun z => z)⟩
      obtain ⟨-, -, t4, ha4, hB4⟩ := hO3
      rw [ha3] at ha4
      cases ha4
      refine g_dup (pc := 14) dX2_inCapitals_14 rfl ?_
      refine g_aload_n (pc := 15) dX2_inCapitals_15 rfl rfl ?_
      refine g_get (pc := 16) (r := (RX2, TX2, 1)) 0 dX2_inCapitals_16 ha3 kc (Nat.le_of_ble_eq_true rfl) q490 (Or.inl rfl) rfl ?_
      refine g_invV (pc := 19) dX2_inCapitals_19 ht3 kt (jc_toString (e + 4) hB4 (by simp only [hNew_1]; omega) (by simp only [hNew_2]; rw [List.length_map]; omega)) meJ8_toString q1635 q369 q370 rfl rfl (Nat.le_of_ble_eq_true rfl) (by first | exact jF | exact fun _ z => z | assumption | (intro κ z; simp_all)) (jk_n (fun v h4 hp fr4 => ?_)) jk_x
      obtain ⟨rfl, w1, w2⟩ := hp
      have hn4 := (fr4.2.2 h2.1 _ (hNew_s h2 (6, .inl [.int (nI 0), .null, .null]) 3)).1 (fun z => z)
      refine g_invI (pc := 22) dX2_inCapitals_22 (cd_text (e + 7) _ _ _ _ hn4) meX6_init rfl rfl q1636 q705 rfl rfl (Nat.le_of_ble_eq_true rfl) (fun κ z => Or.inl z) (jk_n (fun v h5 hp fr5 => ?_)) jk_x
      obtain ⟨rfl, rfl⟩ := hp
      refine g_aret (pc := 25) dX2_inCapitals_25 rfl (Or.inl ⟨_, rfl⟩) (Or.inr ⟨_, rfl⟩) ?_
      have fa : hFr (fun _ => False) h2 h4 := ((hFr.rf h2).new hwf).tr fr4
      have fr5' : hFr (fun z => z = 6) h4 (hSet h4 h2.1 (6, .inl [.int (nI 0), .ref (hNew h2 (6, .inl [.int (nI 0), .null, .null]) 3).1, .null])) := fr5
      refine ⟨⟨_, rfl, h2.1, cap1, l.map upc, rfl, ?_, ?_, g1, ?_, ?_⟩, (((fr.tr fr2).tr (hFr.mono (fun _ z => z.elim) fa)).setN hwf0 (by have := fr.1; omega))⟩
      · intro n
        have j5 := w1.fr fr5' (by decide) (by decide) (by decide)
        cases n with
        | zero => exact ⟨_, _, 30, _, hSet_s _ _ _, j5, Or.inl rfl, by rw [List.length_map]; exact hll⟩
        | succ n => exact ⟨_, _, 30, _, hSet_s _ _ _, j5, Or.inl rfl, by rw [List.length_map]; exact hll, Or.inl rfl⟩
      · have := hO2.fr fa (fun z => z) (fun z => z) (fun z => z)
        exact this.fr fr5' (by show ¬ (_ = 6); omega) (by show ¬ (_ = 6); omega) (by show ¬ (_ = 6); omega)
      · have := w2.1
        simp only [hNew_1, hSet_1] at this ⊢
        omega
      · have := w2.2
        simp only [hNew_2, hSet_2] at this ⊢
        rw [List.length_map] at this
        omega
    · cases y1
  · exfalso
    rcases hp with ⟨e1, _⟩ | ⟨e1, y2, _⟩
    · cases e1
    · have y2 : 400 < l.length := y2
      omega
/-- TextData.inCapitals: the cache, or new -/
theorem cd_inCapitals {D : aD} {w : cW} {q e : Nat} (hg : 2 ≤ γ ∧ γ < 9) (he : D.1 + 11 ≤ e) (ht : txt h b l) (hD : cD D w h q) {l0 : List Nat} (hs : cO h γ a cap l0) (l1 : h.1 + 901 ≤ hLC Z + cap) (l2 : h.2.1 + 2700 ≤ hLS + 2 * cap) : hCt Z mX6_inCapitals e (fun k => k = 6 ∨ jSS γ k) [.ref b, .ref a] h (jK (fun r h' => ∃ p cap' l', r = some (.ref p) ∧ txt h' p (l.map upc) ∧ cO h' γ a cap' l' ∧ cap ≤ cap' ∧ h'.1 + cap ≤ h.1 + cap' + 3 ∧ h'.2.1 + 2 * cap ≤ h.2.1 + 2 * cap' + 71 ∧ cMn h h')) := by
  obtain ⟨e, rfl⟩ : ∃ e', e = e' + 11 := ⟨e - 11, by omega⟩
  have kc := k02 γ
  have ht0 := ht
  have hs0 := hs
  obtain ⟨q1, q2, t, ha, hB⟩ := hs
  obtain ⟨k, s, κ, c, hb, j1, j2, j3, j4⟩ := ht 1
  refine hCt.of pnX6 rfl (Nat.le_of_ble_eq_true rfl) rfl (fun X => ?_)
  rcases j4 with rfl | ⟨p, rfl, hp⟩
  ·
    refine g_aload_n (pc := 0) dX6_inCapitals_0 rfl rfl ?_
    refine g_get (pc := 1) (r := (RX6, TX6, 3)) 2 dX6_inCapitals_1 hb rfl (Nat.le_of_ble_eq_true rfl) q709 (Or.inl rfl) rfl ?_
    refine g_ifnonnullN (pc := 4) dX6_inCapitals_4 ?_
    refine g_aload_n (pc := 7) dX6_inCapitals_7 rfl rfl ?_
    refine g_aload_n (pc := 8) dX6_inCapitals_8 rfl rfl ?_
    refine g_aload_n (pc := 9) dX6_inCapitals_9 rfl rfl ?_
    refine g_invV (pc := 10) dX6_inCapitals_10 ha kc (co_inCapitals hg (e := e + 10) (by omega) ht0 hD hs0 l1 l2) meX2_inCapitals q1562 q1563 q1564 rfl rfl (Nat.le_of_ble_eq_true rfl) (by first | exact jF | exact fun _ z => z | assumption | (intro κ z; simp_all)) (jk_n (fun v h1 hp fr => ?_)) jk_x
    obtain ⟨p, cap1, l1', rfl, x1, x2, x3, x4, x5⟩ := hp
    have hb1 := (fr.2.2 b _ hb).1 (by rintro (z | z) <;> omega)
    have j1' := j1.frB (by omega) fr
    have m1 := cMn.jss fr hg
    refine g_put (pc := 13) (r := (RX6, TX6, 3)) 2 dX6_inCapitals_13 hb1 rfl (Nat.le_of_ble_eq_true rfl) q709 (Or.inl rfl) rfl (by decide) (Or.inl rfl) (tyX6_ok 2 (Nat.le_of_ble_eq_true rfl)) rfl rfl ?_
    have hb2 := hSet_s h1 b (6, .inl [.int k, .ref s, .ref p])
    refine g_aload_n (pc := 16) dX6_inCapitals_16 rfl rfl ?_
    refine g_get (pc := 17) (r := (RX6, TX6, 3)) 2 dX6_inCapitals_17 hb2 rfl (Nat.le_of_ble_eq_true rfl) q709 (Or.inl rfl) rfl ?_
    refine g_aret (pc := 20) dX6_inCapitals_20 rfl (Or.inl ⟨_, rfl⟩) (Or.inr ⟨_, rfl⟩) ?_
    refine ⟨_, rfl, p, cap1, l1', rfl, ?_, ?_, x3, x4, x5, m1.tr (cMn.cap hb1 j1' x1)⟩
    · exact (cMn.cap hb1 j1' x1).1 _ _ x1
    · have fr' : hFr (fun z => z = 6) h1 (hSet h1 b (6, .inl [.int k, .ref s, .ref p])) := (hFr.rf h1).set hb1 rfl rfl
      exact x2.fr fr' (by show ¬ (_ = 6); omega) (by show ¬ (_ = 6); omega) (by show ¬ (_ = 6); omega)
  · have hq : txt h p (l.map upc) := by
      intro n
      obtain ⟨k', s', κ', c', hb', j1', j2', j3', j4'⟩ := ht0 (n + 1)
      rw [hb] at hb'
      cases hb'
      rcases j4' with z | ⟨p', z, z'⟩
      · cases z
      · cases z; exact z'
    refine g_aload_n (pc := 0) dX6_inCapitals_0 rfl rfl ?_
    refine g_get (pc := 1) (r := (RX6, TX6, 3)) 2 dX6_inCapitals_1 hb rfl (Nat.le_of_ble_eq_true rfl) q709 (Or.inl rfl) rfl ?_
    refine g_ifnonnull (pc := 4) (tgt := 16) dX6_inCapitals_4 rfl ?_
    refine g_aload_n (pc := 16) dX6_inCapitals_16 rfl rfl ?_
    refine g_get (pc := 17) (r := (RX6, TX6, 3)) 2 dX6_inCapitals_17 hb rfl (Nat.le_of_ble_eq_true rfl) q709 (Or.inl rfl) rfl ?_
    refine g_aret (pc := 20) dX6_inCapitals_20 rfl (Or.inl ⟨_, rfl⟩) (Or.inr ⟨_, rfl⟩) ?_
    exact ⟨_, rfl, p, cap, l0, rfl, hq, hs0, Nat.le_refl _, by omega, by omega, cMn.rf h⟩
end CF
