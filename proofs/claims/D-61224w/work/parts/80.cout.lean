/-! COMPONENT 1: Output -/
set_option maxRecDepth 100000
/-- an answer with P, or the exception E with Q -/
def kX (P : Option Value → hP → Prop) (E : String) (Q : hP → Prop) : hO → hP → Prop := fun r h' => (∃ v, r = .inl v ∧ P v h') ∨ (r = .inr E ∧ Q h')
theorem kx_n {P : Option Value → hP → Prop} {E : String} {Q : hP → Prop} {S' : Nat → Prop} {h : hP} {Kn : Option Value → hP → Prop} (kk : ∀ v h', P v h' → hFr S' h h' → Kn v h') : ∀ v h', kX P E Q (.inl v) h' → hFr S' h h' → Kn v h' := fun v h' hk fr => by
  rcases hk with ⟨v', e, p⟩ | ⟨e, _⟩
  · cases e; exact kk v h' p fr
  · cases e
theorem kx_x {P : Option Value → hP → Prop} {E : String} {Q : hP → Prop} {S' : Nat → Prop} {h : hP} {Kx : String → hP → Prop} (kk : ∀ h', Q h' → hFr S' h h' → Kx E h') : ∀ E' h', kX P E Q (.inr E') h' → hFr S' h h' → Kx E' h' := fun E' h' hk fr => by
  rcases hk with ⟨v', e, p⟩ | ⟨e, q⟩
  · cases e
  · cases e; exact kk h' q fr
def ISE : String := "java/lang/IllegalStateException"
/-- the Output at a (kinds of γ) has the text l -/
def cO (h : hP) (γ a cap : Nat) (l : List Nat) : Prop := cap ≤ 800 ∧ l.length ≤ 400 ∧ ∃ t, h.2.2 a = some (100 * γ + 2, .inl [.ref t]) ∧ jSB h γ t cap l
theorem k02 (γ : Nat) : hCl ((100 * γ + 2) % 100) = some (RX2, TX2, 1) := by rw [show (100 * γ + 2) % 100 = 2 by omega]; rfl
theorem cO.fr {S : Nat → Prop} {h h' : hP} {γ a cap : Nat} {l : List Nat} (f : hFr S h h') (h1 : ¬ S (100 * γ + 2)) (h2 : ¬ S (100 * γ + 31)) (h3 : ¬ S (100 * γ + 60)) (q : cO h γ a cap l) : cO h' γ a cap l := by
  obtain ⟨q1, q2, t, q3, q4⟩ := q
  exact ⟨q1, q2, t, (f.2.2 a _ q3).1 h1, q4.fr f h2 h3⟩
/-- what is written is written to the builder alone -/
theorem cO.up {h h' : hP} {γ a cap' : Nat} {l' : List Nat} {t : Nat} (f : hFr (jSS γ) h h') (q3 : h.2.2 a = some (100 * γ + 2, .inl [.ref t])) (q4 : jSB h' γ t cap' l') (h1 : cap' ≤ 800) (h2 : l'.length ≤ 400) : cO h' γ a cap' l' :=
  ⟨h1, h2, t, (f.2.2 a _ q3).1 (by rintro (z | z) <;> omega), q4⟩
section CO
variable {Z : hE} {h : hP} {κ γ a cap : Nat} {l : List Nat}
theorem co_length (d : Nat) (hs : cO h γ a cap l) : jP Z mX2_length (d + 2) [.ref a] h (some (.int (nI l.length))) := by
  refine jC.of pnX2 rfl (Nat.le_of_ble_eq_true rfl) rfl (fun X => ?_)
  have kc := k02 γ
  have kt := k31 γ
  obtain ⟨q1, q2, t, ha, hB⟩ := hs
  have hB0 := hB
  obtain ⟨hγ, hl, hcap, hlc, b, ml, f, ht, hb, hf⟩ := hB
  refine g_aload_n (pc := 0) dX2_length_0 rfl rfl ?_
  refine g_get (pc := 1) (r := (RX2, TX2, 1)) 0 dX2_length_1 ha kc (Nat.le_of_ble_eq_true rfl) q490 (Or.inl rfl) rfl ?_
  refine g_invV (pc := 4) dX2_length_4 ht kt (jc_blength d hB0) meJ8_length q537 q390 q2268 rfl rfl (Nat.le_of_ble_eq_true rfl) (by first | exact jF | exact fun _ z => z | assumption | (intro κ z; simp_all)) (jk_e ?_) jk_x
  exact g_iret (pc := 7) dX2_length_7 rfl ⟨_, rfl, rfl, rfl⟩
theorem co_at (d i : Nat) (hs : cO h γ a cap l) (hi : i < l.length) : jP Z mX2_at (d + 4) [.ref a, .int (nI i)] h (some (.int (nI (l.getD i 0)))) := by
  refine jC.of pnX2 rfl (Nat.le_of_ble_eq_true rfl) rfl (fun X => ?_)
  have kc := k02 γ
  have kt := k31 γ
  obtain ⟨q1, q2, t, ha, hB⟩ := hs
  have hB0 := hB
  obtain ⟨hγ, hl, hcap, hlc, b, ml, f, ht, hb, hf⟩ := hB
  refine g_aload_n (pc := 0) dX2_at_0 rfl rfl ?_
  refine g_get (pc := 1) (r := (RX2, TX2, 1)) 0 dX2_at_1 ha kc (Nat.le_of_ble_eq_true rfl) q490 (Or.inl rfl) rfl ?_
  refine g_iload_n (pc := 4) dX2_at_4 rfl rfl ?_
  refine g_invV (pc := 5) dX2_at_5 ht kt (jc_bcharAt d i hB0 hi) meJ8_charAt q1612 q1613 q1614 rfl rfl (Nat.le_of_ble_eq_true rfl) (by first | exact jF | exact fun _ z => z | assumption | (intro κ z; simp_all)) (jk_e ?_) jk_x
  exact g_iret (pc := 8) dX2_at_8 rfl ⟨_, rfl, rfl, rfl⟩
/-- after a try to write w: written, or too long -/
def coW (h : hP) (γ a cap : Nat) (l w : List Nat) : hO → hP → Prop := fun r h' => (r = .inl none ∧ l.length + w.length ≤ 400 ∧ ∃ cap', cO h' γ a cap' (l ++ w) ∧ jGr h h' cap cap' 400) ∨ (r = .inr ISE ∧ 400 < l.length + w.length ∧ jRm h h' 1 6)
theorem jGr.mo {h h' : hP} {cap cap' m m' : Nat} (g : jGr h h' cap cap' m) (hm : m ≤ m') : jGr h h' cap cap' m' := by
  obtain ⟨g1, g2, g3, g4⟩ := g
  exact ⟨g1, by omega, g3, g4⟩
theorem co_add (d κs s : Nat) (w : List Nat) (hs : cO h γ a cap l) (hw : jSt h κs s w) (hwl : w.length ≤ 1000) (l1 : h.1 + 1 ≤ hLC Z) (l2 : h.2.1 + 800 ≤ hLS) : hCt Z mX2_add (d + 7) (jSS γ) [.ref a, .ref s] h (coW h γ a cap l w) := by
  refine hCt.of pnX2 rfl (Nat.le_of_ble_eq_true rfl) rfl (fun X => ?_)
  have kc := k02 γ
  have kt := k31 γ
  have kw := hw.cl
  have hw0 := hw
  obtain ⟨q1, q2, t, ha, hB⟩ := hs
  have hB0 := hB
  obtain ⟨hγ, hl, hcap, hlc, b, ml, f, ht, hb, hf⟩ := hB
  obtain ⟨_, _, bw, κb, hs1, hz, hsw, _⟩ := hw
  refine g_aload_n (pc := 0) dX2_add_0 rfl rfl ?_
  refine g_get (pc := 1) (r := (RX2, TX2, 1)) 0 dX2_add_1 ha kc (Nat.le_of_ble_eq_true rfl) q490 (Or.inl rfl) rfl ?_
  refine g_invV (pc := 4) dX2_add_4 ht kt (jc_blength (d + 5) hB0) meJ8_length q537 q390 q2268 rfl rfl (Nat.le_of_ble_eq_true rfl) (by first | exact jF | exact fun _ z => z | assumption | (intro κ z; simp_all)) (jk_e ?_) jk_x
  refine g_aload_n (pc := 7) dX2_add_7 rfl rfl ?_
  refine g_invV (pc := 8) dX2_add_8 hsw kw (jc_length (d + 5) hw0) meJ9_length q1586 q301 q302 rfl rfl (Nat.le_of_ble_eq_true rfl) (by first | exact jF | exact fun _ z => z | assumption | (intro κ z; simp_all)) (jk_e ?_) jk_x
  first | refine g_iaddN (pc := 11) dX2_add_11 ?_ | refine g_iadd (pc := 11) dX2_add_11 ?_
  refine g_sipush (pc := 12) (v := nI 400) dX2_add_12 rfl ?_
  refine g_icmp_leN (pc := 15) (tgt := 26) dX2_add_15 rfl (by omega) (by omega) (fun c15 => ?_) (fun c15 => ?_)
  · refine g_aload_n (pc := 26) dX2_add_26 rfl rfl ?_
    refine g_get (pc := 27) (r := (RX2, TX2, 1)) 0 dX2_add_27 ha kc (Nat.le_of_ble_eq_true rfl) q490 (Or.inl rfl) rfl ?_
    refine g_aload_n (pc := 30) dX2_add_30 rfl rfl ?_
    refine g_invV (pc := 31) dX2_add_31 ht kt (jc_append (d + 1) κs s w hB0 hw0 (by omega) l1 (by omega)) meJ8_append q1589 q224 q225 rfl rfl (Nat.le_of_ble_eq_true rfl) (by first | exact jF | exact fun _ z => z | assumption | (intro κ z; simp_all)) (jk_n (fun v h1 hp fr => ?_)) jk_x
    obtain ⟨rfl, cap', hB1, hgr⟩ := hp
    refine g_pop (pc := 34) dX2_add_34 rfl ?_
    refine g_vret (pc := 35) dX2_add_35 rfl ?_
    refine Or.inl ⟨rfl, c15, cap', ?_, hgr.mo c15⟩
    have := hgr.2.1
    exact cO.up fr ha hB1 (by omega) (by rw [List.length_append]; exact c15)
  · refine g_make0 (pc := 18) 42 dX2_add_18 dX2_add_21 dX2_add_22 xX2_25 x_st rfl (by decide) rfl rfl (Nat.le_of_ble_eq_true rfl) l1 (by omega) (fun hwf => ?_)
    refine g_athrow (pc := 25) dX2_add_25 (hNew_s _ _ _) (by decide) rfl ?_
    refine gx_out (fun x hx => by cases hx) ?_
    exact Or.inr ⟨rfl, c15, ⟨Nat.le_refl _, Nat.le_refl _⟩⟩
end CO
