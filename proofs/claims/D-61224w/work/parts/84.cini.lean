/-! COMPONENT 5: constructors of Output and of the data -/
set_option maxRecDepth 100000
theorem hFa.drop {A B : Nat → Prop} {h h1 h2 : hP} (hw : ∀ a c, h.2.2 a = some c → a < h.1) (x : hFa B h h1) (hB : ∀ q, B q → h.1 ≤ q) (y : hFa A h1 h2) : hFa A h h2 := by
  refine ⟨Nat.le_trans x.1 y.1, Nat.le_trans x.2.1 y.2.1, fun q c e => ?_⟩
  have hq := hw q c e
  have e1 := (x.2.2 q c e).1 (fun z => by have := hB q z; omega)
  exact y.2.2 q c e1
section CO
variable {Z : hE} {h : hP} {κ γ a cap : Nat} {l : List Nat}
theorem co_init (d : Nat) (v0 : Value) (hγ : 1 ≤ γ ∧ γ < 9) (ha : h.2.2 a = some (100 * γ + 2, .inl [v0])) (l1 : h.1 + 2 ≤ hLC Z) (l2 : h.2.1 + 20 ≤ hLS) : jC Z mX2_init (d + 3) (fun k => k = 100 * γ + 2) [.ref a] h (fun v h' => v = none ∧ cO h' γ a 16 [] ∧ hFa (fun q => q = a) h h' ∧ h'.1 = h.1 + 2 ∧ h'.2.1 = h.2.1 + 20) := by
  refine jC.shr (jC.of pnX2 rfl (Nat.le_of_ble_eq_true rfl) rfl (fun X => ?_))
  have kc := k02 γ
  refine g_aload_n (pc := 0) dX2_init_0 rfl rfl ?_
  refine g_objInit (pc := 1) dX2_init_1 q487 q126 q127 (Nat.le_of_ble_eq_true rfl) ?_
  refine g_aload_n (pc := 4) dX2_init_4 rfl rfl ?_
  refine g_new (pc := 5) (r := (RJ8, TJ8, 4)) (fs := [.null, .int (nI 0), .int (nI 0), .int (nI 0)]) (100 * γ + 31) dX2_init_5 (k31 γ) (by omega) q488 q190 q81 rfl (by first | omega | (simp only [hNew_1, hNew_2, hSet_1, hSet_2]; omega)) (by first | omega | (simp only [hNew_1, hNew_2, hSet_1, hSet_2]; omega)) (fun hwf => ?_)
  refine g_dup (pc := 8) dX2_init_8 rfl ?_
  have hn0 := hNew_s h (100 * γ + 31, .inl [.null, .int (nI 0), .int (nI 0), .int (nI 0)]) 4
  refine g_invI (pc := 9) dX2_init_9 (jc_sbInit0 d .null (.int (nI 0)) (nI 0) (nI 0) hγ hn0 (by show h.1 + 1 + 1 ≤ _; omega) (by show h.2.1 + 4 + 16 ≤ _; omega)) meJ8_init rfl rfl q489 q192 rfl rfl (Nat.le_of_ble_eq_true rfl) (by first | exact jF | exact fun _ z => z | assumption | (intro κ z; simp_all)) (jk_n (fun v h1 hp fr => ?_)) jk_x
  obtain ⟨rfl, rfl⟩ := hp
  have hB : jSB (hSet (hNew (hNew h (100 * γ + 31, .inl [.null, .int (nI 0), .int (nI 0), .int (nI 0)]) 4) (100 * γ + 60, .inr (16, fun _ => .int 0)) 16) h.1 (100 * γ + 31, .inl [.ref (h.1 + 1), .int (nI 0), .int (nI 0), .int (nI 0)])) γ h.1 16 [] := jSB.ini hγ (by omega) hwf
  have hfa0 : hFa (fun q => q = h.1) h (hSet (hNew (hNew h (100 * γ + 31, .inl [.null, .int (nI 0), .int (nI 0), .int (nI 0)]) 4) (100 * γ + 60, .inr (16, fun _ => .int 0)) 16) h.1 (100 * γ + 31, .inl [.ref (h.1 + 1), .int (nI 0), .int (nI 0), .int (nI 0)])) := by
    refine hFa.tr (hFa.tr (hFa.new hwf) (hFa.new (fun q c e => ?_))) (hFa.set (c0 := (100 * γ + 31, .inl [.null, .int (nI 0), .int (nI 0), .int (nI 0)])) ?_ rfl rfl)
    · by_cases z : q = h.1
      · rw [z]; exact Nat.lt_succ_self _
      · rw [hNew_n z] at e
        exact Nat.lt_succ_of_lt (hwf q c e)
    · rw [hNew_n (by show h.1 ≠ h.1 + 1; omega)]
      exact hNew_s _ _ _
  have hne : a ≠ h.1 := Nat.ne_of_lt (hwf a _ ha)
  have ha1 := (hfa0.2.2 a _ ha).1 hne
  refine g_putF (pc := 12) (r := (RX2, TX2, 1)) 0 dX2_init_12 ha1 kc (Nat.le_of_ble_eq_true rfl) q490 rfl rfl rfl (by omega) trivial (tyX2_ok 0 (Nat.le_of_ble_eq_true rfl)) rfl rfl ?_
  refine g_vret (pc := 15) dX2_init_15 rfl ?_
  have hfs := hFa.set (A := fun q => q = a) (c := (100 * γ + 2, .inl [.ref h.1])) ha1 rfl rfl
  have hfa := hFa.drop hwf hfa0 (fun q z => by rw [z]; exact Nat.le_refl _) hfs
  refine ⟨_, rfl, ⟨rfl, ⟨by omega, Nat.zero_le _, h.1, hSet_s _ _ _, ?_⟩, hfa, rfl, rfl⟩, hFr.fa (hFr.rf h) hfa (fun q c z e => ?_)⟩
  · obtain ⟨q1, q2, q3, q4, b, ml, g, q5, q6, q7⟩ := hB
    refine ⟨q1, q2, q3, q4, b, ml, g, by rw [hSet_n hne.symm]; exact q5, ?_, q7⟩
    rw [hSet_n (fun z => ?_)]
    · exact q6
    · rw [z, ha1] at q6
      have := congrArg Prod.fst (Option.some.inj q6)
      have : 100 * γ + 2 = 100 * γ + 60 := this
      omega
  · rw [z, ha] at e
    cases e
    rfl
end CO
