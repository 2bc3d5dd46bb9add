/-! COMPONENT 51: the engine's constructor -/
set_option maxRecDepth 100000
theorem wf_new {h : hP} {c : hC} {n : Nat} (hw : ∀ a c, h.2.2 a = some c → a < h.1) : ∀ a c', (hNew h c n).2.2 a = some c' → a < (hNew h c n).1 := by
  intro a c' e
  by_cases z : a = h.1
  · rw [z]; exact Nat.lt_succ_self _
  · rw [hNew_n z] at e
    exact Nat.lt_succ_of_lt (hw a c' e)
section EI
variable {Z : hE} {h : hP} {E : Nat}
set_option maxHeartbeats 4000000 in
theorem en_init (d : Nat) (hE : h.2.2 E = some (1, .inl [.null, .null, .null, .null, .int (nI 0), .int (nI 0), .int (nI 0), .int (nI 0)])) (l1 : h.1 + 20 ≤ hLC Z) (l2 : h.2.1 + 400 ≤ hLS) : jC Z mX1_init (d + 6) (fun κ => κ = 1) [.ref E] h (fun r h' => r = none ∧ ∃ dl el ta ln rd, h'.2.2 E = some (eF dl ta ln rd (-1) 0 0 0) ∧ jAL Z h' 32 dl 65 el 60 [] ∧ cTs h' ta (fun _ => none) ∧ jSB h' 1 ln 200 [] ∧ cO h' 2 rd 16 [] ∧ hFa (fun q => q = E) h h' ∧ jRm h h' 12 350) := by
  refine jC.shr (jC.of pnX1 rfl (Nat.le_of_ble_eq_true rfl) rfl (fun X => ?_))
  have kt := k31 1
  have kc := k02 2
  refine g_aload_n (pc := 0) dX1_init_0 rfl rfl ?_
  refine g_objInit (pc := 1) dX1_init_1 q125 q126 q127 (Nat.le_of_ble_eq_true rfl) ?_
  refine g_aload_n (pc := 4) dX1_init_4 rfl rfl ?_
  refine g_new (pc := 5) (r := (RJ2, TJ2, 3)) (fs := [.int (nI 0), .null, .int (nI 0)]) 32 dX1_init_5 rfl (by decide) q128 q129 q75 rfl (by first | omega | (simp only [hNew_1, hNew_2, hSet_1, hSet_2]; omega)) (by first | omega | (simp only [hNew_1, hNew_2, hSet_1, hSet_2]; omega)) (fun hwf0 => ?_)
  refine g_dup (pc := 8) dX1_init_8 rfl ?_
  refine g_bipush (pc := 9) (v := nI 60) dX1_init_9 rfl ?_
  have n1 := hNew_s h (32, .inl [.int (nI 0), .null, .int (nI 0)]) 3
  refine g_invI (pc := 11) dX1_init_11 (jc_listInit (d + 2) 60 65 _ _ _ n1 rfl (by decide) rfl (by decide) (by decide) (by decide) (by simp only [hNew_1]; omega) (by simp only [hNew_2]; omega)) meJ2_init rfl rfl q130 q131 rfl rfl (Nat.le_of_ble_eq_true rfl) (by first | exact jF | exact fun _ z => z | assumption | (intro κ z; simp_all)) (jk_n (fun u h2 hp2 fr2 => ?_)) jk_x
  obtain ⟨rfl, e2⟩ := hp2
  rw [hSet_New2] at e2
  have wf1 := wf_new (c := (32, .inl [.int (nI 0), .ref (hNew h (32, .inl [.int (nI 0), .null, .int (nI 0)]) 3).1, .int (nI 0)])) (n := 3) hwf0
  have fa2 : hFa (fun _ => False) h h2 := by
    rw [e2]
    exact hFa.tr (hFa.new hwf0) (hFa.new wf1)
  have wf2 : ∀ a c, h2.2.2 a = some c → a < h2.1 := by rw [e2]; exact wf_new wf1
  have z21 : h2.1 = h.1 + 2 := by rw [e2]; rfl
  have z22 : h2.2.1 = h.2.1 + 63 := by rw [e2]; rfl
  have A2 : jAL Z h2 32 h.1 65 (h.1 + 1) 60 [] := by
    refine ⟨⟨rfl, by decide⟩, ⟨rfl, by decide⟩, by decide, Nat.zero_le _, (fun x hx => by cases hx), ⟨nI 0, ?_⟩, fun _ => .null, Or.inr ⟨by decide, ?_, fun i hi => absurd hi (Nat.not_lt_zero _)⟩⟩
    · rw [e2, hNew_n (by show h.1 ≠ h.1 + 1; omega)]
      exact hNew_s _ _ _
    · rw [e2]
      exact hNew_s _ _ _
  clear fr2 e2 wf1
  have hE2 := (fa2.2.2 _ _ hE).1 (fun z => z)
  refine g_putF (pc := 14) (r := (RX1, TX1, 8)) 0 dX1_init_14 hE2 rfl (Nat.le_of_ble_eq_true rfl) q494 rfl rfl rfl (by decide) trivial (tyX1_ok 0 (Nat.le_of_ble_eq_true rfl)) rfl rfl ?_
  have fs3 : hFr (fun κ => κ = 1) h2 (hSet h2 E (1, .inl [.ref h.1, .null, .null, .null, .int (nI 0), .int (nI 0), .int (nI 0), .int (nI 0)])) := (hFr.rf h2).set hE2 rfl rfl
  have fa3 : hFa (fun q => q = E) h2 (hSet h2 E (1, .inl [.ref h.1, .null, .null, .null, .int (nI 0), .int (nI 0), .int (nI 0), .int (nI 0)])) := hFa.set hE2 rfl rfl
  have hE3 := hSet_s h2 E (1, .inl [.ref h.1, .null, .null, .null, .int (nI 0), .int (nI 0), .int (nI 0), .int (nI 0)])
  have z31 : (hSet h2 E (1, .inl [.ref h.1, .null, .null, .null, .int (nI 0), .int (nI 0), .int (nI 0), .int (nI 0)])).1 = h2.1 := rfl
  have z32 : (hSet h2 E (1, .inl [.ref h.1, .null, .null, .null, .int (nI 0), .int (nI 0), .int (nI 0), .int (nI 0)])).2.1 = h2.2.1 := rfl
  show hG Z X mX1_init (d + 6) _ h _ 17 _ [] (hSet h2 E (1, .inl [.ref h.1, .null, .null, .null, .int (nI 0), .int (nI 0), .int (nI 0), .int (nI 0)]))
  generalize hSet h2 E (1, .inl [.ref h.1, .null, .null, .null, .int (nI 0), .int (nI 0), .int (nI 0), .int (nI 0)]) = h3 at fs3 fa3 hE3 z31 z32 ⊢
  have A3 := A2.fr fs3 (by decide) (by decide) (by decide)
  refine g_aload_n (pc := 17) dX1_init_17 rfl rfl ?_
  refine g_iconst (pc := 18) (v := nI 4) dX1_init_18 rfl ?_
  refine g_anewA (pc := 19) 67 4 dX1_init_19 rfl (by decide) rfl (by decide) rfl q475 q476 (by omega) (by omega) (fun hwf3 => ?_)
  have f4 : hFr (fun _ => False) h3 (hNew h3 (67, .inr (4, fun _ => .null)) 4) := (hFr.rf h3).new hwf3
  have fa4 : hFa (fun _ => False) h3 (hNew h3 (67, .inr (4, fun _ => .null)) 4) := hFa.new hwf3
  have n4 := hNew_s h3 (67, .inr (4, fun _ => .null)) 4
  have z41 : (hNew h3 (67, .inr (4, fun _ => .null)) 4).1 = h3.1 + 1 := rfl
  have z42 : (hNew h3 (67, .inr (4, fun _ => .null)) 4).2.1 = h3.2.1 + 4 := rfl
  generalize hNew h3 (67, .inr (4, fun _ => .null)) 4 = h4 at f4 fa4 n4 z41 z42 ⊢
  have hE4 := (f4.2.2 _ _ hE3).1 (fun z => z)
  have A4 := A3.nw f4
  refine g_putF (pc := 22) (r := (RX1, TX1, 8)) 1 dX1_init_22 hE4 rfl (Nat.le_of_ble_eq_true rfl) q496 rfl rfl rfl (by decide) trivial (tyX1_ok 1 (Nat.le_of_ble_eq_true rfl)) rfl rfl ?_
  have fs5 : hFr (fun κ => κ = 1) h4 (hSet h4 E (1, .inl [.ref h.1, .ref h3.1, .null, .null, .int (nI 0), .int (nI 0), .int (nI 0), .int (nI 0)])) := (hFr.rf h4).set hE4 rfl rfl
  have fa5 : hFa (fun q => q = E) h4 (hSet h4 E (1, .inl [.ref h.1, .ref h3.1, .null, .null, .int (nI 0), .int (nI 0), .int (nI 0), .int (nI 0)])) := hFa.set hE4 rfl rfl
  have hE5 := hSet_s h4 E (1, .inl [.ref h.1, .ref h3.1, .null, .null, .int (nI 0), .int (nI 0), .int (nI 0), .int (nI 0)])
  have z51 : (hSet h4 E (1, .inl [.ref h.1, .ref h3.1, .null, .null, .int (nI 0), .int (nI 0), .int (nI 0), .int (nI 0)])).1 = h4.1 := rfl
  have z52 : (hSet h4 E (1, .inl [.ref h.1, .ref h3.1, .null, .null, .int (nI 0), .int (nI 0), .int (nI 0), .int (nI 0)])).2.1 = h4.2.1 := rfl
  show hG Z X mX1_init (d + 6) _ h _ 25 _ [] (hSet h4 E (1, .inl [.ref h.1, .ref h3.1, .null, .null, .int (nI 0), .int (nI 0), .int (nI 0), .int (nI 0)]))
  generalize hSet h4 E (1, .inl [.ref h.1, .ref h3.1, .null, .null, .int (nI 0), .int (nI 0), .int (nI 0), .int (nI 0)]) = h5 at fs5 fa5 hE5 z51 z52 ⊢
  have A5 := A4.fr fs5 (by decide) (by decide) (by decide)
  have n5 := (fs5.2.2 _ _ n4).1 (by intro z; cases z)
  refine g_aload_n (pc := 25) dX1_init_25 rfl rfl ?_
  refine g_new (pc := 26) (r := (RJ8, TJ8, 4)) (fs := [.null, .int (nI 0), .int (nI 0), .int (nI 0)]) 131 dX1_init_26 rfl (by decide) q478 q190 q81 rfl (by first | omega | (simp only [hNew_1, hNew_2, hSet_1, hSet_2]; omega)) (by first | omega | (simp only [hNew_1, hNew_2, hSet_1, hSet_2]; omega)) (fun hwf5 => ?_)
  refine g_dup (pc := 29) dX1_init_29 rfl ?_
  refine g_sipush (pc := 30) (v := nI 200) dX1_init_30 rfl ?_
  have n6 := hNew_s h5 (131, .inl [.null, .int (nI 0), .int (nI 0), .int (nI 0)]) 4
  refine g_invI (pc := 33) dX1_init_33 (jc_sbInit (γ := 1) (d + 3) 200 .null (.int (nI 0)) (nI 0) (nI 0) (by decide) n6 (by decide) (by simp only [hNew_1]; omega) (by simp only [hNew_2]; omega)) meJ8_init_2 rfl rfl q479 q480 rfl rfl (Nat.le_of_ble_eq_true rfl) (by first | exact jF | exact fun _ z => z | assumption | (intro κ z; simp_all)) (jk_n (fun u h7 hp7 fr7 => ?_)) jk_x
  obtain ⟨rfl, e7⟩ := hp7
  have B7 : jSB h7 1 h5.1 200 [] := by rw [e7]; exact jSB.ini (γ := 1) (by decide) (by decide) hwf5
  rw [hSet_New2] at e7
  have wf6 := wf_new (c := (131, .inl [.ref (hNew h5 (131, .inl [.null, .int (nI 0), .int (nI 0), .int (nI 0)]) 4).1, .int (nI 0), .int (nI 0), .int (nI 0)])) (n := 4) hwf5
  have fa7 : hFa (fun _ => False) h5 h7 := by
    rw [e7]
    exact hFa.tr (hFa.new hwf5) (hFa.new wf6)
  have f7 : hFr (fun _ => False) h5 h7 := by
    rw [e7]
    exact ((hFr.rf h5).new hwf5).new wf6
  have z71 : h7.1 = h5.1 + 2 := by rw [e7]; rfl
  have z72 : h7.2.1 = h5.2.1 + 204 := by rw [e7]; rfl
  clear fr7 e7 wf6
  have hE7 := (f7.2.2 _ _ hE5).1 (fun z => z)
  have A7 := A5.nw f7
  have n7 := (f7.2.2 _ _ n5).1 (fun z => z)
  refine g_putF (pc := 36) (r := (RX1, TX1, 8)) 2 dX1_init_36 hE7 rfl (Nat.le_of_ble_eq_true rfl) q497 rfl rfl rfl (by decide) trivial (tyX1_ok 2 (Nat.le_of_ble_eq_true rfl)) rfl rfl ?_
  have fs8 : hFr (fun κ => κ = 1) h7 (hSet h7 E (1, .inl [.ref h.1, .ref h3.1, .ref h5.1, .null, .int (nI 0), .int (nI 0), .int (nI 0), .int (nI 0)])) := (hFr.rf h7).set hE7 rfl rfl
  have fa8 : hFa (fun q => q = E) h7 (hSet h7 E (1, .inl [.ref h.1, .ref h3.1, .ref h5.1, .null, .int (nI 0), .int (nI 0), .int (nI 0), .int (nI 0)])) := hFa.set hE7 rfl rfl
  have hE8 := hSet_s h7 E (1, .inl [.ref h.1, .ref h3.1, .ref h5.1, .null, .int (nI 0), .int (nI 0), .int (nI 0), .int (nI 0)])
  have z81 : (hSet h7 E (1, .inl [.ref h.1, .ref h3.1, .ref h5.1, .null, .int (nI 0), .int (nI 0), .int (nI 0), .int (nI 0)])).1 = h7.1 := rfl
  have z82 : (hSet h7 E (1, .inl [.ref h.1, .ref h3.1, .ref h5.1, .null, .int (nI 0), .int (nI 0), .int (nI 0), .int (nI 0)])).2.1 = h7.2.1 := rfl
  show hG Z X mX1_init (d + 6) _ h _ 39 _ [] (hSet h7 E (1, .inl [.ref h.1, .ref h3.1, .ref h5.1, .null, .int (nI 0), .int (nI 0), .int (nI 0), .int (nI 0)]))
  generalize hSet h7 E (1, .inl [.ref h.1, .ref h3.1, .ref h5.1, .null, .int (nI 0), .int (nI 0), .int (nI 0), .int (nI 0)]) = h8 at fs8 fa8 hE8 z81 z82 ⊢
  have A8 := A7.fr fs8 (by decide) (by decide) (by decide)
  have n8 := (fs8.2.2 _ _ n7).1 (by intro z; cases z)
  have B8 := B7.fr fs8 (by decide) (by decide)
  refine g_aload_n (pc := 39) dX1_init_39 rfl rfl ?_
  refine g_new (pc := 40) (r := (RX2, TX2, 1)) (fs := [.null]) 202 dX1_init_40 rfl (by decide) q482 q483 q92 rfl (by first | omega | (simp only [hNew_1, hNew_2, hSet_1, hSet_2]; omega)) (by first | omega | (simp only [hNew_1, hNew_2, hSet_1, hSet_2]; omega)) (fun hwf8 => ?_)
  refine g_dup (pc := 43) dX1_init_43 rfl ?_
  have n9 := hNew_s h8 (202, .inl [.null]) 1
  have f9 : hFr (fun _ => False) h8 (hNew h8 (202, .inl [.null]) 1) := (hFr.rf h8).new hwf8
  have fa9 : hFa (fun _ => False) h8 (hNew h8 (202, .inl [.null]) 1) := hFa.new hwf8
  refine g_invIN (pc := 44) dX1_init_44 (co_init (γ := 2) (d + 2) _ (by decide) n9 (by simp only [hNew_1]; omega) (by simp only [hNew_2]; omega)) meX2_init rfl rfl q484 q485 rfl rfl (Nat.le_of_ble_eq_true rfl) (by first | exact jF | exact fun _ z => z | assumption | (intro κ z; simp_all)) (jk_n (fun u h10 hp10 fr10 => ?_)) jk_x
  obtain ⟨rfl, hO10, fa10, z101, z102⟩ := hp10
  simp only [hNew_1, hNew_2] at z101 z102
  have f10 : hFr (fun _ => False) h8 h10 := hFr.fa f9 fa10 (fun q c z y => by rw [z] at y; exact absurd (hwf8 _ _ y) (Nat.lt_irrefl _))
  have fa10' : hFa (fun _ => False) h8 h10 := by
    refine ⟨f10.1, f10.2.1, fun q c e => ⟨fun _ => (f10.2.2 q c e).1 (fun z => z), (f10.2.2 q c e).2⟩⟩
  clear fr10
  have hE10 := (f10.2.2 _ _ hE8).1 (fun z => z)
  have A10 := A8.nw f10
  have n10 := (f10.2.2 _ _ n8).1 (fun z => z)
  have B10 := B8.fr f10 (fun z => z) (fun z => z)
  refine g_put (pc := 47) (r := (RX1, TX1, 8)) 3 dX1_init_47 hE10 rfl (Nat.le_of_ble_eq_true rfl) q498 (Or.inl rfl) rfl (by decide) trivial (tyX1_ok 3 (Nat.le_of_ble_eq_true rfl)) rfl rfl ?_
  have hE11 := hSet_s h10 E (1, .inl [.ref h.1, .ref h3.1, .ref h5.1, .ref h8.1, .int (nI 0), .int (nI 0), .int (nI 0), .int (nI 0)])
  refine g_aload_n (pc := 50) dX1_init_50 rfl rfl ?_
  refine g_iconst (pc := 51) (v := (-1)) dX1_init_51 rfl ?_
  refine g_put (pc := 52) (r := (RX1, TX1, 8)) 4 dX1_init_52 hE11 rfl (Nat.le_of_ble_eq_true rfl) q499 (Or.inl rfl) rfl (by decide) trivial (tyX1_ok 4 (Nat.le_of_ble_eq_true rfl)) rfl rfl ?_
  rw [hSet_Set]
  refine g_vret (pc := 55) dX1_init_55 rfl ?_
  have fs12 : hFr (fun κ => κ = 1) h10 (hSet h10 E (eF h.1 h3.1 h5.1 h8.1 (-1) 0 0 0)) := (hFr.rf h10).set hE10 rfl rfl
  have fa12 : hFa (fun q => q = E) h10 (hSet h10 E (eF h.1 h3.1 h5.1 h8.1 (-1) 0 0 0)) := hFa.set hE10 rfl rfl
  have mo : ∀ {a b : hP}, hFa (fun _ => False) a b → hFa (fun q => q = E) a b := fun x => x.mono (fun _ z => z.elim)
  have fa := ((((((mo fa2).tr fa3).tr (mo fa4)).tr fa5).tr (mo fa7)).tr fa8).tr (mo fa10') |>.tr fa12
  refine ⟨_, rfl, ⟨rfl, h.1, h.1 + 1, h3.1, h5.1, h8.1, hSet_s _ _ _, A10.fr fs12 (by decide) (by decide) (by decide), ⟨_, (fs12.2.2 _ _ n10).1 (by intro z; cases z), fun k _ => Or.inl ⟨rfl, rfl⟩⟩, B10.fr fs12 (by decide) (by decide), hO10.fr fs12 (by decide) (by decide) (by decide), fa, ⟨by show h10.1 ≤ _; omega, by show h10.2.1 ≤ _; omega⟩⟩, hFr.fa (hFr.rf h) fa (fun q c z e => ?_)⟩
  rw [z, hE] at e
  cases e
  rfl
end EI
