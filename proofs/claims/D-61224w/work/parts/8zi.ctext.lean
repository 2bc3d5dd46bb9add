/-! COMPONENT 39: text -/
set_option maxRecDepth 100000
section EM
variable {Z : hE} {h : hP} {E dl ta ln rd tg th sr e cap c0 : Nat} {ea : Int32} {xs l : List Nat}
theorem en_text (d : Nat) (hE : h.2.2 E = some (eF dl ta ln rd ea tg th sr)) (hA : jAL Z h 32 dl 65 e cap xs) (hB : jSB h 1 ln c0 l) (hl : l.length ≤ 64) (hn : xs.length ≤ 60) (l1 : h.1 + 10 ≤ hLC Z) (l2 : h.2.1 + 1300 ≤ hLS) : hCt Z mX1_text (d + 9) (fun κ => κ = 1 ∨ κ = 32 ∨ κ = 65 ∨ jSS 1 κ) [.ref E] h (fun r h' =>
    (xs.length < 60 ∧ r = .inl (some (.int (nI xs.length))) ∧ (∃ e' cap', jAL Z h' 32 dl 65 e' cap' (xs ++ [h.1])) ∧ (∃ s, h'.2.2 h.1 = some (6, .inl [.int (nI 0), .ref s, .null]) ∧ jSt h' 30 s l) ∧ jSB h' 1 ln c0 [] ∧ hFr (fun κ => κ = 32 ∨ κ = 65 ∨ jSS 1 κ) h h' ∧ jRm h h' 5 400) ∨
    (xs.length = 60 ∧ r = .inr ISE ∧ h'.2.2 E = some (eF dl ta ln rd ea tg (th + 1) sr) ∧ hFr (fun κ => κ = 1) h h' ∧ jRm h h' 5 400)) := by
  refine hCt.shr (S' := kAll) ?_
  refine hCt.of pnX1 rfl (Nat.le_of_ble_eq_true rfl) rfl (fun X => ?_)
  have kt := k31 1
  refine g_aload_n (pc := 0) dX1_text_0 rfl rfl ?_
  refine g_new (pc := 1) (r := (RX6, TX6, 3)) (fs := [.int (nI 0), .null, .null]) 6 dX1_text_1 rfl (by decide) q701 q702 q97 rfl (by first | omega | (simp only [hNew_1, hNew_2, hSet_1, hSet_2]; omega)) (by first | omega | (simp only [hNew_1, hNew_2, hSet_1, hSet_2]; omega)) (fun hwf => ?_)
  have hwf0 := hwf
  have f1 : hFr (fun _ => False) h (hNew h (6, .inl [.int (nI 0), .null, .null]) 3) := (hFr.rf h).new hwf
  have n1 := hNew_s h (6, .inl [.int (nI 0), .null, .null]) 3
  have hE1 := (f1.2.2 _ _ hE).1 (fun z => z)
  have hB1 := hB.fr f1 (fun z => z) (fun z => z)
  have hB10 := hB1
  obtain ⟨-, -, -, -, b1, m1, g1, ht1, -, -⟩ := hB10
  refine g_dup (pc := 4) dX1_text_4 rfl ?_
  refine g_aload_n (pc := 5) dX1_text_5 rfl rfl ?_
  refine g_get (pc := 6) (r := (RX1, TX1, 8)) 2 dX1_text_6 hE1 rfl (Nat.le_of_ble_eq_true rfl) q497 (Or.inl rfl) rfl ?_
  refine g_invV (pc := 9) dX1_text_9 ht1 kt (jc_toString (d + 3) hB1 (by simp only [hNew_1]; omega) (by simp only [hNew_2]; omega)) meJ8_toString q703 q369 q370 rfl rfl (Nat.le_of_ble_eq_true rfl) (by first | exact jF | exact fun _ z => z | assumption | (intro κ z; simp_all)) (jk_n (fun u h2 hp2 fr2 => ?_)) jk_x
  obtain ⟨rfl, js, rm2⟩ := hp2
  have r21 := rm2.1
  have r22 := rm2.2
  simp only [hNew_1, hNew_2] at r21 r22
  have n2 := (fr2.2.2 _ _ n1).1 (fun z => z)
  refine g_invI (pc := 12) dX1_text_12 (cd_text (d + 6) _ _ _ _ n2) meX6_init rfl rfl q704 q705 rfl rfl (Nat.le_of_ble_eq_true rfl) (fun κ z => by rw [z]; exact Nat.le_of_ble_eq_true rfl) (jk_n (fun u h3 hp3 fr3 => ?_)) jk_x
  obtain ⟨rfl, hh3⟩ := hp3
  have f3 : hFr (fun _ => False) h h3 := by
    rw [hh3]
    exact (f1.tr fr2).setN hwf0 (Nat.le_refl _)
  have s31 : h3.1 = h2.1 := by rw [hh3]; rfl
  have s32 : h3.2.1 = h2.2.1 := by rw [hh3]; rfl
  have n3 : h3.2.2 h.1 = some (6, .inl [.int (nI 0), .ref (hNew h (6, .inl [.int (nI 0), .null, .null]) 3).1, .null]) := by rw [hh3]; exact hSet_s _ _ _
  have js3 : jSt h3 30 (hNew h (6, .inl [.int (nI 0), .null, .null]) 3).1 l := js.fr (S := fun κ => κ = 6) fr3 (by decide) (by decide) (by decide)
  have hE3 := (f3.2.2 _ _ hE).1 (fun z => z)
  have hB3 := hB.fr f3 (fun z => z) (fun z => z)
  refine g_invV (pc := 15) dX1_text_15 hE3 rfl (en_make d hE3 (hA.nw f3) ⟨_, _, n3, rfl, q2295⟩ hn (by omega) (by omega)) meX1_make q627 q629 qs3 rfl rfl (Nat.le_of_ble_eq_true rfl) (fun κ z => by rcases z with z | z | z <;> rw [z] <;> exact Nat.le_of_ble_eq_true rfl) (fun u h4 hp4 fr4 => ?_) (fun E' h4 hp4 fr4 => ?_)
  · rcases hp4 with ⟨z1, z2, ⟨e', cap', z3⟩, z4, z5⟩ | ⟨_, z2, _⟩
    · have z2 := Sum.inl.inj z2
      subst z2
      have r1 := z5.1
      have r2 := z5.2
      have hE4 := (z4.2.2 _ _ hE3).1 (by rintro (z | z) <;> cases z)
      have hB4 := hB3.fr z4 (by rintro (z | z) <;> cases z) (by rintro (z | z) <;> cases z)
      have hB40 := hB4
      obtain ⟨-, -, q3, q4, b4, m4, g4, ht4, -, -⟩ := hB40
      refine g_istore_n (pc := 18) (ls' := [(0, _), (1, _)]) dX1_text_18 rfl (Nat.le_of_ble_eq_true rfl) rfl ?_
      refine g_aload_n (pc := 19) dX1_text_19 rfl rfl ?_
      refine g_get (pc := 20) (r := (RX1, TX1, 8)) 2 dX1_text_20 hE4 rfl (Nat.le_of_ble_eq_true rfl) q497 (Or.inl rfl) rfl ?_
      refine g_iconst (pc := 23) (v := nI 0) dX1_text_23 rfl ?_
      refine g_invV (pc := 24) dX1_text_24 ht4 kt (jc_setLength (d + 3) 0 hB4 (Nat.zero_le _) (by omega) (by omega) (by omega)) meJ8_setLength q716 q717 q718 rfl rfl (Nat.le_of_ble_eq_true rfl) (fun κ z => by rcases z with z | z <;> rw [z] <;> exact Nat.le_of_ble_eq_true rfl) (jk_n (fun u h5 hp5 fr5 => ?_)) jk_x
      obtain ⟨rfl, w1, w2, w3⟩ := hp5
      refine g_iload_n (pc := 27) dX1_text_27 rfl rfl ?_
      refine g_iret (pc := 28) dX1_text_28 rfl ?_
      have f5 : hFr (fun κ => κ = 32 ∨ κ = 65 ∨ jSS 1 κ) h h5 := ((hFr.mono (fun _ z => z.elim) f3).tr (hFr.mono (fun κ z => by rcases z with z | z; exact Or.inl z; exact Or.inr (Or.inl z)) z4)).tr (hFr.mono (fun κ z => Or.inr (Or.inr z)) fr5)
      have hA5 : jAL Z h5 32 dl 65 e' cap' (xs ++ [h.1]) := by
        obtain ⟨k1, k2, k3, k4, k5, ⟨md, k6⟩, k7⟩ := z3
        refine ⟨k1, k2, k3, k4, fun y hy => (k5 y hy).fr fr5, ⟨md, (fr5.2.2 _ _ k6).1 (by rintro (z | z) <;> cases z)⟩, ?_⟩
        obtain ⟨g, z | z⟩ := k7
        · exact ⟨g, Or.inl ⟨z.1, z.2.1, (fr5.2.2 _ _ z.2.2).1 (by rintro (z | z) <;> cases z)⟩⟩
        · exact ⟨g, Or.inr ⟨z.1, (fr5.2.2 _ _ z.2.1).1 (by rintro (z | z) <;> cases z), z.2.2⟩⟩
      have js5 : jSt h5 30 (hNew h (6, .inl [.int (nI 0), .null, .null]) 3).1 l := (js3.fr z4 (by decide) (by decide) (by decide)).frB (by decide) fr5
      refine ⟨Or.inl ⟨z1, rfl, ⟨e', cap', hA5⟩, ⟨_, (fr5.2.2 _ _ ((z4.2.2 _ _ n3).1 (by rintro (z | z) <;> cases z))).1 (by rintro (z | z) <;> cases z), js5⟩, w1, f5, ⟨by omega, by omega⟩⟩, hFr.mono (fun κ z => Or.inr z) f5⟩
    · cases z2
  · refine gx_out (fun x hx => by cases hx) ?_
    rcases hp4 with ⟨_, z2, _⟩ | ⟨z1, z2, z3, z4, z5⟩
    · cases z2
    · have r1 := z5.1
      have r2 := z5.2
      have f4 : hFr (fun κ => κ = 1) h h4 := (hFr.mono (fun _ z => z.elim) f3).tr z4
      exact ⟨Or.inr ⟨z1, z2, z3, f4, ⟨by omega, by omega⟩⟩, hFr.mono (fun κ z => Or.inl z) f4⟩
end EM
