/-! COMPONENT 38: number, list, map -/
set_option maxRecDepth 100000
section EM
variable {Z : hE} {h : hP} {E dl ta ln rd tg th sr e cap : Nat} {ea : Int32} {xs : List Nat}
/-- a list over new cells -/
theorem jAL.nw {h h' : hP} {κ a κe : Nat} (f : hFr (fun _ => False) h h') (x : jAL Z h κ a κe e cap xs) : jAL Z h' κ a κe e cap xs := by
  obtain ⟨k1, k2, k3, k4, k5, ⟨md, k6⟩, k7⟩ := x
  refine ⟨k1, k2, k3, k4, fun y hy => (k5 y hy).fr f, ⟨md, (f.2.2 _ _ k6).1 (fun z => z)⟩, ?_⟩
  obtain ⟨g, z | z⟩ := k7
  · exact ⟨g, Or.inl ⟨z.1, z.2.1, (f.2.2 _ _ z.2.2).1 (fun z => z)⟩⟩
  · exact ⟨g, Or.inr ⟨z.1, (f.2.2 _ _ z.2.1).1 (fun z => z), z.2.2⟩⟩
/-- after a try to make an item whose cells are C (address to cell) -/
def enM (Z : hE) (h : hP) (E dl : Nat) (c : hC) (xs : List Nat) (C : List (Nat × hC)) : hO → hP → Prop := fun r h' =>
  (xs.length < 60 ∧ r = .inl (some (.int (nI xs.length))) ∧ (∃ e' cap', jAL Z h' 32 dl 65 e' cap' (xs ++ [h.1])) ∧ (∀ q ∈ C, h'.2.2 q.1 = some q.2) ∧ hFr (fun κ => κ = 32 ∨ κ = 65) h h' ∧ jRm h h' 5 200) ∨
  (xs.length = 60 ∧ r = .inr ISE ∧ h'.2.2 E = some c ∧ hFr (fun κ => κ = 1) h h' ∧ jRm h h' 5 200)
theorem en_number (d : Nat) (v : Int32) (hE : h.2.2 E = some (eF dl ta ln rd ea tg th sr)) (hA : jAL Z h 32 dl 65 e cap xs) (hn : xs.length ≤ 60) (l1 : h.1 + 10 ≤ hLC Z) (l2 : h.2.1 + 1100 ≤ hLS) : hCt Z mX1_number (d + 9) (fun κ => κ = 1 ∨ κ = 32 ∨ κ = 65) [.ref E, .int v] h (enM Z h E dl (eF dl ta ln rd ea tg (th + 1) sr) xs [(h.1, (5, .inl [.int (nI 0), .int v]))]) := by
  refine hCt.shr (S' := kAll) ?_
  refine hCt.of pnX1 rfl (Nat.le_of_ble_eq_true rfl) rfl (fun X => ?_)
  refine g_aload_n (pc := 0) dX1_number_0 rfl rfl ?_
  refine g_new (pc := 1) (r := (RX5, TX5, 2)) (fs := [.int (nI 0), .int (nI 0)]) 5 dX1_number_1 rfl (by decide) q610 q611 q96 rfl (by first | omega | (simp only [hNew_1, hNew_2, hSet_1, hSet_2]; omega)) (by first | omega | (simp only [hNew_1, hNew_2, hSet_1, hSet_2]; omega)) (fun hwf => ?_)
  have f1 : ∀ c, hFr (fun _ => False) h (hNew h c 2) := fun c => (hFr.rf h).new hwf
  have n1 := hNew_s h (5, .inl [.int (nI 0), .int (nI 0)]) 2
  refine g_dup (pc := 4) dX1_number_4 rfl ?_
  refine g_iload_n (pc := 5) dX1_number_5 rfl rfl ?_
  refine g_invI (pc := 6) dX1_number_6 (cd_num (d + 6) _ _ v n1) meX5_init rfl rfl q612 q613 rfl rfl (Nat.le_of_ble_eq_true rfl) (fun κ z => by rw [z]; exact Nat.le_of_ble_eq_true rfl) (jk_n (fun u h2 hp2 fr2 => ?_)) jk_x
  obtain ⟨rfl, rfl⟩ := hp2
  rw [hSet_New]
  have n2 := hNew_s h (5, .inl [.int (nI 0), .int v]) 2
  have hE2 := ((f1 (5, .inl [.int (nI 0), .int v])).2.2 _ _ hE).1 (fun z => z)
  refine g_invV (pc := 9) dX1_number_9 hE2 rfl (en_make d hE2 (hA.nw (f1 _)) ⟨_, _, n2, rfl, q2287⟩ hn (by simp only [hNew_1]; omega) (by simp only [hNew_2]; omega)) meX1_make q627 q629 qs3 rfl rfl (Nat.le_of_ble_eq_true rfl) (fun κ z => by rcases z with z | z | z <;> rw [z] <;> exact Nat.le_of_ble_eq_true rfl) (fun u h3 hp3 fr3 => ?_) (fun E' h3 hp3 fr3 => ?_)
  · rcases hp3 with ⟨z1, z2, z3, z4, z5⟩ | ⟨_, z2, _⟩
    · have z2 := Sum.inl.inj z2
      subst z2
      have r1 := z5.1
      have r2 := z5.2
      simp only [hNew_1, hNew_2] at r1 r2
      have f3 : hFr (fun κ => κ = 32 ∨ κ = 65) h h3 := (hFr.mono (fun _ z => z.elim) (f1 _)).tr z4
      refine g_iret (pc := 12) dX1_number_12 rfl ?_
      refine ⟨Or.inl ⟨z1, rfl, z3, fun q hq => ?_, f3, ⟨by omega, by omega⟩⟩, hFr.mono (fun κ z => Or.inr z) f3⟩
      rw [List.mem_singleton.mp hq]
      exact (z4.2.2 _ _ n2).1 (by rintro (z | z) <;> cases z)
    · cases z2
  · refine gx_out (fun x hx => by cases hx) ?_
    rcases hp3 with ⟨_, z2, _⟩ | ⟨z1, z2, z3, z4, z5⟩
    · cases z2
    · have r1 := z5.1
      have r2 := z5.2
      simp only [hNew_1, hNew_2] at r1 r2
      have f3 : hFr (fun κ => κ = 1) h h3 := (hFr.mono (fun _ z => z.elim) (f1 _)).tr z4
      exact ⟨Or.inr ⟨z1, z2, z3, f3, ⟨by omega, by omega⟩⟩, hFr.mono (fun κ z => Or.inl z) f3⟩
theorem en_list (d : Nat) (hE : h.2.2 E = some (eF dl ta ln rd ea tg th sr)) (hA : jAL Z h 32 dl 65 e cap xs) (hn : xs.length ≤ 60) (l1 : h.1 + 10 ≤ hLC Z) (l2 : h.2.1 + 1100 ≤ hLS) : hCt Z mX1_list (d + 9) (fun κ => κ = 1 ∨ κ = 32 ∨ κ = 65) [.ref E] h (enM Z h E dl (eF dl ta ln rd ea tg (th + 1) sr) xs [(h.1, (7, .inl [.int (nI 0), .ref (h.1 + 1), .int (nI 0)])), (h.1 + 1, (68, .inr (10, fun _ => .null)))]) := by
  refine hCt.shr (S' := kAll) ?_
  refine hCt.of pnX1 rfl (Nat.le_of_ble_eq_true rfl) rfl (fun X => ?_)
  refine g_aload_n (pc := 0) dX1_list_0 rfl rfl ?_
  refine g_new (pc := 1) (r := (RX7, TX7, 3)) (fs := [.int (nI 0), .null, .int (nI 0)]) 7 dX1_list_1 rfl (by decide) q791 q792 q101 rfl (by first | omega | (simp only [hNew_1, hNew_2, hSet_1, hSet_2]; omega)) (by first | omega | (simp only [hNew_1, hNew_2, hSet_1, hSet_2]; omega)) (fun hwf => ?_)
  have hwf0 := hwf
  have f1 : ∀ c, hFr (fun _ => False) h (hNew h c 3) := fun c => (hFr.rf h).new hwf
  have n1 := hNew_s h (7, .inl [.int (nI 0), .null, .int (nI 0)]) 3
  refine g_dup (pc := 4) dX1_list_4 rfl ?_
  refine g_wf (fun hwf1 => ?_)
  refine g_invIN (pc := 5) dX1_list_5 (cd_list (d + 6) _ _ _ n1 (by simp only [hNew_1]; omega) (by simp only [hNew_2]; omega)) meX7_init rfl rfl q793 q794 rfl rfl (Nat.le_of_ble_eq_true rfl) (fun κ z => by rw [z]; exact Nat.le_of_ble_eq_true rfl) (jk_n (fun u h2 hp2 fr2 => ?_)) jk_x
  obtain ⟨rfl, hh2⟩ := hp2
  have hne : h.1 + 1 ≠ h.1 := by omega
  have f2 : hFr (fun _ => False) h h2 := by
    rw [hh2]
    exact (((f1 _).new hwf1).setN hwf0 (Nat.le_refl _))
  have c1 : h2.2.2 h.1 = some (7, .inl [.int (nI 0), .ref (h.1 + 1), .int (nI 0)]) := by rw [hh2]; exact hSet_s _ _ _
  have c2 : h2.2.2 (h.1 + 1) = some (68, .inr (10, fun _ => .null)) := by rw [hh2, hSet_n hne]; exact hNew_s _ _ _
  have s1 : h2.1 = h.1 + 2 := by rw [hh2]; rfl
  have s2 : h2.2.1 = h.2.1 + 13 := by rw [hh2]; rfl
  have hE2 := (f2.2.2 _ _ hE).1 (fun z => z)
  refine g_invV (pc := 8) dX1_list_8 hE2 rfl (en_make d hE2 (hA.nw f2) ⟨_, _, c1, rfl, q2298⟩ hn (by omega) (by omega)) meX1_make q627 q629 qs3 rfl rfl (Nat.le_of_ble_eq_true rfl) (fun κ z => by rcases z with z | z | z <;> rw [z] <;> exact Nat.le_of_ble_eq_true rfl) (fun u h3 hp3 fr3 => ?_) (fun E' h3 hp3 fr3 => ?_)
  · rcases hp3 with ⟨z1, z2, z3, z4, z5⟩ | ⟨_, z2, _⟩
    · have z2 := Sum.inl.inj z2
      subst z2
      have r1 := z5.1
      have r2 := z5.2
      have f3 : hFr (fun κ => κ = 32 ∨ κ = 65) h h3 := (hFr.mono (fun _ z => z.elim) f2).tr z4
      refine g_iret (pc := 11) dX1_list_11 rfl ?_
      refine ⟨Or.inl ⟨z1, rfl, z3, fun q hq => ?_, f3, ⟨by omega, by omega⟩⟩, hFr.mono (fun κ z => Or.inr z) f3⟩
      rcases List.mem_cons.mp hq with z | z
      · rw [z]; exact (z4.2.2 _ _ c1).1 (by rintro (z | z) <;> cases z)
      · rw [List.mem_singleton.mp z]; exact (z4.2.2 _ _ c2).1 (by rintro (z | z) <;> cases z)
    · cases z2
  · refine gx_out (fun x hx => by cases hx) ?_
    rcases hp3 with ⟨_, z2, _⟩ | ⟨z1, z2, z3, z4, z5⟩
    · cases z2
    · have r1 := z5.1
      have r2 := z5.2
      have f3 : hFr (fun κ => κ = 1) h h3 := (hFr.mono (fun _ z => z.elim) f2).tr z4
      exact ⟨Or.inr ⟨z1, z2, z3, f3, ⟨by omega, by omega⟩⟩, hFr.mono (fun κ z => Or.inl z) f3⟩
theorem en_map (d : Nat) (hE : h.2.2 E = some (eF dl ta ln rd ea tg th sr)) (hA : jAL Z h 32 dl 65 e cap xs) (hn : xs.length ≤ 60) (l1 : h.1 + 10 ≤ hLC Z) (l2 : h.2.1 + 1100 ≤ hLS) : hCt Z mX1_map (d + 9) (fun κ => κ = 1 ∨ κ = 32 ∨ κ = 65) [.ref E] h (enM Z h E dl (eF dl ta ln rd ea tg (th + 1) sr) xs [(h.1, (8, .inl [.int (nI 0), .ref (h.1 + 1), .int (nI 0), .ref (h.1 + 2)])), (h.1 + 1, (68, .inr (10, fun _ => .null))), (h.1 + 2, (69, .inr (10, fun _ => .null)))]) := by
  refine hCt.shr (S' := kAll) ?_
  refine hCt.of pnX1 rfl (Nat.le_of_ble_eq_true rfl) rfl (fun X => ?_)
  refine g_aload_n (pc := 0) dX1_map_0 rfl rfl ?_
  refine g_new (pc := 1) (r := (RX8, TX8, 4)) (fs := [.int (nI 0), .null, .int (nI 0), .null]) 8 dX1_map_1 rfl (by decide) q821 q822 q102 rfl (by first | omega | (simp only [hNew_1, hNew_2, hSet_1, hSet_2]; omega)) (by first | omega | (simp only [hNew_1, hNew_2, hSet_1, hSet_2]; omega)) (fun hwf => ?_)
  have hwf0 := hwf
  have f1 : ∀ c, hFr (fun _ => False) h (hNew h c 4) := fun c => (hFr.rf h).new hwf
  have n1 := hNew_s h (8, .inl [.int (nI 0), .null, .int (nI 0), .null]) 4
  refine g_dup (pc := 4) dX1_map_4 rfl ?_
  refine g_wf (fun hwf1 => ?_)
  refine g_invIN (pc := 5) dX1_map_5 (cd_map (d + 5) _ _ _ _ n1 (by simp only [hNew_1]; omega) (by simp only [hNew_2]; omega)) meX8_init rfl rfl q823 q824 rfl rfl (Nat.le_of_ble_eq_true rfl) (fun κ z => by rw [z]; exact Nat.le_of_ble_eq_true rfl) (jk_n (fun u h2 hp2 fr2 => ?_)) jk_x
  obtain ⟨rfl, hh2⟩ := hp2
  have hne : h.1 + 1 ≠ h.1 := by omega
  have f2 : hFr (fun _ => False) h h2 := by
    rw [hh2]
    refine (((f1 _).new hwf1).new (fun a c hc => ?_)).setN hwf0 (Nat.le_refl _)
    by_cases z : a = (hNew h (8, .inl [.int (nI 0), .null, .int (nI 0), .null]) 4).1
    · rw [z]; exact Nat.lt_succ_self _
    · rw [hNew_n z] at hc; exact Nat.lt_succ_of_lt (hwf1 _ _ hc)
  have c1 : h2.2.2 h.1 = some (8, .inl [.int (nI 0), .ref (h.1 + 1), .int (nI 0), .ref (h.1 + 2)]) := by rw [hh2]; exact hSet_s _ _ _
  have c2 : h2.2.2 (h.1 + 1) = some (68, .inr (10, fun _ => .null)) := by
    rw [hh2, hSet_n hne]
    exact (hNew_n (h := hNew (hNew h (8, .inl [.int (nI 0), .null, .int (nI 0), .null]) 4) (68, .inr (10, fun _ => .null)) 10) (show h.1 + 1 ≠ h.1 + 1 + 1 by omega)).trans (hNew_s _ _ _)
  have c3 : h2.2.2 (h.1 + 2) = some (69, .inr (10, fun _ => .null)) := by rw [hh2, hSet_n (show h.1 + 2 ≠ h.1 by omega)]; exact hNew_s _ _ _
  have s1 : h2.1 = h.1 + 3 := by rw [hh2]; rfl
  have s2 : h2.2.1 = h.2.1 + 24 := by rw [hh2]; rfl
  have hE2 := (f2.2.2 _ _ hE).1 (fun z => z)
  refine g_invV (pc := 8) dX1_map_8 hE2 rfl (en_make d hE2 (hA.nw f2) ⟨_, _, c1, rfl, q2299⟩ hn (by omega) (by omega)) meX1_make q627 q629 qs3 rfl rfl (Nat.le_of_ble_eq_true rfl) (fun κ z => by rcases z with z | z | z <;> rw [z] <;> exact Nat.le_of_ble_eq_true rfl) (fun u h3 hp3 fr3 => ?_) (fun E' h3 hp3 fr3 => ?_)
  · rcases hp3 with ⟨z1, z2, z3, z4, z5⟩ | ⟨_, z2, _⟩
    · have z2 := Sum.inl.inj z2
      subst z2
      have r1 := z5.1
      have r2 := z5.2
      have f3 : hFr (fun κ => κ = 32 ∨ κ = 65) h h3 := (hFr.mono (fun _ z => z.elim) f2).tr z4
      refine g_iret (pc := 11) dX1_map_11 rfl ?_
      refine ⟨Or.inl ⟨z1, rfl, z3, fun q hq => ?_, f3, ⟨by omega, by omega⟩⟩, hFr.mono (fun κ z => Or.inr z) f3⟩
      rcases List.mem_cons.mp hq with z | z
      · rw [z]; exact (z4.2.2 _ _ c1).1 (by rintro (z | z) <;> cases z)
      · rcases List.mem_cons.mp z with z | z
        · rw [z]; exact (z4.2.2 _ _ c2).1 (by rintro (z | z) <;> cases z)
        · rw [List.mem_singleton.mp z]; exact (z4.2.2 _ _ c3).1 (by rintro (z | z) <;> cases z)
    · cases z2
  · refine gx_out (fun x hx => by cases hx) ?_
    rcases hp3 with ⟨_, z2, _⟩ | ⟨z1, z2, z3, z4, z5⟩
    · cases z2
    · have r1 := z5.1
      have r2 := z5.2
      have f3 : hFr (fun κ => κ = 1) h h3 := (hFr.mono (fun _ z => z.elim) f2).tr z4
      exact ⟨Or.inr ⟨z1, z2, z3, f3, ⟨by omega, by omega⟩⟩, hFr.mono (fun κ z => Or.inl z) f3⟩
end EM
