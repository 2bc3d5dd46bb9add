/-! COMPONENT 37: make -/
set_option maxRecDepth 100000
section EM
variable {Z : hE} {h : hP} {E dl ta ln rd tg th sr e cap a : Nat} {ea : Int32} {xs : List Nat}
theorem en_make (d : Nat) (hE : h.2.2 E = some (eF dl ta ln rd ea tg th sr)) (hA : jAL Z h 32 dl 65 e cap xs) (hx : elK h a) (hn : xs.length ≤ 60) (l1 : h.1 + 1 ≤ hLC Z) (l2 : h.2.1 + 1000 ≤ hLS) : hCt Z mX1_make (d + 8) (fun κ => κ = 1 ∨ κ = 32 ∨ κ = 65) [.ref E, .ref a] h (fun r h' => (xs.length < 60 ∧ r = .inl (some (.int (nI xs.length))) ∧ (∃ e' cap', jAL Z h' 32 dl 65 e' cap' (xs ++ [a])) ∧ hFr (fun κ => κ = 32 ∨ κ = 65) h h' ∧ jRm h h' 1 (2 * xs.length + 10)) ∨ (xs.length = 60 ∧ r = .inr ISE ∧ eTh h E (eF dl ta ln rd ea tg (th + 1) sr) h')) := by
  have hA0 := hA
  obtain ⟨-, -, -, -, -, ⟨md, hLa⟩, -⟩ := hA
  refine hCt.of pnX1 rfl (Nat.le_of_ble_eq_true rfl) rfl (fun X => ?_)
  refine g_aload_n (pc := 0) dX1_make_0 rfl rfl ?_
  refine g_get (pc := 1) (r := (RX1, TX1, 8)) 0 dX1_make_1 hE rfl (Nat.le_of_ble_eq_true rfl) q494 (Or.inl rfl) rfl ?_
  refine g_invV (pc := 4) dX1_make_4 hLa rfl (jc_lsize (d + 7) hA0) meJ2_size q528 q529 q530 rfl rfl (Nat.le_of_ble_eq_true rfl) (by first | exact jF | exact fun _ z => z | assumption | (intro κ z; simp_all)) (jk_e ?_) jk_x
  refine g_bipush (pc := 7) (v := nI 60) dX1_make_7 rfl ?_
  refine g_icmp_neN (pc := 9) (tgt := 17) dX1_make_9 rfl (by omega) (by omega) (fun q9 => ?_) (fun q9 => ?_)
  · refine g_aload_n (pc := 17) dX1_make_17 rfl rfl ?_
    refine g_get (pc := 18) (r := (RX1, TX1, 8)) 0 dX1_make_18 hE rfl (Nat.le_of_ble_eq_true rfl) q494 (Or.inl rfl) rfl ?_
    refine g_aload_n (pc := 21) dX1_make_21 rfl rfl ?_
    refine g_invV (pc := 22) dX1_make_22 hLa rfl (jc_ladd (d + 1) a hA0 hx (by omega) l1 (by omega)) meJ2_add q631 q632 q633 rfl rfl (Nat.le_of_ble_eq_true rfl) (fun κ z => Or.inr z) (jk_n (fun v h1 hp1 fr1 => ?_)) jk_x
    obtain ⟨rfl, ⟨e', cap', hA1, he'⟩, fa1, rm1⟩ := hp1
    have hE1 := (fr1.2.2 _ _ hE).1 (by rintro (z | z) <;> cases z)
    have hA10 := hA1
    obtain ⟨-, -, -, -, -, ⟨md1, hLa1⟩, -⟩ := hA10
    refine g_pop (pc := 25) dX1_make_25 rfl ?_
    refine g_aload_n (pc := 26) dX1_make_26 rfl rfl ?_
    refine g_get (pc := 27) (r := (RX1, TX1, 8)) 0 dX1_make_27 hE1 rfl (Nat.le_of_ble_eq_true rfl) q494 (Or.inl rfl) rfl ?_
    refine g_invV (pc := 30) dX1_make_30 hLa1 rfl (jc_lsize (d + 7) hA1) meJ2_size q528 q529 q530 rfl rfl (Nat.le_of_ble_eq_true rfl) (by first | exact jF | exact fun _ z => z | assumption | (intro κ z; simp_all)) (jk_e ?_) jk_x
    rw [List.length_append]
    show hG Z X mX1_make (d + 8) _ h _ 33 _ [.int (nI (xs.length + 1))] h1
    refine g_iconst (pc := 33) (v := nI 1) dX1_make_33 rfl ?_
    first | refine g_isubN (pc := 34) dX1_make_34 (by omega) ?_ | refine g_isub (pc := 34) dX1_make_34 ?_
    rw [Nat.add_sub_cancel]
    refine g_iret (pc := 35) dX1_make_35 rfl ?_
    exact Or.inl ⟨by omega, rfl, ⟨e', cap', hA1⟩, fr1, rm1⟩
  · refine g_aload_n (pc := 12) dX1_make_12 rfl rfl ?_
    refine g_invV (pc := 13) dX1_make_13 hE rfl (en_badState d hE l1 (by omega)) meX1_badState q562 q564 qs2 rfl rfl (Nat.le_of_ble_eq_true rfl) (fun κ z => Or.inl z) (jk_n (fun v h1 hp fr => ?_)) jk_x
    obtain ⟨rfl, rfl, hwf⟩ := hp
    refine g_athrow (pc := 16) dX1_make_16 (hNew_s _ _ _) (by decide) rfl ?_
    refine gx_out (fun x hx => by cases hx) ?_
    exact Or.inr ⟨q9, rfl, eTh.mk hE rfl rfl hwf⟩
end EM
