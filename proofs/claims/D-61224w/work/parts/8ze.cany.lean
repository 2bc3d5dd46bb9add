/-! COMPONENT 35: any, kind, size -/
set_option maxRecDepth 100000
/-- the engine's list of the data -/
def eL (Z : hE) (D : aD) (w : cW) (h : hP) (dl e : Nat) : Prop := ∃ xs cap, jAL Z h 32 dl 65 e cap xs ∧ xs.length = D.1 ∧ ∀ i, i < D.1 → xs.getD i 0 = w.1 i
section EA
variable {Z : hE} {h : hP} {D : aD} {w : cW} {q E dl ta ln rd tg th sr el : Nat} {ea : Int32}
/-- the class of an item -/
theorem cD.kd (hD : cD D w h q) {k : Nat} (hk : k < D.1) : ∃ κ fs r, h.2.2 (w.1 k) = some (κ, .inl fs) ∧ hCl (κ % 100) = some r ∧ Cond.castable r.1 "TemplateEngine$Data" ∈ lw_tbl := by
  have hi := hD.1 k hk
  unfold cIt at hi
  generalize D.2 k = y at hi
  rcases y with v | l | ⟨_ | _, ps⟩
  · obtain ⟨j, z1, z2⟩ := hi
    exact ⟨5, _, (RX5, TX5, 2), z2, rfl, q2281⟩
  · obtain ⟨z0, j, s, c, z1, z2⟩ := hi
    exact ⟨6, _, (RX6, TX6, 3), z2, rfl, q2282⟩
  · obtain ⟨j, f, z1, z2, z3⟩ := hi
    exact ⟨7, _, (RX7, TX7, 3), z2, rfl, q2279⟩
  · obtain ⟨j, f, g, z1, z2, z3⟩ := hi
    exact ⟨8, _, (RX8, TX8, 4), z2, rfl, q2280⟩
theorem en_any (d : Nat) (x : Int32) (hE : h.2.2 E = some (eF dl ta ln rd ea tg th sr)) (hL : eL Z D w h dl el) (hD : cD D w h q) (l1 : h.1 + 1 ≤ hLC Z) (l2 : h.2.1 + 6 ≤ hLS) : hCt Z mX1_any (d + 8) (fun κ => κ = 1) [.ref E, .int x] h (fun r h' => (0 ≤ x.toInt ∧ x.toInt < D.1 ∧ r = .inl (some (.ref (w.1 x.toInt.toNat))) ∧ h' = h) ∨ (¬ (0 ≤ x.toInt ∧ x.toInt < D.1) ∧ r = .inr NSEE ∧ eTh h E (eF dl ta ln rd ea tg (th + 1) sr) h')) := by
  obtain ⟨xs, cap, hA, hn, hxs⟩ := hL
  have hA0 := hA
  obtain ⟨-, -, -, -, -, ⟨md, hLa⟩, -⟩ := hA
  have h60 := hD.2.2.2.2.2.1
  refine hCt.of pnX1 rfl (Nat.le_of_ble_eq_true rfl) rfl (fun X => ?_)
  have bad : ¬ (0 ≤ x.toInt ∧ x.toInt < D.1) → hG Z X mX1_any (d + 8) (fun κ => κ = 1) h (fun r h' => (0 ≤ x.toInt ∧ x.toInt < D.1 ∧ r = .inl (some (.ref (w.1 x.toInt.toNat))) ∧ h' = h) ∨ (¬ (0 ≤ x.toInt ∧ x.toInt < D.1) ∧ r = .inr NSEE ∧ eTh h E (eF dl ta ln rd ea tg (th + 1) sr) h')) 15 [(0, .ref E), (1, .int x)] [] h := by
    intro hb
    refine g_aload_n (pc := 15) dX1_any_15 rfl rfl ?_
    refine g_invV (pc := 16) dX1_any_16 hE rfl (en_none d hE l1 l2) meX1_none q848 q850 qs8 rfl rfl (Nat.le_of_ble_eq_true rfl) (by first | exact jF | exact fun _ z => z | assumption | (intro κ z; simp_all)) (jk_n (fun v h1 hp fr => ?_)) jk_x
    obtain ⟨rfl, rfl, hwf⟩ := hp
    refine g_athrow (pc := 19) dX1_any_19 (hNew_s _ _ _) (by decide) rfl ?_
    refine gx_out (fun x hx => by cases hx) ?_
    exact Or.inr ⟨hb, rfl, eTh.mk hE rfl rfl hwf⟩
  refine g_iload_n (pc := 0) dX1_any_0 rfl rfl ?_
  refine g_if_lt (pc := 1) (tgt := 15) dX1_any_1 rfl (fun q1 => ?_) (fun q1 => ?_)
  · refine bad (fun z => ?_)
    have := Int32.lt_iff_toInt_lt.mp q1
    simp at this
    omega
  · obtain ⟨i, hi, rfl⟩ := nI_of q1
    refine g_iload_n (pc := 4) dX1_any_4 rfl rfl ?_
    refine g_aload_n (pc := 5) dX1_any_5 rfl rfl ?_
    refine g_get (pc := 6) (r := (RX1, TX1, 8)) 0 dX1_any_6 hE rfl (Nat.le_of_ble_eq_true rfl) q494 (Or.inl rfl) rfl ?_
    refine g_invV (pc := 9) dX1_any_9 hLa rfl (jc_lsize (d + 7) hA0) meJ2_size q528 q529 q530 rfl rfl (Nat.le_of_ble_eq_true rfl) (by first | exact jF | exact fun _ z => z | assumption | (intro κ z; simp_all)) (jk_e ?_) jk_x
    refine g_icmp_ltN (pc := 12) (tgt := 20) dX1_any_12 rfl (by omega) (by omega) (fun q2 => ?_) (fun q2 => ?_)
    · have hiD : i < D.1 := by omega
      obtain ⟨κ, fs, r, c1, c2, c3⟩ := hD.kd hiD
      refine g_aload_n (pc := 20) dX1_any_20 rfl rfl ?_
      refine g_get (pc := 21) (r := (RX1, TX1, 8)) 0 dX1_any_21 hE rfl (Nat.le_of_ble_eq_true rfl) q494 (Or.inl rfl) rfl ?_
      refine g_iload_n (pc := 24) dX1_any_24 rfl rfl ?_
      refine g_invV (pc := 25) dX1_any_25 hLa rfl (jc_lget (d + 5) i hA0 q2) meJ2_get q867 q868 q869 rfl rfl (Nat.le_of_ble_eq_true rfl) (by first | exact jF | exact fun _ z => z | assumption | (intro κ z; simp_all)) (jk_e ?_) jk_x
      rw [hxs i hiD]
      refine g_cast (pc := 28) (r := r) dX1_any_28 c1 c2 q879 (Or.inr c3) ?_
      refine g_aret (pc := 31) dX1_any_31 rfl (Or.inl ⟨_, rfl⟩) (Or.inr ⟨_, rfl⟩) ?_
      refine Or.inl ⟨by rw [nI_toInt hi]; omega, by rw [nI_toInt hi]; omega, ?_, rfl⟩
      rw [nI_toInt hi, Int.toNat_natCast]
    · refine bad (fun z => ?_)
      rw [nI_toInt hi] at z
      omega
end EA
