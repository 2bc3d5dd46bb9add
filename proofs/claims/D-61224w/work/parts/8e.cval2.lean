/-! COMPONENT 15: values by their classes; size, isFalse, kind, element; truth -/
set_option maxRecDepth 100000
theorem cNS.F : cNS (fun _ => False) := fun _ _ z => z
theorem cMn.F {h h' : hP} (f : hFr (fun _ => False) h h') : cMn h h' := cMn.fr f cNS.F (fun z => z) (fun z => z)
section CC
variable {Z : hE} {h : hP} {D : aD} {w : cW} {q : Nat}
/-- the items of a list or map are values -/
theorem cD.el {x i : Nat} {m : Bool} {ps : List (List Nat × Nat)} (hD : cD D w h q) (hx : x < D.1) (e : D.2 x = .inr (.inr (m, ps))) (hi : i < ps.length) : cV D w.1 h 0 (elX D x i) (.ref (w.1 (ps.getD i ([], 0)).2)) := by
  obtain ⟨ρ, hρ⟩ := hD.2.2.2.2.2.2
  have hm : ps.getD i ([], 0) ∈ aPs (D.2 x) := by rw [e]; exact getD_mem hi
  have := hD.v (hρ x hx _ hm).1
  unfold elX
  rw [e]
  exact this
theorem cV.cs (hD : cD D w h q) : ∀ {n b : Nat} {v : aV}, cV D w.1 h n v (.ref b) →
    (∃ k κ w', v = some (.inl k) ∧ h.2.2 b = some (κ, .inl [w', .int k]) ∧ κ % 100 = 5) ∨
    (∃ l, v = some (.inr (.inl l)) ∧ txt h b l) ∨
    (∃ k y l, v = some (.inr (.inl l)) ∧ h.2.2 b = some (21, .inl [k, y, .int (nI l.length)]) ∧ l.length ≤ 400) ∨
    (∃ x ps j f, v = some (.inr (.inr x)) ∧ x < D.1 ∧ D.2 x = .inr (.inr (false, ps)) ∧ h.2.2 b = some (7, .inl [.int (nI j), .ref (w.2.1 x), .int (nI ps.length)]) ∧ h.2.2 (w.2.1 x) = some (68, .inr (10, f)) ∧ ps.length ≤ 10 ∧ ∀ i, i < ps.length → f i = .ref (w.1 (ps.getD i ([], 0)).2)) ∨
    (∃ x ps j f, v = some (.inr (.inr x)) ∧ x < D.1 ∧ D.2 x = .inr (.inr (true, ps)) ∧ h.2.2 b = some (8, .inl [.int (nI j), .ref (w.2.1 x), .int (nI ps.length), .ref (w.2.2 x)]) ∧ h.2.2 (w.2.1 x) = some (68, .inr (10, f)) ∧ ps.length ≤ 10 ∧ ∀ i, i < ps.length → f i = .ref (w.1 (ps.getD i ([], 0)).2))
  | 0, b, v, hv => by
    have hv : vB D w.1 h v (.ref b) := hv
    unfold vB at hv
    split at hv
    · cases hv
    · rename_i k _
      obtain ⟨a', κ', w', e1, e2, e3⟩ := hv
      cases e1
      exact Or.inl ⟨k, κ', w', rfl, e2, by rcases e3 with z | z <;> rw [z]⟩
    · rename_i t _
      obtain ⟨a', e1, ht⟩ := hv
      cases e1
      exact Or.inr (Or.inl ⟨t, rfl, ht⟩)
    · rename_i x _
      obtain ⟨e1, e2, ⟨m, ps⟩, e3⟩ := hv
      cases e1
      have hi := hD.1 x e2
      unfold cIt at hi
      rw [e3] at hi
      cases m with
      | false =>
        obtain ⟨j, f, y1, y2, y3, y4, y5⟩ := hi
        exact Or.inr (Or.inr (Or.inr (Or.inl ⟨x, ps, j, f, rfl, e2, e3, y2, y3, y4, y5⟩)))
      | true =>
        obtain ⟨j, f, g, y1, y2, y3, y4, y5, y6⟩ := hi
        exact Or.inr (Or.inr (Or.inr (Or.inr ⟨x, ps, j, f, rfl, e2, e3, y2, y3, y4, y5⟩)))
  | n + 1, b, v, hv => by
    rcases hv with hv | ⟨a', k, y, v', e1, e2, e3, e4, e5⟩
    · exact cV.cs hD hv
    · cases e1
      exact Or.inr (Or.inr (Or.inl ⟨k, y, _, e3, by rw [List.length_map]; exact e2, by rw [List.length_map]; exact e4⟩))
abbrev szL : List (Nat × hM) := [(5, mX5_size), (6, mX6_size), (7, mX7_size), (8, mX7_size), (21, mX21_size)]
theorem cz_val (hD : cD D w h q) {n b : Nat} {v : aV} (e : Nat) (he : 2 ≤ e) (hv : cV D w.1 h n v (.ref b)) : hDs Z e (fun _ => False) b [] h (jK (fun r h' => r = some (.int (nI (lnV D v))) ∧ h' = h)) szL := by
  obtain ⟨e, rfl⟩ : ∃ e', e = e' + 2 := ⟨e - 2, by omega⟩
  rcases hv.cs hD with ⟨k, κ, w', rfl, e2, e3⟩ | ⟨l, rfl, ht⟩ | ⟨k, y, l, rfl, e2, e3⟩ | ⟨x, ps, j, f, rfl, e1, e2, e3, e4, e5, e6⟩ | ⟨x, ps, j, f, rfl, e1, e2, e3, e4, e5, e6⟩
  · exact ⟨_, _, mX5_size, e2, (by rw [e3]; first | exact mm0 | exact mm1 | exact mm2 | exact mm3 | exact mm4), cd_size5 (e + 1) κ w' k e3 e2⟩
  · obtain ⟨k, s, κ, c, y1, y2, y3, y4⟩ := ht 0
    exact ⟨_, _, mX6_size, y1, (by first | exact mm0 | exact mm1 | exact mm2 | exact mm3 | exact mm4), cd_size6 e s κ l _ c y1 y2⟩
  · exact ⟨_, _, mX21_size, e2, (by first | exact mm0 | exact mm1 | exact mm2 | exact mm3 | exact mm4), cd_size21 (e + 2) _ k y e2⟩
  · refine ⟨_, _, mX7_size, e3, (by first | exact mm0 | exact mm1 | exact mm2 | exact mm3 | exact mm4), ?_⟩
    have : lnV D (some (.inr (.inr x))) = ps.length := by show (aPs (D.2 x)).length = _; rw [e2]; rfl
    rw [this]
    exact cd_size7 (e + 2) _ _ _ e3
  · refine ⟨_, _, mX7_size, e3, (by first | exact mm0 | exact mm1 | exact mm2 | exact mm3 | exact mm4), ?_⟩
    have : lnV D (some (.inr (.inr x))) = ps.length := by show (aPs (D.2 x)).length = _; rw [e2]; rfl
    rw [this]
    exact cd_size8 (e + 2) _ _ _ _ e3
abbrev flL : List (Nat × hM) := [(5, mX5_isFalse), (6, mX6_isFalse), (7, mX7_isFalse), (8, mX8_isFalse), (21, mX21_isFalse)]
theorem len0 (l : List Nat) : (l.length == 0) = decide (l = []) := by
  cases l <;> rfl
theorem cl_val (hD : cD D w h q) {n b : Nat} {v : aV} (e : Nat) (he : 1 ≤ e) (hv : cV D w.1 h n v (.ref b)) : hDs Z e (fun _ => False) b [] h (jK (fun r h' => r = some (.int (nI (flV D v).toNat)) ∧ h' = h)) flL := by
  obtain ⟨e, rfl⟩ : ∃ e', e = e' + 1 := ⟨e - 1, by omega⟩
  rcases hv.cs hD with ⟨k, κ, w', rfl, e2, e3⟩ | ⟨l, rfl, ht⟩ | ⟨k, y, l, rfl, e2, e3⟩ | ⟨x, ps, j, f, rfl, e1, e2, e3, e4, e5, e6⟩ | ⟨x, ps, j, f, rfl, e1, e2, e3, e4, e5, e6⟩
  · exact ⟨_, _, mX5_isFalse, e2, (by rw [e3]; first | exact mm0 | exact mm1 | exact mm2 | exact mm3 | exact mm4), cd_false5 (e + 1) κ w' k e3 e2⟩
  · obtain ⟨k, s, κ, c, y1, y2, y3, y4⟩ := ht 0
    refine ⟨_, _, mX6_isFalse, y1, (by first | exact mm0 | exact mm1 | exact mm2 | exact mm3 | exact mm4), ?_⟩
    have : flV D (some (.inr (.inl l))) = decide (l = []) := by show (l.length == 0) = _; exact len0 l
    rw [this]
    exact cd_false6 e s κ l _ c y1 y2
  · exact ⟨_, _, mX21_isFalse, e2, (by first | exact mm0 | exact mm1 | exact mm2 | exact mm3 | exact mm4), cd_false21 (e + 1) _ k y (by omega) e2⟩
  · refine ⟨_, _, mX7_isFalse, e3, (by first | exact mm0 | exact mm1 | exact mm2 | exact mm3 | exact mm4), ?_⟩
    have : flV D (some (.inr (.inr x))) = (ps.length == 0) := by show (isLs (D.2 x) && (aPs (D.2 x)).length == 0) = _; rw [e2]; rfl
    rw [this]
    exact cd_false7 (e + 1) _ _ _ (by omega) e3
  · refine ⟨_, _, mX8_isFalse, e3, (by first | exact mm0 | exact mm1 | exact mm2 | exact mm3 | exact mm4), ?_⟩
    have : flV D (some (.inr (.inr x))) = false := by show (isLs (D.2 x) && (aPs (D.2 x)).length == 0) = _; rw [e2]; rfl
    rw [this]
    exact cd_false8 (e + 1)
end CC
theorem di_X1 {Z : hE} {X : hX} {d : Nat} {S : Nat → Prop} {hin : hP} {K : hO → hP → Prop} {ls : List (Nat × Value)} {h : hP} {S' : Nat → Prop} {K' : hO → hP → Prop} {b : Nat} {rest : List Value} (hc : hDs Z d S' b [] h K' [(5, mX5_isFalse), (6, mX6_isFalse), (7, mX7_isFalse), (8, mX8_isFalse), (21, mX21_isFalse)]) (hw : (rest.map fun v => v.category).sum ≤ 8) (hS : ∀ κ, S' κ → S κ)
    (kn : ∀ v h', K' (.inl v) h' → hFr S' h h' → hG Z X mX1_isFalse (d + 1) S hin K (5 + 3) ls (v.toList ++ rest) h')
    (kx : ∀ E h', K' (.inr E) h' → hFr S' h h' → hGX Z X mX1_isFalse (d + 1) S hin K 5 ls E h') : hG Z X mX1_isFalse (d + 1) S hin K 5 ls (.ref b :: rest) h := by
  obtain ⟨κ, fs, M', hb, hm, hct⟩ := hc
  simp only [List.mem_cons, Prod.mk.injEq, List.not_mem_nil, or_false] at hm
  rcases hm with ⟨hk, rfl⟩ | ⟨hk, rfl⟩ | ⟨hk, rfl⟩ | ⟨hk, rfl⟩ | ⟨hk, rfl⟩
  · exact g_invU (pc := 5) dX1_isFalse_5 (r := (RX5, TX5, 2)) hb (by rw [hk]; rfl) hct meX5_isFalse q1676 q1678 (Or.inl q1677) q1689 q1688 ⟨⟨by decide, by decide⟩, rfl⟩ rfl rfl hw hS kn kx
  · exact g_invU (pc := 5) dX1_isFalse_5 (r := (RX6, TX6, 3)) hb (by rw [hk]; rfl) hct meX6_isFalse q1676 q1678 (Or.inl q1677) q1692 q1691 ⟨⟨by decide, by decide⟩, rfl⟩ rfl rfl hw hS kn kx
  · exact g_invU (pc := 5) dX1_isFalse_5 (r := (RX7, TX7, 3)) hb (by rw [hk]; rfl) hct meX7_isFalse q1676 q1678 (Or.inl q1677) q1683 q1682 ⟨⟨by decide, by decide⟩, rfl⟩ rfl rfl hw hS kn kx
  · exact g_invU (pc := 5) dX1_isFalse_5 (r := (RX8, TX8, 4)) hb (by rw [hk]; rfl) hct meX8_isFalse q1676 q1678 (Or.inl q1677) q1686 q1685 ⟨⟨by decide, by decide⟩, rfl⟩ rfl rfl hw hS kn kx
  · exact g_invU (pc := 5) dX1_isFalse_5 (r := (RX21, TX21, 3)) hb (by rw [hk]; rfl) hct meX21_isFalse q1676 q1678 (Or.inl q1677) q1680 q1679 ⟨⟨by decide, by decide⟩, rfl⟩ rfl rfl hw hS kn kx
section CC
variable {Z : hE} {h : hP} {D : aD} {w : cW} {q : Nat}
theorem cl_isFalse (hD : cD D w h q) {n : Nat} {v : aV} {x : Value} (d : Nat) (hv : cV D w.1 h n v x) : jP Z mX1_isFalse (d + 2) [x] h (some (.int (nI (flV D v).toNat))) := by
  rcases hv.nr with rfl | ⟨c, rfl⟩
  · refine jC.of pnX1 rfl (Nat.le_of_ble_eq_true rfl) rfl (fun X => ?_)
    rw [hv.nul]
    refine g_aload_nN (pc := 0) dX1_isFalse_0 rfl rfl ?_
    refine g_ifnullN (pc := 1) (tgt := 11) dX1_isFalse_1 rfl ?_
    refine g_iconst (pc := 11) (v := nI 1) dX1_isFalse_11 rfl ?_
    refine g_goto (pc := 12) (tgt := 16) dX1_isFalse_12 rfl ?_
    exact g_zret (pc := 16) dX1_isFalse_16 rfl (by first | exact bz_n _ | rfl) ⟨_, rfl, rfl, rfl⟩
  · refine jC.of pnX1 rfl (Nat.le_of_ble_eq_true rfl) rfl (fun X => ?_)
    refine g_aload_n (pc := 0) dX1_isFalse_0 rfl rfl ?_
    refine g_ifnull (pc := 1) dX1_isFalse_1 ?_
    refine g_aload_n (pc := 4) dX1_isFalse_4 rfl rfl ?_
    refine di_X1 (cl_val hD (d + 1) (by omega) hv) (Nat.le_of_ble_eq_true rfl) jF (jk_e ?_) jk_x
    cases hb : flV D v with
    | false =>
      refine g_if_eq (pc := 8) (tgt := 15) dX1_isFalse_8 rfl (fun _ => ?_) (fun q_ => absurd rfl q_)
      refine g_iconst (pc := 15) (v := nI 0) dX1_isFalse_15 rfl ?_
      exact g_zret (pc := 16) dX1_isFalse_16 rfl (by first | exact bz_n _ | rfl) ⟨_, rfl, rfl, rfl⟩
    | true =>
      refine g_if_eq (pc := 8) (tgt := 15) dX1_isFalse_8 rfl (fun q_ => absurd q_ (by decide)) (fun _ => ?_)
      refine g_iconst (pc := 11) (v := nI 1) dX1_isFalse_11 rfl ?_
      refine g_goto (pc := 12) (tgt := 16) dX1_isFalse_12 rfl ?_
      exact g_zret (pc := 16) dX1_isFalse_16 rfl (by first | exact bz_n _ | rfl) ⟨_, rfl, rfl, rfl⟩
theorem ch_truth (d : Nat) (b : Bool) : jC Z mX15_truth d (fun _ => False) [.int (nI b.toNat)] h (vQ D w h 0 (some (.inl (nI b.toNat)))) := by
  refine jC.of pnX15 rfl (Nat.le_of_ble_eq_true rfl) rfl (fun X => ?_)
  refine g_olds (fun hZ ho => ?_)
  obtain ⟨b1, g1, e1, e2, e3⟩ := st_digits.2 Z hZ
  have o1 := ho b1 _ e2
  have fin : hG Z X mX15_truth d (fun _ => False) h (jK (vQ D w h 0 (some (.inl (nI b.toNat))))) 12 [(0, .int (nI b.toNat))] [.int (nI b.toNat), .ref b1] h := by
    have hj : b.toNat < 10 := by cases b <;> decide
    refine g_aald (pc := 12) b.toNat dX15_truth_12 o1 rfl rfl hj rfl ?_
    rw [e3 _ hj]
    refine g_aret (pc := 13) dX15_truth_13 rfl (Or.inl ⟨_, rfl⟩) (Or.inr ⟨_, rfl⟩) ?_
    exact ⟨_, rfl, _, rfl, ⟨_, 905, _, rfl, ho _ _ (kDi_ev hj hZ).2, Or.inr rfl⟩, rfl⟩
  refine g_getsN (pc := 0) dX15_truth_0 st_digits.1 q1698 (Or.inl rfl) ?_
  rw [e1]
  refine g_iload_n (pc := 3) dX15_truth_3 rfl rfl ?_
  cases b with
  | false =>
    refine g_if_eq (pc := 4) (tgt := 11) dX15_truth_4 rfl (fun _ => ?_) (fun q_ => absurd rfl q_)
    refine g_iconst (pc := 11) (v := nI 0) dX15_truth_11 rfl ?_
    exact fin
  | true =>
    refine g_if_eq (pc := 4) (tgt := 11) dX15_truth_4 rfl (fun q_ => absurd q_ (by decide)) (fun _ => ?_)
    refine g_iconst (pc := 7) (v := nI 1) dX15_truth_7 rfl ?_
    refine g_goto (pc := 8) (tgt := 12) dX15_truth_8 rfl ?_
    exact fin
end CC
