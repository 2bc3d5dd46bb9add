/-! COMPONENT 16: the helpers -/
set_option maxRecDepth 100000
/-- what an evaluation may change -/
def eKd : Nat → Prop := fun κ => κ = 6 ∨ κ = 130 ∨ jSS 4 κ ∨ jSS 5 κ
theorem cNS.eKd : cNS eKd := by
  intro κ hκ z
  simp only [List.mem_cons, List.not_mem_nil, or_false] at hκ
  rcases z with z | z | (z | z) | (z | z) <;> omega
/-- the same with what is new -/
def eKn : Nat → Prop := fun κ => κ = 5 ∨ κ = 21 ∨ eKd κ
theorem eKd_4 : ∀ κ, jSS 4 κ → eKd κ := fun κ z => Or.inr (Or.inr (Or.inl z))
theorem eKd_5 : ∀ κ, jSS 5 κ → eKd κ := fun κ z => Or.inr (Or.inr (Or.inr z))
theorem eKn_e : ∀ κ, eKd κ → eKn κ := fun κ z => Or.inr (Or.inr z)
/-- after an evaluation: a value, or too long -/
def cHq (D : aD) (w : cW) (o1 o2 cap1 cap2 N : Nat) (res : Option aV) (h : hP) : hO → hP → Prop := fun r h' =>
  (∃ x v cap1' cap2' l1 l2, r = .inl (some x) ∧ res = some v ∧ cV D w.1 h' N v x ∧ cO h' 4 o1 cap1' l1 ∧ cO h' 5 o2 cap2' l2 ∧ cap1 ≤ cap1' ∧ cap2 ≤ cap2' ∧ h'.1 + cap1 + cap2 ≤ h.1 + cap1' + cap2' + 3 ∧ h'.2.1 + 2 * cap1 + 2 * cap2 ≤ h.2.1 + 2 * cap1' + 2 * cap2' + 80 ∧ cMn h h') ∨
  (r = .inr ISE ∧ res = none ∧ h'.1 ≤ h.1 + 1700 ∧ h'.2.1 ≤ h.2.1 + 4000 ∧ cMn h h')
def kdV (D : aD) : aV → Nat
  | none => 0
  | some (.inl _) => 0
  | some (.inr (.inl _)) => 1
  | some (.inr (.inr x)) => if isLs (D.2 x) = true then 2 else 3
abbrev kdL : List (Nat × hM) := [(5, mX5_kind), (6, mX6_kind), (7, mX7_kind), (8, mX8_kind), (21, mX21_kind)]
abbrev elL : List (Nat × hM) := [(5, mX4_element), (6, mX4_element), (7, mX7_element), (8, mX7_element), (21, mX4_element)]
section CH
variable {Z : hE} {h : hP} {D : aD} {w : cW} {q : Nat}
theorem ck_val (hD : cD D w h q) {n b : Nat} {v : aV} (e : Nat) (hv : cV D w.1 h n v (.ref b)) : hDs Z e (fun _ => False) b [] h (jK (fun r h' => r = some (.int (nI (kdV D v))) ∧ h' = h)) kdL := by
  rcases hv.cs hD with ⟨k, κ, w', rfl, e2, e3⟩ | ⟨l, rfl, ht⟩ | ⟨k, y, l, rfl, e2, e3⟩ | ⟨x, ps, j, f, rfl, e1, e2, e3, e4, e5, e6⟩ | ⟨x, ps, j, f, rfl, e1, e2, e3, e4, e5, e6⟩
  · exact ⟨_, _, mX5_kind, e2, (by rw [e3]; first | exact mm0 | exact mm1 | exact mm2 | exact mm3 | exact mm4), cd_kindX5 e⟩
  · obtain ⟨k, s, κ, c, y1, y2, y3, y4⟩ := ht 0
    exact ⟨_, _, mX6_kind, y1, (by first | exact mm0 | exact mm1 | exact mm2 | exact mm3 | exact mm4), cd_kindX6 e⟩
  · exact ⟨_, _, mX21_kind, e2, (by first | exact mm0 | exact mm1 | exact mm2 | exact mm3 | exact mm4), cd_kindX21 e⟩
  · refine ⟨_, _, mX7_kind, e3, (by first | exact mm0 | exact mm1 | exact mm2 | exact mm3 | exact mm4), ?_⟩
    have : kdV D (some (.inr (.inr x))) = 2 := by show (if isLs (D.2 x) = true then 2 else 3) = 2; rw [e2]; rfl
    rw [this]
    exact cd_kindX7 e
  · refine ⟨_, _, mX8_kind, e3, (by first | exact mm0 | exact mm1 | exact mm2 | exact mm3 | exact mm4), ?_⟩
    have : kdV D (some (.inr (.inr x))) = 3 := by show (if isLs (D.2 x) = true then 2 else 3) = 3; rw [e2]; rfl
    rw [this]
    exact cd_kindX8 e
end CH
theorem do_X15a {Z : hE} {X : hX} {d : Nat} {S : Nat → Prop} {hin : hP} {K : hO → hP → Prop} {ls : List (Nat × Value)} {h : hP} {S' : Nat → Prop} {K' : hO → hP → Prop} {b : Nat} {A1 A2 : Value} {rest : List Value} (hc : hDs Z d S' b [A1, A2] h K' [(12, mX12_value), (13, mX13_value), (14, mX14_value), (15, mX15_value)]) (hw : (rest.map fun v => v.category).sum ≤ 8) (hS : ∀ κ, S' κ → S κ)
    (kn : ∀ v h', K' (.inl v) h' → hFr S' h h' → hG Z X mX15_value (d + 1) S hin K (6 + 5) ls (v.toList ++ rest) h')
    (kx : ∀ E h', K' (.inr E) h' → hFr S' h h' → hGX Z X mX15_value (d + 1) S hin K 6 ls E h') : hG Z X mX15_value (d + 1) S hin K 6 ls (A2 :: A1 :: .ref b :: rest) h := by
  obtain ⟨κ, fs, M', hb, hm, hct⟩ := hc
  simp only [List.mem_cons, Prod.mk.injEq, List.not_mem_nil, or_false] at hm
  rcases hm with ⟨hk, rfl⟩ | ⟨hk, rfl⟩ | ⟨hk, rfl⟩ | ⟨hk, rfl⟩
  · exact g_invF (pc := 6) dX15_value_6 (r := (RX12, TX12, 1)) hb (by rw [hk]; rfl) hct meX12_value q1520 q1545 q1543 q1506 q1505 q1546 q1544 q1542 ⟨⟨by decide, by decide⟩, rfl⟩ rfl rfl hw hS kn kx
  · exact g_invF (pc := 6) dX15_value_6 (r := (RX13, TX13, 1)) hb (by rw [hk]; rfl) hct meX13_value q1520 q1510 q1508 q1506 q1505 q1511 q1509 q1507 ⟨⟨by decide, by decide⟩, rfl⟩ rfl rfl hw hS kn kx
  · exact g_invF (pc := 6) dX15_value_6 (r := (RX14, TX14, 2)) hb (by rw [hk]; rfl) hct meX14_value q1520 q1524 q1522 q1506 q1505 q1525 q1523 q1521 ⟨⟨by decide, by decide⟩, rfl⟩ rfl rfl hw hS kn kx
  · exact g_invF (pc := 6) dX15_value_6 (r := (RX15, TX15, 3)) hb (by rw [hk]; rfl) hct meX15_value q1520 q1516 q1514 q1506 q1505 q1517 q1515 q1513 ⟨⟨by decide, by decide⟩, rfl⟩ rfl rfl hw hS kn kx
theorem do_X15b {Z : hE} {X : hX} {d : Nat} {S : Nat → Prop} {hin : hP} {K : hO → hP → Prop} {ls : List (Nat × Value)} {h : hP} {S' : Nat → Prop} {K' : hO → hP → Prop} {b : Nat} {A1 A2 : Value} {rest : List Value} (hc : hDs Z d S' b [A1, A2] h K' [(12, mX12_value), (13, mX13_value), (14, mX14_value), (15, mX15_value)]) (hw : (rest.map fun v => v.category).sum ≤ 8) (hS : ∀ κ, S' κ → S κ)
    (kn : ∀ v h', K' (.inl v) h' → hFr S' h h' → hG Z X mX15_value (d + 1) S hin K (29 + 5) ls (v.toList ++ rest) h')
    (kx : ∀ E h', K' (.inr E) h' → hFr S' h h' → hGX Z X mX15_value (d + 1) S hin K 29 ls E h') : hG Z X mX15_value (d + 1) S hin K 29 ls (A2 :: A1 :: .ref b :: rest) h := by
  obtain ⟨κ, fs, M', hb, hm, hct⟩ := hc
  simp only [List.mem_cons, Prod.mk.injEq, List.not_mem_nil, or_false] at hm
  rcases hm with ⟨hk, rfl⟩ | ⟨hk, rfl⟩ | ⟨hk, rfl⟩ | ⟨hk, rfl⟩
  · exact g_invF (pc := 29) dX15_value_29 (r := (RX12, TX12, 1)) hb (by rw [hk]; rfl) hct meX12_value q1520 q1545 q1543 q1506 q1505 q1546 q1544 q1542 ⟨⟨by decide, by decide⟩, rfl⟩ rfl rfl hw hS kn kx
  · exact g_invF (pc := 29) dX15_value_29 (r := (RX13, TX13, 1)) hb (by rw [hk]; rfl) hct meX13_value q1520 q1510 q1508 q1506 q1505 q1511 q1509 q1507 ⟨⟨by decide, by decide⟩, rfl⟩ rfl rfl hw hS kn kx
  · exact g_invF (pc := 29) dX15_value_29 (r := (RX14, TX14, 2)) hb (by rw [hk]; rfl) hct meX14_value q1520 q1524 q1522 q1506 q1505 q1525 q1523 q1521 ⟨⟨by decide, by decide⟩, rfl⟩ rfl rfl hw hS kn kx
  · exact g_invF (pc := 29) dX15_value_29 (r := (RX15, TX15, 3)) hb (by rw [hk]; rfl) hct meX15_value q1520 q1516 q1514 q1506 q1505 q1517 q1515 q1513 ⟨⟨by decide, by decide⟩, rfl⟩ rfl rfl hw hS kn kx
theorem dz_X15 {Z : hE} {X : hX} {d : Nat} {S : Nat → Prop} {hin : hP} {K : hO → hP → Prop} {ls : List (Nat × Value)} {h : hP} {S' : Nat → Prop} {K' : hO → hP → Prop} {b : Nat} {rest : List Value} (hc : hDs Z d S' b [] h K' [(5, mX5_size), (6, mX6_size), (7, mX7_size), (8, mX7_size), (21, mX21_size)]) (hw : (rest.map fun v => v.category).sum ≤ 8) (hS : ∀ κ, S' κ → S κ)
    (kn : ∀ v h', K' (.inl v) h' → hFr S' h h' → hG Z X mX15_value (d + 1) S hin K (266 + 3) ls (v.toList ++ rest) h')
    (kx : ∀ E h', K' (.inr E) h' → hFr S' h h' → hGX Z X mX15_value (d + 1) S hin K 266 ls E h') : hG Z X mX15_value (d + 1) S hin K 266 ls (.ref b :: rest) h := by
  obtain ⟨κ, fs, M', hb, hm, hct⟩ := hc
  simp only [List.mem_cons, Prod.mk.injEq, List.not_mem_nil, or_false] at hm
  rcases hm with ⟨hk, rfl⟩ | ⟨hk, rfl⟩ | ⟨hk, rfl⟩ | ⟨hk, rfl⟩ | ⟨hk, rfl⟩
  · exact g_invU (pc := 266) dX15_value_266 (r := (RX5, TX5, 2)) hb (by rw [hk]; rfl) hct meX5_size q1654 q1656 (Or.inl q1655) q1665 q1664 ⟨⟨by decide, by decide⟩, rfl⟩ rfl rfl hw hS kn kx
  · exact g_invU (pc := 266) dX15_value_266 (r := (RX6, TX6, 3)) hb (by rw [hk]; rfl) hct meX6_size q1654 q1656 (Or.inl q1655) q1669 q1668 ⟨⟨by decide, by decide⟩, rfl⟩ rfl rfl hw hS kn kx
  · exact g_invU (pc := 266) dX15_value_266 (r := (RX7, TX7, 3)) hb (by rw [hk]; rfl) hct meX7_size q1654 q1656 (Or.inl q1655) q1661 q1660 ⟨⟨by decide, by decide⟩, rfl⟩ rfl rfl hw hS kn kx
  · exact g_invU (pc := 266) dX15_value_266 (r := (RX8, TX8, 4)) hb (by rw [hk]; rfl) hct meX7_size q1654 q1656 (Or.inl q1655) q1661 q1663 ⟨⟨by decide, by decide⟩, rfl⟩ rfl rfl hw hS kn kx
  · exact g_invU (pc := 266) dX15_value_266 (r := (RX21, TX21, 3)) hb (by rw [hk]; rfl) hct meX21_size q1654 q1656 (Or.inl q1655) q1658 q1657 ⟨⟨by decide, by decide⟩, rfl⟩ rfl rfl hw hS kn kx
theorem dk_X15 {Z : hE} {X : hX} {d : Nat} {S : Nat → Prop} {hin : hP} {K : hO → hP → Prop} {ls : List (Nat × Value)} {h : hP} {S' : Nat → Prop} {K' : hO → hP → Prop} {b : Nat} {rest : List Value} (hc : hDs Z d S' b [] h K' [(5, mX5_kind), (6, mX6_kind), (7, mX7_kind), (8, mX8_kind), (21, mX21_kind)]) (hw : (rest.map fun v => v.category).sum ≤ 8) (hS : ∀ κ, S' κ → S κ)
    (kn : ∀ v h', K' (.inl v) h' → hFr S' h h' → hG Z X mX15_value (d + 1) S hin K (353 + 3) ls (v.toList ++ rest) h')
    (kx : ∀ E h', K' (.inr E) h' → hFr S' h h' → hGX Z X mX15_value (d + 1) S hin K 353 ls E h') : hG Z X mX15_value (d + 1) S hin K 353 ls (.ref b :: rest) h := by
  obtain ⟨κ, fs, M', hb, hm, hct⟩ := hc
  simp only [List.mem_cons, Prod.mk.injEq, List.not_mem_nil, or_false] at hm
  rcases hm with ⟨hk, rfl⟩ | ⟨hk, rfl⟩ | ⟨hk, rfl⟩ | ⟨hk, rfl⟩ | ⟨hk, rfl⟩
  · exact g_invU (pc := 353) dX15_value_353 (r := (RX5, TX5, 2)) hb (by rw [hk]; rfl) hct meX5_kind q1703 q882 (Or.inl q881) q893 q892 ⟨⟨by decide, by decide⟩, rfl⟩ rfl rfl hw hS kn kx
  · exact g_invU (pc := 353) dX15_value_353 (r := (RX6, TX6, 3)) hb (by rw [hk]; rfl) hct meX6_kind q1703 q882 (Or.inl q881) q896 q895 ⟨⟨by decide, by decide⟩, rfl⟩ rfl rfl hw hS kn kx
  · exact g_invU (pc := 353) dX15_value_353 (r := (RX7, TX7, 3)) hb (by rw [hk]; rfl) hct meX7_kind q1703 q882 (Or.inl q881) q887 q886 ⟨⟨by decide, by decide⟩, rfl⟩ rfl rfl hw hS kn kx
  · exact g_invU (pc := 353) dX15_value_353 (r := (RX8, TX8, 4)) hb (by rw [hk]; rfl) hct meX8_kind q1703 q882 (Or.inl q881) q890 q889 ⟨⟨by decide, by decide⟩, rfl⟩ rfl rfl hw hS kn kx
  · exact g_invU (pc := 353) dX15_value_353 (r := (RX21, TX21, 3)) hb (by rw [hk]; rfl) hct meX21_kind q1703 q882 (Or.inl q881) q884 q883 ⟨⟨by decide, by decide⟩, rfl⟩ rfl rfl hw hS kn kx
theorem de_X15 {Z : hE} {X : hX} {d : Nat} {S : Nat → Prop} {hin : hP} {K : hO → hP → Prop} {ls : List (Nat × Value)} {h : hP} {S' : Nat → Prop} {K' : hO → hP → Prop} {b : Nat} {A1 : Value} {rest : List Value} (hc : hDs Z d S' b [A1] h K' [(5, mX4_element), (6, mX4_element), (7, mX7_element), (8, mX7_element), (21, mX4_element)]) (hw : (rest.map fun v => v.category).sum ≤ 8) (hS : ∀ κ, S' κ → S κ)
    (kn : ∀ v h', K' (.inl v) h' → hFr S' h h' → hG Z X mX15_value (d + 1) S hin K (377 + 3) ls (v.toList ++ rest) h')
    (kx : ∀ E h', K' (.inr E) h' → hFr S' h h' → hGX Z X mX15_value (d + 1) S hin K 377 ls E h') : hG Z X mX15_value (d + 1) S hin K 377 ls (A1 :: .ref b :: rest) h := by
  obtain ⟨κ, fs, M', hb, hm, hct⟩ := hc
  simp only [List.mem_cons, Prod.mk.injEq, List.not_mem_nil, or_false] at hm
  rcases hm with ⟨hk, rfl⟩ | ⟨hk, rfl⟩ | ⟨hk, rfl⟩ | ⟨hk, rfl⟩ | ⟨hk, rfl⟩
  · exact g_invV (pc := 377) dX15_value_377 (r := (RX5, TX5, 2)) hb (by rw [hk]; rfl) hct meX4_element q1704 q919 q926 rfl rfl hw hS kn kx
  · exact g_invV (pc := 377) dX15_value_377 (r := (RX6, TX6, 3)) hb (by rw [hk]; rfl) hct meX4_element q1704 q919 q927 rfl rfl hw hS kn kx
  · exact g_invU (pc := 377) dX15_value_377 (r := (RX7, TX7, 3)) hb (by rw [hk]; rfl) hct meX7_element q1704 q920 (Or.inr ⟨_, _, _, q919, q928⟩) q923 q922 ⟨⟨by decide, by decide⟩, rfl⟩ rfl rfl hw hS kn kx
  · exact g_invU (pc := 377) dX15_value_377 (r := (RX8, TX8, 4)) hb (by rw [hk]; rfl) hct meX7_element q1704 q920 (Or.inr ⟨_, _, _, q919, q928⟩) q923 q925 ⟨⟨by decide, by decide⟩, rfl⟩ rfl rfl hw hS kn kx
  · exact g_invV (pc := 377) dX15_value_377 (r := (RX21, TX21, 3)) hb (by rw [hk]; rfl) hct meX4_element q1704 q919 q921 rfl rfl hw hS kn kx
section CH
variable {Z : hE} {X : hX} {h hin : hP} {K : hO → hP → Prop} {D : aD} {w : cW} {q ca o1 o2 cap1 cap2 n : Nat} {dd bf inn x y : Value} {v v2 : aV} {l1 l2 : List Nat}
theorem ch_up (e : Nat) (he : D.1 + n + 20 ≤ e) (hca : h.2.2 ca = some (20, .inl [dd, bf, inn, .ref o1, .ref o2])) (hD : cD D w h q) (hv : cV D w.1 h n v x) (h1 : cO h 4 o1 cap1 l1) (h2 : cO h 5 o2 cap2 l2) (r1 : h.1 + 1800 ≤ hLC Z) (r2 : h.2.1 + 5000 ≤ hLS) (hK : ∀ r h', cHq D w o1 o2 cap1 cap2 (n + 1) (hpV D 1 v v2) h r h' → hFr eKd h h' → K r h') : hG Z X mX15_value e eKn hin K 212 [(1, .ref ca), (3, x)] [] h := by
  obtain ⟨e, rfl⟩ : ∃ e', e = e' + 20 := ⟨e - 20, by omega⟩
  have ehp : hpV D 1 v v2 = if (shw D v).length ≤ 400 then some (some (.inr (.inl ((shw D v).map upc)))) else none := rfl
  have rest : (x = .null ∨ ∃ c, x = .ref c) → hG Z X mX15_value (e + 20) eKn hin K 233 [(1, .ref ca), (3, x)] [] h := by
    intro hx
    have h10 := h1
    obtain ⟨a1, a2, at1, a3, a4⟩ := h1
    have ld : ∀ {pc : Nat} {st : List Value} {h0 : hP}, (pc = 237 ∨ pc = 242) → hG Z X mX15_value (e + 20) eKn hin K (pc + 1) [(1, .ref ca), (3, x)] (x :: st) h0 → hG Z X mX15_value (e + 20) eKn hin K pc [(1, .ref ca), (3, x)] st h0 := by
      intro pc st h0 hpc k
      rcases hx with rfl | ⟨c, rfl⟩
      · rcases hpc with rfl | rfl
        · exact g_aload_nN (pc := 237) dX15_value_237 rfl rfl k
        · exact g_aload_nN (pc := 242) dX15_value_242 rfl rfl k
      · rcases hpc with rfl | rfl
        · exact g_aload_n (pc := 237) dX15_value_237 rfl rfl k
        · exact g_aload_n (pc := 242) dX15_value_242 rfl rfl k
    refine g_new (pc := 233) (r := (RX21, TX21, 3)) (fs := [.int (nI 0), .null, .int (nI 0)]) 21 dX15_value_233 rfl (by decide) q1637 q1638 q119 rfl (by first | omega | (simp only [hNew_1, hNew_2, hSet_1, hSet_2]; omega)) (by first | omega | (simp only [hNew_1, hNew_2, hSet_1, hSet_2]; omega)) (fun hwf => ?_)
    have f0 : hFr (fun _ => False) h (hNew h (21, .inl [.int (nI 0), .null, .int (nI 0)]) 3) := (hFr.rf h).new hwf
    have m0 := cMn.F f0
    have hca0 := (f0.2.2 _ _ hca).1 (fun z => z)
    have h10' := h10.fr f0 (fun z => z) (fun z => z) (fun z => z)
    have hv0 := hv.kp f0 cNS.F m0
    have a30 := (f0.2.2 _ _ a3).1 (fun z => z)
    have hn0 := hNew_s h (21, .inl [.int (nI 0), .null, .int (nI 0)]) 3
    refine g_dup (pc := 236) dX15_value_236 rfl ?_
    refine ld (Or.inl rfl) ?_
    refine g_aload_n (pc := 238) dX15_value_238 rfl rfl ?_
    refine g_get (pc := 239) (r := (RX20, TX20, 5)) 3 dX15_value_239 hca0 rfl (Nat.le_of_ble_eq_true rfl) q1458 (Or.inl rfl) rfl ?_
    refine ld (Or.inr rfl) ?_
    refine g_invV (pc := 243) dX15_value_243 a30 (k02 4) (co_of (γ := 4) (by decide) (e := e + 19) (by omega) hv0 (hD.kp f0 cNS.F m0) h10' (by simp only [hNew_1]; omega) (by simp only [hNew_2]; omega)) meX2_of q1639 q1567 q1568 rfl rfl (by rcases hx with rfl | ⟨c, rfl⟩ <;> exact (Nat.le_of_ble_eq_true rfl)) (fun κ z => eKn_e κ (eKd_4 κ z)) (fun u h3 hp fr => ?_) (fun E h3 hp fr => ?_)
    · rcases hp with ⟨e1, e2, cap', e3, g1, g2, g3, g4⟩ | ⟨e1, _⟩
      · have e1 := Sum.inl.inj e1
        subst e1
        have e30 := e3
        obtain ⟨b1, b2, bt1, b3, b4⟩ := e3
        have m1 := cMn.jss fr (by decide)
        have hn1 := (fr.2.2 _ _ hn0).1 (by rintro (z | z) <;> omega)
        refine g_invV (pc := 246) dX15_value_246 b3 (k02 4) (co_length (e + 17) e30) meX2_length q1640 q534 q535 rfl rfl (by rcases hx with rfl | ⟨c, rfl⟩ <;> exact (Nat.le_of_ble_eq_true rfl)) (by first | exact jF | exact fun _ z => z | assumption | (intro κ z; simp_all)) (jk_e ?_) jk_x
        refine g_invI (pc := 249) dX15_value_249 (cd_caps (e + 17) _ _ _ x _ hx hn1) meX21_init rfl rfl q1641 q1642 rfl rfl (Nat.le_of_ble_eq_true rfl) (fun κ z => Or.inr (Or.inl z)) (jk_n (fun u h4 hp fr4 => ?_)) jk_x
        obtain ⟨rfl, rfl⟩ := hp
        refine g_aret (pc := 252) dX15_value_252 rfl (Or.inl ⟨_, rfl⟩) (Or.inr ⟨_, rfl⟩) ?_
        simp only [hNew_1, hNew_2] at g3 g4
        have f4 : hFr (fun z => z = 21) h3 (hSet h3 h.1 (21, .inl [.int (nI 0), x, .int (nI (shw D v).length)])) := fr4
        have fa : hFr (jSS 4) h h3 := (hFr.mono (fun _ z => z.elim) f0).tr fr
        have fb : hFr (jSS 4) h (hSet h3 h.1 (21, .inl [.int (nI 0), x, .int (nI (shw D v).length)])) := fa.setN hwf (Nat.le_refl _)
        have m4 := cMn.jss fb (by decide)
        refine hK _ _ (Or.inl ⟨_, some (.inr (.inl ((shw D v).map upc))), cap', cap2, shw D v, l2, rfl, by rw [ehp, if_pos e2], Or.inr ⟨_, _, x, v, rfl, hSet_s _ _ _, rfl, e2, hv.kp fb (cNS.jss 4 (by decide)) m4⟩, e30.fr f4 (by decide) (by decide) (by decide), h2.fr fb (by rintro (z | z) <;> omega) (by rintro (z | z) <;> omega) (by rintro (z | z) <;> omega), g1, Nat.le_refl _, ?_, ?_, m4⟩) (hFr.mono eKd_4 fb)
        · simp only [hSet_1]; omega
        · simp only [hSet_2]; omega
      · cases e1
    · refine gx_out (fun x hx => by cases hx) ?_
      rcases hp with ⟨e1, _⟩ | ⟨e1, e2, e3, e4⟩
      · cases e1
      · have e1 := Sum.inr.inj e1
        subst e1
        simp only [hNew_1, hNew_2] at e3 e4
        exact hK _ _ (Or.inr ⟨rfl, by rw [ehp, if_neg (by omega)], by omega, by omega, m0.tr (cMn.jss fr (by decide))⟩) (hFr.mono eKd_4 ((hFr.mono (fun _ z => z.elim) f0).tr fr))
  rcases hv.nr with rfl | ⟨c, rfl⟩
  ·
    refine g_aload_nN (pc := 212) dX15_value_212 rfl rfl ?_
    refine g_instN (pc := 213) dX15_value_213 ?_
    refine g_if_eq (pc := 216) (tgt := 233) dX15_value_216 rfl (fun _ => ?_) (fun q_ => absurd rfl q_)
    exact rest (Or.inl rfl)
  · have no : ∀ (κ : Nat) (fs : List Value) (r : vw_C), h.2.2 c = some (κ, .inl fs) → hCl (κ % 100) = some r → hLeaf (.not (.castable r.1 "TemplateEngine$TextData")) → hG Z X mX15_value (e + 20) eKn hin K 212 [(1, .ref ca), (3, .ref c)] [] h := by
      intro κ fs r e1 e2 e3
      refine g_aload_n (pc := 212) dX15_value_212 rfl rfl ?_
      refine g_instNo (pc := 213) (r := r) dX15_value_213 e1 e2 q1557 e3 ?_
      refine g_if_eq (pc := 216) (tgt := 233) dX15_value_216 rfl (fun _ => ?_) (fun q_ => absurd rfl q_)
      exact rest (Or.inr ⟨c, rfl⟩)
    rcases hv.cs hD with ⟨k, κ, w', rfl, e2, e3⟩ | ⟨l, rfl, ht⟩ | ⟨k, y, l, rfl, e2, e3⟩ | ⟨x, ps, j, f, rfl, e1, e2, e3, e4, e5, e6⟩ | ⟨x, ps, j, f, rfl, e1, e2, e3, e4, e5, e6⟩
    · exact no κ _ (RX5, TX5, 2) e2 (by rw [e3]; rfl) (hLeafOf (by decide +kernel))
    · have hll : l.length ≤ 64 := by obtain ⟨_, _, _, _, _, _, _, z⟩ := ht 0; exact z
      obtain ⟨k, s, κ, c', y1, y2, y3, y4⟩ := ht 0
      refine g_aload_n (pc := 212) dX15_value_212 rfl rfl ?_
      refine g_instY (pc := 213) (r := (RX6, TX6, 3)) dX15_value_213 y1 rfl q1557 (Or.inl rfl) ?_
      refine g_if_eq (pc := 216) (tgt := 233) dX15_value_216 rfl (fun q_ => absurd q_ (by decide)) (fun _ => ?_)
      refine g_aload_n (pc := 219) dX15_value_219 rfl rfl ?_
      refine g_cast (pc := 220) (r := (RX6, TX6, 3)) dX15_value_220 y1 rfl q1557 (Or.inl rfl) ?_
      refine g_aload_n (pc := 223) dX15_value_223 rfl rfl ?_
      refine g_get (pc := 224) (r := (RX20, TX20, 5)) 3 dX15_value_224 hca rfl (Nat.le_of_ble_eq_true rfl) q1458 (Or.inl rfl) rfl ?_
      refine g_invV (pc := 227) dX15_value_227 y1 rfl (cd_inCapitals (γ := 4) (by decide) (e := e + 19) (by omega) ht hD h1 (by omega) (by omega)) meX6_inCapitals q1558 q1559 q1560 rfl rfl (Nat.le_of_ble_eq_true rfl) (fun κ z => eKn_e κ (z.elim (fun z => Or.inl z) (eKd_4 κ))) (jk_n (fun u h3 hp fr => ?_)) jk_x
      obtain ⟨p, cap', l', rfl, x1, x2, x3, x4, x5, x6⟩ := hp
      refine g_goto (pc := 230) (tgt := 252) dX15_value_230 rfl ?_
      refine g_aret (pc := 252) dX15_value_252 rfl (Or.inl ⟨_, rfl⟩) (Or.inr ⟨_, rfl⟩) ?_
      have es : shw D (some (.inr (.inl l))) = l := rfl
      refine hK _ _ (Or.inl ⟨_, some (.inr (.inl (l.map upc))), cap', cap2, l', l2, rfl, by rw [ehp, es, if_pos (by omega)], cV.tx x1, x2, h2.fr fr (by rintro (z | z | z) <;> omega) (by rintro (z | z | z) <;> omega) (by rintro (z | z | z) <;> omega), x3, Nat.le_refl _, by omega, by omega, x6⟩) (hFr.mono (fun κ z => z.elim (fun z => Or.inl z) (eKd_4 κ)) fr)
    · exact no 21 _ (RX21, TX21, 3) e2 rfl (hLeafOf (by decide +kernel))
    · exact no 7 _ (RX7, TX7, 3) e3 rfl (hLeafOf (by decide +kernel))
    · exact no 8 _ (RX8, TX8, 4) e3 rfl (hLeafOf (by decide +kernel))
end CH
/-- a number, or not -/
theorem cV.num {h : hP} {D : aD} {w : cW} {q n : Nat} {v : aV} {x : Value} (hD : cD D w h q) (hv : cV D w.1 h n v x) : (∃ k c κ w', v = some (.inl k) ∧ x = .ref c ∧ h.2.2 c = some (κ, .inl [w', .int k]) ∧ κ % 100 = 5) ∨ ((∀ k, v ≠ some (.inl k)) ∧ (x = .null ∨ ∃ c κ fs r, x = .ref c ∧ h.2.2 c = some (κ, .inl fs) ∧ hCl (κ % 100) = some r ∧ hLeaf (.not (.castable r.1 "TemplateEngine$NumberData")))) := by
  rcases hv.nr with rfl | ⟨c, rfl⟩
  · rw [hv.nul]
    exact Or.inr ⟨fun k z => (by cases z), Or.inl rfl⟩
  · rcases hv.cs hD with ⟨k, κ, w', rfl, e2, e3⟩ | ⟨l, rfl, ht⟩ | ⟨k, y, l, rfl, e2, e3⟩ | ⟨x, ps, j, f, rfl, e1, e2, e3, e4, e5, e6⟩ | ⟨x, ps, j, f, rfl, e1, e2, e3, e4, e5, e6⟩
    · exact Or.inl ⟨k, c, κ, w', rfl, rfl, e2, e3⟩
    · obtain ⟨k, s, κ, c', y1, y2, y3, y4⟩ := ht 0
      exact Or.inr ⟨fun k z => (by cases z), Or.inr ⟨c, 6, _, (RX6, TX6, 3), rfl, y1, rfl, hLeafOf (by decide +kernel)⟩⟩
    · exact Or.inr ⟨fun k z => (by cases z), Or.inr ⟨c, 21, _, (RX21, TX21, 3), rfl, e2, rfl, hLeafOf (by decide +kernel)⟩⟩
    · exact Or.inr ⟨fun k z => (by cases z), Or.inr ⟨c, 7, _, (RX7, TX7, 3), rfl, e3, rfl, hLeafOf (by decide +kernel)⟩⟩
    · exact Or.inr ⟨fun k z => (by cases z), Or.inr ⟨c, 8, _, (RX8, TX8, 4), rfl, e3, rfl, hLeafOf (by decide +kernel)⟩⟩
/-- instanceof NumberData of what is none -/
theorem g_instV {Z : hE} {X : hX} {M : hM} {d : Nat} {S : Nat → Prop} {hin : hP} {K : hO → hP → Prop} {pc idx : Nat} {ls : List (Nat × Value)} {st : List Value} {h : hP} {x : Value} (hd : decode M.1 pc = .ok (.instanceof idx, 3)) (q1 : Cond.classLink M.2.1.cls idx "TemplateEngine$NumberData" ∈ lw_all) (hx : x = .null ∨ ∃ c κ fs r, x = .ref c ∧ h.2.2 c = some (κ, .inl fs) ∧ hCl (κ % 100) = some r ∧ hLeaf (.not (.castable r.1 "TemplateEngine$NumberData"))) (k : hG Z X M d S hin K (pc + 3) ls (.int 0 :: st) h) : hG Z X M d S hin K pc ls (x :: st) h := by
  rcases hx with rfl | ⟨c, κ, fs, r, rfl, e1, e2, e3⟩
  · exact g_instN hd k
  · exact g_instNo hd e1 e2 q1 e3 k
section CH
variable {Z : hE} {X : hX} {h hin : hP} {K : hO → hP → Prop} {D : aD} {w : cW} {q ca o1 o2 cap1 cap2 n : Nat} {dd bf inn x y : Value} {v v2 : aV} {l1 l2 : List Nat}
/-- nothing has changed, or something is new -/
theorem cHq.nw {h' : hP} {res : Option aV} {u : aV} {z : Value} {N : Nat} (h1 : cO h 4 o1 cap1 l1) (h2 : cO h 5 o2 cap2 l2) (f : hFr (fun _ => False) h h') (e : res = some u) (hv : cV D w.1 h' N u z) (r1 : h'.1 ≤ h.1 + 3) (r2 : h'.2.1 ≤ h.2.1 + 80) : cHq D w o1 o2 cap1 cap2 N res h (.inl (some z)) h' :=
  Or.inl ⟨z, u, cap1, cap2, l1, l2, rfl, e, hv, h1.fr f (fun z => z) (fun z => z) (fun z => z), h2.fr f (fun z => z) (fun z => z) (fun z => z), Nat.le_refl _, Nat.le_refl _, by omega, by omega, cMn.F f⟩
theorem ch_len (e : Nat) (he : 20 ≤ e) (hD : cD D w h q) (hv : cV D w.1 h n v x) (h1 : cO h 4 o1 cap1 l1) (h2 : cO h 5 o2 cap2 l2) (r1 : h.1 + 1800 ≤ hLC Z) (r2 : h.2.1 + 5000 ≤ hLS) (hK : ∀ r h', cHq D w o1 o2 cap1 cap2 (n + 1) (hpV D 2 v v2) h r h' → hFr eKd h h' → K r h') : hG Z X mX15_value e eKn hin K 253 [(1, .ref ca), (3, x)] [] h := by
  obtain ⟨e, rfl⟩ : ∃ e', e = e' + 20 := ⟨e - 20, by omega⟩
  refine g_new (pc := 253) (r := (RX5, TX5, 2)) (fs := [.int (nI 0), .int (nI 0)]) 5 dX15_value_253 rfl (by decide) q1653 q611 q96 rfl (by first | omega | (simp only [hNew_1, hNew_2, hSet_1, hSet_2]; omega)) (by first | omega | (simp only [hNew_1, hNew_2, hSet_1, hSet_2]; omega)) (fun hwf => ?_)
  have f0 : ∀ c, hFr (fun _ => False) h (hNew h c 2) := fun c => (hFr.rf h).new hwf
  have m0 := cMn.F (f0 (5, .inl [.int (nI 0), .int (nI 0)]))
  have hn0 := hNew_s h (5, .inl [.int (nI 0), .int (nI 0)]) 2
  have fin : hG Z X mX15_value (e + 20) eKn hin K 269 [(1, .ref ca), (3, x)] [.int (nI (lnV D v)), .ref h.1, .ref h.1] (hNew h (5, .inl [.int (nI 0), .int (nI 0)]) 2) := by
    refine g_invI (pc := 269) dX15_value_269 (cd_num (e + 17) _ _ _ hn0) meX5_init rfl rfl q1672 q613 rfl rfl (Nat.le_of_ble_eq_true rfl) (fun κ z => Or.inl z) (jk_n (fun u h4 hp fr4 => ?_)) jk_x
    obtain ⟨rfl, rfl⟩ := hp
    rw [hSet_New]
    refine g_aret (pc := 272) dX15_value_272 rfl (Or.inl ⟨_, rfl⟩) (Or.inr ⟨_, rfl⟩) ?_
    refine hK _ _ (cHq.nw h1 h2 (f0 _) rfl (cV.nm (hNew_s _ _ _) (Or.inl rfl)) (by simp only [hNew_1]; omega) (by simp only [hNew_2]; omega)) (hFr.mono (fun _ z => z.elim) (f0 _))
  refine g_dup (pc := 256) dX15_value_256 rfl ?_
  rcases hv.nr with rfl | ⟨c, rfl⟩
  · have e0 := hv.nul
    subst e0
    refine g_aload_nN (pc := 257) dX15_value_257 rfl rfl ?_
    refine g_ifnonnullN (pc := 258) dX15_value_258 ?_
    refine g_iconst (pc := 261) (v := nI 0) dX15_value_261 rfl ?_
    refine g_goto (pc := 262) (tgt := 269) dX15_value_262 rfl ?_
    exact fin
  ·
    refine g_aload_n (pc := 257) dX15_value_257 rfl rfl ?_
    refine g_ifnonnull (pc := 258) (tgt := 265) dX15_value_258 rfl ?_
    refine g_aload_n (pc := 265) dX15_value_265 rfl rfl ?_
    refine dz_X15 (cz_val (hD.kp (f0 _) cNS.F m0) (e + 19) (by omega) (hv.kp (f0 _) cNS.F m0)) (Nat.le_of_ble_eq_true rfl) jF (jk_e ?_) jk_x
    exact fin
theorem ch_not (e : Nat) (he : 20 ≤ e) (hD : cD D w h q) (hv : cV D w.1 h n v x) (h1 : cO h 4 o1 cap1 l1) (h2 : cO h 5 o2 cap2 l2) (hK : ∀ r h', cHq D w o1 o2 cap1 cap2 (n + 1) (hpV D 3 v v2) h r h' → hFr eKd h h' → K r h') : hG Z X mX15_value e eKn hin K 273 [(1, .ref ca), (3, x)] [] h := by
  obtain ⟨e, rfl⟩ : ∃ e', e = e' + 20 := ⟨e - 20, by omega⟩
  have hx := hv.nr
  refine g_aload_nX (pc := 273) dX15_value_273 rfl rfl hx ?_
  refine g_invSN (pc := 274) dX15_value_274 (cl_isFalse hD (e + 17) hv) meX1_isFalse q1673 q1674 rfl rfl (Nat.le_of_ble_eq_true rfl) (by first | exact jF | exact fun _ z => z | assumption | (intro κ z; simp_all)) (jk_e ?_) jk_x
  refine g_invS (pc := 277) dX15_value_277 (ch_truth (D := D) (w := w) (e + 19) (flV D v)) meX15_truth q1695 q1696 rfl rfl (Nat.le_of_ble_eq_true rfl) (by first | exact jF | exact fun _ z => z | assumption | (intro κ z; simp_all)) (jk_n (fun u h4 hp fr4 => ?_)) jk_x
  obtain ⟨z, rfl, z2, rfl⟩ := hp
  refine g_aret (pc := 280) dX15_value_280 rfl (Or.inl ⟨_, rfl⟩) z2.nr ?_
  exact hK _ _ (cHq.nw h1 h2 (hFr.rf _) rfl (z2.le (Nat.zero_le _)) (by omega) (by omega)) (hFr.rf _)
theorem ch_eq (e : Nat) (he : D.1 + n + 20 ≤ e) (hca : h.2.2 ca = some (20, .inl [dd, bf, inn, .ref o1, .ref o2])) (hD : cD D w h q) (hv : cV D w.1 h n v x) (hv2 : cV D w.1 h n v2 y) (h1 : cO h 4 o1 cap1 l1) (h2 : cO h 5 o2 cap2 l2) (r1 : h.1 + 1800 ≤ hLC Z) (r2 : h.2.1 + 5000 ≤ hLS) (hK : ∀ r h', cHq D w o1 o2 cap1 cap2 (n + 1) (hpV D 5 v v2) h r h' → hFr eKd h h' → K r h') : hG Z X mX15_value e eKn hin K 281 [(1, .ref ca), (3, x), (4, y)] [] h := by
  obtain ⟨e, rfl⟩ : ∃ e', e = e' + 20 := ⟨e - 20, by omega⟩
  have ehp : hpV D 5 v v2 = if (shw D v).length ≤ 400 ∧ (shw D v2).length ≤ 400 then some (some (.inl (nI (decide (shw D v = shw D v2)).toNat))) else none := rfl
  have hx := hv.nr
  have hy := hv2.nr
  have h10 := h1
  obtain ⟨a1, a2, at1, a3, a4⟩ := h1
  have h20 := h2
  obtain ⟨b1, b2, bt1, b3, b4⟩ := h2
  refine g_aload_n (pc := 281) dX15_value_281 rfl rfl ?_
  refine g_get (pc := 282) (r := (RX20, TX20, 5)) 3 dX15_value_282 hca rfl (Nat.le_of_ble_eq_true rfl) q1458 (Or.inl rfl) rfl ?_
  refine g_aload_nX (pc := 285) dX15_value_285 rfl rfl hx ?_
  refine g_invV (pc := 286) dX15_value_286 a3 (k02 4) (co_of (γ := 4) (by decide) (e := e + 19) (by omega) hv hD h10 (by omega) (by omega)) meX2_of q1639 q1567 q1568 rfl rfl (Nat.le_of_ble_eq_true rfl) (fun κ z => eKn_e κ (eKd_4 κ z)) (fun u h3 hp fr => ?_) (fun E h3 hp fr => ?_)
  · rcases hp with ⟨e1, e2, cap', e3, g1, g2, g3, g4⟩ | ⟨e1, _⟩
    · have e1 := Sum.inl.inj e1
      subst e1
      have m1 := cMn.jss fr (by decide)
      have hca1 := (fr.2.2 _ _ hca).1 (by rintro (z | z) <;> omega)
      have b31 := (fr.2.2 _ _ b3).1 (by rintro (z | z) <;> omega)
      have h21 := h20.fr fr (by rintro (z | z) <;> omega) (by rintro (z | z) <;> omega) (by rintro (z | z) <;> omega)
      have hc8 := e3.1
      refine g_aload_n (pc := 289) dX15_value_289 rfl rfl ?_
      refine g_get (pc := 290) (r := (RX20, TX20, 5)) 4 dX15_value_290 hca1 rfl (Nat.le_of_ble_eq_true rfl) q1460 (Or.inl rfl) rfl ?_
      refine g_aloadX (pc := 293) dX15_value_293 rfl hy ?_
      refine g_invV (pc := 295) dX15_value_295 b31 (k02 5) (co_of (γ := 5) (by decide) (e := e + 19) (by omega) (hv2.kp fr (cNS.jss 4 (by decide)) m1) (hD.kp fr (cNS.jss 4 (by decide)) m1) h21 (by omega) (by omega)) meX2_of q1639 q1567 q1568 rfl rfl (Nat.le_of_ble_eq_true rfl) (fun κ z => eKn_e κ (eKd_5 κ z)) (fun u h4 hp fr2 => ?_) (fun E h4 hp fr2 => ?_)
      · rcases hp with ⟨e1, e4, cap2', e5, g5, g6, g7, g8⟩ | ⟨e1, _⟩
        · have e1 := Sum.inl.inj e1
          subst e1
          have m2 := cMn.jss fr2 (by decide)
          have e31 := e3.fr fr2 (by rintro (z | z) <;> omega) (by rintro (z | z) <;> omega) (by rintro (z | z) <;> omega)
          have e310 := e31
          obtain ⟨d1, d2, dt, d3, d4⟩ := e31
          refine g_invV (pc := 298) dX15_value_298 d3 (k02 4) (co_isLike (e + 15) 5 o2 _ _ e310 e5) meX2_isLike q1699 q1700 q1701 rfl rfl (Nat.le_of_ble_eq_true rfl) (by first | exact jF | exact fun _ z => z | assumption | (intro κ z; simp_all)) (jk_e ?_) jk_x
          refine g_invS (pc := 301) dX15_value_301 (ch_truth (D := D) (w := w) (e + 19) (decide (shw D v = shw D v2))) meX15_truth q1695 q1696 rfl rfl (Nat.le_of_ble_eq_true rfl) (by first | exact jF | exact fun _ z => z | assumption | (intro κ z; simp_all)) (jk_n (fun u h5 hp fr5 => ?_)) jk_x
          obtain ⟨z, rfl, z2, rfl⟩ := hp
          refine g_aret (pc := 304) dX15_value_304 rfl (Or.inl ⟨_, rfl⟩) z2.nr ?_
          refine hK _ _ (Or.inl ⟨z, _, cap', cap2', _, _, rfl, by rw [ehp, if_pos ⟨e2, e4⟩], z2.le (Nat.zero_le _), e310, e5, g1, g5, by omega, by omega, m1.tr m2⟩) ((hFr.mono eKd_4 fr).tr (hFr.mono eKd_5 fr2))
        · cases e1
      · refine gx_out (fun x hx => by cases hx) ?_
        rcases hp with ⟨e1, _⟩ | ⟨e1, e4, e5, e6⟩
        · cases e1
        · have e1 := Sum.inr.inj e1
          subst e1
          exact hK _ _ (Or.inr ⟨rfl, by rw [ehp, if_neg (by omega)], by omega, by omega, m1.tr (cMn.jss fr2 (by decide))⟩) ((hFr.mono eKd_4 fr).tr (hFr.mono eKd_5 fr2))
    · cases e1
  · refine gx_out (fun x hx => by cases hx) ?_
    rcases hp with ⟨e1, _⟩ | ⟨e1, e2, e3, e4⟩
    · cases e1
    · have e1 := Sum.inr.inj e1
      subst e1
      exact hK _ _ (Or.inr ⟨rfl, by rw [ehp, if_neg (by omega)], by omega, by omega, cMn.jss fr (by decide)⟩) (hFr.mono eKd_4 fr)
theorem ch_add (e : Nat) (he : 20 ≤ e) (hD : cD D w h q) (hv : cV D w.1 h n v x) (hv2 : cV D w.1 h n v2 y) (h1 : cO h 4 o1 cap1 l1) (h2 : cO h 5 o2 cap2 l2) (r1 : h.1 + 1800 ≤ hLC Z) (r2 : h.2.1 + 5000 ≤ hLS) (hK : ∀ r h', cHq D w o1 o2 cap1 cap2 (n + 1) (hpV D 4 v v2) h r h' → hFr eKd h h' → K r h') : hG Z X mX15_value e eKn hin K 305 [(1, .ref ca), (3, x), (4, y)] [] h := by
  obtain ⟨e, rfl⟩ : ∃ e', e = e' + 20 := ⟨e - 20, by omega⟩
  have hx := hv.nr
  have hy := hv2.nr
  have bad : adV v v2 = none → hG Z X mX15_value (e + 20) eKn hin K 346 [(1, .ref ca), (3, x), (4, y)] [] h := by
    intro ha
    refine g_null (pc := 346) dX15_value_346 ?_
    refine g_aret (pc := 347) dX15_value_347 rfl (Or.inl ⟨_, rfl⟩) (Or.inl rfl) ?_
    refine hK _ _ (cHq.nw (u := none) h1 h2 (hFr.rf _) (by show some (adV v v2) = _; rw [ha]) cV.n0 (by omega) (by omega)) (hFr.rf _)
  rcases hv.num hD with ⟨k, c, κ, w', rfl, rfl, e1, e2⟩ | ⟨e1, e2⟩
  · have kc : hCl (κ % 100) = some (RX5, TX5, 2) := by rw [e2]; rfl
    rcases hv2.num hD with ⟨k', c', κ', w2', rfl, rfl, e1', e2'⟩ | ⟨e1', e2'⟩
    · have kc' : hCl (κ' % 100) = some (RX5, TX5, 2) := by rw [e2']; rfl
      refine g_aload_n (pc := 305) dX15_value_305 rfl rfl ?_
      refine g_instY (pc := 306) (r := (RX5, TX5, 2)) dX15_value_306 e1 kc q1653 (Or.inl rfl) ?_
      refine g_if_eq (pc := 309) (tgt := 346) dX15_value_309 rfl (fun q_ => absurd q_ (by decide)) (fun _ => ?_)
      refine g_aload (pc := 312) dX15_value_312 rfl ?_
      refine g_instY (pc := 314) (r := (RX5, TX5, 2)) dX15_value_314 e1' kc' q1653 (Or.inl rfl) ?_
      refine g_if_eq (pc := 317) (tgt := 346) dX15_value_317 rfl (fun q_ => absurd q_ (by decide)) (fun _ => ?_)
      refine g_new (pc := 320) (r := (RX5, TX5, 2)) (fs := [.int (nI 0), .int (nI 0)]) 5 dX15_value_320 rfl (by decide) q1653 q611 q96 rfl (by first | omega | (simp only [hNew_1, hNew_2, hSet_1, hSet_2]; omega)) (by first | omega | (simp only [hNew_1, hNew_2, hSet_1, hSet_2]; omega)) (fun hwf => ?_)
      have f0 : ∀ c, hFr (fun _ => False) h (hNew h c 2) := fun c => (hFr.rf h).new hwf
      have e1n := ((f0 (5, .inl [.int (nI 0), .int (nI 0)])).2.2 _ _ e1).1 (fun z => z)
      have e1n' := ((f0 (5, .inl [.int (nI 0), .int (nI 0)])).2.2 _ _ e1').1 (fun z => z)
      have hn0 := hNew_s h (5, .inl [.int (nI 0), .int (nI 0)]) 2
      refine g_dup (pc := 323) dX15_value_323 rfl ?_
      refine g_aload_n (pc := 324) dX15_value_324 rfl rfl ?_
      refine g_cast (pc := 325) (r := (RX5, TX5, 2)) dX15_value_325 e1n kc q1653 (Or.inl rfl) ?_
      refine g_get (pc := 328) (r := (RX5, TX5, 2)) 1 dX15_value_328 e1n kc (Nat.le_of_ble_eq_true rfl) q620 (Or.inl rfl) rfl ?_
      refine g_aload (pc := 331) dX15_value_331 rfl ?_
      refine g_cast (pc := 333) (r := (RX5, TX5, 2)) dX15_value_333 e1n' kc' q1653 (Or.inl rfl) ?_
      refine g_get (pc := 336) (r := (RX5, TX5, 2)) 1 dX15_value_336 e1n' kc' (Nat.le_of_ble_eq_true rfl) q620 (Or.inl rfl) rfl ?_
      refine g_iadd (pc := 339) dX15_value_339 ?_
      refine g_invI (pc := 340) dX15_value_340 (cd_num (e + 17) _ _ _ hn0) meX5_init rfl rfl q1672 q613 rfl rfl (Nat.le_of_ble_eq_true rfl) (fun κ z => Or.inl z) (jk_n (fun u h4 hp fr4 => ?_)) jk_x
      obtain ⟨rfl, rfl⟩ := hp
      rw [hSet_New]
      refine g_goto (pc := 343) (tgt := 347) dX15_value_343 rfl ?_
      refine g_aret (pc := 347) dX15_value_347 rfl (Or.inl ⟨_, rfl⟩) (Or.inr ⟨_, rfl⟩) ?_
      refine hK _ _ (cHq.nw h1 h2 (f0 _) rfl (cV.nm (hNew_s _ _ _) (Or.inl rfl)) (by simp only [hNew_1]; omega) (by simp only [hNew_2]; omega)) (hFr.mono (fun _ z => z.elim) (f0 _))
    ·
      refine g_aload_n (pc := 305) dX15_value_305 rfl rfl ?_
      refine g_instY (pc := 306) (r := (RX5, TX5, 2)) dX15_value_306 e1 kc q1653 (Or.inl rfl) ?_
      refine g_if_eq (pc := 309) (tgt := 346) dX15_value_309 rfl (fun q_ => absurd q_ (by decide)) (fun _ => ?_)
      refine g_aloadX (pc := 312) dX15_value_312 rfl hy ?_
      refine g_instV (pc := 314) dX15_value_314 q1653 e2' ?_
      refine g_if_eq (pc := 317) (tgt := 346) dX15_value_317 rfl (fun _ => ?_) (fun q_ => absurd rfl q_)
      refine bad ?_
      unfold adV
      split
      · rename_i z; cases z; exact absurd rfl (e1' _)
      · rfl
  ·
    refine g_aload_nX (pc := 305) dX15_value_305 rfl rfl hx ?_
    refine g_instV (pc := 306) dX15_value_306 q1653 e2 ?_
    refine g_if_eq (pc := 309) (tgt := 346) dX15_value_309 rfl (fun _ => ?_) (fun q_ => absurd rfl q_)
    refine bad ?_
    unfold adV
    split
    · exact absurd rfl (e1 _)
    · rfl
theorem ch_at (e : Nat) (he : 20 ≤ e) (hD : cD D w h q) (hv : cV D w.1 h n v x) (hv2 : cV D w.1 h n v2 y) (h1 : cO h 4 o1 cap1 l1) (h2 : cO h 5 o2 cap2 l2) (hK : ∀ r h', cHq D w o1 o2 cap1 cap2 (n + 1) (hpV D 6 v v2) h r h' → hFr eKd h h' → K r h') : hG Z X mX15_value e eKn hin K 348 [(1, .ref ca), (3, x), (4, y)] [] h := by
  obtain ⟨e, rfl⟩ : ∃ e', e = e' + 20 := ⟨e - 20, by omega⟩
  have hx := hv.nr
  have hy := hv2.nr
  have bad : atV D v v2 = none → hG Z X mX15_value (e + 20) eKn hin K 383 [(1, .ref ca), (3, x), (4, y)] [] h := by
    intro ha
    refine g_null (pc := 383) dX15_value_383 ?_
    refine g_aret (pc := 384) dX15_value_384 rfl (Or.inl ⟨_, rfl⟩) (Or.inl rfl) ?_
    refine hK _ _ (cHq.nw (u := none) h1 h2 (hFr.rf _) (by show some (atV D v v2) = _; rw [ha]) cV.n0 (by omega) (by omega)) (hFr.rf _)
  have non : ∀ u, (∀ k, elV D u k = none) → atV D u v2 = none := fun u hu => by
    unfold atV
    split
    · exact hu _
    · rfl
  rcases hx with rfl | ⟨c, rfl⟩
  · have e0 := hv.nul
    subst e0
    refine g_aload_nN (pc := 348) dX15_value_348 rfl rfl ?_
    refine g_ifnullN (pc := 349) (tgt := 383) dX15_value_349 rfl ?_
    exact bad (non none (fun k => rfl))
  · have go : kdV D v ≠ 2 → atV D v v2 = none → hG Z X mX15_value (e + 20) eKn hin K 348 [(1, .ref ca), (3, .ref c), (4, y)] [] h := by
      intro hk ha
      have hk5 : kdV D v < 5 := by unfold kdV; repeat' split
                                   all_goals omega
      refine g_aload_n (pc := 348) dX15_value_348 rfl rfl ?_
      refine g_ifnull (pc := 349) dX15_value_349 ?_
      refine g_aload_n (pc := 352) dX15_value_352 rfl rfl ?_
      refine dk_X15 (ck_val hD (e + 19) hv) (Nat.le_of_ble_eq_true rfl) jF (jk_e ?_) jk_x
      refine g_iconst (pc := 356) (v := nI 2) dX15_value_356 rfl ?_
      refine g_icmp_neN (pc := 357) (tgt := 383) dX15_value_357 rfl (by omega) (by omega) (fun _ => ?_) (fun q_ => absurd q_ hk)
      exact bad ha
    have hv0 := hv
    rcases hv.cs hD with ⟨k, κ, w', rfl, e2, e3⟩ | ⟨l, rfl, ht⟩ | ⟨k, z, l, rfl, e2, e3⟩ | ⟨x, ps, j, f, rfl, e1, e2, e3, e4, e5, e6⟩ | ⟨x, ps, j, f, rfl, e1, e2, e3, e4, e5, e6⟩
    · exact go (show 0 ≠ 2 by decide) (non _ (fun k => rfl))
    · exact go (show 1 ≠ 2 by decide) (non _ (fun k => rfl))
    · exact go (show 1 ≠ 2 by decide) (non _ (fun k => rfl))
    · have ek : kdV D (some (.inr (.inr x))) = 2 := by show (if isLs (D.2 x) = true then 2 else 3) = 2; rw [e2]; rfl
      refine g_aload_n (pc := 348) dX15_value_348 rfl rfl ?_
      refine g_ifnull (pc := 349) dX15_value_349 ?_
      refine g_aload_n (pc := 352) dX15_value_352 rfl rfl ?_
      refine dk_X15 (ck_val hD (e + 19) hv0) (Nat.le_of_ble_eq_true rfl) jF (jk_e ?_) jk_x
      rw [ek]
      refine g_iconst (pc := 356) (v := nI 2) dX15_value_356 rfl ?_
      refine g_icmp_neN (pc := 357) (tgt := 383) dX15_value_357 rfl (by omega) (by omega) (fun q_ => absurd rfl q_) (fun _ => ?_)
      rcases hv2.num hD with ⟨k', c', κ', w2', rfl, rfl, e1', e2'⟩ | ⟨e1', e2'⟩
      · have kc' : hCl (κ' % 100) = some (RX5, TX5, 2) := by rw [e2']; rfl
        refine g_aload (pc := 360) dX15_value_360 rfl ?_
        refine g_instY (pc := 362) (r := (RX5, TX5, 2)) dX15_value_362 e1' kc' q1653 (Or.inl rfl) ?_
        refine g_if_eq (pc := 365) (tgt := 383) dX15_value_365 rfl (fun q_ => absurd q_ (by decide)) (fun _ => ?_)
        refine g_aload_n (pc := 368) dX15_value_368 rfl rfl ?_
        refine g_aload (pc := 369) dX15_value_369 rfl ?_
        refine g_cast (pc := 371) (r := (RX5, TX5, 2)) dX15_value_371 e1' kc' q1653 (Or.inl rfl) ?_
        refine g_get (pc := 374) (r := (RX5, TX5, 2)) 1 dX15_value_374 e1' kc' (Nat.le_of_ble_eq_true rfl) q620 (Or.inl rfl) rfl ?_
        refine g_invU (pc := 377) dX15_value_377 e3 rfl (cd_elem7 (e + 19) _ k' e3 e4 e5 e6) meX7_element q1704 q920 (Or.inr ⟨_, _, _, q919, q928⟩) q923 q922 ⟨⟨by decide, by decide⟩, rfl⟩ rfl rfl (Nat.le_of_ble_eq_true rfl) (by first | exact jF | exact fun _ z => z | assumption | (intro κ z; simp_all)) (jk_e ?_) jk_x
        refine g_goto (pc := 380) (tgt := 384) dX15_value_380 rfl ?_
        have ee : atV D (some (.inr (.inr x))) (some (.inl k')) = if 0 ≤ k'.toInt ∧ k'.toInt < ps.length then elX D x k'.toInt.toNat else none := by
          show (if isLs (D.2 x) = true ∧ 0 ≤ k'.toInt ∧ k'.toInt < (aPs (D.2 x)).length then elX D x k'.toInt.toNat else none) = _
          rw [e2]
          show (if true = true ∧ 0 ≤ k'.toInt ∧ k'.toInt < ps.length then elX D x k'.toInt.toNat else none) = _
          by_cases z : 0 ≤ k'.toInt ∧ k'.toInt < ps.length
          · rw [if_pos ⟨rfl, z⟩, if_pos z]
          · rw [if_neg (fun y => z y.2), if_neg z]
        have hr : cV D w.1 h 0 (atV D (some (.inr (.inr x))) (some (.inl k'))) (elA w.1 ps k') := by
          rw [ee]
          unfold elA
          by_cases z : 0 ≤ k'.toInt ∧ k'.toInt < ps.length
          · rw [if_pos z, if_pos z]
            exact hD.el e1 e2 (by omega)
          · rw [if_neg z, if_neg z]
            exact cV.n0
        refine g_aret (pc := 384) dX15_value_384 rfl (Or.inl ⟨_, rfl⟩) hr.nr ?_
        exact hK _ _ (cHq.nw h1 h2 (hFr.rf _) rfl (hr.le (Nat.zero_le _)) (by omega) (by omega)) (hFr.rf _)
      ·
        refine g_aloadX (pc := 360) dX15_value_360 rfl hy ?_
        refine g_instV (pc := 362) dX15_value_362 q1653 e2' ?_
        refine g_if_eq (pc := 365) (tgt := 383) dX15_value_365 rfl (fun _ => ?_) (fun q_ => absurd rfl q_)
        refine bad ?_
        unfold atV
        split
        · exact absurd rfl (e1' _)
        · rfl
    · refine go ?_ (non _ (fun k => ?_))
      · show (if isLs (D.2 x) = true then 2 else 3) ≠ 2
        rw [e2]
        show 3 ≠ 2
        decide
      · show (if isLs (D.2 x) = true ∧ _ then _ else _) = none
        rw [if_neg]
        rw [e2]
        exact fun z => by cases z.1
end CH
