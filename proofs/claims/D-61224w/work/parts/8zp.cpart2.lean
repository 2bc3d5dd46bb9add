/-! COMPONENT 44: Parser.part -/
set_option maxRecDepth 100000
/-- the next tag by its sort -/
def tkM (o : Option Nat) (k fr q0 en : Nat) : Option (Nat ⊕ tGt) := match o with
  | none => some (.inl k)
  | some s => some (.inr (k, fr, q0, en, s))
theorem sub97 : ∀ c, c < 97 → (nI c - nI 97 : Int32) < 0 := by decide
/-- a tag that is no block makes one Part -/
theorem ptN.one {l : List Nat} {E P s : Nat} {h h' : hP} {n p g k fr q0 en so a c c2 : Nat} {S : List Nat} {T : tTb} {pl tr ins : Value} (inv : tInv l.length (p, g, S, T)) (ht : tkT (lF l) l.length p = some (.inr (k, fr, q0, en, so))) (hso : so < 3 ∨ so = 10) (hf : hFr pzS h h') (r1 : h'.1 + c + 100 * k ≤ h.1 + 100 * en) (r2 : h'.2.1 + c2 + 1000 * k ≤ h.2.1 + 1000 * en) (hP : h'.2.2 P = some (pCl E s en (g + 1) pl tr ins)) (hk : pKd h' a)
    (hc : (so = 2 ∧ h'.2.2 a = some (16, .inl [])) ∨ (so < 2 ∧ ∃ v, h'.2.2 a = some (11, .inl [.ref v, .int (nI so)]) ∧ cEx h' (exO (lF l) q0 fr) v) ∨ (so = 10 ∧ lF l (fr + 2) - 97 < 4 ∧ h'.2.2 a = some (18, .inl [.int (nI (lF l (fr + 2) - 97))]))) : ptN l E P s h n p g k S T c c2 (.inl (some (.ref a))) h' := by
  have st := ts_simple (g := g) (S := S) (T := T) ht hso
  obtain ⟨t1, t2⟩ := tkT_ok ht
  unfold tgOK at t2
  dsimp only at t1 t2
  refine ⟨a, en, g + 1, tT1 T g (k, fr, q0, en, so), pl, tr, ins, rfl, tpTo.one st, tInv_step inv st, by omega, t1, by omega, ?_, tE.new _ _ _, hf, r1, r2, hP, hk, fun T' G ad => ?_⟩
  · show (upO T.1 g _ g).1 = k
    rw [upO_s]
  · have e1 : T'.1 g = (k, fr, q0, en, so) := (ad.2.1 g (by omega)).trans (upO_s _ _ _)
    have := ad.1
    refine Or.inr (Or.inl ⟨by omega, by rw [e1], rfl, by rw [e1], ?_⟩)
    rw [e1]
    exact hc
section PP
variable {Z : hE} {h : hP} {l w : List Nat} {E P s i κ κi n p g k fr q0 en e : Nat} {S : List Nat} {T : tTb} {e0 e1 e2 e3 e5 e6 e7 : Value} {ea : Int32} {th : Bool}
set_option maxHeartbeats 4000000 in
theorem pt_part (hn : S.length + n = 4) (IH : ∀ n', n = n' + 1 → psC Z l E P s (fun v => eC e0 e1 e2 e3 v e5 e6 e7) n' (e + 3 * n' + 13)) (inv : tInv l.length (p, g, S, T)) (hL : l.length ≤ 64) (hQ : h.2.2 P = some (pCl E s en (g + 1) (.int (nI k)) (.int (nI th.toNat)) (.ref i))) (hs : jSt h κ s l) (hκ : kK κ) (hE : h.2.2 E = some (eC e0 e1 e2 e3 ea e5 e6 e7)) (ji : jSt h κi i w) (ki : kK κi) (hth : th = false → enB w = false) (htk : tkT (lF l) l.length p = tkM (sortN (lF w) w.length 0 th) k fr q0 en)
    (hex : ∀ j, isEx (lF w) w.length j = true → exO (lF l) q0 (fr + j) = exO (lF w) w.length j) (hfw : ∀ j, j < w.length → lF l (fr + j) = lF w j) (hen : k + w.length + 4 ≤ en) (henN : en ≤ l.length) (hpk : p ≤ k) (r1 : h.1 + 100 * l.length + 2950 ≤ hLC Z + 100 * p) (r2 : h.2.1 + 1000 * l.length + 60500 ≤ hLS + 1000 * p) : hCt Z mX9_part (e + 3 * n + 12) pzX [.ref P, .int (nI S.length)] h (paQ l E P s (fun v => eC e0 e1 e2 e3 v e5 e6 e7) h n p g k S T 100 400 150 2500) := by
  refine hCt.shr (S' := kAll) ?_
  refine hCt.of pnX9 rfl (Nat.le_of_ble_eq_true rfl) rfl (fun X => ?_)
  generalize hKK : (fun r h' => paQ l E P s (fun v => eC e0 e1 e2 e3 v e5 e6 e7) h n p g k S T 100 400 150 2500 r h' ∧ hFr pzX h h') = KK
  have fX : ∀ r h', cMn h h' → psX l E (fun v => eC e0 e1 e2 e3 v e5 e6 e7) h 150 2500 p (p, g, S, T) r h' → KK r h' := fun r h' m z => by
    rw [← hKK]
    obtain ⟨x, gx, Tx, z1, z2, z3, z4, z5, z6⟩ := id z
    exact ⟨⟨m, Or.inr z⟩, z4⟩
  have fS : ∀ r h', cMn h h' → hFr pzS h h' → ptN l E P s h n p g k S T 100 400 r h' → KK r h' := fun r h' m f z => by
    rw [← hKK]
    exact ⟨⟨m, Or.inl z⟩, hFr.mono (fun _ => pzS.x) f⟩
  have fQ : ∀ r h', paQ l E P s (fun v => eC e0 e1 e2 e3 v e5 e6 e7) h n p g k S T 100 400 150 2500 r h' → KK r h' := fun r h' z => by
    obtain ⟨m, z | z⟩ := z
    · obtain ⟨a, p2, g2, T2, pl, tr, ins, y1, y2, y3, y4, y5, y6, y7, y8, y9, y10⟩ := id z
      exact fS r h' m y9 z
    · exact fX r h' m z
  clear hKK
  have kwi := ji.cl
  have ji0 := ji
  obtain ⟨-, hc128, bwi, κbi, hsi, hzi, hswi, -⟩ := ji0
  have no9 : ¬ pzS 1 := by rintro (z | z | z | z) <;> cases z
  have no30 : ∀ {κ}, kK κ → ¬ pzS κ := by
    intro κ hk
    rcases hk with z | z <;> rw [z] <;> (rintro (z | z | z | z) <;> cases z)
  have no60 : ¬ pzS 60 := by rintro (z | z | z | z) <;> cases z
  have no960 : ¬ pzS 960 := by rintro (z | z | z | z) <;> cases z
  have s130 : ∀ {h1 h2 : hP}, hFr (fun κ => κ = 130) h1 h2 → hFr pzS h1 h2 := fun f => hFr.mono (fun _ z => Or.inr (Or.inl z)) f
  have sF : ∀ {h1 h2 : hP}, hFr (fun _ => False) h1 h2 → hFr pzS h1 h2 := fun f => hFr.mono (fun _ z => z.elim) f
  have hwl : w.length ≤ 64 := by omega
  cases th with
  | true =>
    have hso := sn_three (l := w)
    refine g_aload_n (pc := 0) dX9_part_0 rfl rfl ?_
    refine g_get (pc := 1) (r := (RX9, TX9, 7)) 5 dX9_part_1 hQ rfl (Nat.le_of_ble_eq_true rfl) q1021 (Or.inl rfl) rfl ?_
    refine g_if_eq (pc := 4) (tgt := 27) dX9_part_4 rfl (fun q_ => absurd q_ (by decide)) (fun _ => ?_)
    refine g_wf (fun hwf => ?_)
    have hs0 := hso
    refine g_new (pc := 7) (r := (RX11, TX11, 2)) (fs := [.null, .int (nI 0)]) 11 dX9_part_7 rfl (by decide) q1156 q1157 q108 rfl (by first | omega | (simp only [hNew_1, hNew_2, hSet_1, hSet_2]; omega)) (by first | omega | (simp only [hNew_1, hNew_2, hSet_1, hSet_2]; omega)) (fun hwf0 => ?_)
    have n1 := hNew_s h (11, .inl [.null, .int (nI 0)]) 2
    have f1 : hFr (fun _ => False) h (hNew h (11, .inl [.null, .int (nI 0)]) 2) := (hFr.rf h).new hwf0
    have z11 : (hNew h (11, .inl [.null, .int (nI 0)]) 2).1 = h.1 + 1 := rfl
    have z12 : (hNew h (11, .inl [.null, .int (nI 0)]) 2).2.1 = h.2.1 + 2 := rfl
    generalize hNew h (11, .inl [.null, .int (nI 0)]) 2 = h1 at f1 n1 z11 z12 ⊢
    have m1 := cMn.F f1
    have hQ1 := (f1.2.2 _ _ hQ).1 (fun z => z)
    have ji1 := ji.fr f1 (fun z => z) (fun z => z) (fun z => z)
    refine g_dup (pc := 10) dX9_part_10 rfl ?_
    refine g_aload_n (pc := 11) dX9_part_11 rfl rfl ?_
    refine g_aload_n (pc := 12) dX9_part_12 rfl rfl ?_
    refine g_get (pc := 13) (r := (RX9, TX9, 7)) 6 dX9_part_13 hQ1 rfl (Nat.le_of_ble_eq_true rfl) q1022 (Or.inl rfl) rfl ?_
    refine g_invS (pc := 16) dX9_part_16 (pa_expr (e + 3 * n + 1) ji1 ki hwl (by omega) (by omega)) meX9_expression q1158 q1159 rfl rfl (Nat.le_of_ble_eq_true rfl) (fun κ z => by rw [z]; exact Nat.le_of_ble_eq_true rfl) (jk_n (fun v h2 hp2 fr2 => ?_)) jk_x
    obtain ⟨rm2, m2, hp2⟩ := hp2
    have rm21 := rm2.1
    have rm22 := rm2.2
    have f12 := s130 fr2
    have f02 := (sF f1).tr f12
    have m02 := m1.tr m2
    have hQ2 := (fr2.2.2 _ _ hQ1).1 (by intro z; cases z)
    have hE2 := (f02.2.2 _ _ hE).1 no9
    have n2 := (fr2.2.2 _ _ n1).1 (by intro z; cases z)
    rcases hp2 with ⟨rfl, hnx⟩ | ⟨a5, rfl, hx5, cx⟩
    ·
      refine g_invV (pc := 19) dX9_part_19 hQ2 rfl (pt_need (e + 3 * n + 3) (Or.inl rfl) hQ2 hE2 (by omega) (by omega)) meX9_need q1322 q1324 qs12 rfl rfl (Nat.le_of_ble_eq_true rfl) (fun κ z => by rw [z]; exact Nat.le_of_ble_eq_true rfl) (fun v h3 hp3 fr3 => ?_) (fun xx h3 hp3 fr3 => ?_)
      · rcases hp3 with ⟨c, z, -⟩ | ⟨-, z, -⟩ <;> cases z
      · rcases hp3 with ⟨c, z, -⟩ | ⟨-, z, rfl, hwf3⟩
        · cases z
        · cases z
          refine gx_out (fun x hx => by cases hx) ?_
          exact fX _ _ (m02.tr (cMn.flt hE2 rfl rfl hwf3)) (psX.new hE2 (hFr.mono (fun _ => pzS.x) f02) hwf3 (gx := g) (Tx := T) (tpFn.one (tpS_fl (by rw [htk, hs0, if_neg hnx]; rfl))) (by omega) (by omega))
    ·
      refine g_invV (pc := 19) dX9_part_19 hQ2 rfl (pt_need (e + 3 * n + 3) (Or.inr ⟨_, rfl⟩) hQ2 hE2 (by omega) (by omega)) meX9_need q1322 q1324 qs12 rfl rfl (Nat.le_of_ble_eq_true rfl) (fun κ z => by rw [z]; exact Nat.le_of_ble_eq_true rfl) (fun v h3 hp3 fr3 => ?_) (fun xx h3 hp3 fr3 => ?_)
      · rcases hp3 with ⟨c, z, z2, z3⟩ | ⟨z, -⟩
        · cases z
          cases z2
          have z3 := z3.symm
          subst z3
          refine g_iconst (pc := 22) (v := nI 1) dX9_part_22 rfl ?_
          refine g_invIN (pc := 23) dX9_part_23 (ci_X11 (e + 3 * n + 9) _ true _ _ n2) meX11_init rfl rfl q1326 q1327 rfl rfl (Nat.le_of_ble_eq_true rfl) (fun κ z => by rw [z]; exact Nat.le_of_ble_eq_true rfl) (jk_n (fun v h4 hp4 fr4 => ?_)) jk_x
          obtain ⟨rfl, e4⟩ := hp4
          have n4 : h4.2.2 h.1 = some (11, .inl [.ref a5, .int (nI 1)]) := by rw [e4]; exact hSet_s _ _ _
          have f04 : hFr pzS h h4 := by rw [e4]; exact f02.setN hwf (Nat.le_refl _)
          have m24 : cMn h2 h4 := cMn.ft fr4 (by decide) (by decide) (by decide) (by decide) (by decide) (by decide)
          have z41 : h4.1 = h2.1 := by rw [e4]; rfl
          have z42 : h4.2.1 = h2.2.1 := by rw [e4]; rfl
          have ex0 := hex 0 hx5
          rw [Nat.add_zero] at ex0
          refine g_aret (pc := 26) dX9_part_26 rfl (Or.inl ⟨_, rfl⟩) (Or.inr ⟨_, rfl⟩) ?_
          refine fS _ _ (m02.tr m24) f04 (ptN.one inv (fr := fr) (q0 := q0) (so := 1) (by rw [htk, hs0, if_pos hx5]; rfl) (by decide) f04 (by omega) (by omega) ((fr4.2.2 _ _ hQ2).1 (by intro z; cases z)) ⟨11, _, (RX11, TX11, 2), n4, rfl, q2304, q1741, Or.inr (Or.inl rfl)⟩ (Or.inr (Or.inl ⟨by decide, a5, n4, ?_⟩)))
          rw [ex0]
          exact cx.kt fr4 (by intro κ hκ z; rw [z] at hκ; revert hκ; decide) m24
        · cases z
      · rcases hp3 with ⟨c, -, z, -⟩ | ⟨z, -⟩ <;> cases z
  | false =>
    have hso := sn_open (hth rfl)
    refine g_aload_n (pc := 0) dX9_part_0 rfl rfl ?_
    refine g_get (pc := 1) (r := (RX9, TX9, 7)) 5 dX9_part_1 hQ rfl (Nat.le_of_ble_eq_true rfl) q1021 (Or.inl rfl) rfl ?_
    refine g_if_eq (pc := 4) (tgt := 27) dX9_part_4 rfl (fun _ => ?_) (fun q_ => absurd rfl q_)
    refine g_aload_n (pc := 27) dX9_part_27 rfl rfl ?_
    refine g_get (pc := 28) (r := (RX9, TX9, 7)) 6 dX9_part_28 hQ rfl (Nat.le_of_ble_eq_true rfl) q1022 (Or.inl rfl) rfl ?_
    refine g_ldcK (pc := 31) dX9_part_31 ksX9_130 (fun hk1 => ?_)
    refine g_iconst (pc := 33) (v := nI 0) dX9_part_33 rfl ?_
    refine g_invSN (pc := 34) dX9_part_34 (cs_starts (e + 3 * n + 7) 930 _ 0 _ ji hk1 (by decide) (by decide) (by omega) (by decide) (by decide)) meX1_starts q1120 q1121 rfl rfl (Nat.le_of_ble_eq_true rfl) (by first | exact jF | exact fun _ z => z | assumption | (intro κ z; simp_all)) (jk_e ?_) jk_x
    by_cases b1 : stB (lF w) w.length 0 [33] = true
    · rw [if_pos b1] at hso
      show hG Z X mX9_part (e + 3 * n + 12) kAll h KK 37 _ [.int (nI (stB (lF w) w.length 0 [33]).toNat)] h
      rw [b1]
      refine g_if_eq (pc := 37) (tgt := 48) dX9_part_37 rfl (fun q_ => absurd q_ (by decide)) (fun _ => ?_)
      refine g_new (pc := 40) (r := (RX16, hT16, 0)) (fs := []) 16 dX9_part_40 rfl (by decide) q1338 q1339 q113 rfl (by omega) (by show h.2.1 + 0 ≤ _; omega) (fun hwf0 => ?_)
      have n1 := hNew_s h (16, .inl []) 0
      have f1 : hFr (fun _ => False) h (hNew h (16, .inl []) 0) := (hFr.rf h).new hwf0
      refine g_dup (pc := 43) dX9_part_43 rfl ?_
      refine g_invIN (pc := 44) dX9_part_44 (ci_X16 (e + 3 * n + 9)) meX16_init rfl rfl q1340 q1341 rfl rfl (Nat.le_of_ble_eq_true rfl) (by first | exact jF | exact fun _ z => z | assumption | (intro κ z; simp_all)) (jk_e ?_) jk_x
      refine g_aret (pc := 47) dX9_part_47 rfl (Or.inl ⟨_, rfl⟩) (Or.inr ⟨_, rfl⟩) ?_
      exact fS _ _ (cMn.F f1) (sF f1) (ptN.one inv (fr := fr) (q0 := q0) (so := 2) (by rw [htk, hso]; rfl) (by decide) (sF f1) (by simp only [hNew_1]; omega) (by simp only [hNew_2]; omega) ((f1.2.2 _ _ hQ).1 (fun z => z)) ⟨16, _, (RX16, hT16, 0), n1, rfl, q2310, q1734, Or.inr (Or.inr (Or.inl rfl))⟩ (Or.inl ⟨rfl, n1⟩))
    rw [if_neg b1] at hso
    show hG Z X mX9_part (e + 3 * n + 12) kAll h KK 37 _ [.int (nI (stB (lF w) w.length 0 [33]).toNat)] h
    rw [eq_false_of_ne_true b1]
    refine g_if_eq (pc := 37) (tgt := 48) dX9_part_37 rfl (fun _ => ?_) (fun q_ => absurd rfl q_)
    refine g_aload_n (pc := 48) dX9_part_48 rfl rfl ?_
    refine g_get (pc := 49) (r := (RX9, TX9, 7)) 6 dX9_part_49 hQ rfl (Nat.le_of_ble_eq_true rfl) q1022 (Or.inl rfl) rfl ?_
    refine g_ldcK (pc := 52) dX9_part_52 ksX9_135 (fun hk48 => ?_)
    refine g_iconst (pc := 54) (v := nI 0) dX9_part_54 rfl ?_
    refine g_invSN (pc := 55) dX9_part_55 (cs_starts (e + 3 * n + 7) 930 _ 0 _ ji hk48 (by decide) (by decide) (by omega) (by decide) (by decide)) meX1_starts q1120 q1121 rfl rfl (Nat.le_of_ble_eq_true rfl) (by first | exact jF | exact fun _ z => z | assumption | (intro κ z; simp_all)) (jk_e ?_) jk_x
    show hG Z X mX9_part (e + 3 * n + 12) kAll h KK 58 _ [.int (nI (stB (lF w) w.length 0 [35, 105, 102, 32]).toNat)] h
    by_cases b48 : stB (lF w) w.length 0 [35, 105, 102, 32] = true
    · rw [if_pos b48] at hso
      rw [b48]
      have hwn := stB_len (by decide) (by decide) b48
      simp at hwn
      refine g_if_eq (pc := 58) (tgt := 77) dX9_part_58 rfl (fun q_ => absurd q_ (by decide)) (fun _ => ?_)
      refine g_aload_n (pc := 61) dX9_part_61 rfl rfl ?_
      refine g_ldcK (pc := 62) dX9_part_62 ksX9_137 (fun hkb => ?_)
      refine g_aload_n (pc := 64) dX9_part_64 rfl rfl ?_
      refine g_get (pc := 65) (r := (RX9, TX9, 7)) 6 dX9_part_65 hQ rfl (Nat.le_of_ble_eq_true rfl) q1022 (Or.inl rfl) rfl ?_
      refine g_iconst (pc := 68) (v := nI 4) dX9_part_68 rfl ?_
      refine g_invV (pc := 69) dX9_part_69 hswi kwi (jc_substring (e + 3 * n + 6) 30 4 ji (Or.inl rfl) (by omega) (by omega) (by omega) (by omega)) meJ9_substring q1091 q1092 q1093 rfl rfl (Nat.le_of_ble_eq_true rfl) jF (jk_n (fun v h1 hp1 fr1 => ?_)) jk_x
      rcases hp1 with ⟨x1, κ1, rfl, j1, k1, rm1⟩ | ⟨z, -⟩
      · have rm11 := rm1.1
        have rm12 := rm1.2
        rw [sbL_len] at rm12
        have m1 := cMn.F fr1
        have hQ1 := (fr1.2.2 _ _ hQ).1 (fun z => z)
        have hE1 := (fr1.2.2 _ _ hE).1 (fun z => z)
        have hs1 := hs.fr fr1 (fun z => z) (fun z => z) (fun z => z)
        have hb1 := hkb.fr fr1 (fun z => z) (fun z => z) (fun z => z)
        have exs := isEx_sb (l := w) (b := 4) (r := w.length) (j := 0) (by omega)
        rw [Nat.add_zero] at exs
        have len1 : (sbL w 4 w.length).length = w.length - 4 := sbL_len _ _ _
        refine g_iload_n (pc := 72) dX9_part_72 rfl rfl ?_
        refine g_invV (pc := 73) dX9_part_73 hQ1 rfl (pt_block (e := e) (so := 3) (fr := fr) (q0 := q0) hn IH inv hL hQ1 hs1 hκ hE1 hb1 (by decide) j1 k1 (fun z => ⟨?_, ?_⟩) (fun z => ?_) (by omega) henN hpk (by omega) (by omega)) meX9_block q1347 q1349 qs13 rfl rfl (Nat.le_of_ble_eq_true rfl) (fun κ z => by rcases z with z | z | z | z | z <;> rw [z] <;> exact Nat.le_of_ble_eq_true rfl) (fun v h2 hp2 fr2 => ?_) (fun xx h2 hp2 fr2 => ?_)
        · rw [htk, hso, if_pos (by rw [exs]; exact z)]; rfl
        · show exO (lF l) q0 (fr + 4) = _
          rw [hex 4 (by rw [exs]; exact z)]
          have := exO_sb (l := w) (b := 4) (r := w.length) (j := 0) (by omega) z
          rw [Nat.add_zero] at this
          exact this
        · rw [htk, hso, if_neg (by rw [exs]; exact z)]; rfl
        · have hq := hp2.pre (c' := 100) (c2' := 400) (x' := 150) (x2' := 2500) (sF fr1) m1 (by omega) (by omega) (by omega) (by omega)
          obtain ⟨mq, hq1 | ⟨_, _, _, z, _⟩⟩ := id hq
          · obtain ⟨a, _, _, _, _, _, _, z, _⟩ := id hq1
            cases z
            refine g_aret (pc := 76) dX9_part_76 rfl (Or.inl ⟨_, rfl⟩) (Or.inr ⟨_, rfl⟩) ?_
            exact fQ _ _ hq
          · cases z
        · refine gx_out (fun x hx => by cases hx) ?_
          exact fQ _ _ (hp2.pre (sF fr1) m1 (by omega) (by omega) (by omega) (by omega))
      · cases z
    rw [if_neg b48] at hso
    rw [eq_false_of_ne_true b48]
    refine g_if_eq (pc := 58) (tgt := 77) dX9_part_58 rfl (fun _ => ?_) (fun q_ => absurd rfl q_)
    refine g_aload_n (pc := 77) dX9_part_77 rfl rfl ?_
    refine g_get (pc := 78) (r := (RX9, TX9, 7)) 6 dX9_part_78 hQ rfl (Nat.le_of_ble_eq_true rfl) q1022 (Or.inl rfl) rfl ?_
    refine g_ldcK (pc := 81) dX9_part_81 ksX9_143 (fun hk77 => ?_)
    refine g_iconst (pc := 83) (v := nI 0) dX9_part_83 rfl ?_
    refine g_invSN (pc := 84) dX9_part_84 (cs_starts (e + 3 * n + 7) 930 _ 0 _ ji hk77 (by decide) (by decide) (by omega) (by decide) (by decide)) meX1_starts q1120 q1121 rfl rfl (Nat.le_of_ble_eq_true rfl) (by first | exact jF | exact fun _ z => z | assumption | (intro κ z; simp_all)) (jk_e ?_) jk_x
    show hG Z X mX9_part (e + 3 * n + 12) kAll h KK 87 _ [.int (nI (stB (lF w) w.length 0 [35, 101, 97, 99, 104, 32]).toNat)] h
    by_cases b77 : stB (lF w) w.length 0 [35, 101, 97, 99, 104, 32] = true
    · rw [if_pos b77] at hso
      rw [b77]
      have hwn := stB_len (by decide) (by decide) b77
      simp at hwn
      refine g_if_eq (pc := 87) (tgt := 107) dX9_part_87 rfl (fun q_ => absurd q_ (by decide)) (fun _ => ?_)
      refine g_aload_n (pc := 90) dX9_part_90 rfl rfl ?_
      refine g_ldcK (pc := 91) dX9_part_91 ksX9_145 (fun hkb => ?_)
      refine g_aload_n (pc := 93) dX9_part_93 rfl rfl ?_
      refine g_get (pc := 94) (r := (RX9, TX9, 7)) 6 dX9_part_94 hQ rfl (Nat.le_of_ble_eq_true rfl) q1022 (Or.inl rfl) rfl ?_
      refine g_bipush (pc := 97) (v := nI 6) dX9_part_97 rfl ?_
      refine g_invV (pc := 99) dX9_part_99 hswi kwi (jc_substring (e + 3 * n + 6) 30 6 ji (Or.inl rfl) (by omega) (by omega) (by omega) (by omega)) meJ9_substring q1091 q1092 q1093 rfl rfl (Nat.le_of_ble_eq_true rfl) jF (jk_n (fun v h1 hp1 fr1 => ?_)) jk_x
      rcases hp1 with ⟨x1, κ1, rfl, j1, k1, rm1⟩ | ⟨z, -⟩
      · have rm11 := rm1.1
        have rm12 := rm1.2
        rw [sbL_len] at rm12
        have m1 := cMn.F fr1
        have hQ1 := (fr1.2.2 _ _ hQ).1 (fun z => z)
        have hE1 := (fr1.2.2 _ _ hE).1 (fun z => z)
        have hs1 := hs.fr fr1 (fun z => z) (fun z => z) (fun z => z)
        have hb1 := hkb.fr fr1 (fun z => z) (fun z => z) (fun z => z)
        have exs := isEx_sb (l := w) (b := 6) (r := w.length) (j := 0) (by omega)
        rw [Nat.add_zero] at exs
        have len1 : (sbL w 6 w.length).length = w.length - 6 := sbL_len _ _ _
        refine g_iload_n (pc := 102) dX9_part_102 rfl rfl ?_
        refine g_invV (pc := 103) dX9_part_103 hQ1 rfl (pt_block (e := e) (so := 4) (fr := fr) (q0 := q0) hn IH inv hL hQ1 hs1 hκ hE1 hb1 (by decide) j1 k1 (fun z => ⟨?_, ?_⟩) (fun z => ?_) (by omega) henN hpk (by omega) (by omega)) meX9_block q1347 q1349 qs13 rfl rfl (Nat.le_of_ble_eq_true rfl) (fun κ z => by rcases z with z | z | z | z | z <;> rw [z] <;> exact Nat.le_of_ble_eq_true rfl) (fun v h2 hp2 fr2 => ?_) (fun xx h2 hp2 fr2 => ?_)
        · rw [htk, hso, if_pos (by rw [exs]; exact z)]; rfl
        · show exO (lF l) q0 (fr + 6) = _
          rw [hex 6 (by rw [exs]; exact z)]
          have := exO_sb (l := w) (b := 6) (r := w.length) (j := 0) (by omega) z
          rw [Nat.add_zero] at this
          exact this
        · rw [htk, hso, if_neg (by rw [exs]; exact z)]; rfl
        · have hq := hp2.pre (c' := 100) (c2' := 400) (x' := 150) (x2' := 2500) (sF fr1) m1 (by omega) (by omega) (by omega) (by omega)
          obtain ⟨mq, hq1 | ⟨_, _, _, z, _⟩⟩ := id hq
          · obtain ⟨a, _, _, _, _, _, _, z, _⟩ := id hq1
            cases z
            refine g_aret (pc := 106) dX9_part_106 rfl (Or.inl ⟨_, rfl⟩) (Or.inr ⟨_, rfl⟩) ?_
            exact fQ _ _ hq
          · cases z
        · refine gx_out (fun x hx => by cases hx) ?_
          exact fQ _ _ (hp2.pre (sF fr1) m1 (by omega) (by omega) (by omega) (by omega))
      · cases z
    rw [if_neg b77] at hso
    rw [eq_false_of_ne_true b77]
    refine g_if_eq (pc := 87) (tgt := 107) dX9_part_87 rfl (fun _ => ?_) (fun q_ => absurd rfl q_)
    refine g_aload_n (pc := 107) dX9_part_107 rfl rfl ?_
    refine g_get (pc := 108) (r := (RX9, TX9, 7)) 6 dX9_part_108 hQ rfl (Nat.le_of_ble_eq_true rfl) q1022 (Or.inl rfl) rfl ?_
    refine g_ldcK (pc := 111) dX9_part_111 ksX9_147 (fun hk107 => ?_)
    refine g_iconst (pc := 113) (v := nI 0) dX9_part_113 rfl ?_
    refine g_invSN (pc := 114) dX9_part_114 (cs_starts (e + 3 * n + 7) 930 _ 0 _ ji hk107 (by decide) (by decide) (by omega) (by decide) (by decide)) meX1_starts q1120 q1121 rfl rfl (Nat.le_of_ble_eq_true rfl) (by first | exact jF | exact fun _ z => z | assumption | (intro κ z; simp_all)) (jk_e ?_) jk_x
    show hG Z X mX9_part (e + 3 * n + 12) kAll h KK 117 _ [.int (nI (stB (lF w) w.length 0 [35, 119, 105, 116, 104, 32]).toNat)] h
    by_cases b107 : stB (lF w) w.length 0 [35, 119, 105, 116, 104, 32] = true
    · rw [if_pos b107] at hso
      rw [b107]
      have hwn := stB_len (by decide) (by decide) b107
      simp at hwn
      refine g_if_eq (pc := 117) (tgt := 137) dX9_part_117 rfl (fun q_ => absurd q_ (by decide)) (fun _ => ?_)
      refine g_aload_n (pc := 120) dX9_part_120 rfl rfl ?_
      refine g_ldcK (pc := 121) dX9_part_121 ksX9_149 (fun hkb => ?_)
      refine g_aload_n (pc := 123) dX9_part_123 rfl rfl ?_
      refine g_get (pc := 124) (r := (RX9, TX9, 7)) 6 dX9_part_124 hQ rfl (Nat.le_of_ble_eq_true rfl) q1022 (Or.inl rfl) rfl ?_
      refine g_bipush (pc := 127) (v := nI 6) dX9_part_127 rfl ?_
      refine g_invV (pc := 129) dX9_part_129 hswi kwi (jc_substring (e + 3 * n + 6) 30 6 ji (Or.inl rfl) (by omega) (by omega) (by omega) (by omega)) meJ9_substring q1091 q1092 q1093 rfl rfl (Nat.le_of_ble_eq_true rfl) jF (jk_n (fun v h1 hp1 fr1 => ?_)) jk_x
      rcases hp1 with ⟨x1, κ1, rfl, j1, k1, rm1⟩ | ⟨z, -⟩
      · have rm11 := rm1.1
        have rm12 := rm1.2
        rw [sbL_len] at rm12
        have m1 := cMn.F fr1
        have hQ1 := (fr1.2.2 _ _ hQ).1 (fun z => z)
        have hE1 := (fr1.2.2 _ _ hE).1 (fun z => z)
        have hs1 := hs.fr fr1 (fun z => z) (fun z => z) (fun z => z)
        have hb1 := hkb.fr fr1 (fun z => z) (fun z => z) (fun z => z)
        have exs := isEx_sb (l := w) (b := 6) (r := w.length) (j := 0) (by omega)
        rw [Nat.add_zero] at exs
        have len1 : (sbL w 6 w.length).length = w.length - 6 := sbL_len _ _ _
        refine g_iload_n (pc := 132) dX9_part_132 rfl rfl ?_
        refine g_invV (pc := 133) dX9_part_133 hQ1 rfl (pt_block (e := e) (so := 5) (fr := fr) (q0 := q0) hn IH inv hL hQ1 hs1 hκ hE1 hb1 (by decide) j1 k1 (fun z => ⟨?_, ?_⟩) (fun z => ?_) (by omega) henN hpk (by omega) (by omega)) meX9_block q1347 q1349 qs13 rfl rfl (Nat.le_of_ble_eq_true rfl) (fun κ z => by rcases z with z | z | z | z | z <;> rw [z] <;> exact Nat.le_of_ble_eq_true rfl) (fun v h2 hp2 fr2 => ?_) (fun xx h2 hp2 fr2 => ?_)
        · rw [htk, hso, if_pos (by rw [exs]; exact z)]; rfl
        · show exO (lF l) q0 (fr + 6) = _
          rw [hex 6 (by rw [exs]; exact z)]
          have := exO_sb (l := w) (b := 6) (r := w.length) (j := 0) (by omega) z
          rw [Nat.add_zero] at this
          exact this
        · rw [htk, hso, if_neg (by rw [exs]; exact z)]; rfl
        · have hq := hp2.pre (c' := 100) (c2' := 400) (x' := 150) (x2' := 2500) (sF fr1) m1 (by omega) (by omega) (by omega) (by omega)
          obtain ⟨mq, hq1 | ⟨_, _, _, z, _⟩⟩ := id hq
          · obtain ⟨a, _, _, _, _, _, _, z, _⟩ := id hq1
            cases z
            refine g_aret (pc := 136) dX9_part_136 rfl (Or.inl ⟨_, rfl⟩) (Or.inr ⟨_, rfl⟩) ?_
            exact fQ _ _ hq
          · cases z
        · refine gx_out (fun x hx => by cases hx) ?_
          exact fQ _ _ (hp2.pre (sF fr1) m1 (by omega) (by omega) (by omega) (by omega))
      · cases z
    rw [if_neg b107] at hso
    rw [eq_false_of_ne_true b107]
    refine g_if_eq (pc := 117) (tgt := 137) dX9_part_117 rfl (fun _ => ?_) (fun q_ => absurd rfl q_)
    refine g_aload_n (pc := 137) dX9_part_137 rfl rfl ?_
    refine g_get (pc := 138) (r := (RX9, TX9, 7)) 6 dX9_part_138 hQ rfl (Nat.le_of_ble_eq_true rfl) q1022 (Or.inl rfl) rfl ?_
    refine g_ldcK (pc := 141) dX9_part_141 ksX9_151 (fun hk137 => ?_)
    refine g_iconst (pc := 143) (v := nI 0) dX9_part_143 rfl ?_
    refine g_invSN (pc := 144) dX9_part_144 (cs_starts (e + 3 * n + 7) 930 _ 0 _ ji hk137 (by decide) (by decide) (by omega) (by decide) (by decide)) meX1_starts q1120 q1121 rfl rfl (Nat.le_of_ble_eq_true rfl) (by first | exact jF | exact fun _ z => z | assumption | (intro κ z; simp_all)) (jk_e ?_) jk_x
    show hG Z X mX9_part (e + 3 * n + 12) kAll h KK 147 _ [.int (nI (stB (lF w) w.length 0 [62, 32]).toNat)] h
    by_cases b137 : stB (lF w) w.length 0 [62, 32] = true
    · rw [if_pos b137] at hso
      rw [b137]
      -- the fault
      have bad : ∀ v : Int32, ¬ (w.length = 3 ∧ 97 ≤ lF w 2 ∧ lF w 2 ≤ 100) → hG Z X mX9_part (e + 3 * n + 12) kAll h KK 186 [(0, .ref P), (1, .int (nI S.length)), (2, .int v)] [] h := by
        intro v hv
        refine g_aload_n (pc := 186) dX9_part_186 rfl rfl ?_
        refine g_get (pc := 187) (r := (RX9, TX9, 7)) 0 dX9_part_187 hQ rfl (Nat.le_of_ble_eq_true rfl) q1015 (Or.inl rfl) rfl ?_
        refine g_aload_n (pc := 190) dX9_part_190 rfl rfl ?_
        refine g_get (pc := 191) (r := (RX9, TX9, 7)) 4 dX9_part_191 hQ rfl (Nat.le_of_ble_eq_true rfl) q1020 (Or.inl rfl) rfl ?_
        refine g_invSN (pc := 194) dX9_part_194 (pt_fault (e + 3 * n + 4) (nI k) hE (by omega) (by omega)) meX1_faultAt q1125 q1126 rfl rfl (Nat.le_of_ble_eq_true rfl) (fun κ z => by rw [z]; exact Nat.le_of_ble_eq_true rfl) (jk_n (fun v h9 hp9 fr9 => ?_)) jk_x
        obtain ⟨rfl, rfl, hwf9⟩ := hp9
        refine g_athrow (pc := 197) dX9_part_197 (hNew_s _ _ _) (by decide) rfl ?_
        refine gx_out (fun x hx => by cases hx) ?_
        exact fX _ _ (cMn.flt hE rfl rfl hwf9) (psX.new hE (hFr.rf h) hwf9 (gx := g) (Tx := T) (tpFn.one (tpS_fl (by rw [htk, hso, if_neg hv]; rfl))) (by omega) (by omega))
      refine g_if_eq (pc := 147) (tgt := 207) dX9_part_147 rfl (fun q_ => absurd q_ (by decide)) (fun _ => ?_)
      refine g_aload_n (pc := 150) dX9_part_150 rfl rfl ?_
      refine g_get (pc := 151) (r := (RX9, TX9, 7)) 6 dX9_part_151 hQ rfl (Nat.le_of_ble_eq_true rfl) q1022 (Or.inl rfl) rfl ?_
      refine g_invV (pc := 154) dX9_part_154 hswi kwi (jc_length (e + 3 * n + 10) ji) meJ9_length q1118 q301 q302 rfl rfl (Nat.le_of_ble_eq_true rfl) (by first | exact jF | exact fun _ z => z | assumption | (intro κ z; simp_all)) (jk_e ?_) jk_x
      refine g_iconst (pc := 157) (v := nI 3) dX9_part_157 rfl ?_
      refine g_icmp_neN (pc := 158) (tgt := 175) dX9_part_158 rfl (by omega) (by omega) (fun q158 => ?_) (fun q158 => ?_)
      · refine g_iconst (pc := 175) (v := (-1)) dX9_part_175 rfl ?_
        refine g_istore_n (pc := 176) (ls' := [(0, _), (1, _), (2, _)]) dX9_part_176 rfl (Nat.le_of_ble_eq_true rfl) rfl ?_
        refine g_iload_n (pc := 177) dX9_part_177 rfl rfl ?_
        refine g_if_lt (pc := 178) (tgt := 186) dX9_part_178 rfl (fun _ => bad _ (fun z => q158 z.1)) (fun q_ => absurd (by decide) q_)
      · have hc2 : w.getD 2 0 < 128 := hc128 _ (getD_mem (d := 0) (by omega))
        refine g_aload_n (pc := 161) dX9_part_161 rfl rfl ?_
        refine g_get (pc := 162) (r := (RX9, TX9, 7)) 6 dX9_part_162 hQ rfl (Nat.le_of_ble_eq_true rfl) q1022 (Or.inl rfl) rfl ?_
        refine g_iconst (pc := 165) (v := nI 2) dX9_part_165 rfl ?_
        refine g_invV (pc := 166) dX9_part_166 hswi kwi (jc_charAt (e + 3 * n + 8) 2 ji (by omega)) meJ9_charAt q1164 q942 q943 rfl rfl (Nat.le_of_ble_eq_true rfl) (by first | exact jF | exact fun _ z => z | assumption | (intro κ z; simp_all)) (jk_e ?_) jk_x
        by_cases h97 : 97 ≤ w.getD 2 0
        · refine g_bipush (pc := 169) (v := nI 97) dX9_part_169 rfl ?_
          first | refine g_isubN (pc := 171) dX9_part_171 (by omega) ?_ | refine g_isub (pc := 171) dX9_part_171 ?_
          refine g_goto (pc := 172) (tgt := 176) dX9_part_172 rfl ?_
          refine g_istore_n (pc := 176) (ls' := [(0, _), (1, _), (2, _)]) dX9_part_176 rfl (Nat.le_of_ble_eq_true rfl) rfl ?_
          refine g_iload_n (pc := 177) dX9_part_177 rfl rfl ?_
          refine g_if_ltN (pc := 178) (tgt := 186) dX9_part_178 rfl (by omega) ?_
          refine g_iload_n (pc := 181) dX9_part_181 rfl rfl ?_
          refine g_iconst (pc := 182) (v := nI 3) dX9_part_182 rfl ?_
          refine g_icmp_leN (pc := 183) (tgt := 198) dX9_part_183 rfl (by omega) (by omega) (fun q183 => ?_) (fun q183 => ?_)
          · refine g_new (pc := 198) (r := (RX18, TX18, 1)) (fs := [.int (nI 0)]) 18 dX9_part_198 rfl (by decide) q1382 q1383 q115 rfl (by first | omega | (simp only [hNew_1, hNew_2, hSet_1, hSet_2]; omega)) (by first | omega | (simp only [hNew_1, hNew_2, hSet_1, hSet_2]; omega)) (fun hwf0 => ?_)
            have n1 := hNew_s h (18, .inl [.int (nI 0)]) 1
            refine g_dup (pc := 201) dX9_part_201 rfl ?_
            refine g_iload_n (pc := 202) dX9_part_202 rfl rfl ?_
            refine g_invIN (pc := 203) dX9_part_203 (ci_X18 (e + 3 * n + 9) _ _ n1) meX18_init rfl rfl q1384 q1385 rfl rfl (Nat.le_of_ble_eq_true rfl) (fun κ z => by rw [z]; exact Nat.le_of_ble_eq_true rfl) (jk_n (fun v h4 hp4 fr4 => ?_)) jk_x
            obtain ⟨rfl, rfl⟩ := hp4
            rw [hSet_New]
            have f1 : hFr (fun _ => False) h (hNew h (18, .inl [.int (nI (w.getD 2 0 - 97))]) 1) := (hFr.rf h).new hwf0
            have n2 := hNew_s h (18, .inl [.int (nI (w.getD 2 0 - 97))]) 1
            have hf2 : lF l (fr + 2) = w.getD 2 0 := hfw 2 (by omega)
            refine g_aret (pc := 206) dX9_part_206 rfl (Or.inl ⟨_, rfl⟩) (Or.inr ⟨_, rfl⟩) ?_
            refine fS _ _ (cMn.F f1) (sF f1) (ptN.one inv (fr := fr) (q0 := q0) (so := 10) (by rw [htk, hso, if_pos ⟨q158, h97, by show w.getD 2 0 ≤ 100; omega⟩]; rfl) (by decide) (sF f1) (by simp only [hNew_1]; omega) (by simp only [hNew_2]; omega) ((f1.2.2 _ _ hQ).1 (fun z => z)) ⟨18, _, (RX18, TX18, 1), n2, rfl, q2312, q1719, Or.inr (Or.inr (Or.inr (Or.inr rfl)))⟩ (Or.inr (Or.inr ⟨rfl, ?_, ?_⟩)))
            · rw [hf2]; omega
            · rw [hf2]; exact n2
          · exact bad _ (fun z => by have := z.2.2; have : w.getD 2 0 ≤ 100 := this; omega)
        · refine g_bipush (pc := 169) (v := nI 97) dX9_part_169 rfl ?_
          refine g_isub (pc := 171) dX9_part_171 ?_
          refine g_goto (pc := 172) (tgt := 176) dX9_part_172 rfl ?_
          refine g_istore_n (pc := 176) (ls' := [(0, _), (1, _), (2, _)]) dX9_part_176 rfl (Nat.le_of_ble_eq_true rfl) rfl ?_
          refine g_iload_n (pc := 177) dX9_part_177 rfl rfl ?_
          refine g_if_lt (pc := 178) (tgt := 186) dX9_part_178 rfl (fun _ => bad _ (fun z => h97 z.2.1)) (fun q_ => absurd (sub97 _ (by omega)) q_)
    rw [if_neg b137] at hso
    rw [eq_false_of_ne_true b137]
    refine g_if_eq (pc := 147) (tgt := 207) dX9_part_147 rfl (fun _ => ?_) (fun q_ => absurd rfl q_)
    refine g_wf (fun hwf => ?_)
    have hs0 := hso
    refine g_new (pc := 207) (r := (RX11, TX11, 2)) (fs := [.null, .int (nI 0)]) 11 dX9_part_207 rfl (by decide) q1156 q1157 q108 rfl (by first | omega | (simp only [hNew_1, hNew_2, hSet_1, hSet_2]; omega)) (by first | omega | (simp only [hNew_1, hNew_2, hSet_1, hSet_2]; omega)) (fun hwf0 => ?_)
    have n1 := hNew_s h (11, .inl [.null, .int (nI 0)]) 2
    have f1 : hFr (fun _ => False) h (hNew h (11, .inl [.null, .int (nI 0)]) 2) := (hFr.rf h).new hwf0
    have z11 : (hNew h (11, .inl [.null, .int (nI 0)]) 2).1 = h.1 + 1 := rfl
    have z12 : (hNew h (11, .inl [.null, .int (nI 0)]) 2).2.1 = h.2.1 + 2 := rfl
    generalize hNew h (11, .inl [.null, .int (nI 0)]) 2 = h1 at f1 n1 z11 z12 ⊢
    have m1 := cMn.F f1
    have hQ1 := (f1.2.2 _ _ hQ).1 (fun z => z)
    have ji1 := ji.fr f1 (fun z => z) (fun z => z) (fun z => z)
    refine g_dup (pc := 210) dX9_part_210 rfl ?_
    refine g_aload_n (pc := 211) dX9_part_211 rfl rfl ?_
    refine g_aload_n (pc := 212) dX9_part_212 rfl rfl ?_
    refine g_get (pc := 213) (r := (RX9, TX9, 7)) 6 dX9_part_213 hQ1 rfl (Nat.le_of_ble_eq_true rfl) q1022 (Or.inl rfl) rfl ?_
    refine g_invS (pc := 216) dX9_part_216 (pa_expr (e + 3 * n + 1) ji1 ki hwl (by omega) (by omega)) meX9_expression q1158 q1159 rfl rfl (Nat.le_of_ble_eq_true rfl) (fun κ z => by rw [z]; exact Nat.le_of_ble_eq_true rfl) (jk_n (fun v h2 hp2 fr2 => ?_)) jk_x
    obtain ⟨rm2, m2, hp2⟩ := hp2
    have rm21 := rm2.1
    have rm22 := rm2.2
    have f12 := s130 fr2
    have f02 := (sF f1).tr f12
    have m02 := m1.tr m2
    have hQ2 := (fr2.2.2 _ _ hQ1).1 (by intro z; cases z)
    have hE2 := (f02.2.2 _ _ hE).1 no9
    have n2 := (fr2.2.2 _ _ n1).1 (by intro z; cases z)
    rcases hp2 with ⟨rfl, hnx⟩ | ⟨a5, rfl, hx5, cx⟩
    ·
      refine g_invV (pc := 219) dX9_part_219 hQ2 rfl (pt_need (e + 3 * n + 3) (Or.inl rfl) hQ2 hE2 (by omega) (by omega)) meX9_need q1322 q1324 qs12 rfl rfl (Nat.le_of_ble_eq_true rfl) (fun κ z => by rw [z]; exact Nat.le_of_ble_eq_true rfl) (fun v h3 hp3 fr3 => ?_) (fun xx h3 hp3 fr3 => ?_)
      · rcases hp3 with ⟨c, z, -⟩ | ⟨-, z, -⟩ <;> cases z
      · rcases hp3 with ⟨c, z, -⟩ | ⟨-, z, rfl, hwf3⟩
        · cases z
        · cases z
          refine gx_out (fun x hx => by cases hx) ?_
          exact fX _ _ (m02.tr (cMn.flt hE2 rfl rfl hwf3)) (psX.new hE2 (hFr.mono (fun _ => pzS.x) f02) hwf3 (gx := g) (Tx := T) (tpFn.one (tpS_fl (by rw [htk, hs0, if_neg hnx]; rfl))) (by omega) (by omega))
    ·
      refine g_invV (pc := 219) dX9_part_219 hQ2 rfl (pt_need (e + 3 * n + 3) (Or.inr ⟨_, rfl⟩) hQ2 hE2 (by omega) (by omega)) meX9_need q1322 q1324 qs12 rfl rfl (Nat.le_of_ble_eq_true rfl) (fun κ z => by rw [z]; exact Nat.le_of_ble_eq_true rfl) (fun v h3 hp3 fr3 => ?_) (fun xx h3 hp3 fr3 => ?_)
      · rcases hp3 with ⟨c, z, z2, z3⟩ | ⟨z, -⟩
        · cases z
          cases z2
          have z3 := z3.symm
          subst z3
          refine g_iconst (pc := 222) (v := nI 0) dX9_part_222 rfl ?_
          refine g_invIN (pc := 223) dX9_part_223 (ci_X11 (e + 3 * n + 9) _ false _ _ n2) meX11_init rfl rfl q1326 q1327 rfl rfl (Nat.le_of_ble_eq_true rfl) (fun κ z => by rw [z]; exact Nat.le_of_ble_eq_true rfl) (jk_n (fun v h4 hp4 fr4 => ?_)) jk_x
          obtain ⟨rfl, e4⟩ := hp4
          have n4 : h4.2.2 h.1 = some (11, .inl [.ref a5, .int (nI 0)]) := by rw [e4]; exact hSet_s _ _ _
          have f04 : hFr pzS h h4 := by rw [e4]; exact f02.setN hwf (Nat.le_refl _)
          have m24 : cMn h2 h4 := cMn.ft fr4 (by decide) (by decide) (by decide) (by decide) (by decide) (by decide)
          have z41 : h4.1 = h2.1 := by rw [e4]; rfl
          have z42 : h4.2.1 = h2.2.1 := by rw [e4]; rfl
          have ex0 := hex 0 hx5
          rw [Nat.add_zero] at ex0
          refine g_aret (pc := 226) dX9_part_226 rfl (Or.inl ⟨_, rfl⟩) (Or.inr ⟨_, rfl⟩) ?_
          refine fS _ _ (m02.tr m24) f04 (ptN.one inv (fr := fr) (q0 := q0) (so := 0) (by rw [htk, hs0, if_pos hx5]; rfl) (by decide) f04 (by omega) (by omega) ((fr4.2.2 _ _ hQ2).1 (by intro z; cases z)) ⟨11, _, (RX11, TX11, 2), n4, rfl, q2304, q1741, Or.inr (Or.inl rfl)⟩ (Or.inr (Or.inl ⟨by decide, a5, n4, ?_⟩)))
          rw [ex0]
          exact cx.kt fr4 (by intro κ hκ z; rw [z] at hκ; revert hκ; decide) m24
        · cases z
      · rcases hp3 with ⟨c, -, z, -⟩ | ⟨z, -⟩ <;> cases z
end PP
