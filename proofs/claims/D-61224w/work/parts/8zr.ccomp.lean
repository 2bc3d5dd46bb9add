/-! COMPONENT 46: compile -/
set_option maxRecDepth 100000
/-- one template more -/
def tmU (Tm : Nat → Option aT) (k : Nat) (A : aT) : Nat → Option aT := fun t => if t = k then some A else Tm t
/-- what compile may change -/
def cmS : Nat → Prop := fun κ => κ = 67 ∨ jSS 1 κ ∨ pzX κ
theorem cTs.set {h : hP} {ta k N G arr : Nat} {f : Nat → Nat} {T : tTb} {Tm : Nat → Option aT} {F : Nat → Value} (x : cTs h ta Tm) (hta : h.2.2 ta = some (67, .inr (4, F))) (hps : cPs h f T G N 4 0 0 N G arr) (hk : k < 4) : cTs (hSet h ta (67, .inr (4, upV F k (.ref arr)))) ta (tmU Tm k (N, f, G, T)) := by
  have fr : hFr (fun κ => κ = 67) h (hSet h ta (67, .inr (4, upV F k (.ref arr)))) := (hFr.rf h).set hta rfl rfl
  have nt : cNT (fun κ => κ = 67) := by
    intro κ hκ z
    simp only [List.mem_cons, List.not_mem_nil, or_false] at hκ
    omega
  have mn : cMn h (hSet h ta (67, .inr (4, upV F k (.ref arr)))) := cMn.ft fr (by decide) (by decide) (by decide) (by decide) (by decide) (by decide)
  obtain ⟨F', e1, e2⟩ := x
  rw [hta] at e1
  cases e1
  refine ⟨_, hSet_s _ _ _, fun j hj => ?_⟩
  unfold tmU upV
  by_cases z : j = k
  · rw [if_pos z, if_pos z]
    exact Or.inr ⟨N, f, G, T, arr, rfl, rfl, hps.kt fr nt mn⟩
  · rw [if_neg z, if_neg z]
    rcases e2 j hj with y | ⟨N', f', G', T', arr', y1, y2, y3⟩
    · exact Or.inl y
    · exact Or.inr ⟨N', f', G', T', arr', y1, y2, y3.kt fr nt mn⟩
theorem cMn.j1 {h h' : hP} (f : hFr (jSS 1) h h') : cMn h h' := cMn.ft f (by rintro (z | z) <;> cases z) (by rintro (z | z) <;> cases z) (by rintro (z | z) <;> cases z) (by rintro (z | z) <;> cases z) (by rintro (z | z) <;> cases z) (by rintro (z | z) <;> cases z)
section CC
variable {Z : hE} {h : hP} {E dl ta ln rd tg th sr c0 : Nat} {ea : Int32} {l : List Nat} {Tm : Nat → Option aT}
/-- after compile -/
def ecQ (h : hP) (E dl ta ln rd : Nat) (ea : Int32) (tg th sr c0 : Nat) (l : List Nat) (Tm : Nat → Option aT) (k : Int32) : hO → hP → Prop := fun r h' =>
  (¬ (0 ≤ k.toInt ∧ k.toInt < 4) ∧ r = .inr IOOB ∧ eTh h E (eF dl ta ln rd ea tg (th + 1) sr) h') ∨
  ((0 ≤ k.toInt ∧ k.toInt < 4) ∧ cMn h h' ∧ jSB h' 1 ln c0 [] ∧ jRm h h' 6800 70000 ∧ ∃ er G T, tpFn (lF l) l.length tP0 (er, G, T) ∧ (
     (er = none ∧ r = .inl (some (.int (nI G))) ∧ h'.2.2 E = some (eF dl ta ln rd (-1) tg th sr) ∧ cTs h' ta (tmU Tm k.toInt.toNat (l.length, lF l, G, T))) ∨
     (∃ x, er = some x ∧ r = .inr IAE ∧ h'.2.2 E = some (eF dl ta ln rd (nI x) tg (th + 1) sr) ∧ cTs h' ta Tm)))
set_option maxHeartbeats 4000000 in
theorem en_compile (d : Nat) (k : Int32) (hE : h.2.2 E = some (eF dl ta ln rd ea tg th sr)) (hB : jSB h 1 ln c0 l) (hl : l.length ≤ 64) (hT : cTs h ta Tm) (l1 : h.1 + 9500 ≤ hLC Z) (l2 : h.2.1 + 126000 ≤ hLS) : hCt Z mX1_compile (d + 40) cmS [.ref E, .int k] h (ecQ h E dl ta ln rd ea tg th sr c0 l Tm k) := by
  refine hCt.shr (S' := kAll) ?_
  refine hCt.ofH pnX1 _ _ rfl (Nat.le_of_ble_eq_true rfl) rfl (fun X => ?_)
  have kt := k31 1
  refine g_iload_n (pc := 0) dX1_compile_0 rfl rfl ?_
  refine g_invS (pc := 1) dX1_compile_1 (en_template (d + 39) k) meX1_template q987 q988 rfl rfl (Nat.le_of_ble_eq_true rfl) (by first | exact jF | exact fun _ z => z | assumption | (intro κ z; simp_all)) (jk_e ?_) jk_x
  by_cases hk : 0 ≤ k.toInt ∧ k.toInt < 4
  · rw [if_pos hk]
    obtain ⟨i, hi, rfl⟩ : ∃ i, i < 4 ∧ k = nI i := by
      obtain ⟨i, hi, rfl⟩ := nI_of (x := k) (fun z => by have := Int32.lt_iff_toInt_lt.mp z; simp at this; omega)
      rw [nI_toInt hi] at hk
      exact ⟨i, by omega, rfl⟩
    have hki : (nI i : Int32).toInt.toNat = i := by rw [nI_toInt (by omega), Int.toNat_natCast]
    refine g_if_geN (pc := 4) (tgt := 12) dX1_compile_4 rfl (by omega) ?_
    refine g_new (pc := 12) (r := (RX9, TX9, 7)) (fs := [.null, .null, .int (nI 0), .int (nI 0), .int (nI 0), .int (nI 0), .null]) 9 dX1_compile_12 rfl (by decide) q1009 q1010 q105 rfl (by first | omega | (simp only [hNew_1, hNew_2, hSet_1, hSet_2]; omega)) (by first | omega | (simp only [hNew_1, hNew_2, hSet_1, hSet_2]; omega)) (fun hwf0 => ?_)
    have n1 := hNew_s h (9, .inl [.null, .null, .int (nI 0), .int (nI 0), .int (nI 0), .int (nI 0), .null]) 7
    have f1 : hFr (fun _ => False) h (hNew h (9, .inl [.null, .null, .int (nI 0), .int (nI 0), .int (nI 0), .int (nI 0), .null]) 7) := (hFr.rf h).new hwf0
    have z11 : (hNew h (9, .inl [.null, .null, .int (nI 0), .int (nI 0), .int (nI 0), .int (nI 0), .null]) 7).1 = h.1 + 1 := rfl
    have z12 : (hNew h (9, .inl [.null, .null, .int (nI 0), .int (nI 0), .int (nI 0), .int (nI 0), .null]) 7).2.1 = h.2.1 + 7 := rfl
    generalize hNew h (9, .inl [.null, .null, .int (nI 0), .int (nI 0), .int (nI 0), .int (nI 0), .null]) 7 = h1 at n1 f1 z11 z12 ⊢
    have hE1 := (f1.2.2 _ _ hE).1 (fun z => z)
    have hB1 := hB.fr f1 (fun z => z) (fun z => z)
    have hB10 := hB1
    obtain ⟨-, -, -, -, b1, m1, g1, ht1, -, -⟩ := hB10
    refine g_dup (pc := 15) dX1_compile_15 rfl ?_
    refine g_aload_n (pc := 16) dX1_compile_16 rfl rfl ?_
    refine g_aload_n (pc := 17) dX1_compile_17 rfl rfl ?_
    refine g_get (pc := 18) (r := (RX1, TX1, 8)) 2 dX1_compile_18 hE1 rfl (Nat.le_of_ble_eq_true rfl) q497 (Or.inl rfl) rfl ?_
    refine g_invV (pc := 21) dX1_compile_21 ht1 kt (jc_toString (d + 34) hB1 (by omega) (by omega)) meJ8_toString q703 q369 q370 rfl rfl (Nat.le_of_ble_eq_true rfl) jF (jk_n (fun u h2 hp2 fr2 => ?_)) jk_x
    obtain ⟨rfl, js, rm2⟩ := hp2
    have r21 := rm2.1
    have r22 := rm2.2
    have n2 := (fr2.2.2 _ _ n1).1 (fun z => z)
    have f02 := f1.tr fr2
    refine g_invI (pc := 24) dX1_compile_24 (ci_X9 (d + 38) _ _ _ _ _ _ _ _ _ n2) meX9_init rfl rfl q1011 q1012 rfl rfl (Nat.le_of_ble_eq_true rfl) (fun κ z => by rw [z]; exact Nat.le_of_ble_eq_true rfl) (jk_n (fun u h3 hp3 fr3 => ?_)) jk_x
    obtain ⟨rfl, hh3⟩ := hp3
    have f03 : hFr (fun _ => False) h h3 := by
      rw [hh3]
      exact f02.setN hwf0 (Nat.le_refl _)
    have n3 : h3.2.2 h.1 = some (9, .inl [.ref E, .ref h1.1, .int (nI 0), .int (nI 0), .int (nI 0), .int (nI 0), .null]) := by rw [hh3]; exact hSet_s _ _ _
    have z31 : h3.1 = h2.1 := by rw [hh3]; rfl
    have z32 : h3.2.1 = h2.2.1 := by rw [hh3]; rfl
    have js3 : jSt h3 30 h1.1 l := js.fr (S := fun κ => κ = 9) fr3 (by decide) (by decide) (by decide)
    have hE3 := (f03.2.2 _ _ hE).1 (fun z => z)
    have hB3 := hB.fr f03 (fun z => z) (fun z => z)
    have hB30 := hB3
    obtain ⟨-, -, -, -, b3, m3, g3, ht3, -, -⟩ := hB30
    refine g_astore_n (pc := 27) (ls' := [(0, _), (1, _), (2, _)]) dX1_compile_27 rfl (Nat.le_of_ble_eq_true rfl) rfl ?_
    refine g_aload_n (pc := 28) dX1_compile_28 rfl rfl ?_
    refine g_get (pc := 29) (r := (RX1, TX1, 8)) 2 dX1_compile_29 hE3 rfl (Nat.le_of_ble_eq_true rfl) q497 (Or.inl rfl) rfl ?_
    refine g_iconst (pc := 32) (v := nI 0) dX1_compile_32 rfl ?_
    refine g_invV (pc := 33) dX1_compile_33 ht3 kt (jc_setLength (γ := 1) (d + 34) 0 hB3 (Nat.zero_le _) (by omega) (by omega) (by omega)) meJ8_setLength q716 q717 q718 rfl rfl (Nat.le_of_ble_eq_true rfl) (fun κ z => by rcases z with z | z <;> rw [z] <;> exact Nat.le_of_ble_eq_true rfl) (jk_n (fun u h4 hp4 fr4 => ?_)) jk_x
    obtain ⟨rfl, hB4, z41, z42⟩ := hp4
    have hB4 : jSB h4 1 ln c0 [] := hB4
    have f04 : hFr (jSS 1) h h4 := (hFr.mono (fun _ z => z.elim) f03).tr fr4
    have hE4 := (f04.2.2 _ _ hE).1 (by rintro (z | z) <;> cases z)
    have n4 := (fr4.2.2 _ _ n3).1 (by rintro (z | z) <;> cases z)
    have js4 := js3.frB (by decide) fr4
    refine g_aload_n (pc := 36) dX1_compile_36 rfl rfl ?_
    refine g_iconst (pc := 37) (v := (-1)) dX1_compile_37 rfl ?_
    refine g_put (pc := 38) (r := (RX1, TX1, 8)) 4 dX1_compile_38 hE4 rfl (Nat.le_of_ble_eq_true rfl) q499 (Or.inl rfl) rfl (by decide) (Nat.le_of_ble_eq_true rfl) (tyX1_ok 4 (Nat.le_of_ble_eq_true rfl)) rfl rfl ?_
    show hG Z X mX1_compile (d + 40) kAll h _ 41 _ [] (hSet h4 E (eF dl ta ln rd (-1) tg th sr))
    have fr5 : hFr (fun κ => κ = 1) h4 (hSet h4 E (eF dl ta ln rd (-1) tg th sr)) := (hFr.rf h4).set hE4 rfl rfl
    have hE5 := hSet_s h4 E (eF dl ta ln rd (-1) tg th sr)
    have z51 : (hSet h4 E (eF dl ta ln rd (-1) tg th sr)).1 = h4.1 := rfl
    have z52 : (hSet h4 E (eF dl ta ln rd (-1) tg th sr)).2.1 = h4.2.1 := rfl
    generalize hSet h4 E (eF dl ta ln rd (-1) tg th sr) = h5 at fr5 hE5 z51 z52 ⊢
    have f05 : hFr cmS h h5 := (hFr.mono (fun κ z => Or.inr (Or.inl z)) f04).tr (hFr.mono (fun κ z => Or.inr (Or.inr (Or.inl z))) fr5)
    have m05 : cMn h h5 := (cMn.j1 f04).tr (cMn.ft fr5 (by decide) (by decide) (by decide) (by decide) (by decide) (by decide))
    have hB5 := hB4.fr fr5 (by decide) (by decide)
    have n5 := (fr5.2.2 _ _ n4).1 (by intro z; cases z)
    have js5 := js4.fr fr5 (by decide) (by decide) (by decide)
    have nt1 : cNT (jSS 1) := by
      intro κ hκ z
      simp only [List.mem_cons, List.not_mem_nil, or_false] at hκ
      rcases z with z | z <;> omega
    have nt5 : cNT (fun κ => κ = 1) := by
      intro κ hκ z
      simp only [List.mem_cons, List.not_mem_nil, or_false] at hκ
      omega
    have hT5 : cTs h5 ta Tm := (hT.kt f04 nt1 (by rintro (z | z) <;> cases z) (cMn.j1 f04)).kt fr5 nt5 (by decide) (cMn.ft fr5 (by decide) (by decide) (by decide) (by decide) (by decide) (by decide))
    refine g_aload_n (pc := 41) dX1_compile_41 rfl rfl ?_
    refine g_get (pc := 42) (r := (RX1, TX1, 8)) 1 dX1_compile_42 hE5 rfl (Nat.le_of_ble_eq_true rfl) q496 (Or.inl rfl) rfl ?_
    refine g_iload_n (pc := 45) dX1_compile_45 rfl rfl ?_
    refine g_aload_n (pc := 46) dX1_compile_46 rfl rfl ?_
    refine g_iconst (pc := 47) (v := nI 0) dX1_compile_47 rfl ?_
    refine g_iconst (pc := 48) (v := (-1)) dX1_compile_48 rfl ?_
    refine g_invV (pc := 49) dX1_compile_49 n5 rfl (pt_parts (Z := Z) (E := E) (P := h.1) (s := h1.1) (e := d + 14) (e0 := .ref dl) (e1 := .ref ta) (e2 := .ref ln) (e3 := .ref rd) (e5 := .int (nI tg)) (e6 := .int (nI th)) (e7 := .int (nI sr)) hl 4 h5 0 0 [] tP0.2.2.2 30 (.int (nI 0)) (.int (nI 0)) .null (-1) (-1) rfl (tInv_0 _) n5 js5 (Or.inl rfl) hE5 (fun b S' z => by cases z) (by omega) (by omega)) meX9_parts q1038 q1039 q1040 rfl rfl (Nat.le_of_ble_eq_true rfl) (fun κ z => by rcases z with z | z | z | z | z <;> rw [z] <;> exact Nat.le_of_ble_eq_true rfl) (fun v h6 hp6 fr6 => ?_) (fun xx h6 hp6 fr6 => ?_)
    · obtain ⟨m6, hp6⟩ := hp6
      rcases hp6 with ⟨arr, p1, g1, T1, pe, z, to1, inv1, -, -, -, f6, c61, c62, hps, ⟨na, Fa, hAr⟩, hfin⟩ | ⟨_, _, _, z, _⟩
      · cases z
        have ip := inv1.1
        dsimp only at ip
        rcases hfin with ⟨-, tk, hpe, tr6, ins6, hP6⟩ | ⟨z, -⟩
        · subst hpe
          have hE6 := (f6.2.2 _ _ hE5).1 (by rintro (z | z | z | z) <;> cases z)
          have hB6 := hB5.fr f6 (by rintro (z | z | z | z) <;> cases z) (by rintro (z | z | z | z) <;> cases z)
          have hT6 := hT5.kt f6 pzS.t (by rintro (z | z | z | z) <;> cases z) m6
          have hps6 := hps T1 g1 ⟨Nat.le_refl _, fun _ _ => rfl, fun _ _ _ => ⟨rfl, rfl⟩, fun z => absurd z (Nat.lt_irrefl _)⟩ (by unfold stpT; rw [if_neg (Nat.lt_irrefl _)])
          have fin : tpFn (lF l) l.length tP0 (none, g1, T1) := to1.fin (tpFn.one (tpS_none tk))
          obtain ⟨F6, hta6, hF6⟩ := id hT6
          refine g_aastA (pc := 52) i dX1_compile_52 hta6 rfl hi rfl (by decide) (Nat.le_of_ble_eq_true rfl) hAr rfl rfl ?_
          have hT7 := hT6.set hta6 hps6 hi
          have fr7 : hFr (fun κ => κ = 67) h6 (hSet h6 ta (67, .inr (4, upV F6 i (.ref arr)))) := (hFr.rf h6).set hta6 rfl rfl
          have z71 : (hSet h6 ta (67, .inr (4, upV F6 i (.ref arr)))).1 = h6.1 := rfl
          have z72 : (hSet h6 ta (67, .inr (4, upV F6 i (.ref arr)))).2.1 = h6.2.1 := rfl
          generalize hSet h6 ta (67, .inr (4, upV F6 i (.ref arr))) = h7 at hT7 fr7 z71 z72 ⊢
          have m7 : cMn h6 h7 := cMn.ft fr7 (by decide) (by decide) (by decide) (by decide) (by decide) (by decide)
          have hE7 := (fr7.2.2 _ _ hE6).1 (by intro z; cases z)
          have hB7 := hB6.fr fr7 (by decide) (by decide)
          have hP7 := (fr7.2.2 _ _ hP6).1 (by intro z; cases z)
          refine g_goto (pc := 53) (tgt := 62) dX1_compile_53 rfl ?_
          refine g_aload_n (pc := 62) dX1_compile_62 rfl rfl ?_
          refine g_get (pc := 63) (r := (RX9, TX9, 7)) 3 dX1_compile_63 hP7 rfl (Nat.le_of_ble_eq_true rfl) q1019 (Or.inl rfl) rfl ?_
          refine g_iret (pc := 66) dX1_compile_66 rfl ?_
          refine ⟨Or.inr ⟨hk, (m05.tr m6).tr m7, hB7, ⟨by omega, by omega⟩, none, g1, T1, fin, Or.inl ⟨rfl, rfl, hE7, ?_⟩⟩, (f05.tr (hFr.mono (fun κ z => Or.inr (Or.inr (pzS.x z))) f6)).tr (hFr.mono (fun κ z => Or.inl z) fr7)⟩
          rw [hki]
          exact hT7
        · exact absurd rfl z
      · cases z
    · obtain ⟨m6, hp6⟩ := hp6
      rcases hp6 with ⟨arr, p1, g1, T1, pe, z, -⟩ | ⟨x, gx, Tx, z, hfn, hE6, f6, c61, c62⟩
      · cases z
      · cases z
        have hB6 := hB5.fr f6 (by rintro (z | z | z | z | z) <;> cases z) (by rintro (z | z | z | z | z) <;> cases z)
        have ntx : cNT pzX := by
          intro κ hκ z
          rcases z with z | z
          · exact nt5 κ hκ z
          · exact pzS.t κ hκ z
        have hT6 := hT5.kt f6 ntx (by rintro (z | z | z | z | z) <;> cases z) m6
        refine gx_catch (E := IAE) (name := "java/lang/IllegalArgumentException") [] ⟨41, 53, 56, 13⟩ [] rfl (fun z hz => by cases hz) rfl (by decide) q551 q146 (fun q => ?_)
        show hG Z X mX1_compile (d + 40) kAll h _ 56 _ _ h6
        refine g_astore_n (pc := 56) (ls' := [(0, _), (1, _), (2, _), (3, _)]) dX1_compile_56 rfl (Nat.le_of_ble_eq_true rfl) rfl ?_
        refine g_aload_n (pc := 57) dX1_compile_57 rfl rfl ?_
        refine g_invV (pc := 58) dX1_compile_58 hE6 rfl (en_badArgument (d + 32) hE6 (by omega) (by omega)) meX1_badArgument q547 q549 qs1 rfl rfl (Nat.le_of_ble_eq_true rfl) (fun κ z => by rw [z]; exact Nat.le_of_ble_eq_true rfl) (jk_n (fun u h7 hp7 fr7 => ?_)) jk_x
        obtain ⟨rfl, e7, hwf7⟩ := hp7
        have th7 : eTh h6 E (eF dl ta ln rd (nI x) tg (th + 1) sr) h7 := by rw [e7]; exact eTh.mk hE6 rfl rfl hwf7
        have nw7 : h7.2.2 h6.1 = some (41, .inl []) := by rw [e7]; exact hNew_s _ _ _
        refine g_athrow (pc := 61) dX1_compile_61 nw7 (by decide) rfl ?_
        refine gx_out (by decide) ?_
        obtain ⟨y1, y2, y3⟩ := th7
        have y31 := y3.1
        have y32 := y3.2
        refine ⟨Or.inr ⟨hk, (m05.tr m6).tr (cMn.ft y2 (by decide) (by decide) (by decide) (by decide) (by decide) (by decide)), hB6.fr y2 (by decide) (by decide), ⟨by omega, by omega⟩, some x, gx, Tx, hfn, Or.inr ⟨x, rfl, rfl, y1, hT6.kt y2 nt5 (by decide) (cMn.ft y2 (by decide) (by decide) (by decide) (by decide) (by decide) (by decide))⟩⟩, (f05.tr (hFr.mono (fun κ z => Or.inr (Or.inr z)) f6)).tr (hFr.mono (fun κ z => Or.inr (Or.inr (Or.inl z))) y2)⟩
  · rw [if_neg hk]
    refine g_if_ge (pc := 4) (tgt := 12) dX1_compile_4 rfl (fun z => absurd z (by decide)) (fun _ => ?_)
    refine g_aload_n (pc := 7) dX1_compile_7 rfl rfl ?_
    refine g_invV (pc := 8) dX1_compile_8 hE rfl (en_outside (d + 32) hE (by omega) (by omega)) meX1_outside q990 q992 qs9 rfl rfl (Nat.le_of_ble_eq_true rfl) (fun κ z => by rw [z]; exact Nat.le_of_ble_eq_true rfl) (jk_n (fun u h7 hp7 fr7 => ?_)) jk_x
    obtain ⟨rfl, rfl, hwf7⟩ := hp7
    refine g_athrow (pc := 11) dX1_compile_11 (hNew_s _ _ _) (by decide) rfl ?_
    refine gx_out (by decide) ?_
    have th7 := eTh.mk (c := eF dl ta ln rd ea tg (th + 1) sr) (k := 43) hE rfl rfl hwf7
    exact ⟨Or.inl ⟨hk, rfl, th7⟩, hFr.mono (fun κ z => Or.inr (Or.inr (Or.inl z))) th7.2.1⟩
end CC
