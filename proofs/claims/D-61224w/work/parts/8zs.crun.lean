/-! COMPONENT 47: run, render -/
set_option maxRecDepth 100000
/-- what a rendering of the engine may change -/
def rnS (γ : Nat) : Nat → Prop := fun κ => κ = 1 ∨ rS γ κ
section ER
variable {Z : hE} {h : hP} {Tm : Nat → Option aT} {D : aD} {w : cW} {q E dl ta ln rd tg th sr γ el : Nat} {ea : Int32}
/-- how a rendering ends -/
def rnE (Tm : Nat → Option aT) (D : aD) (k x E dl ta ln rd : Nat) (ea : Int32) (tg th sr : Nat) (h : hP) (r : hO) (h' : hP) : Prop := ∃ qe Ex, r = .inr Ex ∧ exN qe Ex ∧ mFn Tm D (k, 0, [], [aVof D x], [], 0) (.inl qe) ∧ cMn h h' ∧ h'.2.2 E = some (eF dl ta ln rd ea tg (th + 1) sr) ∧ jRm h h' 9020 70100
def rnQ (Tm : Nat → Option aT) (D : aD) (k x γ E dl ta ln rd : Nat) (ea : Int32) (tg th sr : Nat) (h : hP) : hO → hP → Prop := fun r h' =>
  (∃ a oa c out seen, r = .inl (some (.ref a)) ∧ mFn Tm D (k, 0, [], [aVof D x], [], 0) (.inr (out, seen)) ∧ h'.2.2 a = some (19, .inl [.ref E, .ref oa, .int (nI seen), .int (nI 0)]) ∧ cO h' γ oa c out ∧ seen ≤ 600 ∧ cMn h h' ∧ h'.2.2 E = some (eF dl ta ln rd ea tg th sr) ∧ jRm h h' 9020 70100) ∨
  rnE Tm D k x E dl ta ln rd ea tg th sr h r h'
set_option maxHeartbeats 4000000 in
theorem en_run (d k x : Nat) (hγ : γ = 2 ∨ γ = 3) (hE : h.2.2 E = some (eF dl ta ln rd ea tg th sr)) (hT : cTs h ta Tm) (hD : cD D w h q) (hk : k < 4) (A : aT) (hA : Tm k = some A) (hx : x < D.1) (l1 : h.1 + 9100 ≤ hLC Z) (l2 : h.2.1 + 70200 ≤ hLS) : hCt Z mX1_run (d + 200) (rnS γ) [.ref E, .int (nI k), .ref (w.1 x)] h (rnQ Tm D k x γ E dl ta ln rd ea tg th sr h) := by
  refine hCt.shr (S' := kAll) ?_
  refine hCt.ofH pnX1 _ _ rfl (Nat.le_of_ble_eq_true rfl) rfl (fun X => ?_)
  have h60 := hD.2.2.2.2.2.1
  refine g_new (pc := 0) (r := (RX19, TX19, 4)) (fs := [.null, .null, .int (nI 0), .int (nI 0)]) 19 dX1_run_0 rfl (by decide) q1418 q1419 q117 rfl (by first | omega | (simp only [hNew_1, hNew_2, hSet_1, hSet_2]; omega)) (by first | omega | (simp only [hNew_1, hNew_2, hSet_1, hSet_2]; omega)) (fun hwf0 => ?_)
  have n1 := hNew_s h (19, .inl [.null, .null, .int (nI 0), .int (nI 0)]) 4
  have f1 : hFr (fun _ => False) h (hNew h (19, .inl [.null, .null, .int (nI 0), .int (nI 0)]) 4) := (hFr.rf h).new hwf0
  have z11 : (hNew h (19, .inl [.null, .null, .int (nI 0), .int (nI 0)]) 4).1 = h.1 + 1 := rfl
  have z12 : (hNew h (19, .inl [.null, .null, .int (nI 0), .int (nI 0)]) 4).2.1 = h.2.1 + 4 := rfl
  generalize hNew h (19, .inl [.null, .null, .int (nI 0), .int (nI 0)]) 4 = h1 at n1 f1 z11 z12 ⊢
  refine g_dup (pc := 3) dX1_run_3 rfl ?_
  refine g_aload_n (pc := 4) dX1_run_4 rfl rfl ?_
  refine g_invI (pc := 5) dX1_run_5 (ri_init (γ := γ) (d + 195) _ _ _ _ (by omega) n1 (by omega) (by omega)) meX19_init rfl rfl q1420 q1421 rfl rfl (Nat.le_of_ble_eq_true rfl) (fun κ z => by show κ < 900; omega) (jk_n (fun u h2 hp2 fr2 => ?_)) jk_x
  obtain ⟨rfl, n2, hO2, fa2, z21, z22⟩ := hp2
  have f2 : hFr (fun _ => False) h h2 := hFr.fa f1 fa2 (fun q c z y => by rw [z] at y; exact absurd (hwf0 _ _ y) (Nat.lt_irrefl _))
  refine g_astore_n (pc := 8) (ls' := [(0, _), (1, _), (2, _), (3, _)]) dX1_run_8 rfl (Nat.le_of_ble_eq_true rfl) rfl ?_
  refine g_aload_n (pc := 9) dX1_run_9 rfl rfl ?_
  refine g_iload_n (pc := 10) dX1_run_10 rfl rfl ?_
  refine g_new (pc := 11) (r := (RX20, TX20, 5)) (fs := [.null, .null, .null, .null, .null]) 20 dX1_run_11 rfl (by decide) q1443 q1444 q118 rfl (by first | omega | (simp only [hNew_1, hNew_2, hSet_1, hSet_2]; omega)) (by first | omega | (simp only [hNew_1, hNew_2, hSet_1, hSet_2]; omega)) (fun hwf2 => ?_)
  have n3 := hNew_s h2 (20, .inl [.null, .null, .null, .null, .null]) 5
  have f3 : hFr (fun _ => False) h2 (hNew h2 (20, .inl [.null, .null, .null, .null, .null]) 5) := (hFr.rf h2).new hwf2
  have z31 : (hNew h2 (20, .inl [.null, .null, .null, .null, .null]) 5).1 = h2.1 + 1 := rfl
  have z32 : (hNew h2 (20, .inl [.null, .null, .null, .null, .null]) 5).2.1 = h2.2.1 + 5 := rfl
  generalize hNew h2 (20, .inl [.null, .null, .null, .null, .null]) 5 = h3 at n3 f3 z31 z32 ⊢
  refine g_dup (pc := 14) dX1_run_14 rfl ?_
  refine g_aload_n (pc := 15) dX1_run_15 rfl rfl ?_
  refine g_null (pc := 16) dX1_run_16 ?_
  refine g_invI (pc := 17) dX1_run_17 (cx_init0 (d + 195) _ _ _ _ _ n3 (by omega) (by omega)) meX20_init rfl rfl q1445 q1446 rfl rfl (Nat.le_of_ble_eq_true rfl) (fun κ z => by show κ < 900; omega) (jk_n (fun u h4 hp4 fr4 => ?_)) jk_x
  obtain ⟨rfl, o1, o2, n4, hO4, hO5, fa4, z41, z42⟩ := hp4
  have f24 : hFr (fun _ => False) h2 h4 := hFr.fa f3 fa4 (fun q c z y => by rw [z] at y; exact absurd (hwf2 _ _ y) (Nat.lt_irrefl _))
  have f04 := f2.tr f24
  have m04 := cMn.F f04
  have hE4 := (f04.2.2 _ _ hE).1 (fun z => z)
  have hT4 := hT.kp f04 cNS.F m04
  have hD4 := hD.kp f04 cNS.F m04
  have n24 := (f24.2.2 _ _ n2).1 (fun z => z)
  have hO24 := hO2.fr f24 (fun z => z) (fun z => z) (fun z => z)
  have hst : rSt Tm D w q E ta h4 := ⟨⟨_, _, _, _, _, _, _, hE4⟩, hT4, hD4⟩
  have hch : cCh D w (fun _ => h2.1) 0 o1 o2 [aVof D x] h4 := by
    refine ⟨Nat.le_refl _, Nat.le_refl _, by omega, fun i j hi hj _ => by omega, fun i hi => ?_⟩
    have : i = 0 := by omega
    subst this
    exact ⟨_, n4, fun _ => hD4.v hx⟩
  have hr : rR D w (E, h.1, h1.1, o1, o2, γ, h4.1, h4.2.1) (fun _ => h2.1) 0 [aVof D x] [] 0 0 0 h4 := ⟨16, 16, 16, [], [], hO24, hO4, hO5, hch, n24, by omega, by show h4.1 ≤ h4.1 + 16 + 16 + 16 + 3 * 0 + 0; omega, Nat.le_refl _, by show h4.2.1 ≤ h4.2.1 + 2 * 16 + 2 * 16 + 2 * 16 + 80 * 0 + 5 * 0; omega⟩
  have no1 : ¬ rS γ 1 := by
    rintro (z | z | (z | z) | z | z | (z | z) | (z | z)) <;> omega
  have hrS : ∀ κ, rS γ κ → κ < 900 := by
    rintro κ (z | z | (z | z) | z | z | (z | z) | (z | z)) <;> omega
  refine g_invV (pc := 20) dX1_run_20 n24 rfl (rt_template (k := (E, h.1, h1.1, o1, o2, γ, h4.1, h4.2.1)) (U := []) (d + 199) k (by omega) hk hγ (by show h4.1 + 9000 ≤ _; omega) (by show h4.2.1 + 70000 ≤ _; omega) hst hr (by omega) rfl (fun _ => rfl) (by show 0 ≤ _; omega) (by show 1 ≤ _; omega) (fun j hj => rr_all hγ (by show h4.1 + 9000 ≤ _; omega) (by show h4.2.1 + 70000 ≤ _; omega) j 4 (d + 198) (Nat.le_refl _) (by omega))) meX19_template q1472 q1473 q1474 rfl rfl (Nat.le_of_ble_eq_true rfl) hrS (fun u h5 hp5 fr5 => ?_) (fun xx h5 hp5 fr5 => ?_)
  · rcases hp5 with ⟨z, -⟩ | ⟨N, f, G, T, tm, ⟨z, -⟩ | ⟨-, nx, hq⟩⟩
    · rw [hA] at z; cases z
    · omega
    · rcases hq with ⟨z, out, seen, CA', m', to, hr5, -, -, mn⟩ | ⟨q', E', z, -⟩
      · cases z
        obtain ⟨c0, c1, c2, l1', l2', x1, x2, x3, x4, x5, x6, x7, x8, x9⟩ := id hr5
        have rm := hr5.rm
        dsimp only at rm
        have f5 : hFr (rnS γ) h h5 := (hFr.mono (fun _ z => z.elim) f04).tr (hFr.mono (fun κ z => Or.inr z) fr5)
        refine g_goto (pc := 23) (tgt := 60) dX1_run_23 rfl ?_
        refine g_aload_n (pc := 60) dX1_run_60 rfl rfl ?_
        refine g_aret (pc := 61) dX1_run_61 rfl (Or.inl ⟨_, rfl⟩) (Or.inr ⟨_, rfl⟩) ?_
        refine ⟨Or.inl ⟨_, _, _, out, seen, rfl, to.fin (mFn.one (ms_fin tm nx)), x5, x1, x6, m04.tr mn, (fr5.2.2 _ _ hE4).1 no1, ⟨by omega, by omega⟩⟩, f5⟩
      · cases z
  · rcases hp5 with ⟨z, -⟩ | ⟨N, f, G, T, tm, ⟨z, -⟩ | ⟨-, nx, hq⟩⟩
    · rw [hA] at z; cases z
    · omega
    · rcases hq with ⟨z, -⟩ | ⟨qe, Ex, z, hex, mf, mn, c51, c52⟩
      · cases z
      · cases z
        dsimp only at c51 c52
        have hE5 := (fr5.2.2 _ _ hE4).1 no1
        have f5 : hFr (rnS γ) h h5 := (hFr.mono (fun _ z => z.elim) f04).tr (hFr.mono (fun κ z => Or.inr z) fr5)
        have fin : ∀ h6, eTh h5 E (eF dl ta ln rd ea tg (th + 1) sr) h6 → (rnQ Tm D k x γ E dl ta ln rd ea tg th sr h (.inr xx) h6 ∧ hFr (rnS γ) h h6) := by
          intro h6 t6
          obtain ⟨y1, y2, y3⟩ := t6
          have y31 := y3.1
          have y32 := y3.2
          exact ⟨Or.inr ⟨qe, _, rfl, hex, mf, (m04.tr mn).tr (cMn.ft y2 (by decide) (by decide) (by decide) (by decide) (by decide) (by decide)), y1, ⟨by omega, by omega⟩⟩, f5.tr (hFr.mono (fun κ z => Or.inl z) y2)⟩
        rcases hex with ⟨-, e1⟩ | ⟨-, e1⟩ | ⟨-, e1⟩
        · subst e1
          refine gx_catch (E := NSEE) (name := "java/util/NoSuchElementException") [] ⟨9, 23, 26, 70⟩ [⟨9, 23, 33, 196⟩, ⟨9, 23, 53, 67⟩] rfl (fun z hz => by cases hz) rfl (by decide) q852 q854 (fun qq => ?_)
          show hG Z X mX1_run (d + 200) kAll h _ 26 _ _ h5
          refine g_astore (pc := 26) (ls' := [(0, _), (1, _), (2, _), (3, _), (4, _)]) dX1_run_26 (Nat.le_of_ble_eq_true rfl) rfl ?_
          refine g_aload_n (pc := 28) dX1_run_28 rfl rfl ?_
          refine g_invV (pc := 29) dX1_run_29 hE5 rfl (en_none (d + 192) hE5 (by omega) (by omega)) meX1_none q848 q850 qs8 rfl rfl (Nat.le_of_ble_eq_true rfl) (fun κ z => by rw [z]; exact Nat.le_of_ble_eq_true rfl) (jk_n (fun u h7 hp7 fr7 => ?_)) jk_x
          obtain ⟨rfl, rfl, hwf7⟩ := hp7
          refine g_athrow (pc := 32) dX1_run_32 (hNew_s _ _ _) (by decide) rfl ?_
          refine gx_out (by decide) ?_
          exact fin _ (eTh.mk hE5 rfl rfl hwf7)
        · subst e1
          refine gx_catch (E := AEX) (name := "java/lang/ArithmeticException") [⟨9, 23, 26, 70⟩] ⟨9, 23, 33, 196⟩ [⟨9, 23, 53, 67⟩] rfl (fun z hz => by
            rw [List.mem_singleton] at hz
            subst hz
            exact Or.inr ⟨by decide, _, q852, hLeafOf (by decide +kernel)⟩) rfl (by decide) q1417 q1407 (fun qq => ?_)
          show hG Z X mX1_run (d + 200) kAll h _ 33 _ _ h5
          refine g_wf (fun hwf7 => ?_)
          refine g_astore (pc := 33) (ls' := [(0, _), (1, _), (2, _), (3, _), (4, _)]) dX1_run_33 (Nat.le_of_ble_eq_true rfl) rfl ?_
          refine g_aload_n (pc := 35) dX1_run_35 rfl rfl ?_
          refine g_dup (pc := 36) dX1_run_36 rfl ?_
          refine g_get (pc := 37) (r := (RX1, TX1, 8)) 6 dX1_run_37 hE5 rfl (Nat.le_of_ble_eq_true rfl) q501 (Or.inl rfl) rfl ?_
          refine g_iconst (pc := 40) (v := nI 1) dX1_run_40 rfl ?_
          first | refine g_iaddN (pc := 41) dX1_run_41 ?_ | refine g_iadd (pc := 41) dX1_run_41 ?_
          refine g_put (pc := 42) (r := (RX1, TX1, 8)) 6 dX1_run_42 hE5 rfl (Nat.le_of_ble_eq_true rfl) q501 (Or.inl rfl) rfl (by decide) (Nat.le_of_ble_eq_true rfl) (tyX1_ok 6 (Nat.le_of_ble_eq_true rfl)) rfl rfl ?_
          refine g_make0 (pc := 45) 45 dX1_run_45 dX1_run_48 dX1_run_49 xX1_196 x_st rfl (by decide) rfl rfl (Nat.le_of_ble_eq_true rfl) (by simp only [hSet_1]; omega) (by simp only [hSet_2]; omega) (fun hwf => ?_)
          refine g_athrow (pc := 52) dX1_run_52 (hNew_s _ _ _) (by decide) rfl ?_
          refine gx_out (by decide) ?_
          exact fin _ (eTh.mk hE5 rfl rfl hwf7)
        · subst e1
          refine gx_catch (E := ISE) (name := "java/lang/IllegalStateException") [⟨9, 23, 26, 70⟩, ⟨9, 23, 33, 196⟩] ⟨9, 23, 53, 67⟩ [] rfl (fun z hz => by
            rcases List.mem_cons.mp hz with e | hz
            · subst e
              exact Or.inr ⟨by decide, _, q852, hLeafOf (by decide +kernel)⟩
            · rw [List.mem_singleton] at hz
              subst hz
              exact Or.inr ⟨by decide, _, q1417, hLeafOf (by decide +kernel)⟩) rfl (by decide) q566 q568 (fun qq => ?_)
          show hG Z X mX1_run (d + 200) kAll h _ 53 _ _ h5
          refine g_astore (pc := 53) (ls' := [(0, _), (1, _), (2, _), (3, _), (4, _)]) dX1_run_53 (Nat.le_of_ble_eq_true rfl) rfl ?_
          refine g_aload_n (pc := 55) dX1_run_55 rfl rfl ?_
          refine g_invV (pc := 56) dX1_run_56 hE5 rfl (en_badState (d + 192) hE5 (by omega) (by omega)) meX1_badState q562 q564 qs2 rfl rfl (Nat.le_of_ble_eq_true rfl) (fun κ z => by rw [z]; exact Nat.le_of_ble_eq_true rfl) (jk_n (fun u h7 hp7 fr7 => ?_)) jk_x
          obtain ⟨rfl, rfl, hwf7⟩ := hp7
          refine g_athrow (pc := 59) dX1_run_59 (hNew_s _ _ _) (by decide) rfl ?_
          refine gx_out (by decide) ?_
          exact fin _ (eTh.mk hE5 rfl rfl hwf7)
/-- after render -/
def rdE (Tm : Nat → Option aT) (D : aD) (k x : Int32) (γ E dl ta ln rd : Nat) (ea : Int32) (tg th sr : Nat) (h : hP) : hO → hP → Prop := fun r h' =>
  (¬ (0 ≤ k.toInt ∧ k.toInt < 4) ∧ r = .inr IOOB ∧ eTh h E (eF dl ta ln rd ea tg (th + 1) sr) h') ∨
  ((0 ≤ k.toInt ∧ k.toInt < 4) ∧ (Tm k.toInt.toNat = none ∨ ¬ (0 ≤ x.toInt ∧ x.toInt < D.1)) ∧ r = .inr NSEE ∧ eTh h E (eF dl ta ln rd ea tg (th + 1) sr) h') ∨
  ((0 ≤ k.toInt ∧ k.toInt < 4) ∧ (∃ A, Tm k.toInt.toNat = some A) ∧ (0 ≤ x.toInt ∧ x.toInt < D.1) ∧ (
    (∃ oa c out seen, r = .inl (some (.int (nI out.length))) ∧ mFn Tm D (k.toInt.toNat, 0, [], [aVof D x.toInt.toNat], [], 0) (.inr (out, seen)) ∧ cO h' γ oa c out ∧ seen ≤ 600 ∧ cMn h h' ∧ h'.2.2 E = some (eF dl ta ln oa ea seen th sr) ∧ jRm h h' 9020 70100) ∨
    rnE Tm D k.toInt.toNat x.toInt.toNat E dl ta ln rd ea tg th sr h r h'))
set_option maxHeartbeats 4000000 in
theorem en_render (d : Nat) (k x : Int32) (hγ : γ = 2 ∨ γ = 3) (hE : h.2.2 E = some (eF dl ta ln rd ea tg th sr)) (hL : eL Z D w h dl el) (hT : cTs h ta Tm) (hD : cD D w h q) (l1 : h.1 + 9100 ≤ hLC Z) (l2 : h.2.1 + 70200 ≤ hLS) : hCt Z mX1_render (d + 201) (rnS γ) [.ref E, .int k, .int x] h (rdE Tm D k x γ E dl ta ln rd ea tg th sr h) := by
  refine hCt.of pnX1 rfl (Nat.le_of_ble_eq_true rfl) rfl (fun X => ?_)
  refine g_iload_n (pc := 0) dX1_render_0 rfl rfl ?_
  refine g_invS (pc := 1) dX1_render_1 (en_template (d + 200) k) meX1_template q987 q988 rfl rfl (Nat.le_of_ble_eq_true rfl) (by first | exact jF | exact fun _ z => z | assumption | (intro κ z; simp_all)) (jk_e ?_) jk_x
  by_cases hk : 0 ≤ k.toInt ∧ k.toInt < 4
  · rw [if_pos hk]
    obtain ⟨i, hi, rfl⟩ : ∃ i, i < 4 ∧ k = nI i := by
      obtain ⟨i, hi, rfl⟩ := nI_of (x := k) (fun z => by have := Int32.lt_iff_toInt_lt.mp z; simp at this; omega)
      rw [nI_toInt hi] at hk
      exact ⟨i, by omega, rfl⟩
    have hki : (nI i : Int32).toInt.toNat = i := by rw [nI_toInt (by omega), Int.toNat_natCast]
    obtain ⟨F, hta, hF⟩ := id hT
    refine g_if_geN (pc := 4) (tgt := 12) dX1_render_4 rfl (by omega) ?_
    refine g_aload_n (pc := 12) dX1_render_12 rfl rfl ?_
    refine g_get (pc := 13) (r := (RX1, TX1, 8)) 1 dX1_render_13 hE rfl (Nat.le_of_ble_eq_true rfl) q496 (Or.inl rfl) rfl ?_
    refine g_iload_n (pc := 16) dX1_render_16 rfl rfl ?_
    refine g_aald (pc := 17) i dX1_render_17 hta rfl rfl hi rfl ?_
    rcases hF i hi with ⟨tm, fk⟩ | ⟨N, f, G, T, arr, tm, fk, hps⟩
    · rw [fk]
      refine g_ifnonnullN (pc := 18) dX1_render_18 ?_
      refine g_aload_n (pc := 21) dX1_render_21 rfl rfl ?_
      refine g_invV (pc := 22) dX1_render_22 hE rfl (en_none (d + 193) hE (by omega) (by omega)) meX1_none q848 q850 qs8 rfl rfl (Nat.le_of_ble_eq_true rfl) (fun κ z => Or.inl z) (jk_n (fun u h7 hp7 fr7 => ?_)) jk_x
      obtain ⟨rfl, rfl, hwf7⟩ := hp7
      refine g_athrow (pc := 25) dX1_render_25 (hNew_s _ _ _) (by decide) rfl ?_
      refine gx_out (fun x hx => by cases hx) ?_
      exact Or.inr (Or.inl ⟨hk, Or.inl (by rw [hki]; exact tm), rfl, eTh.mk hE rfl rfl hwf7⟩)
    · rw [fk]
      refine g_ifnonnull (pc := 18) (tgt := 26) dX1_render_18 rfl ?_
      refine g_aload_n (pc := 26) dX1_render_26 rfl rfl ?_
      refine g_iload_n (pc := 27) dX1_render_27 rfl rfl ?_
      refine g_aload_n (pc := 28) dX1_render_28 rfl rfl ?_
      refine g_iload_n (pc := 29) dX1_render_29 rfl rfl ?_
      refine g_invV (pc := 30) dX1_render_30 hE rfl (en_any (d + 192) x hE hL hD (by omega) (by omega)) meX1_any q844 q846 qs7 rfl rfl (Nat.le_of_ble_eq_true rfl) (fun κ z => Or.inl z) (fun u h1 hp1 fr1 => ?_) (fun xx h1 hp1 fr1 => ?_)
      · rcases hp1 with ⟨hx1, hx2, z, z2⟩ | ⟨_, z, _⟩
        · cases z
          have z2 := z2.symm
          subst z2
          refine g_invVX (pc := 33) dX1_render_33 hE rfl (en_run d i x.toInt.toNat hγ hE hT hD hi _ tm (by omega) l1 l2) meX1_run q1413 q1415 qs14 rfl rfl (Nat.le_of_ble_eq_true rfl) (fun κ z => z) (fun u h2 hp2 fr2 => ?_) (fun xx h2 hp2 fr2 => ?_)
          · rcases hp2 with ⟨a, oa, c, out, seen, z, mf, n2, hO, hs6, mn, hE2, rm⟩ | ⟨_, _, z, _⟩
            · cases z
              refine g_astore_n (pc := 36) (ls' := [(0, _), (1, _), (2, _), (3, _)]) dX1_render_36 rfl (Nat.le_of_ble_eq_true rfl) rfl ?_
              refine g_aload_n (pc := 37) dX1_render_37 rfl rfl ?_
              refine g_aload_n (pc := 38) dX1_render_38 rfl rfl ?_
              refine g_get (pc := 39) (r := (RX19, TX19, 4)) 1 dX1_render_39 n2 rfl (Nat.le_of_ble_eq_true rfl) q1430 (Or.inl rfl) rfl ?_
              refine g_put (pc := 42) (r := (RX1, TX1, 8)) 3 dX1_render_42 hE2 rfl (Nat.le_of_ble_eq_true rfl) q498 (Or.inl rfl) rfl (by decide) (Or.inl rfl) (tyX1_ok 3 (Nat.le_of_ble_eq_true rfl)) rfl rfl ?_
              show hG Z X mX1_render (d + 201) (rnS γ) h _ 45 _ [] (hSet h2 E (eF dl ta ln oa ea tg th sr))
              have hE3 := hSet_s h2 E (eF dl ta ln oa ea tg th sr)
              have n3 : (hSet h2 E (eF dl ta ln oa ea tg th sr)).2.2 a = some (19, .inl [.ref E, .ref oa, .int (nI seen), .int (nI 0)]) := by
                rw [hSet_n]
                · exact n2
                · intro z; rw [z, hE2] at n2; cases n2
              refine g_aload_n (pc := 45) dX1_render_45 rfl rfl ?_
              refine g_aload_n (pc := 46) dX1_render_46 rfl rfl ?_
              refine g_get (pc := 47) (r := (RX19, TX19, 4)) 2 dX1_render_47 n3 rfl (Nat.le_of_ble_eq_true rfl) q1432 (Or.inl rfl) rfl ?_
              refine g_put (pc := 50) (r := (RX1, TX1, 8)) 5 dX1_render_50 hE3 rfl (Nat.le_of_ble_eq_true rfl) q500 (Or.inl rfl) rfl (by decide) (Or.inl rfl) (tyX1_ok 5 (Nat.le_of_ble_eq_true rfl)) rfl rfl ?_
              rw [hSet_Set]
              show hG Z X mX1_render (d + 201) (rnS γ) h _ 53 _ [] (hSet h2 E (eF dl ta ln oa ea seen th sr))
              have fr4 : hFr (fun κ => κ = 1) h2 (hSet h2 E (eF dl ta ln oa ea seen th sr)) := (hFr.rf h2).set hE2 rfl rfl
              have hE4 := hSet_s h2 E (eF dl ta ln oa ea seen th sr)
              have hO4 := hO.fr fr4 (by show ¬ (_ = 1); omega) (by show ¬ (_ = 1); omega) (by show ¬ (_ = 1); omega)
              obtain ⟨-, hol, t4, hOc, -⟩ := id hO4
              have kc := k02 γ
              refine g_aload_n (pc := 53) dX1_render_53 rfl rfl ?_
              refine g_get (pc := 54) (r := (RX1, TX1, 8)) 3 dX1_render_54 hE4 rfl (Nat.le_of_ble_eq_true rfl) q498 (Or.inl rfl) rfl ?_
              refine g_invV (pc := 57) dX1_render_57 hOc kc (co_length (d + 198) hO4) meX2_length q533 q534 q535 rfl rfl (Nat.le_of_ble_eq_true rfl) (by first | exact jF | exact fun _ z => z | assumption | (intro κ z; simp_all)) (jk_e ?_) jk_x
              refine g_iret (pc := 60) dX1_render_60 rfl ?_
              refine Or.inr (Or.inr ⟨hk, ⟨_, by rw [hki]; exact tm⟩, ⟨hx1, hx2⟩, Or.inl ⟨oa, c, out, seen, rfl, by rw [hki]; exact mf, hO4, hs6, mn.tr (cMn.ft fr4 (by decide) (by decide) (by decide) (by decide) (by decide) (by decide)), hE4, rm⟩⟩)
            · cases z
          · rcases hp2 with ⟨a, oa, c, out, seen, z, -⟩ | hx
            · cases z
            · refine gx_out (fun x hx => by cases hx) ?_
              exact Or.inr (Or.inr ⟨hk, ⟨_, by rw [hki]; exact tm⟩, ⟨hx1, hx2⟩, Or.inr (by rw [hki]; exact hx)⟩)
        · cases z
      · rcases hp1 with ⟨_, _, z, _⟩ | ⟨hx1, z, hth⟩
        · cases z
        · cases z
          refine gx_out (fun x hx => by cases hx) ?_
          exact Or.inr (Or.inl ⟨hk, Or.inr hx1, rfl, hth⟩)
  · rw [if_neg hk]
    refine g_if_ge (pc := 4) (tgt := 12) dX1_render_4 rfl (fun z => absurd z (by decide)) (fun _ => ?_)
    refine g_aload_n (pc := 7) dX1_render_7 rfl rfl ?_
    refine g_invV (pc := 8) dX1_render_8 hE rfl (en_outside (d + 193) hE (by omega) (by omega)) meX1_outside q990 q992 qs9 rfl rfl (Nat.le_of_ble_eq_true rfl) (fun κ z => Or.inl z) (jk_n (fun u h7 hp7 fr7 => ?_)) jk_x
    obtain ⟨rfl, rfl, hwf7⟩ := hp7
    refine g_athrow (pc := 11) dX1_render_11 (hNew_s _ _ _) (by decide) rfl ?_
    refine gx_out (fun x hx => by cases hx) ?_
    exact Or.inl ⟨hk, rfl, eTh.mk hE rfl rfl hwf7⟩
end ER
