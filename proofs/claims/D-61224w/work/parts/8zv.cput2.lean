/-! COMPONENT 50: put -/
set_option maxRecDepth 100000
section PT
variable {Z : hE} {h : hP} {D : aD} {w : cW} {E dl ta ln rd tg th sr el c0 : Nat} {ea : Int32} {l : List Nat}
/-- after put -/
def epQ (D : aD) (w : cW) (h : hP) (E dl ta ln rd : Nat) (ea : Int32) (tg th sr c0 : Nat) (l : List Nat) (m x : Int32) : hO → hP → Prop := fun r h' =>
  (¬ (inR D m ∧ inR D x) ∧ r = .inr NSEE ∧ eTh h E (eF dl ta ln rd ea tg (th + 1) sr) h') ∨
  (∃ a b, a < D.1 ∧ b < D.1 ∧ m = nI a ∧ x = nI b ∧ jRm h h' 4 100 ∧ (∀ ta Tm, cTs h ta Tm → cTs h' ta Tm) ∧ ∃ sr', sr' ≤ sr + 1 ∧ (
    ((isMp (D.2 a) = false ∨ rch D b a ∨ ¬ nmOK l) ∧ r = .inr IAE ∧ h'.2.2 E = some (eF dl ta ln rd ea tg (th + 1) sr') ∧ cD D w h' sr' ∧ jSB h' 1 ln c0 l) ∨
    (isMp (D.2 a) = true ∧ ¬ rch D b a ∧ nmOK l ∧ fnP l (aPs (D.2 a)) = none ∧ (aPs (D.2 a)).length = 10 ∧ r = .inr ISE ∧ h'.2.2 E = some (eF dl ta ln rd ea tg (th + 1) sr') ∧ cD D w h' sr' ∧ jSB h' 1 ln c0 l) ∨
    (isMp (D.2 a) = true ∧ ¬ rch D b a ∧ nmOK l ∧ ¬ (fnP l (aPs (D.2 a)) = none ∧ (aPs (D.2 a)).length = 10) ∧ r = .inl (some (.int (nI (ptP l b (aPs (D.2 a))).length))) ∧ h'.2.2 E = some (eF dl ta ln rd ea tg th sr') ∧ cD (dPut D a l b) w h' sr' ∧ jSB h' 1 ln c0 [])))
theorem jSB.sh {S : Nat → Prop} {h' : hP} {γ a cap : Nat} {l : List Nat} (f : hFr S h h') (n : ∀ κ, S κ → κ < 31 ∨ κ = 68 ∨ κ = 69) (hg : 1 ≤ γ) (x : jSB h γ a cap l) : jSB h' γ a cap l := x.fr f (fun z => by have := n _ z; omega) (fun z => by have := n _ z; omega)
set_option maxHeartbeats 4000000 in
theorem en_put (d : Nat) (m x : Int32) (hE : h.2.2 E = some (eF dl ta ln rd ea tg th sr)) (hL : eL Z D w h dl el) (hD : cD D w h sr) (hB : jSB h 1 ln c0 l) (hl : l.length ≤ 64) (hsr : sr + 1 ≤ 1000) (l1 : h.1 + 10 ≤ hLC Z) (l2 : h.2.1 + 300 ≤ hLS) : hCt Z mX1_put (d + 70) adS [.ref E, .int m, .int x] h (epQ D w h E dl ta ln rd ea tg th sr c0 l m x) := by
  have h60 := hD.2.2.2.2.2.1
  have kt := k31 1
  refine hCt.of pnX1 rfl (Nat.le_of_ble_eq_true rfl) rfl (fun X => ?_)
  refine g_aload_n (pc := 0) dX1_put_0 rfl rfl ?_
  refine g_iload_n (pc := 1) dX1_put_1 rfl rfl ?_
  refine g_invV (pc := 2) dX1_put_2 hE rfl (en_any (d + 61) m hE hL hD (by omega) (by omega)) meX1_any q844 q846 qs7 rfl rfl (Nat.le_of_ble_eq_true rfl) (fun κ z => Or.inl z) (fun v h1 hp1 fr1 => ?_) (fun E' h1 hp1 fr1 => ?_)
  · rcases hp1 with ⟨z1, z2, z3, z4⟩ | ⟨_, z3, _⟩
    · cases z3
      have z4 := z4.symm
      subst z4
      obtain ⟨a, ha, rfl, ea1⟩ := in_nI h60 ⟨z1, z2⟩
      rw [ea1]
      refine g_astore_n (pc := 5) (ls' := [(0, _), (1, _), (2, _), (3, _)]) dX1_put_5 rfl (Nat.le_of_ble_eq_true rfl) rfl ?_
      refine g_aload_n (pc := 6) dX1_put_6 rfl rfl ?_
      refine g_iload_n (pc := 7) dX1_put_7 rfl rfl ?_
      refine g_invV (pc := 8) dX1_put_8 hE rfl (en_any (d + 61) x hE hL hD (by omega) (by omega)) meX1_any q844 q846 qs7 rfl rfl (Nat.le_of_ble_eq_true rfl) (fun κ z => Or.inl z) (fun v h1 hp1 fr1 => ?_) (fun E' h1 hp1 fr1 => ?_)
      · rcases hp1 with ⟨y1, y2, z3, z4⟩ | ⟨_, z3, _⟩
        · cases z3
          have z4 := z4.symm
          subst z4
          obtain ⟨b, hb, rfl, eb1⟩ := in_nI h60 ⟨y1, y2⟩
          rw [eb1]
          have hB0 := hB
          obtain ⟨-, -, -, -, bb, mb, gb, ht, -, -⟩ := hB0
          refine g_astore (pc := 11) (ls' := [(0, _), (1, _), (2, _), (3, _), (4, _)]) dX1_put_11 (Nat.le_of_ble_eq_true rfl) rfl ?_
          refine g_aload_n (pc := 13) dX1_put_13 rfl rfl ?_
          refine g_get (pc := 14) (r := (RX1, TX1, 8)) 2 dX1_put_14 hE rfl (Nat.le_of_ble_eq_true rfl) q497 (Or.inl rfl) rfl ?_
          refine g_invV (pc := 17) dX1_put_17 ht kt (jc_toString (γ := 1) (d + 64) hB (by omega) (by omega)) meJ8_toString q703 q369 q370 rfl rfl (Nat.le_of_ble_eq_true rfl) jF (jk_n (fun u h1 hp1 fr1 => ?_)) jk_x
          obtain ⟨rfl, js, rm1⟩ := hp1
          have r11 := rm1.1
          have r12 := rm1.2
          have m1 := cMn.F fr1
          have hE1 := (fr1.2.2 _ _ hE).1 (fun z => z)
          have hD1 := hD.kp fr1 cNS.F m1
          have hB1 := hB.fr fr1 (fun z => z) (fun z => z)
          have kT1 : ∀ ta Tm, cTs h ta Tm → cTs h1 ta Tm := fun ta Tm z => z.kp fr1 cNS.F m1
          have nd1 : cND (fun κ => κ = 1) := by intro κ hκ z; rw [z] at hκ; revert hκ; decide
          -- a bad argument
          have bad : ∀ (h2 : hP) (sr' : Nat), h2.2.2 E = some (eF dl ta ln rd ea tg th sr') → (isMp (D.2 a) = false ∨ rch D b a ∨ ¬ nmOK l) → sr' ≤ sr + 1 → cD D w h2 sr' → jSB h2 1 ln c0 l → h2.1 = h1.1 → h2.2.1 = h1.2.1 → (∀ ta Tm, cTs h ta Tm → cTs h2 ta Tm) → hG Z X mX1_put (d + 70) adS h (epQ D w h E dl ta ln rd ea tg th sr c0 l (nI a) (nI b)) 57 [(0, .ref E), (1, .int (nI a)), (2, .int (nI b)), (3, .ref (w.1 a)), (4, .ref (w.1 b)), (5, .ref h.1)] [] h2 := by
            intro h2 sr' hE2 hc hs' hD2 hB2 s1 s2 kT
            refine g_aload_n (pc := 57) dX1_put_57 rfl rfl ?_
            refine g_invV (pc := 58) dX1_put_58 hE2 rfl (en_badArgument (d + 62) hE2 (by omega) (by omega)) meX1_badArgument q547 q549 qs1 rfl rfl (Nat.le_of_ble_eq_true rfl) (fun κ z => Or.inl z) (jk_n (fun u h7 hp7 fr7 => ?_)) jk_x
            obtain ⟨rfl, e7, hwf7⟩ := hp7
            have th7 : eTh h2 E (eF dl ta ln rd ea tg (th + 1) sr') h7 := by rw [e7]; exact eTh.mk hE2 rfl rfl hwf7
            have nw7 : h7.2.2 h2.1 = some (41, .inl []) := by rw [e7]; exact hNew_s _ _ _
            refine g_athrow (pc := 61) dX1_put_61 nw7 (by decide) rfl ?_
            refine gx_out (fun x hx => by cases hx) ?_
            obtain ⟨y1, y2, y3⟩ := th7
            have y31 := y3.1
            have y32 := y3.2
            refine Or.inr ⟨a, b, ha, hb, rfl, rfl, ⟨by omega, by omega⟩, fun ta Tm z => (kT ta Tm z).k1 (hFr.mono (fun _ z => Or.inl z) y2), sr', hs', Or.inl ⟨hc, rfl, y1, ?_, hB2.fr y2 (by decide) (by decide)⟩⟩
            exact hD2.kt y2 nd1 (cMn.ft y2 (by decide) (by decide) (by decide) (by decide) (by decide) (by decide))
          refine g_astore (pc := 20) (ls' := [(0, _), (1, _), (2, _), (3, _), (4, _), (5, _)]) dX1_put_20 (Nat.le_of_ble_eq_true rfl) rfl ?_
          refine g_aload_n (pc := 22) dX1_put_22 rfl rfl ?_
          -- no map
          have noM : isMp (D.2 a) = false → hG Z X mX1_put (d + 70) adS h (epQ D w h E dl ta ln rd ea tg th sr c0 l (nI a) (nI b)) 26 [(0, .ref E), (1, .int (nI a)), (2, .int (nI b)), (3, .ref (w.1 a)), (4, .ref (w.1 b)), (5, .ref h.1)] [.int (nI 0)] h1 := by
            intro hm
            refine g_if_eq (pc := 26) (tgt := 57) dX1_put_26 rfl (fun _ => ?_) (fun q_ => absurd rfl q_)
            exact bad h1 sr hE1 (Or.inl hm) (by omega) hD1 hB1 rfl rfl kT1
          have hia := hD1.1 a ha
          unfold cIt at hia
          cases hy : D.2 a with
          | inl v =>
            rw [hy] at hia
            obtain ⟨j, e1, c1⟩ := hia
            refine g_instNo (pc := 23) (r := (RX5, TX5, 2)) dX1_put_23 c1 rfl q821 (hLeafOf (by decide +kernel)) ?_
            exact noM (by rw [hy]; rfl)
          | inr y =>
            cases y with
            | inl ll =>
              rw [hy] at hia
              obtain ⟨t1, j, s1, cc, e1, c1⟩ := hia
              refine g_instNo (pc := 23) (r := (RX6, TX6, 3)) dX1_put_23 c1 rfl q821 (hLeafOf (by decide +kernel)) ?_
              exact noM (by rw [hy]; rfl)
            | inr p =>
              obtain ⟨mm, ps⟩ := p
              cases mm with
              | false =>
                rw [hy] at hia
                obtain ⟨j, f, e1, c1, -⟩ := hia
                refine g_instNo (pc := 23) (r := (RX7, TX7, 3)) dX1_put_23 c1 rfl q821 (hLeafOf (by decide +kernel)) ?_
                exact noM (by rw [hy]; rfl)
              | true =>
                rw [hy] at hia
                have hm : isMp (D.2 a) = true := by rw [hy]; rfl
                have hps : aPs (D.2 a) = ps := by rw [hy]; rfl
                obtain ⟨j0, f0, g0, e1, c1, -⟩ := hia
                refine g_instY (pc := 23) (r := (RX8, TX8, 4)) dX1_put_23 c1 rfl q821 (Or.inl rfl) ?_
                refine g_if_eq (pc := 26) (tgt := 57) dX1_put_26 rfl (fun q_ => absurd q_ (by decide)) (fun _ => ?_)
                refine g_aload (pc := 29) dX1_put_29 rfl ?_
                refine g_aload_n (pc := 31) dX1_put_31 rfl rfl ?_
                refine g_aload_n (pc := 32) dX1_put_32 rfl rfl ?_
                refine g_dup (pc := 33) dX1_put_33 rfl ?_
                refine g_get (pc := 34) (r := (RX1, TX1, 8)) 7 dX1_put_34 hE1 rfl (Nat.le_of_ble_eq_true rfl) q502 (Or.inl rfl) rfl ?_
                refine g_iconst (pc := 37) (v := nI 1) dX1_put_37 rfl ?_
                first | refine g_iaddN (pc := 38) dX1_put_38 ?_ | refine g_iadd (pc := 38) dX1_put_38 ?_
                refine g_dup_x1 (pc := 39) dX1_put_39 rfl rfl ?_
                refine g_put (pc := 40) (r := (RX1, TX1, 8)) 7 dX1_put_40 hE1 rfl (Nat.le_of_ble_eq_true rfl) q502 (Or.inl rfl) rfl (by decide) (Or.inl rfl) (tyX1_ok 7 (Nat.le_of_ble_eq_true rfl)) rfl rfl ?_
                show hG Z X mX1_put (d + 70) adS h _ 43 _ [.int (nI (sr + 1)), .ref (w.1 a), .ref (w.1 b)] (hSet h1 E (eF dl ta ln rd ea tg th (sr + 1)))
                have fr2 : hFr (fun κ => κ = 1) h1 (hSet h1 E (eF dl ta ln rd ea tg th (sr + 1))) := (hFr.rf h1).set hE1 rfl rfl
                have hE2 := hSet_s h1 E (eF dl ta ln rd ea tg th (sr + 1))
                have z21 : (hSet h1 E (eF dl ta ln rd ea tg th (sr + 1))).1 = h1.1 := rfl
                have z22 : (hSet h1 E (eF dl ta ln rd ea tg th (sr + 1))).2.1 = h1.2.1 := rfl
                generalize hSet h1 E (eF dl ta ln rd ea tg th (sr + 1)) = h2 at fr2 hE2 z21 z22 ⊢
                have m2 : cMn h1 h2 := cMn.ft fr2 (by decide) (by decide) (by decide) (by decide) (by decide) (by decide)
                have hD2 := hD1.kt fr2 nd1 m2
                obtain ⟨ρ, hρ⟩ := hD.2.2.2.2.2.2
                have pre : ∀ v, v < D.1 → mrk w h2 (sr + 1) v → ¬ rch D v a ∨ ρ b < ρ v := fun v hv z => absurd z (mrk_no hD2 hsr hv)
                refine dc_put (ct_all ρ hρ ha hsr D.1 b h2 (d + 69) (hD.2.2.2.2.2.2.hgt hb) (by omega) hb (hD2.up (by omega) hsr) pre) (Nat.le_of_ble_eq_true rfl) (fun κ z => Or.inr (Or.inl z)) (jk_n (fun v h3 hp3 fr3 => ?_)) jk_x
                obtain ⟨bt, rfl, hD3, aM3, s1, s2, htt, hff⟩ := hp3
                have hE3 := (aM3.1.2.2 _ _ hE2).1 (by rintro (z | z | z | z) <;> cases z)
                have hB3 : jSB h3 1 ln c0 l := (hB1.fr fr2 (by decide) (by decide)).fr aM3.1 (by rintro (z | z | z | z) <;> cases z) (by rintro (z | z | z | z) <;> cases z)
                have js3 : jSt h3 30 h.1 l := (js.fr fr2 (by decide) (by decide) (by decide)).ka aM3
                have kT : ∀ ta Tm, cTs h ta Tm → cTs h3 ta Tm := fun ta Tm z => ((kT1 ta Tm z).k1 (hFr.mono (fun _ z => Or.inl z) fr2)).ka aM3
                cases bt with
                | true =>
                  refine g_if_ne (pc := 46) (tgt := 57) dX1_put_46 rfl (fun _ => ?_) (fun q_ => absurd q_ (by decide))
                  exact bad h3 (sr + 1) hE3 (Or.inr (Or.inl (htt rfl))) (Nat.le_refl _) hD3 hB3 (by omega) (by omega) kT
                | false =>
                  have hnr := (hff rfl).1
                  refine g_if_ne (pc := 46) (tgt := 57) dX1_put_46 rfl (fun q_ => absurd rfl q_) (fun _ => ?_)
                  refine g_aload (pc := 49) dX1_put_49 rfl ?_
                  refine g_invS (pc := 51) dX1_put_51 (cs_isName (d + 65) js3 (by omega)) meX1_isName q937 q938 rfl rfl (Nat.le_of_ble_eq_true rfl) (by first | exact jF | exact fun _ z => z | assumption | (intro κ z; simp_all)) (jk_e ?_) jk_x
                  cases hnb : nmB l with
                  | false =>
                    refine g_if_ne (pc := 54) (tgt := 62) dX1_put_54 rfl (fun q_ => absurd rfl q_) (fun _ => ?_)
                    exact bad h3 (sr + 1) hE3 (Or.inr (Or.inr (fun z => by rw [nmB_iff.mpr z] at hnb; cases hnb))) (Nat.le_refl _) hD3 hB3 (by omega) (by omega) kT
                  | true =>
                    have hnm := nmB_iff.mp hnb
                    refine g_if_ne (pc := 54) (tgt := 62) dX1_put_54 rfl (fun _ => ?_) (fun q_ => absurd q_ (by decide))
                    have hi3 := hD3.1 a ha
                    unfold cIt at hi3
                    rw [hy] at hi3
                    obtain ⟨j, f, g, hj, d1, d2, d3, d4, d5, d6⟩ := hi3
                    -- it is put
                    have goPut : ¬ (fnP l ps = none ∧ ps.length = 10) → hG Z X mX1_put (d + 70) adS h (epQ D w h E dl ta ln rd ea tg th sr c0 l (nI a) (nI b)) 93 [(0, .ref E), (1, .int (nI a)), (2, .int (nI b)), (3, .ref (w.1 a)), (4, .ref (w.1 b)), (5, .ref h.1), (6, .ref (w.1 a))] [] h3 := by
                      intro hroom
                      obtain ⟨κb, fb, rb, b1, b2, b3⟩ := hD3.kd hb
                      have hns : w.1 a ≠ h.1 := by
                        intro z
                        obtain ⟨-, -, sb, sκ, sh, sz, sw, -⟩ := js3
                        rw [← z, d1] at sw
                        cases sw
                      refine g_aload (pc := 93) dX1_put_93 rfl ?_
                      refine g_aload (pc := 95) dX1_put_95 rfl ?_
                      refine g_aload (pc := 97) dX1_put_97 rfl ?_
                      refine g_invV (pc := 99) dX1_put_99 d1 rfl (md_put (d + 66) κb fb rb js3 d1 d2 d3 d5 d6 b1 b2 b3 (fun z => by have : ¬ ps.length = 10 := fun y => hroom ⟨z, y⟩; omega) hns) meX8_put q972 q973 q974 rfl rfl (Nat.le_of_ble_eq_true rfl) (fun κ z => by rcases z with z | z | z; exact Or.inr (Or.inl (Or.inr (Or.inr (Or.inr z)))); exact Or.inr (Or.inr (Or.inl z)); exact Or.inr (Or.inr (Or.inr (Or.inl z)))) (jk_n (fun u h4 hp4 fr4 => ?_)) jk_x
                      obtain ⟨rfl, hp4⟩ := hp4
                      have hn1 : w.1 a ≠ w.2.1 a := by
                        intro z
                        rw [z, d2] at d1
                        cases d1
                      have hn2 : w.1 a ≠ w.2.2 a := by
                        intro z
                        rw [z, d5] at d1
                        cases d1
                      have hn3 : w.2.1 a ≠ w.2.2 a := by
                        intro z
                        rw [z, d5] at d2
                        cases d2
                      have fr4' : hFr (fun κ => κ = 7 ∨ κ = 8 ∨ κ = 68 ∨ κ = 69) h3 h4 := hFr.mono (fun κ z => Or.inr z) fr4
                      have key : ∃ k n, ((fnP l ps = some k ∧ k < ps.length ∧ n = ps.length) ∨ (fnP l ps = none ∧ k = ps.length ∧ n = ps.length + 1 ∧ ps.length < 10)) ∧ h4.2.2 (w.1 a) = some (8, .inl [.int (nI j), .ref (w.2.1 a), .int (nI n), .ref (w.2.2 a)]) ∧ h4.2.2 (w.2.1 a) = some (68, .inr (10, upV f k (.ref (w.1 b)))) ∧ h4.2.2 (w.2.2 a) = some (69, .inr (10, upV g k (.ref h.1))) ∧ (∀ z c, h3.2.2 z = some c → z ≠ w.1 a → z ≠ w.2.1 a → z ≠ w.2.2 a → h4.2.2 z = some c) ∧ h4.1 = h3.1 ∧ h4.2.1 = h3.2.1 := by
                        rcases hp4 with ⟨k, z1, z2⟩ | ⟨z1, z2⟩
                        · refine ⟨k, ps.length, Or.inl ⟨z1, (fnP_at z1).1, rfl⟩, ?_, ?_, ?_, fun z c hc n1 n2 n3 => ?_, by rw [z2]; rfl, by rw [z2]; rfl⟩
                          · rw [z2, hSet_n hn1, hSet_n hn2]; exact d1
                          · rw [z2]; exact hSet_s _ _ _
                          · rw [z2, hSet_n (fun z => hn3 z.symm)]; exact hSet_s _ _ _
                          · rw [z2, hSet_n n2, hSet_n n3]; exact hc
                        · refine ⟨ps.length, ps.length + 1, Or.inr ⟨z1, rfl, rfl, by have : ¬ ps.length = 10 := fun y => hroom ⟨z1, y⟩; omega⟩, ?_, ?_, ?_, fun z c hc n1 n2 n3 => ?_, by rw [z2]; rfl, by rw [z2]; rfl⟩
                          · rw [z2, hSet_n hn1, hSet_n hn2]; exact hSet_s _ _ _
                          · rw [z2]; exact hSet_s _ _ _
                          · rw [z2, hSet_n (fun z => hn3 z.symm)]; exact hSet_s _ _ _
                          · rw [z2, hSet_n n2, hSet_n n3, hSet_n n1]; exact hc
                      obtain ⟨k, n, hkn, k1, k2, k3, k4, k5, k6⟩ := key
                      have hD4 := hD3.put ha hb hy hnr d1 hj d2 d4 d5 d6 js3 hnm hkn d3 k1 k2 k3 fr4' k4
                      have hE4 := (fr4'.2.2 _ _ hE3).1 (by rintro (z | z | z | z) <;> cases z)
                      have hB4 := hB3.fr fr4' (by rintro (z | z | z | z) <;> cases z) (by rintro (z | z | z | z) <;> cases z)
                      have hlen : (ptP l b ps).length = n ∧ n ≤ 10 := by
                        unfold ptP
                        rcases hkn with ⟨w1, w2, w3⟩ | ⟨w1, w2, w3, w4⟩
                        · rw [w1]; exact ⟨by rw [List.length_set]; exact w3.symm, by omega⟩
                        · rw [w1]; exact ⟨by rw [List.length_append]; exact w3.symm, by omega⟩
                      have hB40 := hB4
                      obtain ⟨-, -, -, -, bb4, mb4, gb4, ht4, -, -⟩ := hB40
                      clear hp4
                      refine g_aload_n (pc := 102) dX1_put_102 rfl rfl ?_
                      refine g_get (pc := 103) (r := (RX1, TX1, 8)) 2 dX1_put_103 hE4 rfl (Nat.le_of_ble_eq_true rfl) q497 (Or.inl rfl) rfl ?_
                      refine g_iconst (pc := 106) (v := nI 0) dX1_put_106 rfl ?_
                      refine g_invV (pc := 107) dX1_put_107 ht4 kt (jc_setLength (γ := 1) (d + 64) 0 hB4 (Nat.zero_le _) (by omega) (by omega) (by omega)) meJ8_setLength q716 q717 q718 rfl rfl (Nat.le_of_ble_eq_true rfl) (fun κ z => Or.inr (Or.inr (Or.inr (Or.inr z)))) (jk_n (fun u h5 hp5 fr5 => ?_)) jk_x
                      obtain ⟨rfl, hB5, z51, z52⟩ := hp5
                      have k15 := (fr5.2.2 _ _ k1).1 (by rintro (z | z) <;> cases z)
                      refine g_aload (pc := 110) dX1_put_110 rfl ?_
                      refine g_get (pc := 112) (r := (RX8, TX8, 4)) 2 dX1_put_112 k15 rfl (Nat.le_of_ble_eq_true rfl) q807 (Or.inr q805) rfl ?_
                      refine g_iret (pc := 115) dX1_put_115 rfl ?_
                      refine Or.inr ⟨a, b, ha, hb, rfl, rfl, ⟨by omega, by omega⟩, fun ta Tm z => ((kT ta Tm z).k1 (hFr.mono (fun κ z => Or.inr (by rcases z with z | z | z | z; exact Or.inl z; exact Or.inr (Or.inl z); exact Or.inr (Or.inr (Or.inl z)); exact Or.inr (Or.inr (Or.inr (Or.inl z))))) fr4')).k1 (hFr.mono (fun κ z => Or.inr (Or.inr (Or.inr (Or.inr (Or.inr z))))) fr5), sr + 1, Nat.le_refl _, Or.inr (Or.inr ⟨hm, hnr, hnm, by rw [hps]; exact hroom, by rw [hps, hlen.1], (fr5.2.2 _ _ hE4).1 (by rintro (z | z) <;> cases z), ?_, hB5⟩)⟩
                      refine hD4.kt fr5 ?_ (cMn.j1 fr5)
                      intro κ hκ z
                      simp only [List.mem_cons, List.not_mem_nil, or_false] at hκ
                      rcases z with z | z <;> omega
                    refine g_aload_n (pc := 62) dX1_put_62 rfl rfl ?_
                    refine g_cast (pc := 63) (r := (RX8, TX8, 4)) dX1_put_63 d1 rfl q821 (Or.inl rfl) ?_
                    refine g_astore (pc := 66) (ls' := [(0, _), (1, _), (2, _), (3, _), (4, _), (5, _), (6, _)]) dX1_put_66 (Nat.le_of_ble_eq_true rfl) rfl ?_
                    refine g_aload (pc := 68) dX1_put_68 rfl ?_
                    refine g_get (pc := 70) (r := (RX8, TX8, 4)) 2 dX1_put_70 d1 rfl (Nat.le_of_ble_eq_true rfl) q807 (Or.inr q805) rfl ?_
                    refine g_bipush (pc := 73) (v := nI 10) dX1_put_73 rfl ?_
                    refine g_icmp_neN (pc := 75) (tgt := 93) dX1_put_75 rfl (by omega) (by omega) (fun q75 => ?_) (fun q75 => ?_)
                    · exact goPut (fun z => q75 z.2)
                    · refine g_aload (pc := 78) dX1_put_78 rfl ?_
                      refine g_aload (pc := 80) dX1_put_80 rfl ?_
                      refine g_invV (pc := 82) dX1_put_82 d1 rfl (cd_place (d + 67) 30 _ _ _ _ _ _ js3 d1 d5 d3 d6) meX8_place q960 q961 q962 rfl rfl (Nat.le_of_ble_eq_true rfl) (by first | exact jF | exact fun _ z => z | assumption | (intro κ z; simp_all)) (jk_e ?_) jk_x
                      cases hfn : fnP l ps with
                      | some k =>
                        have hk := (fnP_at hfn).1
                        show hG Z X mX1_put (d + 70) adS h _ 85 _ [.int (nI k)] h3
                        refine g_if_geN (pc := 85) (tgt := 93) dX1_put_85 rfl (by omega) ?_
                        exact goPut (fun z => by rw [hfn] at z; cases z.1)
                      | none =>
                        show hG Z X mX1_put (d + 70) adS h _ 85 _ [.int (-1)] h3
                        refine g_if_ge (pc := 85) (tgt := 93) dX1_put_85 rfl (fun z => absurd z (by decide)) (fun _ => ?_)
                        refine g_aload_n (pc := 88) dX1_put_88 rfl rfl ?_
                        refine g_invV (pc := 89) dX1_put_89 hE3 rfl (en_badState (d + 62) hE3 (by omega) (by omega)) meX1_badState q562 q564 qs2 rfl rfl (Nat.le_of_ble_eq_true rfl) (fun κ z => Or.inl z) (jk_n (fun u h7 hp7 fr7 => ?_)) jk_x
                        obtain ⟨rfl, e7, hwf7⟩ := hp7
                        have th7 : eTh h3 E (eF dl ta ln rd ea tg (th + 1) (sr + 1)) h7 := by rw [e7]; exact eTh.mk hE3 rfl rfl hwf7
                        have nw7 : h7.2.2 h3.1 = some (42, .inl []) := by rw [e7]; exact hNew_s _ _ _
                        refine g_athrow (pc := 92) dX1_put_92 nw7 (by decide) rfl ?_
                        refine gx_out (fun x hx => by cases hx) ?_
                        obtain ⟨y1, y2, y3⟩ := th7
                        have y31 := y3.1
                        have y32 := y3.2
                        refine Or.inr ⟨a, b, ha, hb, rfl, rfl, ⟨by omega, by omega⟩, fun ta Tm z => (kT ta Tm z).k1 (hFr.mono (fun _ z => Or.inl z) y2), sr + 1, Nat.le_refl _, Or.inr (Or.inl ⟨hm, hnr, hnm, by rw [hps]; exact hfn, by rw [hps]; exact q75, rfl, y1, ?_, hB3.fr y2 (by decide) (by decide)⟩)⟩
                        exact hD3.kt y2 nd1 (cMn.ft y2 (by decide) (by decide) (by decide) (by decide) (by decide) (by decide))
        · cases z3
      · refine gx_out (fun x hx => by cases hx) ?_
        rcases hp1 with ⟨_, _, z3, _⟩ | ⟨y1, y2, y3⟩
        · cases z3
        · exact Or.inl ⟨fun z => y1 z.2, y2, y3⟩
    · cases z3
  · refine gx_out (fun x hx => by cases hx) ?_
    rcases hp1 with ⟨_, _, z3, _⟩ | ⟨z1, z2, z3⟩
    · cases z3
    · exact Or.inl ⟨fun z => z1 z.1, z2, z3⟩
end PT
