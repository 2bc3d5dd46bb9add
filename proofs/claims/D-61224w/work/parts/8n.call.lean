/-! COMPONENT 24: arrays of Parts; all of a rendering -/
set_option maxRecDepth 100000
theorem dr_X19 {Z : hE} {X : hX} {d : Nat} {S : Nat → Prop} {hin : hP} {K : hO → hP → Prop} {ls : List (Nat × Value)} {h : hP} {S' : Nat → Prop} {K' : hO → hP → Prop} {b : Nat} {A1 A2 A3 : Value} {rest : List Value} (hc : hDs Z d S' b [A1, A2, A3] h K' [(10, mX10_render), (11, mX11_render), (16, mX16_render), (17, mX17_render), (18, mX18_render)]) (hw : (rest.map fun v => v.category).sum ≤ 8) (hS : ∀ κ, S' κ → S κ)
    (kn : ∀ v h', K' (.inl v) h' → hFr S' h h' → hG Z X mX19_render (d + 1) S hin K (30 + 5) ls (v.toList ++ rest) h')
    (kx : ∀ E h', K' (.inr E) h' → hFr S' h h' → hGX Z X mX19_render (d + 1) S hin K 30 ls E h') : hG Z X mX19_render (d + 1) S hin K 30 ls (A3 :: A2 :: A1 :: .ref b :: rest) h := by
  obtain ⟨κ, fs, M', hb, hm, hct⟩ := hc
  simp only [List.mem_cons, Prod.mk.injEq, List.not_mem_nil, or_false] at hm
  rcases hm with ⟨hk, rfl⟩ | ⟨hk, rfl⟩ | ⟨hk, rfl⟩ | ⟨hk, rfl⟩ | ⟨hk, rfl⟩
  · exact g_invF (pc := 30) dX19_render_30 (r := (RX10, TX10, 1)) hb (by rw [hk]; rfl) hct meX10_render q1488 q1730 q1728 q1490 q1489 q1731 q1729 q1727 ⟨⟨by decide, by decide⟩, rfl⟩ rfl rfl hw hS kn kx
  · exact g_invF (pc := 30) dX19_render_30 (r := (RX11, TX11, 2)) hb (by rw [hk]; rfl) hct meX11_render q1488 q1744 q1742 q1490 q1489 q1745 q1743 q1741 ⟨⟨by decide, by decide⟩, rfl⟩ rfl rfl hw hS kn kx
  · exact g_invF (pc := 30) dX19_render_30 (r := (RX16, hT16, 0)) hb (by rw [hk]; rfl) hct meX16_render q1488 q1737 q1735 q1490 q1489 q1738 q1736 q1734 ⟨⟨by decide, by decide⟩, rfl⟩ rfl rfl hw hS kn kx
  · exact g_invF (pc := 30) dX19_render_30 (r := (RX17, TX17, 4)) hb (by rw [hk]; rfl) hct meX17_render q1488 q1494 q1492 q1490 q1489 q1495 q1493 q1491 ⟨⟨by decide, by decide⟩, rfl⟩ rfl rfl hw hS kn kx
  · exact g_invF (pc := 30) dX19_render_30 (r := (RX18, TX18, 1)) hb (by rw [hk]; rfl) hct meX18_render q1488 q1722 q1720 q1490 q1489 q1723 q1721 q1719 ⟨⟨by decide, by decide⟩, rfl⟩ rfl rfl hw hS kn kx
abbrev rnL : List (Nat × hM) := [(10, mX10_render), (11, mX11_render), (16, mX16_render), (17, mX17_render), (18, mX18_render)]
section CN
variable {Z : hE} {Tm : Nat → Option aT} {D : aD} {w : cW} {k : rE} {q ta : Nat}
theorem pr_part (j n e : Nat) (he : D.1 + 65 ≤ e) (hk : k.2.2.2.2.2.1 = 2 ∨ k.2.2.2.2.2.1 = 3) (hB1 : k.2.2.2.2.2.2.1 + 9000 ≤ hLC Z) (hB2 : k.2.2.2.2.2.2.2 + 70000 ≤ hLS) (IHt : ∀ j', j' + 1 = j → rCt Z Tm D w q k ta j' 4 (e - 2)) (IHn : ∀ n', n' + 1 = n → rCt Z Tm D w q k ta j n' (e - 1))
    {t p g p' g' a N G : Nat} {f : Nat → Nat} {T : tTb} {U : List aU} {C : List aV} {out : List Nat} {seen dep m : Nat} {CA : Nat → Nat} {tn : Option Nat} {h : hP} (ht : Tm t = some (N, f, G, T)) (hp : cPart h f T G N (fun p g p' g' a => ∃ n', n' + 1 = n ∧ cPs h f T G N n' p g p' g' a) p g p' g' a) (hx : nxT T G p g) (hx' : nxT T G p' g') (hst : rSt Tm D w q k.1 ta h) (hr : rR D w k CA m C out seen seen dep h) (hcp : cpU U = dep) (hdj : dep + j = 3) (hd1 : 1 ≤ dep) (hlp : lpU T U = tn) (htn : ∀ i, tn = some i → i < 10) (hU : U.length + n ≤ 5 * (dep - 1) + 4) (hC : C.length + n ≤ 4 * (dep - 1) + 5) : hDs Z e (rS k.2.2.2.2.2.1) a [.ref k.2.1, .ref (CA (C.length - 1)), .int (tI tn)] h (rQ Tm D w k CA m C dep t U (t, p, U, C, out, seen) p' h) rnL := by
  have hC1 : 1 ≤ C.length := by
    obtain ⟨_, _, _, _, _, _, _, _, x4, _⟩ := hr
    exact x4.1
  obtain ⟨n0, hn0⟩ : ∃ n0, C.length = n0 + 1 := ⟨C.length - 1, by omega⟩
  rcases hp with ⟨s, κ, y1, y2, y3, y4, y5, y6, y7⟩ | ⟨y1, y2, y3, y4, y5⟩ | ⟨y1, y2, y3, y4, s, v, A1, A2, mm, z1, z2, z3, z4, z5, z6, z7, z8, z9⟩
  · exact ⟨_, _, mX10_render, y1, mm0, pr_plain e s κ _ _ (by omega) hk hB1 hB2 ht hx y1 y2 y4 y5 y7 hr⟩
  · subst y4
    rcases y5 with ⟨z1, z2⟩ | ⟨z1, v, z2, z3⟩ | ⟨z1, z2, z3⟩
    · exact ⟨_, _, mX16_render, z2, mm2, pr_remark e _ _ (by omega) hk hB1 hB2 ht hx y1 y2 z1 hr⟩
    · exact ⟨_, _, mX11_render, z2, mm1, pr_shown e n0 v tn (by omega) hn0 htn hlp hk hB1 hB2 ht hx y1 y2 z1 z2 z3 hst.2.2 hr⟩
    · exact ⟨_, _, mX18_render, z3, mm4, pr_partial e _ (by omega) z2 hk hB1 hB2 ht hx y1 y2 z1 z3 hst hr hd1 (by omega) hcp (by omega) (by omega) (fun j' hj' => IHt j' (by omega))⟩
  · rcases z9 with ⟨w1, ⟨n', w2, w3⟩, w4⟩ | ⟨m1, w1, w2, w3, ⟨n', w4, w5⟩, ⟨n'', w6, w7⟩⟩
    · exact ⟨_, _, mX17_render, z1, mm3, pr_block e n0 n' s v A1 A2 mm tn (by omega) hn0 htn hlp hk hB1 hB2 ht hx hx' y1 y2 y3 y4 z1 z2 z3 z4 z5 z6 z7 (Or.inl ⟨w1, w3, w4⟩) hst hr j hdj hd1 hcp (by omega) (by omega) (IHn n' w2)⟩
    · have : n'' = n' := by omega
      subst this
      exact ⟨_, _, mX17_render, z1, mm3, pr_block e n0 n'' s v A1 A2 mm tn (by omega) hn0 htn hlp hk hB1 hB2 ht hx hx' y1 y2 y3 y4 z1 z2 z3 z4 z5 z6 z7 (Or.inr ⟨m1, w1, w2, w3, w5, w7⟩) hst hr j hdj hd1 hcp (by omega) (by omega) (IHn n'' w4)⟩
theorem rr_step (j n e : Nat) (he : D.1 + 66 ≤ e) (hk : k.2.2.2.2.2.1 = 2 ∨ k.2.2.2.2.2.1 = 3) (hB1 : k.2.2.2.2.2.2.1 + 9000 ≤ hLC Z) (hB2 : k.2.2.2.2.2.2.2 + 70000 ≤ hLS) (IHt : ∀ j', j' + 1 = j → rCt Z Tm D w q k ta j' 4 (e - 3)) (IHn : ∀ n', n' + 1 = n → rCt Z Tm D w q k ta j n' (e - 2)) : rCt Z Tm D w q k ta j n e := by
  intro t p g0 p' g' arr N G f T U C out seen dep m CA tn h ht hps hst hr hcp hdj hd1 hlp htn hU hC
  obtain ⟨e, rfl⟩ : ∃ e', e = e' + 66 := ⟨e - 66, by omega⟩
  have nsr := cNS.rS (g := k.2.2.2.2.2.1) hk
  obtain ⟨R, hR, kk, F, A, P, a1, a2, a3, a4, a5, a6⟩ : ∃ R : Nat → Nat → Nat → Nat → Nat → Prop, (∀ p g p' g' a, R p g p' g' a → ∃ n', n' + 1 = n ∧ cPs h f T G N n' p g p' g' a) ∧ cPl h f T G N R p g0 p' g' arr := by
    cases n with
    | zero => exact ⟨_, fun _ _ _ _ _ z => z.elim, hps⟩
    | succ n => exact ⟨_, fun _ _ _ _ _ z => ⟨n, rfl, z⟩, hps⟩
  have hC1 : C.length ≤ m + 1 := by
    obtain ⟨_, _, _, _, _, _, _, _, x4, _⟩ := hr
    exact x4.2.1
  refine hCt.of pnX19 rfl (Nat.le_of_ble_eq_true rfl) rfl (fun X => ?_)
  have loop : ∀ (r i : Nat) (h1 : hP) (out1 : List Nat) (seen1 m1 : Nat) (CA1 : Nat → Nat), i + r = kk → hFr (rS k.2.2.2.2.2.1) h h1 → cMn h h1 → rR D w k CA1 m1 C out1 seen1 seen1 dep h1 → m ≤ m1 → (∀ i, i ≤ m → CA1 i = CA i) → mTo Tm D (t, p, U, C, out, seen) (t, (P i).1, U, C, out1, seen1) → hG Z X mX19_render (e + 66) (rS k.2.2.2.2.2.1) h (rQ Tm D w k CA m C dep t U (t, p, U, C, out, seen) p' h) 11 [(0, .ref k.2.1), (1, .ref arr), (2, .ref (CA (C.length - 1))), (3, .int (tI tn)), (4, .ref arr), (5, .int (nI kk)), (6, .int (nI i))] [] h1 := by
    intro r
    induction r with
    | zero =>
      intro i h1 out1 seen1 m1 CA1 hi f1 mn1 hr1 hm1 hCA1 mt1
      have hi : i = kk := by omega
      subst hi
      rw [a4] at mt1
      refine g_iload (pc := 11) dX19_render_11 rfl ?_
      refine g_iload (pc := 13) dX19_render_13 rfl ?_
      refine g_icmp_geN (pc := 15) (tgt := 41) dX19_render_15 rfl (by omega) (by omega) (fun _ => ?_) (fun q_ => absurd q_ (by omega))
      exact g_vret (pc := 41) dX19_render_41 rfl (Or.inl ⟨rfl, out1, seen1, CA1, m1, mt1, hr1, hm1, hCA1, mn1⟩)
    | succ r ih =>
      intro i h1 out1 seen1 m1 CA1 hi f1 mn1 hr1 hm1 hCA1 mt1
      have hik : i < kk := by omega
      have a11 := (f1.2.2 _ _ a1).1 (nsr 66 (by decide))
      have hd := pr_part (Z := Z) (Tm := Tm) (D := D) (w := w) (k := k) (q := q) (ta := ta) j n (e + 65) (by omega) hk hB1 hB2 IHt IHn ht ((a6 i hik).2.kp f1 nsr mn1 (R' := fun p g p' g' a => ∃ n', n' + 1 = n ∧ cPs h1 f T G N n' p g p' g' a) (fun p g p' g' a z => by obtain ⟨n', z1, z2⟩ := hR p g p' g' a z; exact ⟨n', z1, z2.kp f1 nsr mn1⟩)) (a5 i (by omega)) (a5 (i + 1) (by omega)) (hst.kp f1 nsr mn1) hr1 hcp hdj hd1 hlp htn hU hC
      rw [hCA1 (C.length - 1) (by omega)] at hd
      refine g_iload (pc := 11) dX19_render_11 rfl ?_
      refine g_iload (pc := 13) dX19_render_13 rfl ?_
      refine g_icmp_geN (pc := 15) (tgt := 41) dX19_render_15 rfl (by omega) (by omega) (fun q_ => absurd q_ (by omega)) (fun _ => ?_)
      refine g_aload (pc := 18) dX19_render_18 rfl ?_
      refine g_iload (pc := 20) dX19_render_20 rfl ?_
      refine g_aald (pc := 22) i dX19_render_22 a11 rfl rfl hik rfl ?_
      rw [(a6 i hik).1]
      refine g_astore (pc := 23) (ls' := [(0, _), (1, _), (2, _), (3, _), (4, _), (5, _), (6, _), (7, _)]) dX19_render_23 (Nat.le_of_ble_eq_true rfl) rfl ?_
      refine g_aload (pc := 25) dX19_render_25 rfl ?_
      refine g_aload_n (pc := 27) dX19_render_27 rfl rfl ?_
      refine g_aload_n (pc := 28) dX19_render_28 rfl rfl ?_
      refine g_iload_n (pc := 29) dX19_render_29 rfl rfl ?_
      refine dr_X19 hd (Nat.le_of_ble_eq_true rfl) (fun κ z => z) (fun u h2 hp2 fr2 => ?_) (fun E h2 hp2 fr2 => ?_)
      · rcases hp2 with ⟨e1, out2, seen2, CA2, m2, y1, y2, y3, y4, y5⟩ | ⟨_, _, e1, _⟩
        · have e1 := Sum.inl.inj e1
          subst e1
          refine g_iincN (pc := 35) (k0 := 1) (ls' := [(0, _), (1, _), (2, _), (3, _), (4, _), (5, _), (6, _), (7, _)]) dX19_render_35 rfl (Nat.le_of_ble_eq_true rfl) rfl ?_
          refine g_goto (pc := 38) (tgt := 11) dX19_render_38 rfl ?_
          exact g_drop [0, 1, 2, 3, 4, 5, 6] rfl (ih (i + 1) h2 out2 seen2 m2 CA2 (by omega) (f1.tr fr2) (mn1.tr y5) y2 (by omega) (fun i hi => (y4 i (by omega)).trans (hCA1 i hi)) (mt1.trans y1))
        · cases e1
      · refine gx_out (fun x hx => by cases hx) ?_
        rcases hp2 with ⟨e1, _⟩ | ⟨q', E', e1, y2, y3, y4, y5⟩
        · cases e1
        · exact Or.inr ⟨q', E', e1, y2, mt1.fin y3, mn1.tr y4, y5⟩
  refine g_aload_n (pc := 0) dX19_render_0 rfl rfl ?_
  refine g_astore (pc := 1) (ls' := [(0, _), (1, _), (2, _), (3, _), (4, _)]) dX19_render_1 (Nat.le_of_ble_eq_true rfl) rfl ?_
  refine g_aload (pc := 3) dX19_render_3 rfl ?_
  refine g_alen (pc := 5) dX19_render_5 a1 ?_
  refine g_istore (pc := 6) (ls' := [(0, _), (1, _), (2, _), (3, _), (4, _), (5, _)]) dX19_render_6 (Nat.le_of_ble_eq_true rfl) rfl ?_
  refine g_iconst (pc := 8) (v := nI 0) dX19_render_8 rfl ?_
  refine g_istore (pc := 9) (ls' := [(0, _), (1, _), (2, _), (3, _), (4, _), (5, _), (6, _)]) dX19_render_9 (Nat.le_of_ble_eq_true rfl) rfl ?_
  refine loop kk 0 h out seen m CA (by omega) (hFr.rf h) (cMn.rf h) hr (Nat.le_refl _) (fun _ _ => rfl) ?_
  rw [a3]
  exact mTo.refl _
theorem rr_all (hk : k.2.2.2.2.2.1 = 2 ∨ k.2.2.2.2.2.1 = 3) (hB1 : k.2.2.2.2.2.2.1 + 9000 ≤ hLC Z) (hB2 : k.2.2.2.2.2.2.2 + 70000 ≤ hLS) : ∀ (j n e : Nat), n ≤ 4 → D.1 + 66 + 20 * j + 3 * n ≤ e → rCt Z Tm D w q k ta j n e := by
  intro j
  induction j with
  | zero =>
    intro n
    induction n with
    | zero => exact fun e _ he => rr_step 0 0 e (by omega) hk hB1 hB2 (fun j' hj' => absurd hj' (by omega)) (fun n' hn' => absurd hn' (by omega))
    | succ n ih => exact fun e _ he => rr_step 0 (n + 1) e (by omega) hk hB1 hB2 (fun j' hj' => absurd hj' (by omega)) (fun n' hn' => by cases hn'; exact ih (e - 2) (by omega) (by omega))
  | succ j ihj =>
    intro n
    induction n with
    | zero => exact fun e _ he => rr_step (j + 1) 0 e (by omega) hk hB1 hB2 (fun j' hj' => by cases hj'; exact ihj 4 (e - 3) (by omega) (by omega)) (fun n' hn' => absurd hn' (by omega))
    | succ n ih => exact fun e _ he => rr_step (j + 1) (n + 1) e (by omega) hk hB1 hB2 (fun j' hj' => by cases hj'; exact ihj 4 (e - 3) (by omega) (by omega)) (fun n' hn' => by cases hn'; exact ih (e - 2) (by omega) (by omega))
end CN
