/-! COMPONENT 22: templates inside; blocks -/
set_option maxRecDepth 100000
section MB
variable {D : aD} {T : tTb} {t j b m k x seen : Nat} {U : List aU} {C : List aV} {out : List Nat} {v : aV}
theorem mb_3 (hs : (T.1 j).2.2.2.2 = 3) (hv : flV D v = false) (hU : U.length ≤ 18) (hC : C.length ≤ 13) : mBlk D T t j U C out seen v = .inl (t, (T.1 j).2.2.2.1, .inr (j, false, 0, 0) :: U, C, out, seen) := by
  unfold mBlk mFst
  rw [if_pos (by rw [if_pos hs, hv]; rfl), if_neg (by omega), if_pos hs]
theorem mb_5 (hs : (T.1 j).2.2.2.2 = 5) (hv : v ≠ none) (hU : U.length ≤ 18) (hC : C.length ≤ 13) : mBlk D T t j U C out seen v = .inl (t, (T.1 j).2.2.2.1, .inr (j, false, 0, 0) :: U, v :: C, out, seen) := by
  unfold mBlk mFst
  rw [if_pos (by rw [if_neg (by omega), if_pos hs]; cases v with | none => exact absurd rfl hv | some _ => rfl), if_neg (by omega), if_neg (by omega), if_pos hs]
theorem mb_4 (hs : (T.1 j).2.2.2.2 = 4) (hv : v = some (.inr (.inr x))) (hx : 0 < (aPs (D.2 x)).length) (hU : U.length ≤ 18) (hC : C.length ≤ 13) : mBlk D T t j U C out seen v = .inl (t, (T.1 j).2.2.2.1, .inr (j, false, 0, x) :: U, elX D x 0 :: C, out, seen) := by
  subst hv
  unfold mBlk mFst mX
  rw [if_pos (by rw [if_neg (by omega), if_neg (by omega)]; exact decide_eq_true hx), if_neg (by omega), if_neg (by omega), if_neg (by omega)]
theorem mb_o1 (hf : mFst D (T.1 j).2.2.2.2 v = false) (h1 : T.2.1 j = none) (h2 : T.2.2 j = some m) : mBlk D T t j U C out seen v = .inl (t, (T.1 m).2.2.2.1, U, C, out, seen) := by
  unfold mBlk
  rw [hf, if_neg (by decide), h1, h2]
theorem mb_o2 {m1 : Nat} (hf : mFst D (T.1 j).2.2.2.2 v = false) (h1 : T.2.1 j = some m1) (hU : U.length ≤ 18) : mBlk D T t j U C out seen v = .inl (t, (T.1 m1).2.2.2.1, .inr (j, true, 0, 0) :: U, C, out, seen) := by
  unfold mBlk
  rw [hf, if_neg (by decide), h1]
  dsimp only
  rw [if_neg (by omega)]
theorem me_3 (hs : (T.1 b).2.2.2.2 = 3) (hm : T.2.2 b = some m) : mEnd D T t (.inr (b, false, 0, 0) :: U) C out seen = .inl (t, (T.1 m).2.2.2.1, U, C, out, seen) := by
  unfold mEnd
  dsimp only
  rw [if_neg (by omega), if_neg (by omega), hm]
  dsimp only
  rw [if_neg (by omega)]
theorem me_o (hm : T.2.2 b = some m) : mEnd D T t (.inr (b, true, k, x) :: U) C out seen = .inl (t, (T.1 m).2.2.2.1, U, C, out, seen) := by
  unfold mEnd
  dsimp only
  rw [if_neg (fun z => by cases z.1), if_neg (fun z => by cases z.1), hm]
  dsimp only
  rw [if_neg (fun z => by cases z.1)]
theorem me_5 (hs : (T.1 b).2.2.2.2 = 5) (hm : T.2.2 b = some m) : mEnd D T t (.inr (b, false, 0, 0) :: U) (v :: C) out seen = .inl (t, (T.1 m).2.2.2.1, U, C, out, seen) := by
  unfold mEnd
  dsimp only
  rw [if_neg (fun z => by cases z.2.2), if_neg (by omega), hm]
  dsimp only
  rw [if_pos ⟨rfl, by omega⟩]
  rfl
theorem me_n (hs : (T.1 b).2.2.2.2 = 4) (hk : k + 1 < (aPs (D.2 x)).length) : mEnd D T t (.inr (b, false, k, x) :: U) (v :: C) out seen = .inl (t, (T.1 b).2.2.2.1, .inr (b, false, k + 1, x) :: U, elX D x (k + 1) :: C, out, seen) := by
  unfold mEnd
  dsimp only
  rw [if_neg (fun z => by cases z.2.2), if_pos ⟨rfl, hs, hk⟩]
  rfl
theorem me_l (hs : (T.1 b).2.2.2.2 = 4) (hk : ¬ k + 1 < (aPs (D.2 x)).length) (hm : T.2.2 b = some m) : mEnd D T t (.inr (b, false, k, x) :: U) (v :: C) out seen = .inl (t, (T.1 m).2.2.2.1, U, C, out, seen) := by
  unfold mEnd
  dsimp only
  rw [if_neg (fun z => by cases z.2.2), if_neg (fun z => hk z.2.2), hm]
  dsimp only
  rw [if_pos ⟨rfl, by omega⟩]
  rfl
end MB
/-- how many turns -/
def tnV (D : aD) : aV → Nat
  | some (.inr (.inr x)) => (aPs (D.2 x)).length
  | _ => 0
abbrev trL : List (Nat × hM) := [(5, mX4_turns), (6, mX4_turns), (7, mX7_turns), (8, mX7_turns), (21, mX4_turns)]
theorem ctn_val {Z : hE} {h : hP} {D : aD} {w : cW} {q : Nat} (hD : cD D w h q) {n b : Nat} {v : aV} (e : Nat) (hv : cV D w.1 h n v (.ref b)) : hDs Z e (fun _ => False) b [] h (jK (fun r h' => r = some (.int (nI (tnV D v))) ∧ h' = h)) trL := by
  rcases hv.cs hD with ⟨k, κ, w', rfl, e2, e3⟩ | ⟨l, rfl, ht⟩ | ⟨k, y, l, rfl, e2, e3⟩ | ⟨x, ps, j, f, rfl, e1, e2, e3, e4, e5, e6⟩ | ⟨x, ps, j, f, rfl, e1, e2, e3, e4, e5, e6⟩
  · exact ⟨_, _, mX4_turns, e2, (by rw [e3]; exact mm0), cd_turns0 e⟩
  · obtain ⟨k, s, κ, c, y1, y2, y3, y4⟩ := ht 0
    exact ⟨_, _, mX4_turns, y1, mm1, cd_turns0 e⟩
  · exact ⟨_, _, mX4_turns, e2, mm4, cd_turns0 e⟩
  · refine ⟨_, _, mX7_turns, e3, mm2, ?_⟩
    have : tnV D (some (.inr (.inr x))) = ps.length := by show (aPs (D.2 x)).length = _; rw [e2]; rfl
    rw [this]
    exact cd_turns7 e _ _ _ e3
  · refine ⟨_, _, mX7_turns, e3, mm3, ?_⟩
    have : tnV D (some (.inr (.inr x))) = ps.length := by show (aPs (D.2 x)).length = _; rw [e2]; rfl
    rw [this]
    exact cd_turns8 e _ _ _ _ e3
/-- an array of Parts is rendered: j templates deeper may come, n blocks -/
def rCt (Z : hE) (Tm : Nat → Option aT) (D : aD) (w : cW) (q : Nat) (k : rE) (ta j n e : Nat) : Prop := ∀ (t p g0 p' g' arr N G : Nat) (f : Nat → Nat) (T : tTb) (U : List aU) (C : List aV) (out : List Nat) (seen dep m : Nat) (CA : Nat → Nat) (tn : Option Nat) (h : hP), Tm t = some (N, f, G, T) → cPs h f T G N n p g0 p' g' arr → rSt Tm D w q k.1 ta h → rR D w k CA m C out seen seen dep h → cpU U = dep → dep + j = 3 → 1 ≤ dep → lpU T U = tn → (∀ i, tn = some i → i < 10) → U.length + n ≤ 5 * (dep - 1) + 4 → C.length + n ≤ 4 * (dep - 1) + 5 → hCt Z mX19_render e (rS k.2.2.2.2.2.1) [.ref k.2.1, .ref arr, .ref (CA (C.length - 1)), .int (tI tn)] h (rQ Tm D w k CA m C dep t U (t, p, U, C, out, seen) p' h)
theorem cPs.nx {h : hP} {f : Nat → Nat} {T : tTb} {G N n p g p' g' a : Nat} (x : cPs h f T G N n p g p' g' a) : nxT T G p' g' := by
  cases n with
  | zero =>
    obtain ⟨k, F, A, P, e1, e2, e3, e4, e5, e6⟩ := x
    have := e5 k (Nat.le_refl _)
    rw [e4] at this
    exact this
  | succ n =>
    obtain ⟨k, F, A, P, e1, e2, e3, e4, e5, e6⟩ := x
    have := e5 k (Nat.le_refl _)
    rw [e4] at this
    exact this
theorem cPs.nil {h : hP} {f : Nat → Nat} {T : tTb} {G N n p g a : Nat} {F : Nat → Value} (x : h.2.2 a = some (66, .inr (0, F))) (hx : nxT T G p g) : cPs h f T G N n p g p g a := by
  cases n with
  | zero => exact ⟨0, F, fun _ => 0, fun _ => (p, g), x, by omega, rfl, rfl, fun i _ => hx, fun i hi => absurd hi (by omega)⟩
  | succ n => exact ⟨0, F, fun _ => 0, fun _ => (p, g), x, by omega, rfl, rfl, fun i _ => hx, fun i hi => absurd hi (by omega)⟩
section CB
variable {Z : hE} {h : hP} {Tm : Nat → Option aT} {D : aD} {w : cW} {k : rE} {CA : Nat → Nat} {m q ta : Nat} {C : List aV} {out : List Nat} {seen dep t p g p' g' N G a : Nat} {f : Nat → Nat} {T : tTb} {U : List aU}
theorem rQ.st {U1 : List aU} {C1 : List aV} {c0 c1 : aM} {p1 : Nat} {r : hO} {h' : hP} (h0 : mTo Tm D c0 c1) (hs : ∀ out' seen', mS Tm D (t, p1, U1, C1, out', seen') = .inl (t, p', U, C, out', seen')) (hp : ∀ CA' m' out' seen' h', rR D w k CA' m' C1 out' seen' seen' dep h' → rR D w k CA' m' C out' seen' seen' dep h') (x : rQ Tm D w k CA m C1 dep t U1 c1 p1 h r h') : rQ Tm D w k CA m C dep t U c0 p' h r h' := by
  rcases x with ⟨x1, out', seen', CA', m', x2, x3, x4⟩ | ⟨q, E, x1, x2, x3, x4⟩
  · exact Or.inl ⟨x1, out', seen', CA', m', (h0.trans x2).trans (mTo.one (hs out' seen')), hp _ _ _ _ _ x3, x4⟩
  · exact Or.inr ⟨q, E, x1, x2, h0.fin x3, x4⟩
theorem rQ.pre {h0 : hP} {m0 : Nat} {CA0 : Nat → Nat} {c0 : aM} {r : hO} {h' : hP} (mn : cMn h0 h) (hm : m0 ≤ m) (hCA : ∀ i, i ≤ m0 → CA i = CA0 i) (x : rQ Tm D w k CA m C dep t U c0 p' h r h') : rQ Tm D w k CA0 m0 C dep t U c0 p' h0 r h' := by
  rcases x with ⟨x1, out', seen', CA', m', x2, x3, x4, x5, x6⟩ | ⟨q, E, x1, x2, x3, x4, x5⟩
  · exact Or.inl ⟨x1, out', seen', CA', m', x2, x3, Nat.le_trans hm x4, fun i hi => (x5 i (by omega)).trans (hCA i hi), mn.tr x6⟩
  · exact Or.inr ⟨q, E, x1, x2, x3, mn.tr x4, x5⟩
theorem rR.pop {v : aV} {sb : Nat} (hn : 1 ≤ C.length) (x : rR D w k CA m (v :: C) out seen sb dep h) : rR D w k CA m C out seen sb dep h := by
  obtain ⟨c0, c1, c2, l1, l2, x1, x2, x3, x4, x5⟩ := x
  exact ⟨c0, c1, c2, l1, l2, x1, x2, x3, x4.pop hn, x5⟩
theorem rR.dp {sb d' : Nat} (hk : k.2.2.2.2.2.1 = 2 ∨ k.2.2.2.2.2.1 = 3) (x : rR D w k CA m C out seen sb dep h) : rR D w k CA m C out seen sb d' (hSet h k.2.1 (19, .inl [.ref k.1, .ref k.2.2.1, .int (nI seen), .int (nI d')])) := by
  obtain ⟨c0, c1, c2, l1, l2, x1, x2, x3, x4, x5, x6, x7, x8, x9⟩ := x
  have fr : hFr (fun κ => κ = 19) h (hSet h k.2.1 (19, .inl [.ref k.1, .ref k.2.2.1, .int (nI seen), .int (nI d')])) := (hFr.rf h).set x5 rfl rfl
  have mn := cMn.fr fr (cNS.one (Or.inl rfl)) (by decide) (by decide)
  exact ⟨c0, c1, c2, l1, l2, x1.fr fr (by show ¬ (_ = 19); omega) (by show ¬ (_ = 19); omega) (by show ¬ (_ = 19); omega), x2.fr fr (by decide) (by decide) (by decide), x3.fr fr (by decide) (by decide) (by decide), x4.kp fr (cNS.one (Or.inl rfl)) mn (by decide), hSet_s _ _ _, x6, x7, x8, x9⟩
/-- Rendering.template -/
theorem rt_template (e k0 : Nat) (he : D.1 + 60 ≤ e) (hk4 : k0 < 4) (hk : k.2.2.2.2.2.1 = 2 ∨ k.2.2.2.2.2.1 = 3) (hB1 : k.2.2.2.2.2.2.1 + 9000 ≤ hLC Z) (hB2 : k.2.2.2.2.2.2.2 + 70000 ≤ hLS) (hst : rSt Tm D w q k.1 ta h) (hr : rR D w k CA m C out seen seen dep h) (hd3 : dep ≤ 3) (hcp : cpU U = dep + 1) (hlp : ∀ T, lpU T U = none) (hU : U.length ≤ 5 * dep) (hC : C.length ≤ 4 * dep + 1) (IH : ∀ j, dep + 1 + j = 3 → rCt Z Tm D w q k ta j 4 (e - 1)) : hCt Z mX19_template e (rS k.2.2.2.2.2.1) [.ref k.2.1, .int (nI k0), .ref (CA (C.length - 1))] h (fun r h' => (Tm k0 = none ∧ r = .inr NSEE ∧ cMn h h' ∧ h'.1 ≤ k.2.2.2.2.2.2.1 + 9000 ∧ h'.2.1 ≤ k.2.2.2.2.2.2.2 + 70000) ∨ (∃ N f G T, Tm k0 = some (N, f, G, T) ∧ ((dep = 3 ∧ r = .inr AEX ∧ cMn h h' ∧ h'.1 ≤ k.2.2.2.2.2.2.1 + 9000 ∧ h'.2.1 ≤ k.2.2.2.2.2.2.2 + 70000) ∨ (dep < 3 ∧ nxT T G N G ∧ rQ Tm D w k CA m C dep k0 U (k0, 0, U, C, out, seen) N h r h')))) := by
  obtain ⟨e, rfl⟩ : ∃ e', e = e' + 60 := ⟨e - 60, by omega⟩
  have rm := hr.rm
  have hr0 := hr
  have hst0 := hst
  obtain ⟨c0, c1, c2, l1, l2, x1, x2, x3, x4, x5, x6, x7, x8, x9⟩ := hr
  obtain ⟨⟨e0, e2, e3, e4, e5, e6, e7, hE⟩, ⟨F, hta, hF⟩, hD⟩ := hst
  have ns19 := cNS.one (n := 19) (Or.inl rfl)
  refine hCt.of pnX19 rfl (Nat.le_of_ble_eq_true rfl) rfl (fun X => ?_)
  rcases hF k0 hk4 with ⟨tm, fk⟩ | ⟨N, f, G, T, arr, tm, fk, hps⟩
  ·
    refine g_aload_n (pc := 0) dX19_template_0 rfl rfl ?_
    refine g_get (pc := 1) (r := (RX19, TX19, 4)) 0 dX19_template_1 x5 rfl (Nat.le_of_ble_eq_true rfl) q1426 (Or.inl rfl) rfl ?_
    refine g_getN (pc := 4) (r := (RX1, TX1, 8)) 1 dX19_template_4 hE rfl (Nat.le_of_ble_eq_true rfl) q495 (Or.inl rfl) rfl ?_
    refine g_iload_n (pc := 7) dX19_template_7 rfl rfl ?_
    refine g_aald (pc := 8) k0 dX19_template_8 hta rfl rfl hk4 rfl ?_
    rw [fk]
    refine g_ifnonnullN (pc := 9) dX19_template_9 ?_
    refine g_make0 (pc := 12) 44 dX19_template_12 dX19_template_15 dX19_template_16 xX19_39 x_st rfl (by decide) rfl rfl (Nat.le_of_ble_eq_true rfl) (by omega) (by omega) (fun hwf => ?_)
    refine g_athrow (pc := 19) dX19_template_19 (hNew_s _ _ _) (by decide) rfl ?_
    refine gx_out (fun x hx => by cases hx) ?_
    have f0 : hFr (fun _ => False) h (hNew h (44, .inl []) 6) := (hFr.rf h).new hwf
    exact Or.inl ⟨tm, rfl, cMn.F f0, by simp only [hNew_1]; omega, by simp only [hNew_2]; omega⟩
  · by_cases hd : dep = 3
    ·
      refine g_aload_n (pc := 0) dX19_template_0 rfl rfl ?_
      refine g_get (pc := 1) (r := (RX19, TX19, 4)) 0 dX19_template_1 x5 rfl (Nat.le_of_ble_eq_true rfl) q1426 (Or.inl rfl) rfl ?_
      refine g_getN (pc := 4) (r := (RX1, TX1, 8)) 1 dX19_template_4 hE rfl (Nat.le_of_ble_eq_true rfl) q495 (Or.inl rfl) rfl ?_
      refine g_iload_n (pc := 7) dX19_template_7 rfl rfl ?_
      refine g_aald (pc := 8) k0 dX19_template_8 hta rfl rfl hk4 rfl ?_
      rw [fk]
      refine g_ifnonnull (pc := 9) (tgt := 20) dX19_template_9 rfl ?_
      refine g_aload_n (pc := 20) dX19_template_20 rfl rfl ?_
      refine g_get (pc := 21) (r := (RX19, TX19, 4)) 3 dX19_template_21 x5 rfl (Nat.le_of_ble_eq_true rfl) q1433 (Or.inl rfl) rfl ?_
      refine g_iconst (pc := 24) (v := nI 3) dX19_template_24 rfl ?_
      refine g_icmp_neN (pc := 25) (tgt := 36) dX19_template_25 rfl (by omega) (by omega) (fun q_ => absurd q_ (by omega)) (fun _ => ?_)
      refine g_make0 (pc := 28) 45 dX19_template_28 dX19_template_31 dX19_template_32 xX19_45 x_st rfl (by decide) rfl rfl (Nat.le_of_ble_eq_true rfl) (by omega) (by omega) (fun hwf => ?_)
      refine g_athrow (pc := 35) dX19_template_35 (hNew_s _ _ _) (by decide) rfl ?_
      refine gx_out (fun x hx => by cases hx) ?_
      have f0 : hFr (fun _ => False) h (hNew h (45, .inl []) 6) := (hFr.rf h).new hwf
      exact Or.inr ⟨N, f, G, T, tm, Or.inl ⟨hd, rfl, cMn.F f0, by simp only [hNew_1]; omega, by simp only [hNew_2]; omega⟩⟩
    · have hr1 := hr0.dp (d' := dep + 1) hk
      have fr1 : hFr (fun κ => κ = 19) h (hSet h k.2.1 (19, .inl [.ref k.1, .ref k.2.2.1, .int (nI seen), .int (nI (dep + 1))])) := (hFr.rf h).set x5 rfl rfl
      have m1 := cMn.fr fr1 ns19 (by decide) (by decide)
      have hst1 := hst0.kp fr1 ns19 m1
      have x51 := hSet_s h k.2.1 (19, .inl [.ref k.1, .ref k.2.2.1, .int (nI seen), .int (nI (dep + 1))])
      have hE1 := (fr1.2.2 _ _ hE).1 (by intro z; cases z)
      have hta1 := (fr1.2.2 _ _ hta).1 (by intro z; cases z)
      have hps1 := hps.kp fr1 ns19 m1
      refine g_aload_n (pc := 0) dX19_template_0 rfl rfl ?_
      refine g_get (pc := 1) (r := (RX19, TX19, 4)) 0 dX19_template_1 x5 rfl (Nat.le_of_ble_eq_true rfl) q1426 (Or.inl rfl) rfl ?_
      refine g_getN (pc := 4) (r := (RX1, TX1, 8)) 1 dX19_template_4 hE rfl (Nat.le_of_ble_eq_true rfl) q495 (Or.inl rfl) rfl ?_
      refine g_iload_n (pc := 7) dX19_template_7 rfl rfl ?_
      refine g_aald (pc := 8) k0 dX19_template_8 hta rfl rfl hk4 rfl ?_
      rw [fk]
      refine g_ifnonnull (pc := 9) (tgt := 20) dX19_template_9 rfl ?_
      refine g_aload_n (pc := 20) dX19_template_20 rfl rfl ?_
      refine g_get (pc := 21) (r := (RX19, TX19, 4)) 3 dX19_template_21 x5 rfl (Nat.le_of_ble_eq_true rfl) q1433 (Or.inl rfl) rfl ?_
      refine g_iconst (pc := 24) (v := nI 3) dX19_template_24 rfl ?_
      refine g_icmp_neN (pc := 25) (tgt := 36) dX19_template_25 rfl (by omega) (by omega) (fun _ => ?_) (fun q_ => absurd q_ (by omega))
      refine g_aload_n (pc := 36) dX19_template_36 rfl rfl ?_
      refine g_dup (pc := 37) dX19_template_37 rfl ?_
      refine g_get (pc := 38) (r := (RX19, TX19, 4)) 3 dX19_template_38 x5 rfl (Nat.le_of_ble_eq_true rfl) q1433 (Or.inl rfl) rfl ?_
      refine g_iconst (pc := 41) (v := nI 1) dX19_template_41 rfl ?_
      first | refine g_iaddN (pc := 42) dX19_template_42 ?_ | refine g_iadd (pc := 42) dX19_template_42 ?_
      refine g_put (pc := 43) (r := (RX19, TX19, 4)) 3 dX19_template_43 x5 rfl (Nat.le_of_ble_eq_true rfl) q1433 (Or.inl rfl) rfl (by decide) (Or.inl rfl) (tyX19_ok 3 (Nat.le_of_ble_eq_true rfl)) rfl rfl ?_
      refine g_aload_n (pc := 46) dX19_template_46 rfl rfl ?_
      refine g_aload_n (pc := 47) dX19_template_47 rfl rfl ?_
      refine g_get (pc := 48) (r := (RX19, TX19, 4)) 0 dX19_template_48 x51 rfl (Nat.le_of_ble_eq_true rfl) q1426 (Or.inl rfl) rfl ?_
      refine g_getN (pc := 51) (r := (RX1, TX1, 8)) 1 dX19_template_51 hE1 rfl (Nat.le_of_ble_eq_true rfl) q495 (Or.inl rfl) rfl ?_
      refine g_iload_n (pc := 54) dX19_template_54 rfl rfl ?_
      refine g_aald (pc := 55) k0 dX19_template_55 hta1 rfl rfl hk4 rfl ?_
      rw [fk]
      refine g_aload_n (pc := 56) dX19_template_56 rfl rfl ?_
      refine g_iconst (pc := 57) (v := (-1)) dX19_template_57 rfl ?_
      refine g_invV (pc := 58) dX19_template_58 x51 rfl (IH (2 - dep) (by omega) k0 0 0 N G arr N G f T U C out seen (dep + 1) m CA none _ tm hps1 hst1 hr1 hcp (by omega) (by omega) (hlp T) (fun i z => by cases z) (by omega) (by omega)) meX19_render q1483 q1484 q1485 rfl rfl (Nat.le_of_ble_eq_true rfl) (fun κ z => z) (fun v h2 hp fr => ?_) (fun E h2 hp fr => ?_)
      · rcases hp with ⟨e1, out', seen', CA', m', y1, y2, y3, y4, y5⟩ | ⟨_, _, e1, _⟩
        · have e1 := Sum.inl.inj e1
          subst e1
          have hr3 := y2.dp (d' := dep) hk
          obtain ⟨c0', c1', c2', l1', l2', z1, z2, z3, z4, z5, z6, z7, z8, z9⟩ := y2
          have fr3 : hFr (fun κ => κ = 19) h2 (hSet h2 k.2.1 (19, .inl [.ref k.1, .ref k.2.2.1, .int (nI seen'), .int (nI dep)])) := (hFr.rf h2).set z5 rfl rfl
          have m3 := cMn.fr fr3 ns19 (by decide) (by decide)
          refine g_aload_n (pc := 61) dX19_template_61 rfl rfl ?_
          refine g_dup (pc := 62) dX19_template_62 rfl ?_
          refine g_get (pc := 63) (r := (RX19, TX19, 4)) 3 dX19_template_63 z5 rfl (Nat.le_of_ble_eq_true rfl) q1433 (Or.inl rfl) rfl ?_
          refine g_iconst (pc := 66) (v := nI 1) dX19_template_66 rfl ?_
          first | refine g_isubN (pc := 67) dX19_template_67 (by omega) ?_ | refine g_isub (pc := 67) dX19_template_67 ?_
          refine g_put (pc := 68) (r := (RX19, TX19, 4)) 3 dX19_template_68 z5 rfl (Nat.le_of_ble_eq_true rfl) q1433 (Or.inl rfl) rfl (by decide) (Or.inl rfl) (tyX19_ok 3 (Nat.le_of_ble_eq_true rfl)) rfl rfl ?_
          refine g_vret (pc := 71) dX19_template_71 rfl ?_
          exact Or.inr ⟨N, f, G, T, tm, Or.inr ⟨by omega, hps.nx, Or.inl ⟨rfl, out', seen', CA', m', y1, hr3, y3, y4, (m1.tr y5).tr m3⟩⟩⟩
        · cases e1
      · refine gx_out (fun x hx => by cases hx) ?_
        rcases hp with ⟨e1, _⟩ | ⟨q', E', e1, y2, y3, y4, y5⟩
        · cases e1
        · have e1 := Sum.inr.inj e1
          subst e1
          exact Or.inr ⟨N, f, G, T, tm, Or.inr ⟨by omega, hps.nx, Or.inr ⟨q', _, rfl, y2, y3, m1.tr y4, y5⟩⟩⟩
theorem pr_partial (e : Nat) (tv : Int32) (he : D.1 + 62 ≤ e) (hk4 : f ((T.1 g).2.1 + 2) - 97 < 4) (hk : k.2.2.2.2.2.1 = 2 ∨ k.2.2.2.2.2.1 = 3) (hB1 : k.2.2.2.2.2.2.1 + 9000 ≤ hLC Z) (hB2 : k.2.2.2.2.2.2.2 + 70000 ≤ hLS) (ht : Tm t = some (N, f, G, T)) (hx : nxT T G p g) (hgG : g < G) (hpp : p = (T.1 g).1) (hs : (T.1 g).2.2.2.2 = 10) (ha : h.2.2 a = some (18, .inl [.int (nI (f ((T.1 g).2.1 + 2) - 97))])) (hst : rSt Tm D w q k.1 ta h) (hr : rR D w k CA m C out seen seen dep h) (hd1 : 1 ≤ dep) (hd3 : dep ≤ 3) (hcp : cpU U = dep) (hU : U.length ≤ 5 * (dep - 1) + 4) (hC : C.length ≤ 4 * (dep - 1) + 5) (IH : ∀ j, dep + 1 + j = 3 → rCt Z Tm D w q k ta j 4 (e - 2)) : hCt Z mX18_render e (rS k.2.2.2.2.2.1) [.ref a, .ref k.2.1, .ref (CA (C.length - 1)), .int tv] h (rQ Tm D w k CA m C dep t U (t, p, U, C, out, seen) (T.1 g).2.2.2.1 h) := by
  obtain ⟨e, rfl⟩ : ∃ e', e = e' + 62 := ⟨e - 62, by omega⟩
  have ms := ms_tag (D := D) (U := U) (C := C) (out := out) (seen := seen) ht hx hgG hpp
  have hr0 := hr
  obtain ⟨c0, c1, c2, l1, l2, x1, x2, x3, x4, x5, x6, x7, x8, x9⟩ := hr
  have ns19 := cNS.one (n := 19) (Or.inl rfl)
  refine hCt.of pnX18 rfl (Nat.le_of_ble_eq_true rfl) rfl (fun X => ?_)
  refine g_aload_n (pc := 0) dX18_render_0 rfl rfl ?_
  refine g_invV (pc := 1) dX18_render_1 x5 rfl (rt_tagQ (e + 61) (by omega) hk hB1 hB2 hr0) meX19_tag q1725 q1498 q1499 rfl rfl (Nat.le_of_ble_eq_true rfl) (fun κ z => Or.inl z) (fun v h1 hp1 fr => ?_) (fun E h1 hp1 fr => ?_)
  · rcases hp1 with ⟨e1, e2, e3, m1⟩ | ⟨e1, _⟩
    · have e1 := Sum.inl.inj e1
      subst e1
      rw [mt_partial hs e2] at ms
      have hr1 : rR D w k CA m C out (seen + 1) (seen + 1) dep h1 := by
        obtain ⟨c0, c1, c2, l1, l2, y1, y2, y3, y4, y5, y6, y7, y8, y9⟩ := e3
        exact ⟨c0, c1, c2, l1, l2, y1, y2, y3, y4, y5, y6, by omega, Nat.le_refl _, by omega⟩
      have ha1 := (fr.2.2 _ _ ha).1 (by intro z; cases z)
      have x51 : ∃ z, h1.2.2 k.2.1 = some (19, .inl [.ref k.1, .ref k.2.2.1, z, .int (nI dep)]) := by
        obtain ⟨c0, c1, c2, l1, l2, y1, y2, y3, y4, y5, y6⟩ := hr1
        exact ⟨_, y5⟩
      obtain ⟨zz, x51⟩ := x51
      refine g_aload_n (pc := 4) dX18_render_4 rfl rfl ?_
      refine g_aload_n (pc := 5) dX18_render_5 rfl rfl ?_
      refine g_get (pc := 6) (r := (RX18, TX18, 1)) 0 dX18_render_6 ha1 rfl (Nat.le_of_ble_eq_true rfl) q1388 (Or.inl rfl) rfl ?_
      refine g_aload_n (pc := 9) dX18_render_9 rfl rfl ?_
      refine g_invV (pc := 10) dX18_render_10 x51 rfl (rt_template (U := .inl (t, g) :: U) (e + 61) (f ((T.1 g).2.1 + 2) - 97) (by omega) hk4 hk hB1 hB2 (hst.kp fr ns19 m1) hr1 hd3 (by show cpU U + 1 = dep + 1; rw [hcp]) (fun _ => rfl) (by simp only [List.length_cons]; omega) (by omega) (fun j hj => IH j hj)) meX19_template q1726 q1473 q1474 rfl rfl (Nat.le_of_ble_eq_true rfl) (fun κ z => z) (fun v h2 hp2 fr2 => ?_) (fun E h2 hp2 fr2 => ?_)
      · rcases hp2 with ⟨_, e1, _⟩ | ⟨N', f', G', T', tm, ⟨_, e1, _⟩ | ⟨d3, nx, rq⟩⟩
        · cases e1
        · cases e1
        · rcases rq with ⟨e1, out', seen', CA', m', y1, y2, y3, y4, y5⟩ | ⟨_, _, e1, _⟩
          · have e1 := Sum.inl.inj e1
            subst e1
            refine g_vret (pc := 13) dX18_render_13 rfl ?_
            rw [tm] at ms
            rw [if_neg (fun z => by cases z), if_neg (by omega), if_neg (by omega)] at ms
            exact Or.inl ⟨rfl, out', seen', CA', m', ((mTo.one ms).trans y1).trans (mTo.one (ms_end tm nx ht)), y2, y3, y4, m1.tr y5⟩
          · cases e1
      · refine gx_out (fun x hx => by cases hx) ?_
        rcases hp2 with ⟨tm, e1, z1, z2, z3⟩ | ⟨N', f', G', T', tm, ⟨d3, e1, z1, z2, z3⟩ | ⟨d3, nx, rq⟩⟩
        · have e1 := Sum.inr.inj e1
          subst e1
          rw [tm] at ms
          exact Or.inr ⟨2, _, rfl, Or.inl ⟨rfl, rfl⟩, mFn.one ms, m1.tr z1, z2, z3⟩
        · have e1 := Sum.inr.inj e1
          subst e1
          rw [tm] at ms
          rw [if_neg (fun z => by cases z), if_pos (by omega)] at ms
          exact Or.inr ⟨3, _, rfl, Or.inr (Or.inl ⟨rfl, rfl⟩), mFn.one ms, m1.tr z1, z2, z3⟩
        · rcases rq with ⟨e1, _⟩ | ⟨q', E', e1, y2, y3, y4, y5⟩
          · cases e1
          · rw [tm] at ms
            rw [if_neg (fun z => by cases z), if_neg (by omega), if_neg (by omega)] at ms
            exact Or.inr ⟨q', E', e1, y2, (mTo.one ms).fin y3, m1.tr y4, y5⟩
    · cases e1
  · refine gx_out (fun x hx => by cases hx) ?_
    rcases hp1 with ⟨e1, _⟩ | ⟨e1, e2, e3, e4, e5⟩
    · cases e1
    · have e1 := Sum.inr.inj e1
      subst e1
      rw [e2, mt_600 (by omega)] at ms
      rw [e2]
      exact Or.inr ⟨4, _, rfl, Or.inr (Or.inr ⟨rfl, rfl⟩), mFn.one ms, e3, e4, e5⟩
end CB
