/-! COMPONENT 21: the Parts that have nothing inside -/
set_option maxRecDepth 100000
theorem hCt.wk {Z : hE} {M : hM} {d : Nat} {S : Nat → Prop} {av : List Value} {h : hP} {K K2 : hO → hP → Prop} (c : hCt Z M d S av h K) (hk : ∀ r h', K r h' → hFr S h h' → K2 r h') : hCt Z M d S av h K2 := by
  intro hZ
  have hM := c hZ
  intro p e x1 x2 x3 s m args below y1 y2 y3 y4
  obtain ⟨k, o, z1, z2, z3, z4⟩ := hM p e x1 x2 x3 s m args below y1 y2 y3 y4
  refine ⟨k, o, z1, z2, z3, ?_⟩
  rcases z4 with ⟨⟨v, h', g1, g2, g3, g4, g5⟩, z5⟩ | ⟨q, w1, E, ce, L, ⟨h', g2, g3, g4, g5⟩, w3⟩
  · exact Or.inl ⟨⟨v, h', g1, g2, g3, g4, hk _ _ g5 g4⟩, z5⟩
  · exact Or.inr ⟨q, w1, E, ce, L, ⟨h', g2, g3, g4, hk _ _ g5 g4⟩, w3⟩
theorem hDs.wk {Z : hE} {d : Nat} {S : Nat → Prop} {b : Nat} {As : List Value} {h : hP} {K K2 : hO → hP → Prop} {L : List (Nat × hM)} (c : hDs Z d S b As h K L) (hk : ∀ r h', K r h' → hFr S h h' → K2 r h') : hDs Z d S b As h K2 L := by
  obtain ⟨κ, fs, M', b1, b2, b3⟩ := c
  exact ⟨κ, fs, M', b1, b2, b3.wk hk⟩
def exN (k : Nat) (E : String) : Prop := (k = 2 ∧ E = NSEE) ∨ (k = 3 ∧ E = AEX) ∨ (k = 4 ∧ E = ISE)
/-- after a Part: the machine has come to p', or it ends with a fault -/
def rQ (Tm : Nat → Option aT) (D : aD) (w : cW) (k : rE) (CA : Nat → Nat) (m : Nat) (C : List aV) (dep t : Nat) (U : List aU) (c0 : aM) (p' : Nat) (h : hP) : hO → hP → Prop := fun r h' =>
  (r = .inl none ∧ ∃ out' seen' CA' m', mTo Tm D c0 (t, p', U, C, out', seen') ∧ rR D w k CA' m' C out' seen' seen' dep h' ∧ m ≤ m' ∧ (∀ i, i ≤ m → CA' i = CA i) ∧ cMn h h') ∨
  (∃ q E, r = .inr E ∧ exN q E ∧ mFn Tm D c0 (.inl q) ∧ cMn h h' ∧ h'.1 ≤ k.2.2.2.2.2.2.1 + 9000 ∧ h'.2.1 ≤ k.2.2.2.2.2.2.2 + 70000)
theorem rR.rm {D : aD} {w : cW} {k : rE} {CA : Nat → Nat} {m : Nat} {C : List aV} {out : List Nat} {seen sb dep : Nat} {h : hP} (x : rR D w k CA m C out seen sb dep h) : h.1 ≤ k.2.2.2.2.2.2.1 + 4300 ∧ h.2.1 ≤ k.2.2.2.2.2.2.2 + 53000 := by
  obtain ⟨c0, c1, c2, l1, l2, x1, x2, x3, x4, x5, x6, x7, x8, x9⟩ := x
  have := x1.1
  have := x2.1
  have := x3.1
  have := x4.2.2.1
  constructor <;> omega
/-- what does not change in a rendering -/
def rSt (Tm : Nat → Option aT) (D : aD) (w : cW) (q E ta : Nat) (h : hP) : Prop := (∃ e0 e2 e3 e4 e5 e6 e7, h.2.2 E = some (1, .inl [e0, .ref ta, e2, e3, e4, e5, e6, e7])) ∧ cTs h ta Tm ∧ cD D w h q
theorem rSt.kp {Tm : Nat → Option aT} {D : aD} {w : cW} {q E ta : Nat} {h h' : hP} {S : Nat → Prop} (f : hFr S h h') (n : cNS S) (mn : cMn h h') (x : rSt Tm D w q E ta h) : rSt Tm D w q E ta h' := by
  obtain ⟨⟨e0, e2, e3, e4, e5, e6, e7, x1⟩, x2, x3⟩ := x
  exact ⟨⟨e0, e2, e3, e4, e5, e6, e7, (f.2.2 _ _ x1).1 (n 1 (by decide))⟩, x2.kp f n mn, x3.kp f n mn⟩
section MT
variable {Tm : Nat → Option aT} {D : aD} {t j seen : Nat} {f : Nat → Nat} {T : tTb} {U : List aU} {C : List aV} {out : List Nat}
theorem mt_600 (hs : ¬ (5 < (T.1 j).2.2.2.2 ∧ (T.1 j).2.2.2.2 < 10)) : mTag Tm D f T t j U C out 600 = .inr (.inl 4) := by
  unfold mTag
  dsimp only
  rw [if_neg hs, if_pos rfl]
theorem mt_remark (hs : (T.1 j).2.2.2.2 = 2) (h6 : seen < 600) : mTag Tm D f T t j U C out seen = .inl (t, (T.1 j).2.2.2.1, U, C, out, seen + 1) := by
  unfold mTag
  dsimp only
  rw [if_neg (by omega), if_neg (by omega), if_neg (by omega), if_neg (by omega), if_neg (by omega)]
theorem mt_shown (hs : (T.1 j).2.2.2.2 < 2) (h6 : seen < 600) : mTag Tm D f T t j U C out seen = (match evE D C (lpU T U) (exO f (T.1 j).2.2.1 (T.1 j).2.1) with
    | none => .inr (.inl 4)
    | some v => if 400 < (shw D v).length ∨ 400 < out.length + (shO (decide ((T.1 j).2.2.2.2 = 1)) (shw D v)).length then .inr (.inl 4) else .inl (t, (T.1 j).2.2.2.1, U, C, out ++ shO (decide ((T.1 j).2.2.2.2 = 1)) (shw D v), seen + 1)) := by
  unfold mTag
  dsimp only
  rw [if_neg (by omega), if_neg (by omega), if_neg (by omega), if_neg (by omega), if_pos (by omega)]
  rfl
theorem mt_partial (hs : (T.1 j).2.2.2.2 = 10) (h6 : seen < 600) : mTag Tm D f T t j U C out seen = if (Tm (f ((T.1 j).2.1 + 2) - 97)).isNone then .inr (.inl 2) else if cpU U = 3 then .inr (.inl 3) else if 18 < U.length then .inr (.inl 0) else .inl (f ((T.1 j).2.1 + 2) - 97, 0, .inl (t, j) :: U, C, out, seen + 1) := by
  unfold mTag
  dsimp only
  rw [if_neg (by omega), if_neg (by omega), if_neg (by omega), if_pos (by omega)]
theorem mt_block (h1 : 3 ≤ (T.1 j).2.2.2.2) (h2 : (T.1 j).2.2.2.2 ≤ 5) (h6 : seen < 600) : mTag Tm D f T t j U C out seen = (match evE D C (lpU T U) (exO f (T.1 j).2.2.1 ((T.1 j).2.1 + (if (T.1 j).2.2.2.2 = 3 then 4 else 6))) with
    | none => .inr (.inl 4)
    | some v => mBlk D T t j U C out (seen + 1) v) := by
  unfold mTag
  dsimp only
  rw [if_neg (by omega), if_neg (by omega), if_pos (by omega)]
  rfl
theorem mt_end (h1 : 6 ≤ (T.1 j).2.2.2.2) (h2 : (T.1 j).2.2.2.2 ≤ 9) : mTag Tm D f T t j U C out seen = mEnd D T t U C out seen := by
  unfold mTag
  dsimp only
  rw [if_pos (by omega)]
end MT
section CP
variable {Z : hE} {h : hP} {Tm : Nat → Option aT} {D : aD} {w : cW} {k : rE} {CA : Nat → Nat} {m q ta : Nat} {C : List aV} {out : List Nat} {seen dep t p g p' g' N G a : Nat} {f : Nat → Nat} {T : tTb} {U : List aU}
/-- the writer's contract takes the rendering along -/
theorem rR.wr {c0 c1 c2 cap' : Nat} {l1 l2 out' : List Nat} {sb : Nat} {h' : hP} (hk : k.2.2.2.2.2.1 = 2 ∨ k.2.2.2.2.2.1 = 3) (x2 : cO h 4 k.2.2.2.1 c1 l1) (x3 : cO h 5 k.2.2.2.2.1 c2 l2) (x4 : cCh D w CA m k.2.2.2.1 k.2.2.2.2.1 C h) (x5 : h.2.2 k.2.1 = some (19, .inl [.ref k.1, .ref k.2.2.1, .int (nI seen), .int (nI dep)])) (x6 : seen ≤ 600) (x7 : h.1 ≤ k.2.2.2.2.2.2.1 + c0 + c1 + c2 + 3 * sb + m) (x8 : sb ≤ seen) (x9 : h.2.1 ≤ k.2.2.2.2.2.2.2 + 2 * c0 + 2 * c1 + 2 * c2 + 80 * sb + 5 * m) (fr : hFr (jSS k.2.2.2.2.2.1) h h') (y1 : cO h' k.2.2.2.2.2.1 k.2.2.1 cap' out') (gr : jGr h h' c0 cap' 400) : rR D w k CA m C out' seen sb dep h' := by
  obtain ⟨g1, g2, g3, g4⟩ := gr
  have hg : 2 ≤ k.2.2.2.2.2.1 ∧ k.2.2.2.2.2.1 < 9 := by omega
  refine ⟨cap', c1, c2, l1, l2, y1, x2.fr fr ?_ ?_ ?_, x3.fr fr ?_ ?_ ?_, x4.kp fr (cNS.jss _ hg) (cMn.jss fr hg) ?_, (fr.2.2 _ _ x5).1 ?_, x6, by omega, x8, by omega⟩
  all_goals (rintro (z | z) <;> omega)
theorem pr_plain (e s κ ca : Nat) (tv : Int32) (he : 8 ≤ e) (hk : k.2.2.2.2.2.1 = 2 ∨ k.2.2.2.2.2.1 = 3) (hB1 : k.2.2.2.2.2.2.1 + 9000 ≤ hLC Z) (hB2 : k.2.2.2.2.2.2.2 + 70000 ≤ hLS) (ht : Tm t = some (N, f, G, T)) (hx : nxT T G p g) (ha : h.2.2 a = some (10, .inl [.ref s])) (hs : jSt h κ s (sgF f p (p' - p))) (hp : p < p') (hp' : p' = stpT T G N g) (h1000 : p' - p ≤ 1000) (hr : rR D w k CA m C out seen seen dep h) : hCt Z mX10_render e (rS k.2.2.2.2.2.1) [.ref a, .ref k.2.1, .ref ca, .int tv] h (rQ Tm D w k CA m C dep t U (t, p, U, C, out, seen) p' h) := by
  obtain ⟨e, rfl⟩ : ∃ e', e = e' + 8 := ⟨e - 8, by omega⟩
  have rm := hr.rm
  have hg : 2 ≤ k.2.2.2.2.2.1 ∧ k.2.2.2.2.2.1 < 9 := by omega
  obtain ⟨c0, c1, c2, l1, l2, x1, x2, x3, x4, x5, x6, x7, x8, x9⟩ := hr
  have x10 := x1
  obtain ⟨a1, a2, at1, a3, a4⟩ := x1
  have ms := ms_plain (D := D) (U := U) (C := C) (out := out) (seen := seen) ht hx (by omega)
  rw [← hp'] at ms
  have hsl : (sgF f p (p' - p)).length = p' - p := sgF_len
  have kc := k02 k.2.2.2.2.2.1
  refine hCt.of pnX10 rfl (Nat.le_of_ble_eq_true rfl) rfl (fun X => ?_)
  refine g_aload_n (pc := 0) dX10_render_0 rfl rfl ?_
  refine g_get (pc := 1) (r := (RX19, TX19, 4)) 1 dX10_render_1 x5 rfl (Nat.le_of_ble_eq_true rfl) q1428 (Or.inl rfl) rfl ?_
  refine g_aload_n (pc := 4) dX10_render_4 rfl rfl ?_
  refine g_get (pc := 5) (r := (RX10, TX10, 1)) 0 dX10_render_5 ha rfl (Nat.le_of_ble_eq_true rfl) q1139 (Or.inl rfl) rfl ?_
  refine g_invV (pc := 8) dX10_render_8 a3 kc (co_add e κ s _ x10 hs (by omega) (by omega) (by omega)) meX2_add q1733 q1583 q1584 rfl rfl (Nat.le_of_ble_eq_true rfl) rS_g (fun v h1 hp1 fr => ?_) (fun E h1 hp1 fr => ?_)
  · rcases hp1 with ⟨e1, e2, cap', e3, gr⟩ | ⟨e1, _⟩
    · have e1 := Sum.inl.inj e1
      subst e1
      refine g_vret (pc := 11) dX10_render_11 rfl ?_
      rw [hsl] at e2
      rw [if_neg (by omega)] at ms
      exact Or.inl ⟨rfl, _, seen, CA, m, mTo.one ms, rR.wr hk x2 x3 x4 x5 x6 x7 x8 x9 fr e3 gr, Nat.le_refl _, fun i _ => rfl, cMn.jss fr hg⟩
    · cases e1
  · refine gx_out (fun x hx => by cases hx) ?_
    rcases hp1 with ⟨e1, _⟩ | ⟨e1, e2, e3⟩
    · cases e1
    · have e1 := Sum.inr.inj e1
      subst e1
      rw [hsl] at e2
      rw [if_pos (by omega)] at ms
      have := e3.1
      have := e3.2
      exact Or.inr ⟨4, _, rfl, Or.inr (Or.inr ⟨rfl, rfl⟩), mFn.one ms, cMn.jss fr hg, by omega, by omega⟩
/-- a tag is come to: counted, or too many -/
theorem rt_tagQ (e : Nat) (he : 7 ≤ e) (hk : k.2.2.2.2.2.1 = 2 ∨ k.2.2.2.2.2.1 = 3) (hB1 : k.2.2.2.2.2.2.1 + 9000 ≤ hLC Z) (hB2 : k.2.2.2.2.2.2.2 + 70000 ≤ hLS) (hr : rR D w k CA m C out seen seen dep h) : hCt Z mX19_tag e (fun κ => κ = 19) [.ref k.2.1] h (fun r h' => (r = .inl none ∧ seen < 600 ∧ rR D w k CA m C out (seen + 1) seen dep h' ∧ cMn h h') ∨ (r = .inr ISE ∧ seen = 600 ∧ cMn h h' ∧ h'.1 ≤ k.2.2.2.2.2.2.1 + 9000 ∧ h'.2.1 ≤ k.2.2.2.2.2.2.2 + 70000)) := by
  obtain ⟨e, rfl⟩ : ∃ e', e = e' + 7 := ⟨e - 7, by omega⟩
  have rm := hr.rm
  refine (rt_tag e hk hr (by omega) (by omega)).wk (fun r h' x fr => ?_)
  have mn := cMn.fr fr (cNS.one (Or.inl rfl)) (by decide) (by decide)
  rcases x with ⟨x1, x2, x3, x4, x5⟩ | ⟨x1, x2, x3⟩
  · exact Or.inl ⟨x1, x2, x3, mn⟩
  · have := x3.1
    have := x3.2
    exact Or.inr ⟨x1, x2, mn, by omega, by omega⟩
theorem pr_remark (e ca : Nat) (tv : Int32) (he : 8 ≤ e) (hk : k.2.2.2.2.2.1 = 2 ∨ k.2.2.2.2.2.1 = 3) (hB1 : k.2.2.2.2.2.2.1 + 9000 ≤ hLC Z) (hB2 : k.2.2.2.2.2.2.2 + 70000 ≤ hLS) (ht : Tm t = some (N, f, G, T)) (hx : nxT T G p g) (hgG : g < G) (hpp : p = (T.1 g).1) (hs : (T.1 g).2.2.2.2 = 2) (hr : rR D w k CA m C out seen seen dep h) : hCt Z mX16_render e (rS k.2.2.2.2.2.1) [.ref a, .ref k.2.1, .ref ca, .int tv] h (rQ Tm D w k CA m C dep t U (t, p, U, C, out, seen) (T.1 g).2.2.2.1 h) := by
  obtain ⟨e, rfl⟩ : ∃ e', e = e' + 8 := ⟨e - 8, by omega⟩
  have ms := ms_tag (D := D) (U := U) (C := C) (out := out) (seen := seen) ht hx hgG hpp
  have hr0 := hr
  obtain ⟨c0, c1, c2, l1, l2, x1, x2, x3, x4, x5, x6, x7, x8, x9⟩ := hr
  refine hCt.of pnX16 rfl (Nat.le_of_ble_eq_true rfl) rfl (fun X => ?_)
  refine g_aload_n (pc := 0) dX16_render_0 rfl rfl ?_
  refine g_invV (pc := 1) dX16_render_1 x5 rfl (rt_tagQ (e + 7) (by omega) hk hB1 hB2 hr0) meX19_tag q1740 q1498 q1499 rfl rfl (Nat.le_of_ble_eq_true rfl) (fun κ z => Or.inl z) (fun v h1 hp1 fr => ?_) (fun E h1 hp1 fr => ?_)
  · rcases hp1 with ⟨e1, e2, e3, e4⟩ | ⟨e1, _⟩
    · have e1 := Sum.inl.inj e1
      subst e1
      refine g_vret (pc := 4) dX16_render_4 rfl ?_
      rw [mt_remark hs e2] at ms
      obtain ⟨c0, c1, c2, l1, l2, y1, y2, y3, y4, y5, y6, y7, y8, y9⟩ := e3
      exact Or.inl ⟨rfl, _, _, CA, m, mTo.one ms, ⟨c0, c1, c2, l1, l2, y1, y2, y3, y4, y5, y6, by omega, Nat.le_refl _, by omega⟩, Nat.le_refl _, fun i _ => rfl, e4⟩
    · cases e1
  · refine gx_out (fun x hx => by cases hx) ?_
    rcases hp1 with ⟨e1, _⟩ | ⟨e1, e2, e3, e4, e5⟩
    · cases e1
    · have e1 := Sum.inr.inj e1
      subst e1
      rw [e2, mt_600 (by omega)] at ms
      rw [e2]
      exact Or.inr ⟨4, _, rfl, Or.inr (Or.inr ⟨rfl, rfl⟩), mFn.one ms, e3, e4, e5⟩
/-- an expression in a rendering -/
theorem rr_eval (e n x : Nat) (ex : aE) (tn : Option Nat) (he : D.1 + 40 ≤ e) (hn : C.length = n + 1) (ht : ∀ i, tn = some i → i < 10) (hB1 : k.2.2.2.2.2.2.1 + 9000 ≤ hLC Z) (hB2 : k.2.2.2.2.2.2.2 + 70000 ≤ hLS) (hk : k.2.2.2.2.2.1 = 2 ∨ k.2.2.2.2.2.1 = 3) (hx : cEx h ex x) (hD : cD D w h q) (hr : rR D w k CA m C out (seen + 1) seen dep h) : hDs Z e eKd x [.ref (CA (C.length - 1)), .int (tI tn)] h (fun r h' => (∃ y v, r = .inl (some y) ∧ evE D C tn ex = some v ∧ cV D w.1 h' (n + 1) v y ∧ rR D w k CA m C out (seen + 1) (seen + 1) dep h' ∧ cMn h h') ∨ (r = .inr ISE ∧ evE D C tn ex = none ∧ cMn h h' ∧ h'.1 ≤ k.2.2.2.2.2.2.1 + 9000 ∧ h'.2.1 ≤ k.2.2.2.2.2.2.2 + 70000)) vlL := by
  have rm := hr.rm
  obtain ⟨c0, c1, c2, l1, l2, x1, x2, x3, x4, x5, x6, x7, x8, x9⟩ := hr
  have h14 := x4.2.1
  have h15 := x4.2.2.1
  refine (cv_ex (Z := Z) e ex tn (by omega) hn ht hx x4 hD x2 x3 (by omega) (by omega)).wk (fun r h' z fr => ?_)
  rcases z with ⟨y, v, c1', c2', l1', l2', z1, z2, z3, z4, z5, z6, z7, z8, z9, z10⟩ | ⟨z1, z2, z3, z4, z5⟩
  · refine Or.inl ⟨y, v, z1, z2, z3, ⟨c0, c1', c2', l1', l2', x1.fr fr ?_ ?_ ?_, z4, z5, x4.kp fr cNS.eKd z10 ?_, (fr.2.2 _ _ x5).1 ?_, x6, by omega, Nat.le_refl _, by omega⟩, z10⟩
    all_goals (rintro (z | z | (z | z) | (z | z)) <;> omega)
  · exact Or.inr ⟨z1, z2, z5, by omega, by omega⟩
end CP
theorem dv_X11 {Z : hE} {X : hX} {d : Nat} {S : Nat → Prop} {hin : hP} {K : hO → hP → Prop} {ls : List (Nat × Value)} {h : hP} {S' : Nat → Prop} {K' : hO → hP → Prop} {b : Nat} {A1 A2 : Value} {rest : List Value} (hc : hDs Z d S' b [A1, A2] h K' [(12, mX12_value), (13, mX13_value), (14, mX14_value), (15, mX15_value)]) (hw : (rest.map fun v => v.category).sum ≤ 8) (hS : ∀ κ, S' κ → S κ)
    (kn : ∀ v h', K' (.inl v) h' → hFr S' h h' → hG Z X mX11_render (d + 1) S hin K (10 + 5) ls (v.toList ++ rest) h')
    (kx : ∀ E h', K' (.inr E) h' → hFr S' h h' → hGX Z X mX11_render (d + 1) S hin K 10 ls E h') : hG Z X mX11_render (d + 1) S hin K 10 ls (A2 :: A1 :: .ref b :: rest) h := by
  obtain ⟨κ, fs, M', hb, hm, hct⟩ := hc
  simp only [List.mem_cons, Prod.mk.injEq, List.not_mem_nil, or_false] at hm
  rcases hm with ⟨hk, rfl⟩ | ⟨hk, rfl⟩ | ⟨hk, rfl⟩ | ⟨hk, rfl⟩
  · exact g_invF (pc := 10) dX11_render_10 (r := (RX12, TX12, 1)) hb (by rw [hk]; rfl) hct meX12_value q1749 q1545 q1543 q1506 q1505 q1546 q1544 q1542 ⟨⟨by decide, by decide⟩, rfl⟩ rfl rfl hw hS kn kx
  · exact g_invF (pc := 10) dX11_render_10 (r := (RX13, TX13, 1)) hb (by rw [hk]; rfl) hct meX13_value q1749 q1510 q1508 q1506 q1505 q1511 q1509 q1507 ⟨⟨by decide, by decide⟩, rfl⟩ rfl rfl hw hS kn kx
  · exact g_invF (pc := 10) dX11_render_10 (r := (RX14, TX14, 2)) hb (by rw [hk]; rfl) hct meX14_value q1749 q1524 q1522 q1506 q1505 q1525 q1523 q1521 ⟨⟨by decide, by decide⟩, rfl⟩ rfl rfl hw hS kn kx
  · exact g_invF (pc := 10) dX11_render_10 (r := (RX15, TX15, 3)) hb (by rw [hk]; rfl) hct meX15_value q1749 q1516 q1514 q1506 q1505 q1517 q1515 q1513 ⟨⟨by decide, by decide⟩, rfl⟩ rfl rfl hw hS kn kx
theorem dw_X11 {Z : hE} {X : hX} {d : Nat} {S : Nat → Prop} {hin : hP} {K : hO → hP → Prop} {ls : List (Nat × Value)} {h : hP} {S' : Nat → Prop} {K' : hO → hP → Prop} {b : Nat} {A1 : Value} {rest : List Value} (hc : hDs Z d S' b [A1] h K' [(5, mX5_write), (6, mX6_write), (7, mX7_write), (8, mX8_write), (21, mX21_write)]) (hw : (rest.map fun v => v.category).sum ≤ 8) (hS : ∀ κ, S' κ → S κ)
    (kn : ∀ v h', K' (.inl v) h' → hFr S' h h' → hG Z X mX11_render (d + 1) S hin K (36 + 3) ls (v.toList ++ rest) h')
    (kx : ∀ E h', K' (.inr E) h' → hFr S' h h' → hGX Z X mX11_render (d + 1) S hin K 36 ls E h') : hG Z X mX11_render (d + 1) S hin K 36 ls (A1 :: .ref b :: rest) h := by
  obtain ⟨κ, fs, M', hb, hm, hct⟩ := hc
  simp only [List.mem_cons, Prod.mk.injEq, List.not_mem_nil, or_false] at hm
  rcases hm with ⟨hk, rfl⟩ | ⟨hk, rfl⟩ | ⟨hk, rfl⟩ | ⟨hk, rfl⟩ | ⟨hk, rfl⟩
  · exact g_invU (pc := 36) dX11_render_36 (r := (RX5, TX5, 2)) hb (by rw [hk]; rfl) hct meX5_write q1750 q1573 (Or.inl q1572) q1595 q1631 ⟨⟨by decide, by decide⟩, rfl⟩ rfl rfl hw hS kn kx
  · exact g_invU (pc := 36) dX11_render_36 (r := (RX6, TX6, 3)) hb (by rw [hk]; rfl) hct meX6_write q1750 q1573 (Or.inl q1572) q1605 q1632 ⟨⟨by decide, by decide⟩, rfl⟩ rfl rfl hw hS kn kx
  · exact g_invU (pc := 36) dX11_render_36 (r := (RX7, TX7, 3)) hb (by rw [hk]; rfl) hct meX7_write q1750 q1573 (Or.inl q1572) q1579 q1629 ⟨⟨by decide, by decide⟩, rfl⟩ rfl rfl hw hS kn kx
  · exact g_invU (pc := 36) dX11_render_36 (r := (RX8, TX8, 4)) hb (by rw [hk]; rfl) hct meX8_write q1750 q1573 (Or.inl q1572) q1591 q1630 ⟨⟨by decide, by decide⟩, rfl⟩ rfl rfl hw hS kn kx
  · exact g_invU (pc := 36) dX11_render_36 (r := (RX21, TX21, 3)) hb (by rw [hk]; rfl) hct meX21_write q1750 q1573 (Or.inl q1572) q1575 q1574 ⟨⟨by decide, by decide⟩, rfl⟩ rfl rfl hw hS kn kx
section CP
variable {Z : hE} {h : hP} {Tm : Nat → Option aT} {D : aD} {w : cW} {k : rE} {CA : Nat → Nat} {m q ta : Nat} {C : List aV} {out : List Nat} {seen dep t p g p' g' N G a : Nat} {f : Nat → Nat} {T : tTb} {U : List aU}
theorem pr_shown (e n x : Nat) (tn : Option Nat) (he : D.1 + 42 ≤ e) (hn : C.length = n + 1) (htn : ∀ i, tn = some i → i < 10) (hlp : lpU T U = tn) (hk : k.2.2.2.2.2.1 = 2 ∨ k.2.2.2.2.2.1 = 3) (hB1 : k.2.2.2.2.2.2.1 + 9000 ≤ hLC Z) (hB2 : k.2.2.2.2.2.2.2 + 70000 ≤ hLS) (ht : Tm t = some (N, f, G, T)) (hx : nxT T G p g) (hgG : g < G) (hpp : p = (T.1 g).1) (hs : (T.1 g).2.2.2.2 < 2) (ha : h.2.2 a = some (11, .inl [.ref x, .int (nI (T.1 g).2.2.2.2)])) (hex : cEx h (exO f (T.1 g).2.2.1 (T.1 g).2.1) x) (hD : cD D w h q) (hr : rR D w k CA m C out seen seen dep h) : hCt Z mX11_render e (rS k.2.2.2.2.2.1) [.ref a, .ref k.2.1, .ref (CA (C.length - 1)), .int (tI tn)] h (rQ Tm D w k CA m C dep t U (t, p, U, C, out, seen) (T.1 g).2.2.2.1 h) := by
  obtain ⟨e, rfl⟩ : ∃ e', e = e' + 42 := ⟨e - 42, by omega⟩
  have hg : 2 ≤ k.2.2.2.2.2.1 ∧ k.2.2.2.2.2.1 < 9 := by omega
  have ms := ms_tag (D := D) (U := U) (C := C) (out := out) (seen := seen) ht hx hgG hpp
  have hr0 := hr
  obtain ⟨c0, c1, c2, l1, l2, x1, x2, x3, x4, x5, x6, x7, x8, x9⟩ := hr
  have kc := k02 k.2.2.2.2.2.1
  have n12 : n ≤ 13 := by have := x4.2.1; have := x4.2.2.1; omega
  refine hCt.of pnX11 rfl (Nat.le_of_ble_eq_true rfl) rfl (fun X => ?_)
  refine g_aload_n (pc := 0) dX11_render_0 rfl rfl ?_
  refine g_invV (pc := 1) dX11_render_1 x5 rfl (rt_tagQ (e + 41) (by omega) hk hB1 hB2 hr0) meX19_tag q1747 q1498 q1499 rfl rfl (Nat.le_of_ble_eq_true rfl) (fun κ z => Or.inl z) (fun v h1 hp1 fr => ?_) (fun E h1 hp1 fr => ?_)
  · rcases hp1 with ⟨e1, e2, hr1, m1⟩ | ⟨e1, _⟩
    · have e1 := Sum.inl.inj e1
      subst e1
      rw [mt_shown hs e2, hlp] at ms
      have ns19 := cNS.one (n := 19) (Or.inl rfl)
      have ha1 := (fr.2.2 _ _ ha).1 (by intro z; cases z)
      have hD1 := hD.kp fr ns19 m1
      refine g_aload_n (pc := 4) dX11_render_4 rfl rfl ?_
      refine g_get (pc := 5) (r := (RX11, TX11, 2)) 0 dX11_render_5 ha1 rfl (Nat.le_of_ble_eq_true rfl) q1330 (Or.inl rfl) rfl ?_
      refine g_aload_n (pc := 8) dX11_render_8 rfl rfl ?_
      refine g_iload_n (pc := 9) dX11_render_9 rfl rfl ?_
      refine dv_X11 (rr_eval (q := q) (e + 41) n x _ tn (by omega) hn htn hB1 hB2 hk (hex.kp fr ns19 m1) hD1 hr1) (Nat.le_of_ble_eq_true rfl) rS_e (fun v h2 hp2 fr2 => ?_) (fun E h2 hp2 fr2 => ?_)
      · rcases hp2 with ⟨y, v', e1, ev, hv, hr2, m2⟩ | ⟨e1, _⟩
        · have e1 := Sum.inl.inj e1
          subst e1
          rw [ev] at ms
          dsimp only at ms
          have hyn := hv.nr
          have rm2 := hr2.rm
          have hr20 := hr2
          obtain ⟨d0, d1, d2, k1, k2, y1, y2, y3, y4, y5, y6, y7, y8, y9⟩ := hr2
          have y10 := y1
          have y20 := y2
          obtain ⟨a1, a2, at1, a3, a4⟩ := y1
          obtain ⟨b1, b2, bt1, b3, b4⟩ := y2
          have ha2 := (fr2.2.2 _ _ ha1).1 (by rintro (z | z | (z | z) | (z | z)) <;> omega)
          have hD2 := hD1.kp fr2 cNS.eKd m2
          obtain ⟨xc, hcc, -⟩ := y4.2.2.2.2 n (by have := y4.2.1; omega)
          refine g_astoreX (pc := 15) (ls' := [(0, _), (1, _), (2, _), (3, _), (4, _)]) dX11_render_15 (Nat.le_of_ble_eq_true rfl) rfl hyn ?_
          refine g_aloadX (pc := 17) dX11_render_17 rfl hyn ?_
          rcases hyn with rfl | ⟨c, rfl⟩
          · have hz := hv.nul
            subst hz
            refine g_ifnonnullN (pc := 19) dX11_render_19 ?_
            refine g_vret (pc := 22) dX11_render_22 rfl ?_
            have hol := a2
            have e0 : shO (decide ((T.1 g).2.2.2.2 = 1)) (shw D none) = [] := by
              show shO _ [] = []
              unfold shO
              split <;> rfl
            rw [e0, if_neg (by show ¬ (400 < 0 ∨ 400 < out.length + 0); omega), List.append_nil] at ms
            exact Or.inl ⟨rfl, _, _, CA, m, mTo.one ms, hr20, Nat.le_refl _, fun i _ => rfl, m1.tr m2⟩
          ·
            refine g_ifnonnull (pc := 19) (tgt := 23) dX11_render_19 rfl ?_
            refine g_aload_n (pc := 23) dX11_render_23 rfl rfl ?_
            refine g_get (pc := 24) (r := (RX11, TX11, 2)) 1 dX11_render_24 ha2 rfl (Nat.le_of_ble_eq_true rfl) q1331 (Or.inl rfl) rfl ?_
            by_cases hraw : (T.1 g).2.2.2.2 = 1
            · rw [hraw]
              rw [show shO (decide ((T.1 g).2.2.2.2 = 1)) (shw D v') = shw D v' by rw [decide_eq_true hraw]; rfl] at ms
              refine g_if_eq (pc := 27) (tgt := 42) dX11_render_27 rfl (fun q_ => absurd q_ (by decide)) (fun _ => ?_)
              refine g_aload (pc := 30) dX11_render_30 rfl ?_
              refine g_aload_n (pc := 32) dX11_render_32 rfl rfl ?_
              refine g_get (pc := 33) (r := (RX19, TX19, 4)) 1 dX11_render_33 y5 rfl (Nat.le_of_ble_eq_true rfl) q1429 (Or.inl rfl) rfl ?_
              refine dw_X11 (cw_val hg (n + 1) (e + 41) c v' h2 d0 out (by have := hD2.2.2.2.2.2.1; omega) hv hD2 y10 (by omega) (by omega)) (Nat.le_of_ble_eq_true rfl) rS_g (fun v h3 hp3 fr3 => ?_) (fun E h3 hp3 fr3 => ?_)
              · have e1 := hp3.nn
                subst e1
                rcases hp3 with ⟨_, z2, cap3, z3, z4⟩ | ⟨z1, _⟩
                · refine g_goto (pc := 39) (tgt := 58) dX11_render_39 rfl ?_
                  refine g_vret (pc := 58) dX11_render_58 rfl ?_
                  rw [if_neg (by omega)] at ms
                  exact Or.inl ⟨rfl, _, _, CA, m, mTo.one ms, rR.wr hk y20 y3 y4 y5 y6 y7 y8 y9 fr3 z3 z4, Nat.le_refl _, fun i _ => rfl, (m1.tr m2).tr (cMn.jss fr3 hg)⟩
                · cases z1
              · refine gx_out (fun x hx => by cases hx) ?_
                rcases hp3 with ⟨z1, _⟩ | ⟨z1, z2, z3, z4⟩
                · cases z1
                · have z1 := Sum.inr.inj z1
                  subst z1
                  rw [if_pos (by omega)] at ms
                  exact Or.inr ⟨4, _, rfl, Or.inr (Or.inr ⟨rfl, rfl⟩), mFn.one ms, (m1.tr m2).tr (cMn.jss fr3 hg), by omega, by omega⟩
            · have hraw0 : (T.1 g).2.2.2.2 = 0 := by omega
              rw [hraw0]
              rw [show shO (decide ((T.1 g).2.2.2.2 = 1)) (shw D v') = escL (shw D v') by rw [decide_eq_false hraw]; rfl] at ms
              refine g_if_eq (pc := 27) (tgt := 42) dX11_render_27 rfl (fun _ => ?_) (fun q_ => absurd rfl q_)
              rw [show C.length - 1 = n by omega]
              refine g_aload_n (pc := 42) dX11_render_42 rfl rfl ?_
              refine g_get (pc := 43) (r := (RX19, TX19, 4)) 1 dX11_render_43 y5 rfl (Nat.le_of_ble_eq_true rfl) q1429 (Or.inl rfl) rfl ?_
              refine g_aload_n (pc := 46) dX11_render_46 rfl rfl ?_
              refine g_get (pc := 47) (r := (RX20, TX20, 5)) 3 dX11_render_47 hcc rfl (Nat.le_of_ble_eq_true rfl) q1457 (Or.inl rfl) rfl ?_
              refine g_aload (pc := 50) dX11_render_50 rfl ?_
              refine g_invV (pc := 52) dX11_render_52 b3 (k02 4) (co_of (γ := 4) (by decide) (e := e + 41) (by have := hD2.2.2.2.2.2.1; omega) hv hD2 y20 (by omega) (by omega)) meX2_of q1751 q1567 q1568 rfl rfl (Nat.le_of_ble_eq_true rfl) rS_4 (fun v h3 hp3 fr3 => ?_) (fun E h3 hp3 fr3 => ?_)
              · rcases hp3 with ⟨e1, z2, cap3, z3, g1, g2, g3, g4⟩ | ⟨e1, _⟩
                · have e1 := Sum.inl.inj e1
                  subst e1
                  have m3 := cMn.jss fr3 (by decide)
                  have a33 := (fr3.2.2 _ _ a3).1 (by rintro (z | z) <;> omega)
                  have y13 := y10.fr fr3 (by rintro (z | z) <;> omega) (by rintro (z | z) <;> omega) (by rintro (z | z) <;> omega)
                  have y33 := y3.fr fr3 (by rintro (z | z) <;> omega) (by rintro (z | z) <;> omega) (by rintro (z | z) <;> omega)
                  have y43 := y4.kp fr3 (cNS.jss 4 (by decide)) m3 (by rintro (z | z) <;> omega)
                  have y53 := (fr3.2.2 _ _ y5).1 (by rintro (z | z) <;> omega)
                  have c38 := z3.1
                  refine g_invV (pc := 55) dX11_render_55 a33 kc (co_addEscaped (e + 32) 4 _ cap3 _ y13 z3 (by omega) (by omega) (by omega)) meX2_addEscaped q1752 q1753 q1754 rfl rfl (Nat.le_of_ble_eq_true rfl) rS_g (fun v h4 hp4 fr4 => ?_) (fun E h4 hp4 fr4 => ?_)
                  · rcases hp4 with ⟨e1, w2, cap4, w3, w4⟩ | ⟨e1, _⟩
                    · have e1 := Sum.inl.inj e1
                      subst e1
                      refine g_vret (pc := 58) dX11_render_58 rfl ?_
                      rw [if_neg (by omega)] at ms
                      exact Or.inl ⟨rfl, _, _, CA, m, mTo.one ms, rR.wr (c1 := cap3) hk z3 y33 y43 y53 y6 (by omega) y8 (by omega) fr4 w3 w4, Nat.le_refl _, fun i _ => rfl, ((m1.tr m2).tr m3).tr (cMn.jss fr4 hg)⟩
                    · cases e1
                  · refine gx_out (fun x hx => by cases hx) ?_
                    rcases hp4 with ⟨e1, _⟩ | ⟨e1, w2, w3⟩
                    · cases e1
                    · have e1 := Sum.inr.inj e1
                      subst e1
                      rw [if_pos (by omega)] at ms
                      have := w3.1
                      have := w3.2
                      exact Or.inr ⟨4, _, rfl, Or.inr (Or.inr ⟨rfl, rfl⟩), mFn.one ms, ((m1.tr m2).tr m3).tr (cMn.jss fr4 hg), by omega, by omega⟩
                · cases e1
              · refine gx_out (fun x hx => by cases hx) ?_
                rcases hp3 with ⟨e1, _⟩ | ⟨e1, z2, z3, z4⟩
                · cases e1
                · have e1 := Sum.inr.inj e1
                  subst e1
                  rw [if_pos (by omega)] at ms
                  exact Or.inr ⟨4, _, rfl, Or.inr (Or.inr ⟨rfl, rfl⟩), mFn.one ms, (m1.tr m2).tr (cMn.jss fr3 (by decide)), by omega, by omega⟩
        · cases e1
      · refine gx_out (fun x hx => by cases hx) ?_
        rcases hp2 with ⟨y, v', e1, _⟩ | ⟨e1, ev, m2, z3, z4⟩
        · cases e1
        · have e1 := Sum.inr.inj e1
          subst e1
          rw [ev] at ms
          exact Or.inr ⟨4, _, rfl, Or.inr (Or.inr ⟨rfl, rfl⟩), mFn.one ms, m1.tr m2, z3, z4⟩
    · cases e1
  · refine gx_out (fun x hx => by cases hx) ?_
    rcases hp1 with ⟨e1, _⟩ | ⟨e1, e2, e3, e4, e5⟩
    · cases e1
    · have e1 := Sum.inr.inj e1
      subst e1
      rw [e2, mt_600 (by omega)] at ms
      rw [e2]
      exact Or.inr ⟨4, _, rfl, Or.inr (Or.inr ⟨rfl, rfl⟩), mFn.one ms, e3, e4, e5⟩
end CP
