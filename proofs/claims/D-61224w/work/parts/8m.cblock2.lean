/-! COMPONENT 23: Block.render -/
set_option maxRecDepth 100000
theorem dv_X17 {Z : hE} {X : hX} {d : Nat} {S : Nat → Prop} {hin : hP} {K : hO → hP → Prop} {ls : List (Nat × Value)} {h : hP} {S' : Nat → Prop} {K' : hO → hP → Prop} {b : Nat} {A1 A2 : Value} {rest : List Value} (hc : hDs Z d S' b [A1, A2] h K' [(12, mX12_value), (13, mX13_value), (14, mX14_value), (15, mX15_value)]) (hw : (rest.map fun v => v.category).sum ≤ 8) (hS : ∀ κ, S' κ → S κ)
    (kn : ∀ v h', K' (.inl v) h' → hFr S' h h' → hG Z X mX17_render (d + 1) S hin K (10 + 5) ls (v.toList ++ rest) h')
    (kx : ∀ E h', K' (.inr E) h' → hFr S' h h' → hGX Z X mX17_render (d + 1) S hin K 10 ls E h') : hG Z X mX17_render (d + 1) S hin K 10 ls (A2 :: A1 :: .ref b :: rest) h := by
  obtain ⟨κ, fs, M', hb, hm, hct⟩ := hc
  simp only [List.mem_cons, Prod.mk.injEq, List.not_mem_nil, or_false] at hm
  rcases hm with ⟨hk, rfl⟩ | ⟨hk, rfl⟩ | ⟨hk, rfl⟩ | ⟨hk, rfl⟩
  · exact g_invF (pc := 10) dX17_render_10 (r := (RX12, TX12, 1)) hb (by rw [hk]; rfl) hct meX12_value q1504 q1545 q1543 q1506 q1505 q1546 q1544 q1542 ⟨⟨by decide, by decide⟩, rfl⟩ rfl rfl hw hS kn kx
  · exact g_invF (pc := 10) dX17_render_10 (r := (RX13, TX13, 1)) hb (by rw [hk]; rfl) hct meX13_value q1504 q1510 q1508 q1506 q1505 q1511 q1509 q1507 ⟨⟨by decide, by decide⟩, rfl⟩ rfl rfl hw hS kn kx
  · exact g_invF (pc := 10) dX17_render_10 (r := (RX14, TX14, 2)) hb (by rw [hk]; rfl) hct meX14_value q1504 q1524 q1522 q1506 q1505 q1525 q1523 q1521 ⟨⟨by decide, by decide⟩, rfl⟩ rfl rfl hw hS kn kx
  · exact g_invF (pc := 10) dX17_render_10 (r := (RX15, TX15, 3)) hb (by rw [hk]; rfl) hct meX15_value q1504 q1516 q1514 q1506 q1505 q1517 q1515 q1513 ⟨⟨by decide, by decide⟩, rfl⟩ rfl rfl hw hS kn kx
theorem dt_X17 {Z : hE} {X : hX} {d : Nat} {S : Nat → Prop} {hin : hP} {K : hO → hP → Prop} {ls : List (Nat × Value)} {h : hP} {S' : Nat → Prop} {K' : hO → hP → Prop} {b : Nat} {rest : List Value} (hc : hDs Z d S' b [] h K' [(5, mX4_turns), (6, mX4_turns), (7, mX7_turns), (8, mX7_turns), (21, mX4_turns)]) (hw : (rest.map fun v => v.category).sum ≤ 8) (hS : ∀ κ, S' κ → S κ)
    (kn : ∀ v h', K' (.inl v) h' → hFr S' h h' → hG Z X mX17_render (d + 1) S hin K (183 + 3) ls (v.toList ++ rest) h')
    (kx : ∀ E h', K' (.inr E) h' → hFr S' h h' → hGX Z X mX17_render (d + 1) S hin K 183 ls E h') : hG Z X mX17_render (d + 1) S hin K 183 ls (.ref b :: rest) h := by
  obtain ⟨κ, fs, M', hb, hm, hct⟩ := hc
  simp only [List.mem_cons, Prod.mk.injEq, List.not_mem_nil, or_false] at hm
  rcases hm with ⟨hk, rfl⟩ | ⟨hk, rfl⟩ | ⟨hk, rfl⟩ | ⟨hk, rfl⟩ | ⟨hk, rfl⟩
  · exact g_invV (pc := 183) dX17_render_183 (r := (RX5, TX5, 2)) hb (by rw [hk]; rfl) hct meX4_turns q1717 q908 q915 rfl rfl hw hS kn kx
  · exact g_invV (pc := 183) dX17_render_183 (r := (RX6, TX6, 3)) hb (by rw [hk]; rfl) hct meX4_turns q1717 q908 q916 rfl rfl hw hS kn kx
  · exact g_invU (pc := 183) dX17_render_183 (r := (RX7, TX7, 3)) hb (by rw [hk]; rfl) hct meX7_turns q1717 q909 (Or.inr ⟨_, _, _, q908, q917⟩) q912 q911 ⟨⟨by decide, by decide⟩, rfl⟩ rfl rfl hw hS kn kx
  · exact g_invU (pc := 183) dX17_render_183 (r := (RX8, TX8, 4)) hb (by rw [hk]; rfl) hct meX7_turns q1717 q909 (Or.inr ⟨_, _, _, q908, q917⟩) q912 q914 ⟨⟨by decide, by decide⟩, rfl⟩ rfl rfl hw hS kn kx
  · exact g_invV (pc := 183) dX17_render_183 (r := (RX21, TX21, 3)) hb (by rw [hk]; rfl) hct meX4_turns q1717 q908 q910 rfl rfl hw hS kn kx
theorem de_X17 {Z : hE} {X : hX} {d : Nat} {S : Nat → Prop} {hin : hP} {K : hO → hP → Prop} {ls : List (Nat × Value)} {h : hP} {S' : Nat → Prop} {K' : hO → hP → Prop} {b : Nat} {A1 : Value} {rest : List Value} (hc : hDs Z d S' b [A1] h K' [(5, mX4_element), (6, mX4_element), (7, mX7_element), (8, mX7_element), (21, mX4_element)]) (hw : (rest.map fun v => v.category).sum ≤ 8) (hS : ∀ κ, S' κ → S κ)
    (kn : ∀ v h', K' (.inl v) h' → hFr S' h h' → hG Z X mX17_render (d + 1) S hin K (208 + 3) ls (v.toList ++ rest) h')
    (kx : ∀ E h', K' (.inr E) h' → hFr S' h h' → hGX Z X mX17_render (d + 1) S hin K 208 ls E h') : hG Z X mX17_render (d + 1) S hin K 208 ls (A1 :: .ref b :: rest) h := by
  obtain ⟨κ, fs, M', hb, hm, hct⟩ := hc
  simp only [List.mem_cons, Prod.mk.injEq, List.not_mem_nil, or_false] at hm
  rcases hm with ⟨hk, rfl⟩ | ⟨hk, rfl⟩ | ⟨hk, rfl⟩ | ⟨hk, rfl⟩ | ⟨hk, rfl⟩
  · exact g_invV (pc := 208) dX17_render_208 (r := (RX5, TX5, 2)) hb (by rw [hk]; rfl) hct meX4_element q1718 q919 q926 rfl rfl hw hS kn kx
  · exact g_invV (pc := 208) dX17_render_208 (r := (RX6, TX6, 3)) hb (by rw [hk]; rfl) hct meX4_element q1718 q919 q927 rfl rfl hw hS kn kx
  · exact g_invU (pc := 208) dX17_render_208 (r := (RX7, TX7, 3)) hb (by rw [hk]; rfl) hct meX7_element q1718 q920 (Or.inr ⟨_, _, _, q919, q928⟩) q923 q922 ⟨⟨by decide, by decide⟩, rfl⟩ rfl rfl hw hS kn kx
  · exact g_invU (pc := 208) dX17_render_208 (r := (RX8, TX8, 4)) hb (by rw [hk]; rfl) hct meX7_element q1718 q920 (Or.inr ⟨_, _, _, q919, q928⟩) q923 q925 ⟨⟨by decide, by decide⟩, rfl⟩ rfl rfl hw hS kn kx
  · exact g_invV (pc := 208) dX17_render_208 (r := (RX21, TX21, 3)) hb (by rw [hk]; rfl) hct meX4_element q1718 q919 q921 rfl rfl hw hS kn kx
theorem cel_val {Z : hE} {h : hP} {D : aD} {w : cW} {q : Nat} (hD : cD D w h q) {n b x i : Nat} (e : Nat) (hv : cV D w.1 h n (some (.inr (.inr x))) (.ref b)) (hi : i < (aPs (D.2 x)).length) : hDs Z e (fun _ => False) b [.int (nI i)] h (jK (fun r h' => ∃ y, r = some y ∧ cV D w.1 h 0 (elX D x i) y ∧ h = h')) elL := by
  rcases hv.cs hD with ⟨k, κ, w', z, e2, e3⟩ | ⟨l, z, ht⟩ | ⟨k, y, l, z, e2, e3⟩ | ⟨x', ps, j, f, z, e1, e2, e3, e4, e5, e6⟩ | ⟨x', ps, j, f, z, e1, e2, e3, e4, e5, e6⟩
  · cases z
  · cases z
  · cases z
  · cases z
    rw [e2] at hi
    have hi : i < ps.length := hi
    refine ⟨_, _, mX7_element, e3, mm2, (cd_elem7 e _ (nI i) e3 e4 e5 e6).mono (fun r h' ⟨z1, z2⟩ => ⟨_, z1, ?_, z2.symm⟩)⟩
    rw [elA_n hi e5]
    exact hD.el e1 e2 hi
  · cases z
    rw [e2] at hi
    have hi : i < ps.length := hi
    refine ⟨_, _, mX7_element, e3, mm3, (cd_elem8 e _ _ (nI i) e3 e4 e5 e6).mono (fun r h' ⟨z1, z2⟩ => ⟨_, z1, ?_, z2.symm⟩)⟩
    rw [elA_n hi e5]
    exact hD.el e1 e2 hi
theorem nmB3_len (i : Nat) : (nmB3 i).length ≤ 1000000 := by
  unfold nmB3
  split <;> exact Nat.le_of_ble_eq_true rfl
section CB
variable {Z : hE} {h : hP} {Tm : Nat → Option aT} {D : aD} {w : cW} {k : rE} {CA : Nat → Nat} {m q ta : Nat} {C : List aV} {out : List Nat} {seen dep t p g p' g' N G a : Nat} {f : Nat → Nat} {T : tTb} {U : List aU}
/-- a context inside, in a rendering -/
theorem rr_with (e n : Nat) (v : aV) (x : Value) (he : 2 ≤ e) (hn : C.length = n + 1) (h13 : C.length ≤ 13) (hk : k.2.2.2.2.2.1 = 2 ∨ k.2.2.2.2.2.1 = 3) (hB1 : k.2.2.2.2.2.2.1 + 9000 ≤ hLC Z) (hB2 : k.2.2.2.2.2.2.2 + 70000 ≤ hLS) (hv : cV D w.1 h (n + 1) v x) (hr : rR D w k CA m C out seen seen dep h) : jC Z mX20_with e (fun κ => κ = 20) [.ref (CA (C.length - 1)), x] h (fun r h' => ∃ CA' m', r = some (.ref (CA' ((v :: C).length - 1))) ∧ rR D w k CA' m' (v :: C) out seen seen dep h' ∧ m ≤ m' ∧ (∀ i, i ≤ m → CA' i = CA i)) := by
  have rm := hr.rm
  obtain ⟨c0, c1, c2, l1, l2, x1, x2, x3, x4, x5, x6, x7, x8, x9⟩ := hr
  rw [show C.length - 1 = n by omega, show (v :: C).length - 1 = n + 1 by simp only [List.length_cons]; omega]
  refine hCt.wk (cx_with e he hn h13 x4 hv (by omega) (by omega)) (fun r h' z fr => ?_)
  obtain ⟨u, e1, CA', m', z1, z2, z3, z4, z5, z6⟩ := z
  refine ⟨u, e1, CA', m', z1, ⟨c0, c1, c2, l1, l2, x1.fr fr (by show ¬ (_ = 20); omega) (by show ¬ (_ = 20); omega) (by show ¬ (_ = 20); omega), x2.fr fr (by decide) (by decide) (by decide), x3.fr fr (by decide) (by decide) (by decide), z2, (fr.2.2 _ _ x5).1 (by intro z; cases z), x6, by omega, x8, by omega⟩, z3, z4⟩
theorem pr_block (e n n' s x A1 A2 mm : Nat) (tn : Option Nat) (he : D.1 + 62 ≤ e) (hn : C.length = n + 1) (htn : ∀ i, tn = some i → i < 10) (hlp : lpU T U = tn) (hk : k.2.2.2.2.2.1 = 2 ∨ k.2.2.2.2.2.1 = 3) (hB1 : k.2.2.2.2.2.2.1 + 9000 ≤ hLC Z) (hB2 : k.2.2.2.2.2.2.2 + 70000 ≤ hLS) (ht : Tm t = some (N, f, G, T)) (hx : nxT T G p g) (hx' : nxT T G p' g') (hgG : g < G) (hpp : p = (T.1 g).1) (hs3 : 3 ≤ (T.1 g).2.2.2.2) (hs5 : (T.1 g).2.2.2.2 ≤ 5) (ha : h.2.2 a = some (17, .inl [.ref s, .ref x, .ref A1, .ref A2])) (hsort : jSt h 930 s (nmB3 (T.1 g).2.2.2.2)) (hex : cEx h (exO f (T.1 g).2.2.1 ((T.1 g).2.1 + (if (T.1 g).2.2.2.2 = 3 then 4 else 6))) x) (hmm : T.2.2 g = some mm) (hmG : mm < G) (hms : (T.1 mm).2.2.2.2 = (T.1 g).2.2.2.2 + 4) (hp' : p' = (T.1 mm).2.2.2.1)
    (hR : (T.2.1 g = none ∧ cPs h f T G N n' (T.1 g).2.2.2.1 (g + 1) (T.1 mm).1 mm A1 ∧ ∃ F, h.2.2 A2 = some (66, .inr (0, F))) ∨ (∃ m1, T.2.1 g = some m1 ∧ m1 < G ∧ (T.1 m1).2.2.2.2 = 6 ∧ cPs h f T G N n' (T.1 g).2.2.2.1 (g + 1) (T.1 m1).1 m1 A1 ∧ cPs h f T G N n' (T.1 m1).2.2.2.1 (m1 + 1) (T.1 mm).1 mm A2))
    (hst : rSt Tm D w q k.1 ta h) (hr : rR D w k CA m C out seen seen dep h) (j : Nat) (hdj : dep + j = 3) (hd1 : 1 ≤ dep) (hcp : cpU U = dep) (hU : U.length + (n' + 1) ≤ 5 * (dep - 1) + 4) (hC : C.length + (n' + 1) ≤ 4 * (dep - 1) + 5) (IH : rCt Z Tm D w q k ta j n' (e - 1)) : hCt Z mX17_render e (rS k.2.2.2.2.2.1) [.ref a, .ref k.2.1, .ref (CA (C.length - 1)), .int (tI tn)] h (rQ Tm D w k CA m C dep t U (t, p, U, C, out, seen) p' h) := by
  obtain ⟨e, rfl⟩ : ∃ e', e = e' + 62 := ⟨e - 62, by omega⟩
  have ms := ms_tag (D := D) (U := U) (C := C) (out := out) (seen := seen) ht hx hgG hpp
  have hr0 := hr
  obtain ⟨c0, c1, c2, l1, l2, x1, x2, x3, x4, x5, x6, x7, x8, x9⟩ := hr
  have ns19 := cNS.one (n := 19) (Or.inl rfl)
  have ns130 : cNS (fun κ => κ = 130) := by
    intro κ hκ z
    subst z
    revert hκ
    decide
  have hD60 := hst.2.2.2.2.2.2.2.1
  have hE6 : rCt Z Tm D w q k ta j n' (e + 61) := IH
  -- the walk from the sort's hash on, when the value is known
  have main : ∀ (X : hX) (v : aV) (y : Value) (h2 : hP), cV D w.1 h2 (n + 1) v y → rR D w k CA m C out (seen + 1) (seen + 1) dep h2 → cMn h h2 → hFr (rS k.2.2.2.2.2.1) h h2 → mTo Tm D (t, p, U, C, out, seen) (t, p, U, C, out, seen) → (mS Tm D (t, p, U, C, out, seen) = mBlk D T t g U C out (seen + 1) v) → hG Z X mX17_render (e + 62) (rS k.2.2.2.2.2.1) h (rQ Tm D w k CA m C dep t U (t, p, U, C, out, seen) p' h) 15 [(0, .ref a), (1, .ref k.2.1), (2, .ref (CA (C.length - 1))), (3, .int (tI tn))] [y] h2 := by
    intro X v y h2 hv hr2 m2 f2 _ msb
    have nsr := cNS.rS (g := k.2.2.2.2.2.1) hk
    have hyn := hv.nr
    have ha2 := (f2.2.2 _ _ ha).1 (nsr 17 (by decide))
    have hso2 := hsort.fr f2 (nsr 930 (by decide)) (nsr 60 (by decide)) (nsr 960 (by decide))
    have kw := hso2.cl
    have hso20 := hso2
    obtain ⟨_, _, bw, κb, hs1, hz, hsw, _⟩ := hso20
    suffices k23 : hG Z X mX17_render (e + 62) (rS k.2.2.2.2.2.1) h (rQ Tm D w k CA m C dep t U (t, p, U, C, out, seen) p' h) 23 [(0, .ref a), (1, .ref k.2.1), (2, .ref (CA (C.length - 1))), (3, .int (tI tn)), (4, y), (5, .ref s)] [] h2 by
      rcases hyn with hy0 | ⟨c', hy0⟩ <;> (subst hy0; refine g_astoreX (pc := 15) (ls' := [(0, _), (1, _), (2, _), (3, _), (4, _)]) dX17_render_15 (Nat.le_of_ble_eq_true rfl) rfl hv.nr ?_; refine g_aload_n (pc := 17) dX17_render_17 rfl rfl ?_; refine g_get (pc := 18) (r := (RX17, TX17, 4)) 0 dX17_render_18 ha2 rfl (Nat.le_of_ble_eq_true rfl) q1364 (Or.inl rfl) rfl ?_; exact g_astore (pc := 21) dX17_render_21 (Nat.le_of_ble_eq_true rfl) rfl k23)
    refine g_iconst (pc := 23) (v := (-1)) dX17_render_23 rfl ?_
    refine g_istore (pc := 24) (ls' := [(0, _), (1, _), (2, _), (3, _), (4, _), (5, _), (6, _)]) dX17_render_24 (Nat.le_of_ble_eq_true rfl) rfl ?_
    refine g_aload (pc := 26) dX17_render_26 rfl ?_
    refine g_invV (pc := 28) dX17_render_28 hsw kw (jc_hashCode (e + 58) hso2 (Or.inr rfl) (nmB3_len _)) meJ9_hashCode q1705 q1244 q1245 rfl rfl (Nat.le_of_ble_eq_true rfl) (fun κ z => rS_e κ (Or.inr (Or.inl z))) (jk_n (fun u h3 hp fr => ?_)) jk_x
    obtain ⟨rfl, q1, q2, q3, q4⟩ := hp
    have fr' : hFr (fun z => z = 130) h2 h3 := fr
    have m23 : cMn h2 h3 := ⟨fun a l t => t.fr fr' (by decide) (by decide) (by decide) (by decide) (by decide), fun a l t => q4 _ _ _ t, fun a k s c z => ⟨c, (fr'.2.2 a _ z).1 (by intro z; cases z)⟩⟩
    have m3 := m2.tr m23
    have f3 : hFr (rS k.2.2.2.2.2.1) h h3 := f2.tr (hFr.mono (fun κ z => rS_e κ (Or.inr (Or.inl z))) fr')
    have hv3 := hv.kp fr' ns130 m23
    have hr3 : rR D w k CA m C out (seen + 1) (seen + 1) dep h3 := hr2.fr fr' ns130 m23 (by decide) (by decide) (fun γ g2 g5 => ⟨by show ¬ (_ = 130); omega, by show ¬ (_ = 130); omega, by show ¬ (_ = 130); omega⟩) hk q2 q3
    have hst3 := hst.kp f3 nsr m3
    have hD3 := hst3.2.2
    have ha3 := (f3.2.2 _ _ ha).1 (nsr 17 (by decide))
    have x53 : h3.2.2 k.2.1 = some (19, .inl [.ref k.1, .ref k.2.2.1, .int (nI (seen + 1)), .int (nI dep)]) := by
      obtain ⟨_, _, _, _, _, _, _, _, _, z, _⟩ := hr3
      exact z
    have hc3 : ∃ z1 z2 z3, h3.2.2 (CA (C.length - 1)) = some (20, .inl [z1, z2, z3, .ref k.2.2.2.1, .ref k.2.2.2.2.1]) := by
      obtain ⟨_, _, _, _, _, _, _, _, z, _⟩ := hr3
      obtain ⟨y, y1, _⟩ := z.2.2.2.2 (C.length - 1) (by have := z.2.1; omega)
      exact ⟨_, _, _, y1⟩
    have kwx := q1.cl
    have q10 := q1
    obtain ⟨_, _, bw', κb', hs1', hz', hsw', _⟩ := q10
    -- the other part
    have hoth : mFst D (T.1 g).2.2.2.2 v = false → hCt Z mX19_render (e + 61) (rS k.2.2.2.2.2.1) [.ref k.2.1, .ref A2, .ref (CA (C.length - 1)), .int (tI tn)] h3 (rQ Tm D w k CA m C dep t U (t, p, U, C, out, seen) p' h) := by
      intro hf
      rcases hR with ⟨z1, z2, F, z3⟩ | ⟨m1, z1, z2, z3, z4, z5⟩
      · rw [mb_o1 hf z1 hmm, ← hp'] at msb
        have z33 := (f3.2.2 _ _ z3).1 (nsr 66 (by decide))
        refine hCt.mono (hE6 t p' g' p' g' A2 N G f T U C out (seen + 1) dep m CA tn h3 ht (cPs.nil z33 hx') hst3 hr3 hcp hdj hd1 hlp htn (by omega) (by omega)) (fun r h' z => ?_)
        have z := z.pre m3 (Nat.le_refl _) (fun i _ => rfl)
        rcases z with ⟨x1, out', seen', CA', m', x2, x3⟩ | ⟨q, E, x1, x2, x3, x4⟩
        · exact Or.inl ⟨x1, out', seen', CA', m', (mTo.one msb).trans x2, x3⟩
        · exact Or.inr ⟨q, E, x1, x2, (mTo.one msb).fin x3, x4⟩
      · rw [mb_o2 hf z1 (by omega)] at msb
        have z53 := z5.kp f3 nsr m3
        refine hCt.mono (hE6 t _ (m1 + 1) _ mm A2 N G f T (.inr (g, true, 0, 0) :: U) C out (seen + 1) dep m CA tn h3 ht z53 hst3 hr3 (by exact hcp) hdj hd1 (by show (if (T.1 g).2.2.2.2 = 4 ∧ true = false then some 0 else lpU T U) = tn; rw [if_neg (fun z => by cases z.2)]; exact hlp) htn (by simp only [List.length_cons]; omega) (by omega)) (fun r h' z => ?_)
        refine rQ.st (mTo.one msb) (fun out' seen' => ?_) (fun _ _ _ _ _ z => z) (z.pre m3 (Nat.le_refl _) (fun i _ => rfl))
        rw [ms_tag ht z53.nx hmG rfl, mt_end (by omega) (by omega), me_o hmm, ← hp']
    -- the first part
    obtain ⟨ml, hml, hl6, hl9, hps1⟩ : ∃ ml, ml < G ∧ 6 ≤ (T.1 ml).2.2.2.2 ∧ (T.1 ml).2.2.2.2 ≤ 9 ∧ cPs h f T G N n' (T.1 g).2.2.2.1 (g + 1) (T.1 ml).1 ml A1 := by
      rcases hR with ⟨z1, z2, F, z3⟩ | ⟨m1, z1, z2, z3, z4, z5⟩
      · exact ⟨mm, hmG, by omega, by omega, z2⟩
      · exact ⟨m1, z2, by omega, by omega, z4⟩
    have stepE : ∀ (U1 : List aU) (C1 : List aV) (out' : List Nat) (seen' : Nat), mS Tm D (t, (T.1 ml).1, U1, C1, out', seen') = mEnd D T t U1 C1 out' seen' := fun U1 C1 out' seen' => by
      rw [ms_tag ht hps1.nx hml rfl, mt_end hl6 hl9]
    obtain ⟨z1, z2, z3, hc3⟩ := hc3
    rcases (show (T.1 g).2.2.2.2 = 3 ∨ (T.1 g).2.2.2.2 = 4 ∨ (T.1 g).2.2.2.2 = 5 by omega) with hs | hs | hs
    · rw [hs] at q1 ⊢
      refine g_lookup (pc := 31) (off := 25) (tgt := 56) dX17_render_31 (by decide) (by decide +kernel) rfl ?_
      refine g_aload (pc := 56) dX17_render_56 rfl ?_
      refine g_ldcK (pc := 58) dX17_render_58 ksX17_40 (fun hkk => ?_)
      refine g_invV (pc := 60) dX17_render_60 hsw' kwx (jc_equals (e + 60) 930 _ _ q1 hkk) meJ9_equals q1707 q965 q966 rfl rfl (Nat.le_of_ble_eq_true rfl) (by first | exact jF | exact fun _ z => z | assumption | (intro κ z; simp_all)) (jk_e ?_) jk_x
      refine g_if_eq (pc := 63) (tgt := 85) dX17_render_63 rfl (fun q_ => absurd q_ (by decide)) (fun _ => ?_)
      refine g_iconst (pc := 66) (v := nI 0) dX17_render_66 rfl ?_
      refine g_istore (pc := 67) (ls' := [(0, _), (1, _), (2, _), (3, _), (4, _), (5, _), (6, _)]) dX17_render_67 (Nat.le_of_ble_eq_true rfl) rfl ?_
      refine g_goto (pc := 69) (tgt := 85) dX17_render_69 rfl ?_
      refine g_iload (pc := 85) dX17_render_85 rfl ?_
      refine g_lookup (pc := 87) (off := 25) (tgt := 112) dX17_render_87 (by decide) (by decide) rfl ?_
      refine g_aload_n (pc := 112) dX17_render_112 rfl rfl ?_
      refine g_aloadX (pc := 113) dX17_render_113 rfl hv3.nr ?_
      refine g_invSN (pc := 115) dX17_render_115 (cl_isFalse hD3 (e + 59) hv3) meX1_isFalse q1709 q1674 rfl rfl (Nat.le_of_ble_eq_true rfl) (by first | exact jF | exact fun _ z => z | assumption | (intro κ z; simp_all)) (jk_e ?_) jk_x
      cases hfl : flV D v with
      | true =>
        refine g_if_eq (pc := 118) (tgt := 128) dX17_render_118 rfl (fun q_ => absurd q_ (by decide)) (fun _ => ?_)
        refine g_aload_n (pc := 121) dX17_render_121 rfl rfl ?_
        refine g_get (pc := 122) (r := (RX17, TX17, 4)) 3 dX17_render_122 ha3 rfl (Nat.le_of_ble_eq_true rfl) q1367 (Or.inl rfl) rfl ?_
        refine g_goto (pc := 125) (tgt := 132) dX17_render_125 rfl ?_
        refine g_aload_n (pc := 132) dX17_render_132 rfl rfl ?_
        refine g_iload_n (pc := 133) dX17_render_133 rfl rfl ?_
        refine g_invV (pc := 134) dX17_render_134 x53 rfl (hoth (by unfold mFst; rw [if_pos hs, hfl]; rfl)) meX19_render q1710 q1484 q1485 rfl rfl (Nat.le_of_ble_eq_true rfl) (fun κ z => z) (fun v h4 hp4 fr4 => ?_) (fun E h4 hp4 fr4 => ?_)
        · rcases id hp4 with ⟨e1, _⟩ | ⟨_, _, e1, _⟩
          · have e1 := Sum.inl.inj e1
            subst e1
            exact g_vret (pc := 137) dX17_render_137 rfl hp4
          · cases e1
        · exact gx_out (fun x hx => by cases hx) hp4
      | false =>
        refine g_if_eq (pc := 118) (tgt := 128) dX17_render_118 rfl (fun _ => ?_) (fun q_ => absurd rfl q_)
        refine g_aload_n (pc := 128) dX17_render_128 rfl rfl ?_
        refine g_get (pc := 129) (r := (RX17, TX17, 4)) 2 dX17_render_129 ha3 rfl (Nat.le_of_ble_eq_true rfl) q1366 (Or.inl rfl) rfl ?_
        refine g_aload_n (pc := 132) dX17_render_132 rfl rfl ?_
        refine g_iload_n (pc := 133) dX17_render_133 rfl rfl ?_
        rw [mb_3 hs hfl (by omega) (by omega)] at msb
        have ct : hCt Z mX19_render (e + 61) (rS k.2.2.2.2.2.1) [.ref k.2.1, .ref A1, .ref (CA (C.length - 1)), .int (tI tn)] h3 (rQ Tm D w k CA m C dep t U (t, p, U, C, out, seen) p' h) := by
          refine hCt.mono (hE6 t _ (g + 1) _ ml A1 N G f T (.inr (g, false, 0, 0) :: U) C out (seen + 1) dep m CA tn h3 ht (hps1.kp f3 nsr m3) hst3 hr3 (by exact hcp) hdj hd1 (by show (if (T.1 g).2.2.2.2 = 4 ∧ false = false then some 0 else lpU T U) = tn; rw [if_neg (by omega)]; exact hlp) htn (by simp only [List.length_cons]; omega) (by omega)) (fun r h' z => ?_)
          refine rQ.st (mTo.one msb) (fun out' seen' => ?_) (fun _ _ _ _ _ z => z) (z.pre m3 (Nat.le_refl _) (fun i _ => rfl))
          rw [stepE, me_3 hs hmm, ← hp']
        refine g_invV (pc := 134) dX17_render_134 x53 rfl ct meX19_render q1710 q1484 q1485 rfl rfl (Nat.le_of_ble_eq_true rfl) (fun κ z => z) (fun v h4 hp4 fr4 => ?_) (fun E h4 hp4 fr4 => ?_)
        · rcases id hp4 with ⟨e1, _⟩ | ⟨_, _, e1, _⟩
          · have e1 := Sum.inl.inj e1
            subst e1
            exact g_vret (pc := 137) dX17_render_137 rfl hp4
          · cases e1
        · exact gx_out (fun x hx => by cases hx) hp4
    · rw [hs] at q1 ⊢
      refine g_lookup (pc := 31) (off := 54) (tgt := 85) dX17_render_31 (by decide) (by decide +kernel) rfl ?_
      refine g_iload (pc := 85) dX17_render_85 rfl ?_
      refine g_lookup (pc := 87) (off := 85) (tgt := 172) dX17_render_87 (by decide) (by decide) rfl ?_
      have hmf : tnV D v = 0 → mFst D (T.1 g).2.2.2.2 v = false := fun hz => by
        unfold mFst
        rw [if_neg (by omega), if_neg (by omega)]
        unfold tnV at hz
        split at hz
        · exact decide_eq_false (by omega)
        · rename_i hne
          split
          · exact absurd rfl (hne _)
          · rfl
      have tn10 : tnV D v ≤ 10 := by
        rcases hv3.nr with hy0 | ⟨c, hy0⟩
        · subst hy0
          rw [hv3.nul]
          exact Nat.zero_le _
        · subst hy0
          rcases hv3.cs hD3 with ⟨k, κ, w', rfl, e2, e3⟩ | ⟨l, rfl, ht⟩ | ⟨k, y, l, rfl, e2, e3⟩ | ⟨x, ps, j, f, rfl, e1, e2, e3, e4, e5, e6⟩ | ⟨x, ps, j, f, rfl, e1, e2, e3, e4, e5, e6⟩
          · exact Nat.zero_le _
          · exact Nat.zero_le _
          · exact Nat.zero_le _
          · show (aPs (D.2 x)).length ≤ 10
            rw [e2]; exact e5
          · show (aPs (D.2 x)).length ≤ 10
            rw [e2]; exact e5
      have zer : tnV D v = 0 → hG Z X mX17_render (e + 62) (rS k.2.2.2.2.2.1) h (rQ Tm D w k CA m C dep t U (t, p, U, C, out, seen) p' h) 191 [(0, .ref a), (1, .ref k.2.1), (2, .ref (CA (C.length - 1))), (3, .int (tI tn)), (4, y), (7, .int (nI 0)), (8, .int (nI 0))] [] h3 := by
        intro hz
        refine g_iload (pc := 191) dX17_render_191 rfl ?_
        refine g_iload (pc := 193) dX17_render_193 rfl ?_
        refine g_icmp_geN (pc := 195) (tgt := 225) dX17_render_195 rfl (by omega) (by omega) (fun _ => ?_) (fun q_ => absurd q_ (by omega))
        refine g_iload (pc := 225) dX17_render_225 rfl ?_
        refine g_if_neN (pc := 227) (tgt := 240) dX17_render_227 rfl (by omega) (fun q_ => absurd q_ (by omega)) (fun _ => ?_)
        refine g_aload_n (pc := 230) dX17_render_230 rfl rfl ?_
        refine g_aload_n (pc := 231) dX17_render_231 rfl rfl ?_
        refine g_get (pc := 232) (r := (RX17, TX17, 4)) 3 dX17_render_232 ha3 rfl (Nat.le_of_ble_eq_true rfl) q1367 (Or.inl rfl) rfl ?_
        refine g_aload_n (pc := 235) dX17_render_235 rfl rfl ?_
        refine g_iload_n (pc := 236) dX17_render_236 rfl rfl ?_
        refine g_invV (pc := 237) dX17_render_237 x53 rfl (hoth (hmf hz)) meX19_render q1710 q1484 q1485 rfl rfl (Nat.le_of_ble_eq_true rfl) (fun κ z => z) (fun v h4 hp4 fr4 => ?_) (fun E h4 hp4 fr4 => ?_)
        · rcases id hp4 with ⟨e1, _⟩ | ⟨_, _, e1, _⟩
          · have e1 := Sum.inl.inj e1
            subst e1
            exact g_vret (pc := 240) dX17_render_240 rfl hp4
          · cases e1
        · exact gx_out (fun x hx => by cases hx) hp4
      refine g_drop [0, 1, 2, 3, 4] (ls' := [(0, .ref a), (1, .ref k.2.1), (2, .ref (CA (C.length - 1))), (3, .int (tI tn)), (4, y)]) rfl ?_
      rcases hv3.nr with hy0 | ⟨c, hy0⟩
      · subst hy0
        refine g_aloadN (pc := 172) dX17_render_172 rfl ?_
        refine g_ifnonnullN (pc := 174) dX17_render_174 ?_
        refine g_iconst (pc := 177) (v := nI 0) dX17_render_177 rfl ?_
        refine g_goto (pc := 178) (tgt := 186) dX17_render_178 rfl ?_
        refine g_istore (pc := 186) (ls' := [(0, _), (1, _), (2, _), (3, _), (4, _), (7, _)]) dX17_render_186 (Nat.le_of_ble_eq_true rfl) rfl ?_
        refine g_iconst (pc := 188) (v := nI 0) dX17_render_188 rfl ?_
        refine g_istore (pc := 189) (ls' := [(0, _), (1, _), (2, _), (3, _), (4, _), (7, _), (8, _)]) dX17_render_189 (Nat.le_of_ble_eq_true rfl) rfl ?_
        exact zer (by rw [hv3.nul]; rfl)
      · subst hy0
        have turn : ∀ (i : Nat) (x : Nat) (h4 : hP) (out4 : List Nat) (seen4 m4 : Nat) (CA4 : Nat → Nat), v = some (.inr (.inr x)) → i < (aPs (D.2 x)).length → hFr (rS k.2.2.2.2.2.1) h h4 → cMn h h4 → cV D w.1 h4 (n + 1) v (.ref c) → rR D w k CA4 m4 C out4 seen4 seen4 dep h4 → m ≤ m4 → (∀ i, i ≤ m → CA4 i = CA i) → mTo Tm D (t, p, U, C, out, seen) (t, (T.1 g).2.2.2.1, .inr (g, false, i, x) :: U, elX D x i :: C, out4, seen4) →
            (∀ (h5 : hP) (out5 : List Nat) (seen5 m5 : Nat) (CA5 : Nat → Nat), i + 1 < (aPs (D.2 x)).length → hFr (rS k.2.2.2.2.2.1) h h5 → cMn h h5 → cV D w.1 h5 (n + 1) v (.ref c) → rR D w k CA5 m5 C out5 seen5 seen5 dep h5 → m ≤ m5 → (∀ i, i ≤ m → CA5 i = CA i) → mTo Tm D (t, p, U, C, out, seen) (t, (T.1 g).2.2.2.1, .inr (g, false, i + 1, x) :: U, elX D x (i + 1) :: C, out5, seen5) → hG Z X mX17_render (e + 62) (rS k.2.2.2.2.2.1) h (rQ Tm D w k CA m C dep t U (t, p, U, C, out, seen) p' h) 191 [(0, .ref a), (1, .ref k.2.1), (2, .ref (CA (C.length - 1))), (3, .int (tI tn)), (4, .ref c), (7, .int (nI (tnV D v))), (8, .int (nI (i + 1)))] [] h5) →
            hG Z X mX17_render (e + 62) (rS k.2.2.2.2.2.1) h (rQ Tm D w k CA m C dep t U (t, p, U, C, out, seen) p' h) 191 [(0, .ref a), (1, .ref k.2.1), (2, .ref (CA (C.length - 1))), (3, .int (tI tn)), (4, .ref c), (7, .int (nI (tnV D v))), (8, .int (nI i))] [] h4 := by
          intro i x h4 out4 seen4 m4 CA4 hvx hil f4 mn4 hv4 hr4 hm4 hCA4 mt4 next
          have etn : tnV D v = (aPs (D.2 x)).length := by rw [hvx]; rfl
          have hst4 := hst.kp f4 nsr mn4
          have ha4 := (f4.2.2 _ _ ha).1 (nsr 17 (by decide))
          have hr40 := hr4
          obtain ⟨_, _, _, _, _, _, _, _, x44, x54, _⟩ := hr40
          obtain ⟨yc, hcc4, _⟩ := x44.2.2.2.2 (C.length - 1) (by have := x44.2.1; omega)
          rw [hCA4 (C.length - 1) (by have := x4.2.1; omega)] at hcc4
          have hv40 := hv4
          rw [hvx] at hv4
          refine g_iload (pc := 191) dX17_render_191 rfl ?_
          refine g_iload (pc := 193) dX17_render_193 rfl ?_
          refine g_icmp_geN (pc := 195) (tgt := 225) dX17_render_195 rfl (by omega) (by omega) (fun q_ => absurd q_ (by omega)) (fun _ => ?_)
          refine g_aload_n (pc := 198) dX17_render_198 rfl rfl ?_
          refine g_aload_n (pc := 199) dX17_render_199 rfl rfl ?_
          refine g_get (pc := 200) (r := (RX17, TX17, 4)) 2 dX17_render_200 ha4 rfl (Nat.le_of_ble_eq_true rfl) q1366 (Or.inl rfl) rfl ?_
          refine g_aload_n (pc := 203) dX17_render_203 rfl rfl ?_
          refine g_aload (pc := 204) dX17_render_204 rfl ?_
          refine g_iload (pc := 206) dX17_render_206 rfl ?_
          refine de_X17 (cel_val hst4.2.2 (e + 61) hv4 hil) (Nat.le_of_ble_eq_true rfl) (by first | exact jF | exact fun _ z => z | assumption | (intro κ z; simp_all)) (jk_n (fun u h5 hp5 fr5 => ?_)) jk_x
          obtain ⟨y', rfl, hy', rfl⟩ := hp5
          have cw := rr_with (e + 61) n (elX D x i) y' (by omega) hn (by omega) hk hB1 hB2 (hy'.le (Nat.zero_le _)) hr4
          rw [hCA4 (C.length - 1) (by have := x4.2.1; omega)] at cw
          refine g_invV (pc := 211) dX17_render_211 hcc4 rfl cw meX20_with q1711 q1712 q1713 rfl rfl (Nat.le_of_ble_eq_true rfl) (fun κ z => Or.inr (Or.inl z)) (jk_n (fun u h5 hp5 fr5 => ?_)) jk_x
          obtain ⟨CA5, m5, rfl, hr5, hm5, hCA5⟩ := hp5
          have ns20 := cNS.one (n := 20) (Or.inr rfl)
          have fr50 : hFr (fun κ => κ = 20) h4 h5 := fr5
          have mn5 := mn4.tr (cMn.fr fr50 ns20 (by decide) (by decide))
          have f5 : hFr (rS k.2.2.2.2.2.1) h h5 := f4.tr (hFr.mono (fun κ z => Or.inr (Or.inl z)) fr50)
          have x55 := (fr50.2.2 _ _ x54).1 (by intro z; cases z)
          refine g_iload (pc := 214) dX17_render_214 rfl ?_
          refine g_invV (pc := 216) dX17_render_216 x55 rfl (hE6 t _ (g + 1) _ ml A1 N G f T (.inr (g, false, i, x) :: U) (elX D x i :: C) out4 seen4 dep m5 CA5 (some i) h5 ht (hps1.kp f5 nsr mn5) (hst.kp f5 nsr mn5) hr5 (by exact hcp) hdj hd1 (by show (if (T.1 g).2.2.2.2 = 4 ∧ false = false then some i else lpU T U) = some i; rw [if_pos ⟨hs, rfl⟩]) (fun z hz => by cases hz; omega) (by simp only [List.length_cons]; omega) (by simp only [List.length_cons]; omega)) meX19_render q1710 q1484 q1485 rfl rfl (Nat.le_of_ble_eq_true rfl) (fun κ z => z) (fun u h6 hp6 fr6 => ?_) (fun E h6 hp6 fr6 => ?_)
          · rcases hp6 with ⟨e1, out6, seen6, CA6, m6, y1, y2, y3, y4, y5⟩ | ⟨_, _, e1, _⟩
            · have e1 := Sum.inl.inj e1
              subst e1
              have f6 := f5.tr fr6
              have mn6 := mn5.tr y5
              have ag : ∀ i, i ≤ m → CA6 i = CA i := fun i hi => (y4 i (by omega)).trans ((hCA5 i (by omega)).trans (hCA4 i hi))
              refine g_iincN (pc := 219) (k0 := 1) (ls' := [(0, _), (1, _), (2, _), (3, _), (4, _), (7, _), (8, _)]) dX17_render_219 rfl (Nat.le_of_ble_eq_true rfl) rfl ?_
              refine g_goto (pc := 222) (tgt := 191) dX17_render_222 rfl ?_
              by_cases hnx : i + 1 < (aPs (D.2 x)).length
              · refine next h6 out6 seen6 m6 CA6 hnx f6 mn6 ((hv40.kp fr50 ns20 (cMn.fr fr50 ns20 (by decide) (by decide))).kp fr6 nsr y5) (y2.pop (by omega)) (by omega) ag ?_
                refine ((mt4.trans y1).trans (mTo.one ?_))
                rw [stepE, me_n hs hnx]
              · have hq : rQ Tm D w k CA m C dep t U (t, p, U, C, out, seen) p' h (.inl none) h6 := by
                  refine Or.inl ⟨rfl, out6, seen6, CA6, m6, (mt4.trans y1).trans (mTo.one ?_), y2.pop (by omega), by omega, ag, mn6⟩
                  rw [stepE, me_l hs hnx hmm, ← hp']
                refine g_iload (pc := 191) dX17_render_191 rfl ?_
                refine g_iload (pc := 193) dX17_render_193 rfl ?_
                refine g_icmp_geN (pc := 195) (tgt := 225) dX17_render_195 rfl (by omega) (by omega) (fun _ => ?_) (fun q_ => absurd q_ (by omega))
                refine g_iload (pc := 225) dX17_render_225 rfl ?_
                refine g_if_neN (pc := 227) (tgt := 240) dX17_render_227 rfl (by omega) (fun _ => ?_) (fun q_ => absurd q_ (by omega))
                exact g_vret (pc := 240) dX17_render_240 rfl hq
            · cases e1
          · refine gx_out (fun x hx => by cases hx) ?_
            rcases hp6 with ⟨e1, _⟩ | ⟨q', E', e1, y2, y3, y4, y5⟩
            · cases e1
            · exact Or.inr ⟨q', E', e1, y2, mt4.fin y3, mn5.tr y4, y5⟩
        have loop : ∀ (r i : Nat) (x : Nat) (h4 : hP) (out4 : List Nat) (seen4 m4 : Nat) (CA4 : Nat → Nat), v = some (.inr (.inr x)) → i + r + 1 = (aPs (D.2 x)).length → hFr (rS k.2.2.2.2.2.1) h h4 → cMn h h4 → cV D w.1 h4 (n + 1) v (.ref c) → rR D w k CA4 m4 C out4 seen4 seen4 dep h4 → m ≤ m4 → (∀ i, i ≤ m → CA4 i = CA i) → mTo Tm D (t, p, U, C, out, seen) (t, (T.1 g).2.2.2.1, .inr (g, false, i, x) :: U, elX D x i :: C, out4, seen4) → hG Z X mX17_render (e + 62) (rS k.2.2.2.2.2.1) h (rQ Tm D w k CA m C dep t U (t, p, U, C, out, seen) p' h) 191 [(0, .ref a), (1, .ref k.2.1), (2, .ref (CA (C.length - 1))), (3, .int (tI tn)), (4, .ref c), (7, .int (nI (tnV D v))), (8, .int (nI i))] [] h4 := by
          intro r
          induction r with
          | zero =>
            intro i x h4 out4 seen4 m4 CA4 hvx hil f4 mn4 hv4 hr4 hm4 hCA4 mt4
            exact turn i x h4 out4 seen4 m4 CA4 hvx (by omega) f4 mn4 hv4 hr4 hm4 hCA4 mt4 (fun _ _ _ _ _ z => absurd z (by omega))
          | succ r ih =>
            intro i x h4 out4 seen4 m4 CA4 hvx hil f4 mn4 hv4 hr4 hm4 hCA4 mt4
            exact turn i x h4 out4 seen4 m4 CA4 hvx (by omega) f4 mn4 hv4 hr4 hm4 hCA4 mt4 (fun h5 out5 seen5 m5 CA5 _ a1 a2 a3 a4 a5 a6 a7 => ih (i + 1) x h5 out5 seen5 m5 CA5 hvx (by omega) a1 a2 a3 a4 a5 a6 a7)
        refine g_aload (pc := 172) dX17_render_172 rfl ?_
        refine g_ifnonnull (pc := 174) (tgt := 181) dX17_render_174 rfl ?_
        refine g_aload (pc := 181) dX17_render_181 rfl ?_
        refine dt_X17 (ctn_val hD3 (e + 61) hv3) (Nat.le_of_ble_eq_true rfl) jF (jk_e ?_) jk_x
        by_cases hz : tnV D v = 0
        · rw [hz]
          refine g_istore (pc := 186) (ls' := [(0, _), (1, _), (2, _), (3, _), (4, _), (7, _)]) dX17_render_186 (Nat.le_of_ble_eq_true rfl) rfl ?_
          refine g_iconst (pc := 188) (v := nI 0) dX17_render_188 rfl ?_
          refine g_istore (pc := 189) (ls' := [(0, _), (1, _), (2, _), (3, _), (4, _), (7, _), (8, _)]) dX17_render_189 (Nat.le_of_ble_eq_true rfl) rfl ?_
          exact zer hz
        · obtain ⟨x, hvx⟩ : ∃ x, v = some (.inr (.inr x)) := by
            unfold tnV at hz
            split at hz
            · exact ⟨_, rfl⟩
            · exact absurd rfl hz
          have etn : tnV D v = (aPs (D.2 x)).length := by rw [hvx]; rfl
          rw [mb_4 hs hvx (by omega) (by omega) (by omega)] at msb
          refine g_istore (pc := 186) (ls' := [(0, _), (1, _), (2, _), (3, _), (4, _), (7, _)]) dX17_render_186 (Nat.le_of_ble_eq_true rfl) rfl ?_
          refine g_iconst (pc := 188) (v := nI 0) dX17_render_188 rfl ?_
          refine g_istore (pc := 189) (ls' := [(0, _), (1, _), (2, _), (3, _), (4, _), (7, _), (8, _)]) dX17_render_189 (Nat.le_of_ble_eq_true rfl) rfl ?_
          exact loop (tnV D v - 1) 0 x h3 out (seen + 1) m CA hvx (by omega) f3 m3 hv3 hr3 (Nat.le_refl _) (fun i _ => rfl) (mTo.one msb)
    · rw [hs] at q1 ⊢
      refine g_lookup (pc := 31) (off := 41) (tgt := 72) dX17_render_31 (by decide) (by decide +kernel) rfl ?_
      refine g_aload (pc := 72) dX17_render_72 rfl ?_
      refine g_ldcK (pc := 74) dX17_render_74 ksX17_46 (fun hkk => ?_)
      refine g_invV (pc := 76) dX17_render_76 hsw' kwx (jc_equals (e + 60) 930 _ _ q1 hkk) meJ9_equals q1707 q965 q966 rfl rfl (Nat.le_of_ble_eq_true rfl) (by first | exact jF | exact fun _ z => z | assumption | (intro κ z; simp_all)) (jk_e ?_) jk_x
      refine g_if_eq (pc := 79) (tgt := 85) dX17_render_79 rfl (fun q_ => absurd q_ (by decide)) (fun _ => ?_)
      refine g_iconst (pc := 82) (v := nI 1) dX17_render_82 rfl ?_
      refine g_istore (pc := 83) (ls' := [(0, _), (1, _), (2, _), (3, _), (4, _), (5, _), (6, _)]) dX17_render_83 (Nat.le_of_ble_eq_true rfl) rfl ?_
      refine g_iload (pc := 85) dX17_render_85 rfl ?_
      refine g_lookup (pc := 87) (off := 51) (tgt := 138) dX17_render_87 (by decide) (by decide) rfl ?_
      rcases hv3.nr with hy0 | ⟨c, hy0⟩
      · subst hy0
        refine g_aloadN (pc := 138) dX17_render_138 rfl ?_
        refine g_ifnonnullN (pc := 140) dX17_render_140 ?_
        refine g_aload_n (pc := 143) dX17_render_143 rfl rfl ?_
        refine g_aload_n (pc := 144) dX17_render_144 rfl rfl ?_
        refine g_get (pc := 145) (r := (RX17, TX17, 4)) 3 dX17_render_145 ha3 rfl (Nat.le_of_ble_eq_true rfl) q1367 (Or.inl rfl) rfl ?_
        refine g_aload_n (pc := 148) dX17_render_148 rfl rfl ?_
        refine g_iload_n (pc := 149) dX17_render_149 rfl rfl ?_
        refine g_invV (pc := 150) dX17_render_150 x53 rfl (hoth (by rw [hv3.nul]; unfold mFst; rw [if_neg (by omega), if_pos hs]; rfl)) meX19_render q1710 q1484 q1485 rfl rfl (Nat.le_of_ble_eq_true rfl) (fun κ z => z) (fun v h4 hp4 fr4 => ?_) (fun E h4 hp4 fr4 => ?_)
        · rcases id hp4 with ⟨e1, _⟩ | ⟨_, _, e1, _⟩
          · have e1 := Sum.inl.inj e1
            subst e1
            refine g_goto (pc := 153) (tgt := 171) dX17_render_153 rfl ?_
            exact g_vret (pc := 171) dX17_render_171 rfl hp4
          · cases e1
        · exact gx_out (fun x hx => by cases hx) hp4
      · subst hy0
        rw [mb_5 hs hv3.isS (by omega) (by omega)] at msb
        refine g_aload (pc := 138) dX17_render_138 rfl ?_
        refine g_ifnonnull (pc := 140) (tgt := 156) dX17_render_140 rfl ?_
        refine g_aload_n (pc := 156) dX17_render_156 rfl rfl ?_
        refine g_aload_n (pc := 157) dX17_render_157 rfl rfl ?_
        refine g_get (pc := 158) (r := (RX17, TX17, 4)) 2 dX17_render_158 ha3 rfl (Nat.le_of_ble_eq_true rfl) q1366 (Or.inl rfl) rfl ?_
        refine g_aload_n (pc := 161) dX17_render_161 rfl rfl ?_
        refine g_aload (pc := 162) dX17_render_162 rfl ?_
        refine g_invV (pc := 164) dX17_render_164 hc3 rfl (rr_with (e + 61) n v (.ref c) (by omega) hn (by omega) hk hB1 hB2 hv3 hr3) meX20_with q1711 q1712 q1713 rfl rfl (Nat.le_of_ble_eq_true rfl) (fun κ z => Or.inr (Or.inl z)) (jk_n (fun u h5 hp5 fr5 => ?_)) jk_x
        obtain ⟨CA5, m5, rfl, hr5, hm5, hCA5⟩ := hp5
        have ns20 := cNS.one (n := 20) (Or.inr rfl)
        have fr50 : hFr (fun κ => κ = 20) h3 h5 := fr5
        have mn5 := m3.tr (cMn.fr fr50 ns20 (by decide) (by decide))
        have f5 : hFr (rS k.2.2.2.2.2.1) h h5 := f3.tr (hFr.mono (fun κ z => Or.inr (Or.inl z)) fr50)
        have x55 := (fr50.2.2 _ _ x53).1 (by intro z; cases z)
        have ct : hCt Z mX19_render (e + 61) (rS k.2.2.2.2.2.1) [.ref k.2.1, .ref A1, .ref (CA5 ((v :: C).length - 1)), .int (tI tn)] h5 (rQ Tm D w k CA m C dep t U (t, p, U, C, out, seen) p' h) := by
          refine hCt.mono (hE6 t _ (g + 1) _ ml A1 N G f T (.inr (g, false, 0, 0) :: U) (v :: C) out (seen + 1) dep m5 CA5 tn h5 ht (hps1.kp f5 nsr mn5) (hst.kp f5 nsr mn5) hr5 (by exact hcp) hdj hd1 (by show (if (T.1 g).2.2.2.2 = 4 ∧ false = false then some 0 else lpU T U) = tn; rw [if_neg (by omega)]; exact hlp) htn (by simp only [List.length_cons]; omega) (by simp only [List.length_cons]; omega)) (fun r h' z => ?_)
          refine rQ.st (mTo.one msb) (fun out' seen' => ?_) (fun _ _ _ _ _ z => z.pop (by omega)) (z.pre mn5 hm5 hCA5)
          rw [stepE, me_5 hs hmm, ← hp']
        refine g_iload_n (pc := 167) dX17_render_167 rfl rfl ?_
        refine g_invV (pc := 168) dX17_render_168 x55 rfl ct meX19_render q1710 q1484 q1485 rfl rfl (Nat.le_of_ble_eq_true rfl) (fun κ z => z) (fun v h4 hp4 fr4 => ?_) (fun E h4 hp4 fr4 => ?_)
        · rcases id hp4 with ⟨e1, _⟩ | ⟨_, _, e1, _⟩
          · have e1 := Sum.inl.inj e1
            subst e1
            exact g_vret (pc := 171) dX17_render_171 rfl hp4
          · cases e1
        · exact gx_out (fun x hx => by cases hx) hp4
  refine hCt.of pnX17 rfl (Nat.le_of_ble_eq_true rfl) rfl (fun X => ?_)
  refine g_aload_n (pc := 0) dX17_render_0 rfl rfl ?_
  refine g_invV (pc := 1) dX17_render_1 x5 rfl (rt_tagQ (e + 61) (by omega) hk hB1 hB2 hr0) meX19_tag q1497 q1498 q1499 rfl rfl (Nat.le_of_ble_eq_true rfl) (fun κ z => Or.inl z) (fun v h1 hp1 fr => ?_) (fun E h1 hp1 fr => ?_)
  · rcases hp1 with ⟨e1, e2, hr1, m1⟩ | ⟨e1, _⟩
    · have e1 := Sum.inl.inj e1
      subst e1
      rw [mt_block hs3 hs5 e2, hlp] at ms
      have ha1 := (fr.2.2 _ _ ha).1 (by intro z; cases z)
      refine g_aload_n (pc := 4) dX17_render_4 rfl rfl ?_
      refine g_get (pc := 5) (r := (RX17, TX17, 4)) 1 dX17_render_5 ha1 rfl (Nat.le_of_ble_eq_true rfl) q1365 (Or.inl rfl) rfl ?_
      refine g_aload_n (pc := 8) dX17_render_8 rfl rfl ?_
      refine g_iload_n (pc := 9) dX17_render_9 rfl rfl ?_
      refine dv_X17 (rr_eval (q := q) (e + 61) n x _ tn (by omega) hn htn hB1 hB2 hk (hex.kp fr ns19 m1) (hst.2.2.kp fr ns19 m1) hr1) (Nat.le_of_ble_eq_true rfl) rS_e (fun v h2 hp2 fr2 => ?_) (fun E h2 hp2 fr2 => ?_)
      · rcases hp2 with ⟨y, v', e1, ev, hv, hr2, m2⟩ | ⟨e1, _⟩
        · have e1 := Sum.inl.inj e1
          subst e1
          rw [ev] at ms
          exact main X v' y h2 hv hr2 (m1.tr m2) ((hFr.mono (fun κ z => Or.inl z) fr).tr (hFr.mono rS_e fr2)) (mTo.refl _) ms
        · cases e1
      · refine gx_out (fun x hx => by cases hx) ?_
        rcases hp2 with ⟨y, v', e1, _⟩ | ⟨e1, ev, m2, z3, z4⟩
        · cases e1
        · have e1 := Sum.inr.inj e1
          subst e1
          rw [ev] at ms
          exact Or.inr ⟨4, _, rfl, Or.inr (Or.inr ⟨rfl, rfl⟩), mFn.one ms, m1.tr m2, z3, z4⟩
    · cases e1
  · refine gx_out (fun x hx => by cases hx) ?_
    rcases hp1 with ⟨e1, _⟩ | ⟨e1, e2, e3, e4, e5⟩
    · cases e1
    · have e1 := Sum.inr.inj e1
      subst e1
      rw [e2, mt_600 (by omega)] at ms
      rw [e2]
      exact Or.inr ⟨4, _, rfl, Or.inr (Or.inr ⟨rfl, rfl⟩), mFn.one ms, e3, e4, e5⟩
end CB
