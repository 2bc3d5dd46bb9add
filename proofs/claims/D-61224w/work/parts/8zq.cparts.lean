/-! COMPONENT 45: Parser.parts -/
set_option maxRecDepth 100000
theorem nI_le0 : ∀ n, n ≤ 4 → ((nI n : Int32) ≤ 0 ↔ n = 0) := by
  have : ∀ n, n < 5 → ((nI n : Int32) ≤ 0 ↔ n = 0) := by decide
  exact fun n h => this n (by omega)
theorem clT_len (l : List Nat) (k : Nat) : (clT l k).length = nbT l k ∧ (∀ c ∈ clT l k, c ≠ 0) ∧ clT l k ≠ [] ∧ 2 ≤ nbT l k ∧ nbT l k ≤ 3 := by
  unfold clT nbT
  split <;> decide
theorem tk_facts {l : List Nat} {p k q0 : Nat} (h : ixO l [123, 123] p = some k) (h2 : ixO l (clT l k) (k + nbT l k) = some q0) : p ≤ k ∧ k + nbT l k ≤ q0 ∧ q0 + nbT l k ≤ l.length ∧ 2 ≤ nbT l k ∧ nbT l k ≤ 3 ∧ tkT (lF l) l.length p = tkM (sortN (lF (sbL l (k + nbT l k) q0)) (sbL l (k + nbT l k) q0).length 0 (stB (lF l) l.length k [123, 123, 123])) k (k + nbT l k) q0 (q0 + nbT l k) := by
  obtain ⟨a1, a2, a3, a4⟩ := ixO_inv h
  obtain ⟨b1, b2, b3, b4⟩ := ixO_inv h2
  obtain ⟨c1, c2, c3, c4, c5⟩ := clT_len l k
  have := stB_len c2 c3 b3
  rw [c1] at this
  refine ⟨a1, b1, this, c4, c5, ?_⟩
  rw [tk_tag h h2, sort_sb b1]
  unfold tkM
  cases sortN (lF (sbL l (k + nbT l k) q0)) (sbL l (k + nbT l k) q0).length 0 (stB (lF l) l.length k [123, 123, 123]) <;> rfl
theorem sb_sg {l : List Nat} {p k : Nat} : sbL l p k = sgF (lF l) p (k - p) := by
  unfold sbL
  generalize k - p = n
  induction n with
  | zero => rfl
  | succ n ih => rw [List.range_succ, List.map_append, ih, sgF_snoc]; rfl
/-- a list of one's own is added to: of what was there before, no more has changed -/
theorem fr_addS {Z : hE} {S : Nat → Prop} {h0 h1 h2 : hP} {a e : Nat} (f : hFr S h0 h1) (hwf0 : ∀ a c, h0.2.2 a = some c → a < h0.1) (ad : hFa (fun q => q = a ∨ q = e) h1 h2) (ha : h0.1 ≤ a) (he : nwO Z h0 e) (ho0 : ∀ a c, hOld Z a = some c → h0.2.2 a = some c) (ho2 : ∀ a c, hOld Z a = some c → h2.2.2 a = some c) : hFr S h0 h2 := by
  refine ⟨Nat.le_trans f.1 ad.1, Nat.le_trans f.2.1 ad.2.1, fun q c hq => ?_⟩
  obtain ⟨f1, c1, f2, f3⟩ := f.2.2 q c hq
  have hlt := hwf0 q c hq
  by_cases z : q = a ∨ q = e
  · rcases z with z | z
    · omega
    · rcases he with y | ⟨c', y⟩
      · omega
      · subst z
        have e1 := ho0 q c' y
        rw [hq] at e1
        cases e1
        exact ⟨fun _ => ho2 q c y, c, ho2 q c y, rfl⟩
  · obtain ⟨g1, c2, g2, g3⟩ := ad.2.2 q c1 f2
    exact ⟨fun n => (ad.2.2 q c (f1 n)).1 z, c2, g2, g3.trans f3⟩
theorem jAL.fr {Z : hE} {S : Nat → Prop} {h h' : hP} {κ a κe e cap : Nat} {xs : List Nat} (f : hFr S h h') (n1 : ¬ S κ) (n2 : ¬ S κe) (n3 : ¬ S 965) (x : jAL Z h κ a κe e cap xs) : jAL Z h' κ a κe e cap xs := by
  obtain ⟨k1, k2, k3, k4, k5, ⟨md, k6⟩, g, k7⟩ := x
  refine ⟨k1, k2, k3, k4, fun x hx => (k5 x hx).fr f, ⟨md, (f.2.2 _ _ k6).1 n1⟩, g, ?_⟩
  rcases k7 with ⟨z1, z2, z3⟩ | ⟨z1, z2, z3⟩
  · exact Or.inl ⟨z1, z2, (f.2.2 _ _ z3).1 n3⟩
  · exact Or.inr ⟨z1, (f.2.2 _ _ z2).1 n2, z3⟩
section PQ
variable {Z : hE} {l : List Nat} {E P s e : Nat} {e0 e1 e2 e3 e5 e6 e7 : Value}
set_option maxHeartbeats 4000000 in
theorem pt_parts0 (hL : l.length ≤ 64) (n : Nat) (IH : ∀ n', n = n' + 1 → psC Z l E P s (fun v => eC e0 e1 e2 e3 v e5 e6 e7) n' (e + 3 * n' + 13)) : psC Z l E P s (fun v => eC e0 e1 e2 e3 v e5 e6 e7) n (e + 3 * n + 13) := by
  intro h0 p0 g0 S T0 κ pl0 tr0 ins0 bg ea hn inv0 hQ0 hs0 hκ hE0 hbg r1 r2
  refine hCt.shr (S' := kAll) ?_
  refine hCt.of pnX9 rfl (Nat.le_of_ble_eq_true rfl) rfl (fun X => ?_)
  refine g_wf (fun hwf0 => ?_)
  refine g_olds (fun hZ ho0 => ?_)
  generalize hKK : (fun r h' => psQ l E P s (fun v => eC e0 e1 e2 e3 v e5 e6 e7) h0 n p0 g0 S T0 r h' ∧ hFr pzX h0 h') = KK
  have fX : ∀ r h', cMn h0 h' → psX l E (fun v => eC e0 e1 e2 e3 v e5 e6 e7) h0 200 3000 p0 (p0, g0, S, T0) r h' → KK r h' := fun r h' m z => by
    rw [← hKK]
    obtain ⟨x, gx, Tx, z1, z2, z3, z4, z5, z6⟩ := id z
    exact ⟨⟨m, Or.inr z⟩, z4⟩
  have fS : ∀ h' arr p1 g1 T1 pe, cMn h0 h' → tpTo (lF l) l.length (p0, g0, S, T0) (p1, g1, S, T1) → tInv l.length (p1, g1, S, T1) → g0 ≤ g1 → p0 ≤ p1 → tE g0 T0 T1 → hFr pzS h0 h' → h'.1 + 100 * p0 ≤ h0.1 + 100 * p1 + 30 → h'.2.1 + 1000 * p0 ≤ h0.2.1 + 1000 * p1 + 1000 →
     (∀ T' G, adm g0 g1 p1 T1 T' G → stpT T' G l.length g1 = pe → cPs h' (lF l) T' G l.length n p0 g0 pe g1 arr) → (∃ k F, h'.2.2 arr = some (66, .inr (k, F))) →
     ((S = [] ∧ tkT (lF l) l.length p1 = none ∧ pe = l.length ∧ ∃ tr ins, h'.2.2 P = some (pCl E s l.length g1 (.int (-1)) tr ins)) ∨
      (S ≠ [] ∧ ∃ t w i κi, tkT (lF l) l.length p1 = some (.inr t) ∧ pe = t.1 ∧ enB w = true ∧ t.2.2.2.2 = enS w ∧ h'.2.2 P = some (pCl E s t.2.2.2.1 (g1 + 1) (.int (nI t.1)) (.int (nI 0)) (.ref i)) ∧ jSt h' κi i w ∧ kK κi)) → KK (.inl (some (.ref arr))) h' := by
    intro h' arr p1 g1 T1 pe x1 x2 x3 x4 x5 x6 x7 x8 x9 x10 x11 x12
    rw [← hKK]
    exact ⟨⟨x1, Or.inl ⟨arr, p1, g1, T1, pe, rfl, x2, x3, x4, x5, x6, x7, x8, x9, x10, x11, x12⟩⟩, hFr.mono (fun _ => pzS.x) x7⟩
  clear hKK
  have no9 : ¬ pzS 1 := by rintro (z | z | z | z) <;> cases z
  have no30 : ∀ {κ}, kK κ → ¬ pzS κ := by
    intro κ hk
    rcases hk with z | z <;> rw [z] <;> (rintro (z | z | z | z) <;> cases z)
  have no60 : ¬ pzS 60 := by rintro (z | z | z | z) <;> cases z
  have no960 : ¬ pzS 960 := by rintro (z | z | z | z) <;> cases z
  have no32 : ¬ pzS 32 := by rintro (z | z | z | z) <;> cases z
  have no65 : ¬ pzS 65 := by rintro (z | z | z | z) <;> cases z
  have no965 : ¬ pzS 965 := by rintro (z | z | z | z) <;> cases z
  have sF : ∀ {h1 h2 : hP}, hFr (fun _ => False) h1 h2 → hFr pzS h1 h2 := fun f => hFr.mono (fun _ z => z.elim) f
  have ntL : cNT (fun k => k = 32 ∨ k = 65) := by
    intro κ hκ z
    simp only [List.mem_cons, List.not_mem_nil, or_false] at hκ
    rcases z with z | z <;> omega
  have mL : ∀ {h1 h2 : hP}, hFr (fun k => k = 32 ∨ k = 65) h1 h2 → cMn h1 h2 := fun f => cMn.ft f (by decide) (by decide) (by decide) (by decide) (by decide) (by decide)
  have nt9 : cNT (fun k => k = 9) := by
    intro κ hκ z
    simp only [List.mem_cons, List.not_mem_nil, or_false] at hκ
    omega
  have kJ : ∀ {h1 h2 : hP} {κ' q : Nat} {w : List Nat}, hFr (fun k => k = 32 ∨ k = 65) h1 h2 → kK κ' → jSt h1 κ' q w → jSt h2 κ' q w := fun f hk j => j.fr f (by rcases hk with z | z <;> rw [z] <;> decide) (by decide) (by decide)
  have hN : p0 ≤ l.length := inv0.1
  -- the end: the list becomes an array
  have fin : ∀ (h2 : hP) (La e' cap : Nat) (xs : List Nat), jAL Z h2 32 La 65 e' cap xs → xs.length ≤ 40 → (∀ a ∈ xs, pKd h2 a) → h2.1 + 10 ≤ hLC Z → h2.2.1 + 100 ≤ hLS → (∀ h5 arr F, hFr (fun _ => False) h2 h5 → h5.2.2 arr = some (66, .inr (xs.length, F)) → (∀ i, i < xs.length → F i = .ref (xs.getD i 0)) → h5.1 = h2.1 + 1 → h5.2.1 = h2.2.1 + xs.length → KK (.inl (some (.ref arr))) h5) → hG Z X mX9_parts (e + 3 * n + 13) kAll h0 KK 112 [(3, .ref La)] [] h2 := by
    intro h2 La e' cap xs hAL hx40 hxs c1 c2 kf
    have hAL0 := hAL
    obtain ⟨k1, k2, k3, k4, k5, ⟨md, hLa⟩, k7⟩ := hAL
    refine g_aload_n (pc := 112) dX9_parts_112 rfl rfl ?_
    refine g_invV (pc := 113) dX9_parts_113 hLa rfl (jc_lsize (e + 3 * n + 12) hAL0) meJ2_size q1238 q529 q530 rfl rfl (Nat.le_of_ble_eq_true rfl) (by first | exact jF | exact fun _ z => z | assumption | (intro κ z; simp_all)) (jk_e ?_) jk_x
    refine g_anew (pc := 116) (C := "TemplateEngine$Part") 66 xs.length dX9_parts_116 rfl (by decide) rfl (by omega) q1352 q477 (by omega) (by omega) (fun hwf => ?_)
    have hwf2 := hwf
    have f3 : hFr (fun _ => False) h2 (hNew h2 (66, .inr (xs.length, fun _ => .null)) xs.length) := (hFr.rf h2).new hwf
    have n3 := hNew_s h2 (66, .inr (xs.length, fun _ => .null)) xs.length
    refine g_astore (pc := 119) (ls' := [(3, _), (4, _)]) dX9_parts_119 (Nat.le_of_ble_eq_true rfl) rfl ?_
    refine g_iconst (pc := 121) (v := nI 0) dX9_parts_121 rfl ?_
    refine g_istore (pc := 122) (ls' := [(3, _), (4, _), (5, _)]) dX9_parts_122 (Nat.le_of_ble_eq_true rfl) rfl ?_
    have loop : ∀ (r i : Nat) (F : Nat → Value) (h4 : hP), i + r = xs.length → h4.2.2 h2.1 = some (66, .inr (xs.length, F)) → (∀ j, j < i → F j = .ref (xs.getD j 0)) → hFa (fun q => q = h2.1) (hNew h2 (66, .inr (xs.length, fun _ => .null)) xs.length) h4 → h4.1 = h2.1 + 1 → h4.2.1 = h2.2.1 + xs.length → hG Z X mX9_parts (e + 3 * n + 13) kAll h0 KK 124 [(3, .ref La), (4, .ref h2.1), (5, .int (nI i))] [] h4 := by
      intro r
      induction r with
      | zero =>
        intro i F h4 hi ha4 hF fa4 q1 q2
        refine g_iload (pc := 124) dX9_parts_124 rfl ?_
        refine g_aload (pc := 126) dX9_parts_126 rfl ?_
        refine g_alen (pc := 128) dX9_parts_128 ha4 ?_
        refine g_icmp_geN (pc := 129) (tgt := 152) dX9_parts_129 rfl (by omega) (by omega) (fun _ => ?_) (fun q_ => absurd q_ (by omega))
        refine g_aload (pc := 152) dX9_parts_152 rfl ?_
        refine g_aret (pc := 154) dX9_parts_154 rfl (Or.inr ⟨_, rfl⟩) (Or.inr ⟨_, rfl⟩) ?_
        have f24 : hFr (fun _ => False) h2 h4 := by
          refine hFr.fa f3 fa4 (fun q c z y => ?_)
          rw [z] at y
          exact absurd (hwf2 _ _ y) (Nat.lt_irrefl _)
        exact kf h4 h2.1 F f24 ha4 (fun i' hi' => hF i' (by omega)) q1 q2
      | succ r ih =>
        intro i F h4 hi ha4 hF fa4 q1 q2
        have f24 : hFr (fun _ => False) h2 h4 := by
          refine hFr.fa f3 fa4 (fun q c z y => ?_)
          rw [z] at y
          exact absurd (hwf2 _ _ y) (Nat.lt_irrefl _)
        have hAL4 := hAL0.nw f24
        have hLa4 := (f24.2.2 _ _ hLa).1 (fun z => z)
        obtain ⟨κa, fa, ra, y1, y2, y3, y4, y5⟩ := (hxs (xs.getD i 0) (getD_mem (d := 0) (by omega))).fr f24 (fun _ _ z => z)
        refine g_iload (pc := 124) dX9_parts_124 rfl ?_
        refine g_aload (pc := 126) dX9_parts_126 rfl ?_
        refine g_alen (pc := 128) dX9_parts_128 ha4 ?_
        refine g_icmp_geN (pc := 129) (tgt := 152) dX9_parts_129 rfl (by omega) (by omega) (fun q_ => absurd q_ (by omega)) (fun _ => ?_)
        refine g_aload (pc := 132) dX9_parts_132 rfl ?_
        refine g_iload (pc := 134) dX9_parts_134 rfl ?_
        refine g_aload_n (pc := 136) dX9_parts_136 rfl rfl ?_
        refine g_iload (pc := 137) dX9_parts_137 rfl ?_
        refine g_invV (pc := 139) dX9_parts_139 hLa4 rfl (jc_lget (e + 3 * n + 10) i hAL4 (by omega)) meJ2_get q1239 q868 q869 rfl rfl (Nat.le_of_ble_eq_true rfl) (by first | exact jF | exact fun _ z => z | assumption | (intro κ z; simp_all)) (jk_e ?_) jk_x
        refine g_cast (pc := 142) dX9_parts_142 y1 y2 q1352 (Or.inr y4) ?_
        refine g_aast (pc := 145) i dX9_parts_145 ha4 rfl (by omega) rfl (by decide) (Nat.le_of_ble_eq_true rfl) y1 y2 (Or.inr y4) (by decide) ?_
        refine g_iincN (pc := 146) (k0 := 1) (ls' := [(3, _), (4, _), (5, _)]) dX9_parts_146 rfl (Nat.le_of_ble_eq_true rfl) rfl ?_
        refine g_goto (pc := 149) (tgt := 124) dX9_parts_149 rfl ?_
        refine ih (i + 1) (upV F i (.ref (xs.getD i 0))) _ (by omega) (hSet_s _ _ _) (fun j hj => ?_) (fa4.tr (hFa.set ha4 rfl rfl)) q1 q2
        unfold upV
        by_cases z : j = i
        · rw [if_pos z, z]
        · rw [if_neg z]; exact hF j (by omega)
    exact loop xs.length 0 _ _ (by omega) n3 (fun j hj => absurd hj (Nat.not_lt_zero _)) (hFa.rf _) rfl rfl
  -- the plain text before a tag or the end
  have plain : ∀ (h1 : hP) (p g k La e' cap q κq : Nat) (xs : List Nat), jAL Z h1 32 La 65 e' cap xs → h0.1 ≤ La → nwO Z h0 e' → xs.length ≤ 40 → (∀ a ∈ xs, pKd h1 a) → jSt h1 κq q (sbL l p k) → kK κq → p ≤ k → k ≤ l.length → hFr pzS h0 h1 → h1.1 + 10 ≤ hLC Z → h1.2.1 + 200 ≤ hLS →
      (∀ h2 e2 cap2 xs2, jAL Z h2 32 La 65 e2 cap2 xs2 → nwO Z h0 e2 → xs2.length ≤ xs.length + 1 → (∀ a ∈ xs2, pKd h2 a) → hFr pzS h0 h2 → hFr (fun k => k = 32 ∨ k = 65) h1 h2 → h2.1 ≤ h1.1 + 2 → h2.2.1 ≤ h1.2.1 + 100 → (∀ T' G, nxT T' G k g → stpT T' G l.length g = k → cXs h1 (lF l) T' G l.length (cPr h1 (lF l) T' G l.length n) p0 g0 p g xs → cXs h2 (lF l) T' G l.length (cPr h2 (lF l) T' G l.length n) p0 g0 k g xs2) → hG Z X mX9_parts (e + 3 * n + 13) kAll h0 KK 36 [(0, .ref P), (1, .int (nI S.length)), (2, .int bg), (3, .ref La), (4, .ref q)] [] h2) →
      hG Z X mX9_parts (e + 3 * n + 13) kAll h0 KK 12 [(0, .ref P), (1, .int (nI S.length)), (2, .int bg), (3, .ref La)] [.ref q] h1 := by
    intro h1 p g k La e' cap q κq xs hAL hLa0 he0 hx40 hxs jq kq hpk hkN f1 c1 c2 cont
    have kwq := jq.cl
    have jq0 := jq
    obtain ⟨-, -, bwq, κbq, hsq, hzq, hswq, -⟩ := jq0
    refine g_astore (pc := 12) (ls' := [(0, _), (1, _), (2, _), (3, _), (4, _)]) dX9_parts_12 (Nat.le_of_ble_eq_true rfl) rfl ?_
    refine g_aload (pc := 14) dX9_parts_14 rfl ?_
    refine g_invV (pc := 16) dX9_parts_16 hswq kwq (jc_isEmpty (e + 3 * n + 12) jq) meJ9_isEmpty q1129 q957 q958 rfl rfl (Nat.le_of_ble_eq_true rfl) (by first | exact jF | exact fun _ z => z | assumption | (intro κ z; simp_all)) (jk_e ?_) jk_x
    by_cases hpe : p = k
    · have : sbL l p k = [] := by
        apply List.eq_nil_of_length_eq_zero
        rw [sbL_len]; omega
      rw [decide_eq_true this]
      refine g_if_ne (pc := 19) (tgt := 36) dX9_parts_19 rfl (fun _ => ?_) (fun q_ => absurd q_ (by decide))
      refine cont h1 e' cap xs hAL he0 (by omega) hxs f1 (hFr.rf h1) (by omega) (by omega) (fun T' G _ _ z => ?_)
      rw [← hpe]; exact z
    · have hne : ¬ sbL l p k = [] := by
        intro z
        have := congrArg List.length z
        rw [sbL_len] at this
        simp at this
        omega
      rw [decide_eq_false hne]
      refine g_if_ne (pc := 19) (tgt := 36) dX9_parts_19 rfl (fun q_ => absurd rfl q_) (fun _ => ?_)
      refine g_aload_n (pc := 22) dX9_parts_22 rfl rfl ?_
      refine g_new (pc := 23) (r := (RX10, TX10, 1)) (fs := [.null]) 10 dX9_parts_23 rfl (by decide) q1130 q1131 q107 rfl (by first | omega | (simp only [hNew_1, hNew_2, hSet_1, hSet_2]; omega)) (by first | omega | (simp only [hNew_1, hNew_2, hSet_1, hSet_2]; omega)) (fun hwf1 => ?_)
      have n2 := hNew_s h1 (10, .inl [.null]) 1
      refine g_dup (pc := 26) dX9_parts_26 rfl ?_
      refine g_aload (pc := 27) dX9_parts_27 rfl ?_
      refine g_invIN (pc := 29) dX9_parts_29 (ci_X10 (e + 3 * n + 10) _ _ n2) meX10_init rfl rfl q1132 q1133 rfl rfl (Nat.le_of_ble_eq_true rfl) (fun κ z => by rw [z]; exact Nat.le_of_ble_eq_true rfl) (jk_n (fun v h3 hp3 fr3 => ?_)) jk_x
      obtain ⟨rfl, rfl⟩ := hp3
      rw [hSet_New]
      have f2 : hFr (fun _ => False) h1 (hNew h1 (10, .inl [.ref q]) 1) := (hFr.rf h1).new hwf1
      have n3 := hNew_s h1 (10, .inl [.ref q]) 1
      have z1 : (hNew h1 (10, .inl [.ref q]) 1).1 = h1.1 + 1 := rfl
      have z2 : (hNew h1 (10, .inl [.ref q]) 1).2.1 = h1.2.1 + 1 := rfl
      generalize hNew h1 (10, .inl [.ref q]) 1 = h2 at f2 n3 z1 z2 ⊢
      have hAL2 := hAL.nw f2
      have hAL20 := hAL2
      obtain ⟨-, -, -, -, -, ⟨md2, hLa2⟩, -⟩ := hAL20
      refine g_invV (pc := 32) dX9_parts_32 hLa2 rfl (jc_ladd (e + 3 * n + 6) h1.1 hAL2 ⟨_, (RX10, TX10, 1), n3, rfl, q2303⟩ (by omega) (by omega) (by omega)) meJ2_add q1143 q632 q633 rfl rfl (Nat.le_of_ble_eq_true rfl) (fun κ z => by rcases z with z | z <;> rw [z] <;> exact Nat.le_of_ble_eq_true rfl) (jk_n (fun v h4 hp4 fr4 => ?_)) jk_x
      obtain ⟨rfl, ⟨e4, cap4, hAL4, he4⟩, fa4, rm4⟩ := hp4
      have rm41 := rm4.1
      have rm42 := rm4.2
      refine g_olds (fun _ ho4 => ?_)
      have f04 := fr_addS (f1.tr (sF f2)) hwf0 fa4 hLa0 he0 ho0 ho4
      refine g_pop (pc := 35) dX9_parts_35 rfl ?_
      have f14 : hFr (fun k => k = 32 ∨ k = 65) h1 h4 := (hFr.mono (fun _ z => z.elim) f2).tr fr4
      have pk : pKd h4 h1.1 := by
        have : pKd h2 h1.1 := ⟨10, _, (RX10, TX10, 1), n3, rfl, q2303, q1727, Or.inl rfl⟩
        exact this.fr fr4 ntL
      refine cont h4 e4 cap4 (xs ++ [h1.1]) hAL4 ?_ (by rw [List.length_append]; exact Nat.le_refl _) (fun a ha => ?_) f04 f14 (by omega) (by omega) (fun T' G hnx hst z => ?_)
      · rcases he4 with z | z
        · rw [z]; exact he0
        · have := f1.1
          exact Or.inl (by omega)
      · rcases List.mem_append.mp ha with z | z
        · exact (hxs a z).fr f14 ntL
        · rw [List.mem_singleton.mp z]; exact pk
      · refine (z.kt f14 ntL (mL f14) (cPr.kt f14 ntL (mL f14))).snoc hnx (Or.inl ⟨q, κq, (fr4.2.2 _ _ n3).1 (by rintro (z | z) <;> cases z), ?_, kq, by omega, hst.symm, rfl, by omega⟩)
        rw [← sb_sg]
        exact kJ f14 kq jq
  refine g_new (pc := 0) (r := (RJ2, TJ2, 3)) (fs := [.int (nI 0), .null, .int (nI 0)]) 32 dX9_parts_0 rfl (by decide) q1042 q129 q75 rfl (by first | omega | (simp only [hNew_1, hNew_2, hSet_1, hSet_2]; omega)) (by first | omega | (simp only [hNew_1, hNew_2, hSet_1, hSet_2]; omega)) (fun hwf1 => ?_)
  refine g_dup (pc := 3) dX9_parts_3 rfl ?_
  have n1 := hNew_s h0 (32, .inl [.int (nI 0), .null, .int (nI 0)]) 3
  refine g_invI (pc := 4) dX9_parts_4 (jc_listInit0 (e + 3 * n + 9) _ _ _ n1 rfl (by decide)) meJ2_init_2 rfl rfl q1043 q1044 rfl rfl (Nat.le_of_ble_eq_true rfl) (fun κ z => by rw [z]; exact Nat.le_of_ble_eq_true rfl) (jk_n (fun v h1 hp1 fr1 => ?_)) jk_x
  obtain ⟨rfl, ee, he1, ⟨fe, he2⟩, rfl⟩ := hp1
  rw [hSet_New]
  obtain ⟨b, gb, w1, w2, w3⟩ := st_defcap.2 Z hZ
  have hbe : b = ee := by
    have := w1.symm.trans he1
    cases this
    rfl
  subst hbe
  have hwe : b ≠ h0.1 := Nat.ne_of_lt (hwf0 b _ (ho0 b _ w2))
  rw [hNew_n hwe] at he2
  have f1 : hFr (fun _ => False) h0 (hNew h0 (32, .inl [.int (nI 0), .ref b, .int (nI 0)]) 3) := (hFr.rf h0).new hwf1
  have n2 := hNew_s h0 (32, .inl [.int (nI 0), .ref b, .int (nI 0)]) 3
  have z11 : (hNew h0 (32, .inl [.int (nI 0), .ref b, .int (nI 0)]) 3).1 = h0.1 + 1 := rfl
  have z12 : (hNew h0 (32, .inl [.int (nI 0), .ref b, .int (nI 0)]) 3).2.1 = h0.2.1 + 3 := rfl
  have hfe1 := (f1.2.2 _ _ he2).1 (fun z => z)
  generalize hNew h0 (32, .inl [.int (nI 0), .ref b, .int (nI 0)]) 3 = h1 at f1 n2 z11 z12 hfe1 ⊢
  have hAL1 : jAL Z h1 32 h0.1 65 b 0 [] := ⟨⟨rfl, by decide⟩, ⟨rfl, by decide⟩, by decide, Nat.le_refl _, (fun x hx => by cases hx), ⟨_, n2⟩, fe, Or.inl ⟨rfl, he1, hfe1⟩⟩
  refine g_astore_n (pc := 7) (ls' := [(0, _), (1, _), (2, _), (3, _)]) dX9_parts_7 rfl (Nat.le_of_ble_eq_true rfl) rfl ?_
  -- the loop
  have loop : ∀ (r : Nat) (h : hP) (p g La e' cap : Nat) (T : tTb) (xs : List Nat) (pl tr ins : Value), l.length < p + r → tpTo (lF l) l.length (p0, g0, S, T0) (p, g, S, T) → tInv l.length (p, g, S, T) → g0 ≤ g → p0 ≤ p → tE g0 T0 T → hFr pzS h0 h → cMn h0 h → h.2.2 P = some (pCl E s p g pl tr ins) → jAL Z h 32 La 65 e' cap xs → h0.1 ≤ La → nwO Z h0 e' → xs.length + 2 * g0 ≤ 2 * g → (∀ a ∈ xs, pKd h a) →
      (∀ T' G, adm g0 g p T T' G → cXs h (lF l) T' G l.length (cPr h (lF l) T' G l.length n) p0 g0 p g xs) → h.1 + 100 * p0 ≤ h0.1 + 100 * p + 10 → h.2.1 + 1000 * p0 ≤ h0.2.1 + 1000 * p + 100 →
      hG Z X mX9_parts (e + 3 * n + 13) kAll h0 KK 8 [(0, .ref P), (1, .int (nI S.length)), (2, .int bg), (3, .ref La)] [] h := by
    intro r
    induction r with
    | zero =>
      intro h p g La e' cap T xs pl tr ins hr to inv
      have := inv.1
      dsimp only at this
      omega
    | succ r ih =>
      intro h p g La e' cap T xs pl tr ins hr to inv hg hp hTE f0 m0 hQ hAL hLa he hxl hxs hcx c1 c2
      have hs := hs0.fr f0 (no30 hκ) no60 no960
      have hE := (f0.2.2 _ _ hE0).1 no9
      have i1 := inv.1
      have i2 := inv.2.1
      dsimp only at i1 i2
      refine g_aload_n (pc := 8) dX9_parts_8 rfl rfl ?_
      refine g_invV (pc := 9) dX9_parts_9 hQ rfl (pt_toTag (e + 3 * n + 4) p hQ hs hκ i1 hL hE (by omega) (by omega)) meX9_toTag q1046 q1048 qs10 rfl rfl (Nat.le_of_ble_eq_true rfl) (fun κ z => by rcases z with z | z <;> rw [z] <;> exact Nat.le_of_ble_eq_true rfl) (fun v h1 hp1 fr1 => ?_) (fun xx h1 hp1 fr1 => ?_)
      · obtain ⟨rm1, hp1⟩ := hp1
        have rm11 := rm1.1
        have rm12 := rm1.2
        clear fr1
        rcases hp1 with ⟨hix, q, κq, z, jq, kq, hP1, f1⟩ | ⟨k, _, _, z, _⟩ | ⟨k, q0, hix, hix2, q, κq, i, κi, z, jq, kq, ji, ki, hP1, f1⟩
        · cases z
          have f9 : hFr pzS h h1 := hFr.mono (fun _ z => Or.inl z) f1
          have m9 : cMn h h1 := cMn.ft f1 (by decide) (by decide) (by decide) (by decide) (by decide) (by decide)
          refine plain h1 p g l.length La e' cap q κq xs (hAL.fr f1 (by decide) (by decide) (by decide)) hLa he (by omega) (fun a ha => (hxs a ha).fr f1 nt9) jq kq i1 (Nat.le_refl _) (f0.tr f9) (by omega) (by omega) (fun h2 e2 cap2 xs2 hAL2 he2 hx2 hxs2 f02 f12 c21 c22 hcx2 => ?_)
          have hP2 := (f12.2.2 _ _ hP1).1 (by rintro (z | z) <;> cases z)
          have hE2 := (f02.2.2 _ _ hE0).1 no9
          have m2 := (m0.tr m9).tr (mL f12)
          have tk := tk_none hix
          refine g_aload_n (pc := 36) dX9_parts_36 rfl rfl ?_
          refine g_get (pc := 37) (r := (RX9, TX9, 7)) 4 dX9_parts_37 hP2 rfl (Nat.le_of_ble_eq_true rfl) q1020 (Or.inl rfl) rfl ?_
          refine g_if_ge (pc := 40) (tgt := 56) dX9_parts_40 rfl (fun z => absurd z (by decide)) (fun _ => ?_)
          refine g_iload_n (pc := 43) dX9_parts_43 rfl rfl ?_
          refine g_if_le (pc := 44) (tgt := 112) dX9_parts_44 rfl (fun q44 => ?_) (fun q44 => ?_)
          · have hS : S = [] := List.eq_nil_of_length_eq_zero ((nI_le0 _ (by omega)).mp q44)
            refine g_drop [3] rfl (fin h2 La e2 cap2 xs2 hAL2 (by omega) hxs2 (by omega) (by omega) (fun h5 arr F f25 ha hF q1 q2 => ?_))
            refine fS h5 arr p g T l.length (m2.tr (cMn.F f25)) to inv hg hp hTE (f02.tr (sF f25)) (by omega) (by omega) (fun T' G ad hst => ?_) ⟨_, _, ha⟩ (Or.inl ⟨hS, tk, rfl, _, _, (f25.2.2 _ _ hP2).1 (fun z => z)⟩)
            rw [cPs_r]
            have c0 := (hcx T' G ad).kt f1 nt9 m9 (cPr.kt f1 nt9 m9)
            have nx0 := ad.nx inv
            have nx : nxT T' G l.length g := ⟨nx0.1, fun j hj => by have := nx0.2.1 j hj; omega, fun z => by unfold stpT at hst; rw [if_pos z] at hst; omega⟩
            exact ((hcx2 T' G nx hst c0).kt f25 (fun _ _ z => z) (cMn.F f25) (cPr.kt f25 (fun _ _ z => z) (cMn.F f25))).pl ha hF (by omega)
          · cases hS : S with
            | nil => exact absurd ((nI_le0 _ (by omega)).mpr (by rw [hS]; rfl)) q44
            | cons b S' =>
              have hbg' := hbg b S' hS
              have hb0 : b < g0 := inv0.2.2.1 b (by show b ∈ S; rw [hS]; exact List.mem_cons_self)
              rw [← (hTE b hb0).1] at hbg'
              rw [← hS]
              refine g_aload_n (pc := 47) dX9_parts_47 rfl rfl ?_
              refine g_get (pc := 48) (r := (RX9, TX9, 7)) 0 dX9_parts_48 hP2 rfl (Nat.le_of_ble_eq_true rfl) q1015 (Or.inl rfl) rfl ?_
              refine g_iload_n (pc := 51) dX9_parts_51 rfl rfl ?_
              refine g_invSN (pc := 52) dX9_parts_52 (pt_fault (e + 3 * n + 5) bg hE2 (by omega) (by omega)) meX1_faultAt q1125 q1126 rfl rfl (Nat.le_of_ble_eq_true rfl) (fun κ z => by rw [z]; exact Nat.le_of_ble_eq_true rfl) (jk_n (fun v h9 hp9 fr9 => ?_)) jk_x
              obtain ⟨rfl, rfl, hwf9⟩ := hp9
              refine g_athrow (pc := 55) dX9_parts_55 (hNew_s _ _ _) (by decide) rfl ?_
              refine gx_out (fun x hx => by cases hx) ?_
              rw [hbg']
              refine fX _ _ (m2.tr (cMn.flt hE2 rfl rfl hwf9)) (psX.new hE2 (hFr.mono (fun _ => pzS.x) f02) hwf9 (gx := g) (Tx := T) (to.fin (tpFn.one ?_)) (by omega) (by omega))
              rw [tpS_none tk, hS]
              rfl
        · cases z
        · cases z
          change ixO l (clT l k) (k + nbT l k) = some q0 at hix2
          change jSt h1 κi i (sbL l (k + nbT l k) q0) at ji
          change h1.2.2 P = some (pCl E s (q0 + nbT l k) g (.int (nI k)) (.int (nI (stB (lF l) l.length k [123, 123, 123]).toNat)) (.ref i)) at hP1
          obtain ⟨y1, y2, y3, y4, y5, tk⟩ := tk_facts hix hix2
          clear hix hix2
          have hex : ∀ j, isEx (lF (sbL l (k + nbT l k) q0)) (sbL l (k + nbT l k) q0).length j = true → exO (lF l) q0 (k + nbT l k + j) = exO (lF (sbL l (k + nbT l k) q0)) (sbL l (k + nbT l k) q0).length j := fun j hj => exO_sb y2 hj
          have hfw : ∀ j, j < (sbL l (k + nbT l k) q0).length → lF l (k + nbT l k + j) = lF (sbL l (k + nbT l k) q0) j := fun j hj => sb_H j (by rw [sbL_len] at hj; exact hj)
          have hwl : (sbL l (k + nbT l k) q0).length = q0 - (k + nbT l k) := sbL_len _ _ _
          generalize sbL l (k + nbT l k) q0 = w at ji tk hex hfw hwl
          generalize stB (lF l) l.length k [123, 123, 123] = th at hP1 tk
          generalize nbT l k = nb at y2 y3 y4 y5 tk hex hfw hwl hP1
          have f9 : hFr pzS h h1 := hFr.mono (fun _ z => Or.inl z) f1
          have m9 : cMn h h1 := cMn.ft f1 (by decide) (by decide) (by decide) (by decide) (by decide) (by decide)
          refine plain h1 p g k La e' cap q κq xs (hAL.fr f1 (by decide) (by decide) (by decide)) hLa he (by omega) (fun a ha => (hxs a ha).fr f1 nt9) jq kq y1 (by omega) (f0.tr f9) (by omega) (by omega) (fun h2 e2 cap2 xs2 hAL2 he2 hx2 hxs2 f02 f12 c21 c22 hcx2 => ?_)
          have hP2 := (f12.2.2 _ _ hP1).1 (by rintro (z | z) <;> cases z)
          have m2 := (m0.tr m9).tr (mL f12)
          have ji2 := kJ f12 ki ji
          refine g_aload_n (pc := 36) dX9_parts_36 rfl rfl ?_
          refine g_get (pc := 37) (r := (RX9, TX9, 7)) 4 dX9_parts_37 hP2 rfl (Nat.le_of_ble_eq_true rfl) q1020 (Or.inl rfl) rfl ?_
          refine g_if_geN (pc := 40) (tgt := 56) dX9_parts_40 rfl (by omega) ?_
          refine g_aload_n (pc := 56) dX9_parts_56 rfl rfl ?_
          refine g_dup (pc := 57) dX9_parts_57 rfl ?_
          refine g_get (pc := 58) (r := (RX9, TX9, 7)) 3 dX9_parts_58 hP2 rfl (Nat.le_of_ble_eq_true rfl) q1018 (Or.inl rfl) rfl ?_
          refine g_iconst (pc := 61) (v := nI 1) dX9_parts_61 rfl ?_
          first | refine g_iaddN (pc := 62) dX9_parts_62 ?_ | refine g_iadd (pc := 62) dX9_parts_62 ?_
          refine g_put (pc := 63) (r := (RX9, TX9, 7)) 3 dX9_parts_63 hP2 rfl (Nat.le_of_ble_eq_true rfl) q1018 (Or.inl rfl) rfl (by decide) (Nat.le_of_ble_eq_true rfl) (tyX9_ok 3 (Nat.le_of_ble_eq_true rfl)) rfl rfl ?_
          show hG Z X mX9_parts (e + 3 * n + 13) kAll h0 KK 66 _ [] (hSet h2 P (pCl E s (q0 + nb) (g + 1) (.int (nI k)) (.int (nI th.toNat)) (.ref i)))
          have fr3 : hFr (fun κ => κ = 9) h2 (hSet h2 P (pCl E s (q0 + nb) (g + 1) (.int (nI k)) (.int (nI th.toNat)) (.ref i))) := (hFr.rf h2).set hP2 rfl rfl
          have hP3 := hSet_s h2 P (pCl E s (q0 + nb) (g + 1) (.int (nI k)) (.int (nI th.toNat)) (.ref i))
          have z31 : (hSet h2 P (pCl E s (q0 + nb) (g + 1) (.int (nI k)) (.int (nI th.toNat)) (.ref i))).1 = h2.1 := rfl
          have z32 : (hSet h2 P (pCl E s (q0 + nb) (g + 1) (.int (nI k)) (.int (nI th.toNat)) (.ref i))).2.1 = h2.2.1 := rfl
          generalize hSet h2 P (pCl E s (q0 + nb) (g + 1) (.int (nI k)) (.int (nI th.toNat)) (.ref i)) = h3 at fr3 hP3 z31 z32 ⊢
          have f03 : hFr pzS h0 h3 := f02.tr (hFr.mono (fun _ z => Or.inl z) fr3)
          have m23 : cMn h2 h3 := cMn.ft fr3 (by decide) (by decide) (by decide) (by decide) (by decide) (by decide)
          have m3 := m2.tr m23
          have hAL3 := hAL2.fr fr3 (by decide) (by decide) (by decide)
          have hxs3 : ∀ a ∈ xs2, pKd h3 a := fun a ha => (hxs2 a ha).fr fr3 nt9
          have hE3 := (f03.2.2 _ _ hE0).1 no9
          have hs3 := hs0.fr f03 (no30 hκ) no60 no960
          have ji3 := ji2.fr fr3 (by rcases ki with z | z <;> rw [z] <;> decide) (by decide) (by decide)
          -- a Part
          have goP : (th = false → enB w = false) → hG Z X mX9_parts (e + 3 * n + 13) kAll h0 KK 99 [(0, .ref P), (1, .int (nI S.length)), (2, .int bg), (3, .ref La), (4, .ref q)] [] h3 := by
            intro hnE
            refine g_aload_n (pc := 99) dX9_parts_99 rfl rfl ?_
            refine g_aload_n (pc := 100) dX9_parts_100 rfl rfl ?_
            refine g_iload_n (pc := 101) dX9_parts_101 rfl rfl ?_
            refine g_invV (pc := 102) dX9_parts_102 hP3 rfl (pt_part (n := n) (e := e) (w := w) (fr := k + nb) (q0 := q0) hn IH inv hL hP3 hs3 hκ hE3 ji3 ki hnE tk hex hfw (by omega) (by omega) y1 (by omega) (by omega)) meX9_part q1152 q1154 qs11 rfl rfl (Nat.le_of_ble_eq_true rfl) (fun κ z => by rcases z with z | z | z | z | z <;> rw [z] <;> exact Nat.le_of_ble_eq_true rfl) (fun v h4 hp4 fr4 => ?_) (fun xx h4 hp4 fr4 => ?_)
            · obtain ⟨m4, hp4⟩ := hp4
              rcases hp4 with ⟨a, p2, g2, T2, pl2, tr2, ins2, z, to2, inv2, hg2, -, hk2, hTk, hTE2, f4, c41, c42, hP4, pka, hpart⟩ | ⟨_, _, _, z, _⟩
              · cases z
                have f4s := f4.1
                have ip2 := inv2.1
                dsimp only at ip2
                have hAL4 := hAL3.fr f4 no32 no65 no965
                have hAL40 := hAL4
                obtain ⟨-, -, -, -, -, ⟨md4, hLa4⟩, -⟩ := hAL40
                refine g_invV (pc := 105) dX9_parts_105 hLa4 rfl (jc_ladd (e + 3 * n + 6) a hAL4 pka.el (by omega) (by omega) (by omega)) meJ2_add q1143 q632 q633 rfl rfl (Nat.le_of_ble_eq_true rfl) (fun κ z => by rcases z with z | z <;> rw [z] <;> exact Nat.le_of_ble_eq_true rfl) (jk_n (fun v h5 hp5 fr5 => ?_)) jk_x
                obtain ⟨rfl, ⟨e5', cap5, hAL5, he5⟩, fa5, rm5⟩ := hp5
                have rm51 := rm5.1
                have rm52 := rm5.2
                refine g_olds (fun _ ho5 => ?_)
                have f05 := fr_addS (f03.tr f4) hwf0 fa5 hLa he2 ho0 ho5
                refine g_pop (pc := 108) dX9_parts_108 rfl ?_
                refine g_goto (pc := 109) (tgt := 8) dX9_parts_109 rfl ?_
                refine g_drop [0, 1, 2, 3] rfl (ih h5 p2 g2 La e5' cap5 T2 (xs2 ++ [a]) pl2 tr2 ins2 (by omega) (to.trans to2) inv2 (by omega) (by omega) (hTE.tr hTE2 hg) f05 ((m3.tr m4).tr (mL fr5)) ((fr5.2.2 _ _ hP4).1 (by rintro (z | z) <;> cases z)) hAL5 hLa ?_ (by rw [List.length_append, List.length_singleton]; omega) (fun a' ha' => ?_) (fun T' G ad => ?_) (by omega) (by omega))
                · rcases he5 with z | z
                  · rw [z]; exact he2
                  · have := (f03.tr f4).1
                    exact Or.inl (by omega)
                · rcases List.mem_append.mp ha' with z | z
                  · exact ((hxs3 a' z).fr f4 pzS.t).fr fr5 ntL
                  · rw [List.mem_singleton.mp z]; exact pka.fr fr5 ntL
                · have adG := ad.1
                  have ad1 : adm g0 g p T T' G := ad.pre hTE2 hg2 (by rw [hTk]; exact y1)
                  have hT'g : (T'.1 g).1 = k := by rw [ad.2.1 g hg2]; exact hTk
                  have c0 := (hcx T' G ad1).kt f1 nt9 m9 (cPr.kt f1 nt9 m9)
                  have nx0 := ad1.nx inv
                  have nx : nxT T' G k g := ⟨nx0.1, fun j hj => by have := nx0.2.1 j hj; omega, fun z => by rw [hT'g]; exact Nat.le_refl _⟩
                  have hst : stpT T' G l.length g = k := by
                    unfold stpT
                    rw [if_pos (by omega)]
                    exact hT'g
                  have cc1 := hcx2 T' G nx hst c0
                  have cc2 := cc1.kt fr3 nt9 m23 (cPr.kt fr3 nt9 m23)
                  have cc3 := cc2.kt f4 pzS.t m4 (cPr.kt f4 pzS.t m4)
                  have cc4 := cc3.kt fr5 ntL (mL fr5) (cPr.kt fr5 ntL (mL fr5))
                  exact cc4.snoc (ad.nx inv2) ((hpart T' G (ad.lo hg)).kt fr5 ntL (mL fr5) (cPr.kt fr5 ntL (mL fr5)))
              · cases z
            · obtain ⟨m4, hp4⟩ := hp4
              rcases hp4 with ⟨a, p2, g2, T2, pl2, tr2, ins2, z, -⟩ | hx4
              · cases z
              · refine gx_out (fun x hx => by cases hx) ?_
                exact fX _ _ (m3.tr m4) (hx4.pre (hFr.mono (fun _ => pzS.x) f03) to (by omega) (by omega))
          refine g_aload_n (pc := 66) dX9_parts_66 rfl rfl ?_
          refine g_get (pc := 67) (r := (RX9, TX9, 7)) 5 dX9_parts_67 hP3 rfl (Nat.le_of_ble_eq_true rfl) q1021 (Or.inl rfl) rfl ?_
          cases th with
          | true =>
            refine g_if_ne (pc := 70) (tgt := 99) dX9_parts_70 rfl (fun _ => goP (fun z => by cases z)) (fun q_ => absurd q_ (by decide))
          | false =>
            refine g_if_ne (pc := 70) (tgt := 99) dX9_parts_70 rfl (fun q_ => absurd rfl q_) (fun _ => ?_)
            refine g_aload_n (pc := 73) dX9_parts_73 rfl rfl ?_
            refine g_get (pc := 74) (r := (RX9, TX9, 7)) 6 dX9_parts_74 hP3 rfl (Nat.le_of_ble_eq_true rfl) q1022 (Or.inl rfl) rfl ?_
            refine g_invS (pc := 77) dX9_parts_77 (pt_isEnd (e + 3 * n + 10) ji3) meX9_isEnd q1144 q1145 rfl rfl (Nat.le_of_ble_eq_true rfl) (by first | exact jF | exact fun _ z => z | assumption | (intro κ z; simp_all)) (jk_e ?_) jk_x
            cases hen : enB w with
            | false =>
              refine g_if_eq (pc := 80) (tgt := 99) dX9_parts_80 rfl (fun _ => goP (fun _ => hen)) (fun q_ => absurd rfl q_)
            | true =>
              refine g_if_eq (pc := 80) (tgt := 99) dX9_parts_80 rfl (fun q_ => absurd q_ (by decide)) (fun _ => ?_)
              have tk2 : tkT (lF l) l.length p = some (.inr (k, k + nb, q0, q0 + nb, enS w)) := by
                rw [tk, sn_ends hen]
                rfl
              have hes := enS_le w
              refine g_iload_n (pc := 83) dX9_parts_83 rfl rfl ?_
              refine g_if_neN (pc := 84) (tgt := 112) dX9_parts_84 rfl (by omega) (fun q84 => ?_) (fun q84 => ?_)
              · refine g_drop [3] rfl (fin h3 La e2 cap2 xs2 hAL3 (by omega) hxs3 (by omega) (by omega) (fun h5 arr F f35 ha hF q1 q2 => ?_))
                refine fS h5 arr p g T k (m3.tr (cMn.F f35)) to inv hg hp hTE (f03.tr (sF f35)) (by omega) (by omega) (fun T' G ad hst => ?_) ⟨_, _, ha⟩ (Or.inr ⟨(fun z => by rw [z] at q84; exact absurd q84 (Nat.lt_irrefl _)), _, w, i, κi, tk2, rfl, hen, rfl, (f35.2.2 _ _ hP3).1 (fun z => z), ji3.fr f35 (fun z => z) (fun z => z) (fun z => z), ki⟩)
                rw [cPs_r]
                have c0 := (hcx T' G ad).kt f1 nt9 m9 (cPr.kt f1 nt9 m9)
                have nx0 := ad.nx inv
                have nx : nxT T' G k g := ⟨nx0.1, fun j hj => by have := nx0.2.1 j hj; omega, fun z => by unfold stpT at hst; rw [if_pos z] at hst; omega⟩
                have cc1 := (hcx2 T' G nx hst c0).kt fr3 nt9 m23 (cPr.kt fr3 nt9 m23)
                exact (cc1.kt f35 (fun _ _ z => z) (cMn.F f35) (cPr.kt f35 (fun _ _ z => z) (cMn.F f35))).pl ha hF (by omega)
              · have hS : S = [] := List.eq_nil_of_length_eq_zero q84
                refine g_aload_n (pc := 87) dX9_parts_87 rfl rfl ?_
                refine g_get (pc := 88) (r := (RX9, TX9, 7)) 0 dX9_parts_88 hP3 rfl (Nat.le_of_ble_eq_true rfl) q1015 (Or.inl rfl) rfl ?_
                refine g_aload_n (pc := 91) dX9_parts_91 rfl rfl ?_
                refine g_get (pc := 92) (r := (RX9, TX9, 7)) 4 dX9_parts_92 hP3 rfl (Nat.le_of_ble_eq_true rfl) q1020 (Or.inl rfl) rfl ?_
                refine g_invSN (pc := 95) dX9_parts_95 (pt_fault (e + 3 * n + 5) (nI k) hE3 (by omega) (by omega)) meX1_faultAt q1125 q1126 rfl rfl (Nat.le_of_ble_eq_true rfl) (fun κ z => by rw [z]; exact Nat.le_of_ble_eq_true rfl) (jk_n (fun v h9 hp9 fr9 => ?_)) jk_x
                obtain ⟨rfl, rfl, hwf9⟩ := hp9
                refine g_athrow (pc := 98) dX9_parts_98 (hNew_s _ _ _) (by decide) rfl ?_
                refine gx_out (fun x hx => by cases hx) ?_
                refine fX _ _ (m3.tr (cMn.flt hE3 rfl rfl hwf9)) (psX.new hE3 (hFr.mono (fun _ => pzS.x) f03) hwf9 (gx := g) (Tx := T) (to.fin (tpFn.one ?_)) (by omega) (by omega))
                rw [hS]
                exact ts_end0 tk2 hes
      · obtain ⟨rm1, hp1⟩ := hp1
        have rm11 := rm1.1
        have rm12 := rm1.2
        rcases hp1 with ⟨hix, q, κq, z, -⟩ | ⟨k, hix, hix2, z, hE1, f1⟩ | ⟨k, q0, hix, hix2, q, κq, i, κi, z, -⟩
        · cases z
        · cases z
          refine gx_out (fun x hx => by cases hx) ?_
          have f1' : hFr pzX h h1 := hFr.mono (fun κ z => by rcases z with z | z; exact Or.inr (Or.inl z); exact Or.inl z) f1
          have m1 : cMn h h1 := cMn.ft f1 (by decide) (by decide) (by decide) (by decide) (by decide) (by decide)
          refine fX _ _ (m0.tr m1) ⟨k, g, T, rfl, to.fin (tpFn.one (tpS_fl (tk_fl hix hix2))), hE1, (hFr.mono (fun _ => pzS.x) f0).tr f1', by omega, by omega⟩
        · cases z
  have f01 := sF f1
  refine loop (l.length + 1) h1 p0 g0 h0.1 b 0 T0 [] pl0 tr0 ins0 (by omega) (tpTo.refl _) inv0 (Nat.le_refl _) (Nat.le_refl _) (tE.rf _ _) f01 (cMn.F f1) ((f1.2.2 _ _ hQ0).1 (fun z => z)) hAL1 (Nat.le_refl _) (Or.inr ⟨_, w2⟩) (by simp) (fun a ha => by cases ha) (fun T' G ad => cXs.nil (ad.nx inv0)) (by omega) (by omega)
/-- Parser.parts -/
theorem pt_parts (hL : l.length ≤ 64) : ∀ n, psC Z l E P s (fun v => eC e0 e1 e2 e3 v e5 e6 e7) n (e + 3 * n + 13)
  | 0 => pt_parts0 hL 0 (fun n' z => by omega)
  | n + 1 => pt_parts0 hL (n + 1) (fun n' z => by
    have : n' = n := by omega
    subst this
    exact pt_parts hL n')
end PQ
