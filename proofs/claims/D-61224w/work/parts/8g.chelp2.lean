/-! COMPONENT 17: Help.value; any expression -/
set_option maxRecDepth 100000
/-- the names of the helpers -/
def nmH : Nat → List Nat
  | 1 => [117, 112]
  | 2 => [108, 101, 110]
  | 3 => [110, 111, 116]
  | 4 => [97, 100, 100]
  | 5 => [101, 113]
  | _ => [97, 116]
theorem nmH_len {k : Nat} (h : k ≤ 6) : (nmH k).length ≤ 1000000 := by
  have : ∀ k, k < 7 → (nmH k).length ≤ 1000000 := by decide
  exact this k (by omega)
theorem cHq.pre {D : aD} {w : cW} {o1 o2 cap1 cap2 N : Nat} {res : Option aV} {h h1 h' : hP} {r : hO} (m : cMn h h1) (e1 : h1.1 = h.1) (e2 : h1.2.1 = h.2.1) (x : cHq D w o1 o2 cap1 cap2 N res h1 r h') : cHq D w o1 o2 cap1 cap2 N res h r h' := by
  rcases x with ⟨x, v, c1, c2, l1, l2, y1, y2, y3, y4, y5, y6, y7, y8, y9, y10⟩ | ⟨y1, y2, y3, y4, y5⟩
  · exact Or.inl ⟨x, v, c1, c2, l1, l2, y1, y2, y3, y4, y5, y6, y7, by omega, by omega, m.tr y10⟩
  · exact Or.inr ⟨y1, y2, by omega, by omega, m.tr y5⟩
/-- an expression -/
def cEx (h : hP) (x : aE) (a : Nat) : Prop := match x with
  | .inl o => cOp h o a
  | .inr (k, A, B) => 1 ≤ k ∧ k ≤ 6 ∧ ∃ s κ oa ob, h.2.2 a = some (15, .inl [.ref s, .ref oa, ob]) ∧ jSt h κ s (nmH k) ∧ (κ = 130 ∨ κ = 930) ∧ cOp h A oa ∧ (B = none ∧ ob = .null ∨ ∃ B' b, B = some B' ∧ ob = .ref b ∧ cOp h B' b)
theorem cEx.kt {h h' : hP} {S : Nat → Prop} {x : aE} {a : Nat} (f : hFr S h h') (n : cNE S) (mn : cMn h h') (q : cEx h x a) : cEx h' x a := by
  unfold cEx at q ⊢
  split
  · exact q.kt f n mn
  · obtain ⟨k1, k2, s, κ, oa, ob, e1, e2, e3, e4, e5⟩ := q
    refine ⟨k1, k2, s, κ, oa, ob, (f.2.2 _ _ e1).1 (n 15 (by decide)), ?_, e3, e4.kt f n mn, ?_⟩
    · rcases e3 with rfl | rfl
      · exact mn.2.1 _ _ e2
      · exact e2.fr f (n 930 (by decide)) (n 60 (by decide)) (n 960 (by decide))
    · rcases e5 with ⟨z1, z2⟩ | ⟨B', b, z1, z2, z3⟩
      · exact Or.inl ⟨z1, z2⟩
      · exact Or.inr ⟨B', b, z1, z2, z3.kt f n mn⟩
theorem cEx.kp {h h' : hP} {S : Nat → Prop} {x : aE} {a : Nat} (f : hFr S h h') (n : cNS S) (mn : cMn h h') (q : cEx h x a) : cEx h' x a := cEx.kt f n.t.e mn q
section CG
variable {Z : hE} {h : hP} {D : aD} {w : cW} {q a m o1 o2 cap1 cap2 n : Nat} {CA : Nat → Nat} {C : List aV} {l1 l2 : List Nat}
theorem ch_help (e k s κ oa : Nat) (ob : Value) (A : aO) (B : Option aO) (tn : Option Nat) (he : D.1 + n + 21 ≤ e) (k1 : 1 ≤ k) (k6 : k ≤ 6) (hn : C.length = n + 1) (ht : ∀ k, tn = some k → k < 10) (ha : h.2.2 a = some (15, .inl [.ref s, .ref oa, ob])) (hs : jSt h κ s (nmH k)) (hκ : κ = 130 ∨ κ = 930) (hA : cOp h A oa) (hB : B = none ∧ ob = .null ∨ ∃ B' b, B = some B' ∧ ob = .ref b ∧ cOp h B' b) (hC : cCh D w CA m o1 o2 C h) (hD : cD D w h q) (h1 : cO h 4 o1 cap1 l1) (h2 : cO h 5 o2 cap2 l2) (r1 : h.1 + 1800 ≤ hLC Z) (r2 : h.2.1 + 5000 ≤ hLS) : hCt Z mX15_value e eKd [.ref a, .ref (CA (C.length - 1)), .int (tI tn)] h (cHq D w o1 o2 cap1 cap2 (n + 1) (evE D C tn (.inr (k, A, B))) h) := by
  obtain ⟨e, rfl⟩ : ∃ e', e = e' + 21 := ⟨e - 21, by omega⟩
  refine hCt.shr (S' := eKn) ?_
  refine hCt.of pnX15 rfl (Nat.le_of_ble_eq_true rfl) rfl (fun X => ?_)
  have kw := hs.cl
  have hs0 := hs
  obtain ⟨_, _, bw, κb, hs1, hz, hsw, _⟩ := hs0
  have n1 : C.length - 1 = n := by omega
  obtain ⟨c1, c2, c3, c4, c5⟩ := id hC
  obtain ⟨dd, hca, -⟩ := c5 n (by omega)
  have mid : ∀ (v v2 : aV) (x y : Value), cV D w.1 h n v x → cV D w.1 h n v2 y → evE D C tn (.inr (k, A, B)) = hpV D k v v2 → hG Z X mX15_value (e + 21) eKn h (fun r h' => cHq D w o1 o2 cap1 cap2 (n + 1) (evE D C tn (.inr (k, A, B))) h r h' ∧ hFr eKd h h') 34 [(0, .ref a), (1, .ref (CA n)), (2, .int (tI tn)), (3, x)] [y] h := by
    intro v v2 x y hv hv2 hev
    rw [hev]
    have hy := hv2.nr
    suffices k42 : hG Z X mX15_value (e + 21) eKn h (fun r h' => cHq D w o1 o2 cap1 cap2 (n + 1) (hpV D k v v2) h r h' ∧ hFr eKd h h') 42 [(0, .ref a), (1, .ref (CA n)), (2, .int (tI tn)), (3, x), (4, y), (5, .ref s)] [] h by
      rcases hv.nr with hx0 | ⟨c, hx0⟩ <;> rcases hv2.nr with hy0 | ⟨c', hy0⟩ <;> (subst hx0; subst hy0; refine g_astoreX (pc := 34) (ls' := [(0, _), (1, _), (2, _), (3, _), (4, _)]) dX15_value_34 (Nat.le_of_ble_eq_true rfl) rfl hy ?_; refine g_aload_n (pc := 36) dX15_value_36 rfl rfl ?_; refine g_get (pc := 37) (r := (RX15, TX15, 3)) 0 dX15_value_37 ha rfl (Nat.le_of_ble_eq_true rfl) q1312 (Or.inl rfl) rfl ?_; exact g_astore (pc := 40) dX15_value_40 (Nat.le_of_ble_eq_true rfl) rfl k42)
    refine g_iconst (pc := 42) (v := (-1)) dX15_value_42 rfl ?_
    refine g_istore (pc := 43) (ls' := [(0, _), (1, _), (2, _), (3, _), (4, _), (5, _), (6, _)]) dX15_value_43 (Nat.le_of_ble_eq_true rfl) rfl ?_
    refine g_aload (pc := 45) dX15_value_45 rfl ?_
    refine g_invV (pc := 47) dX15_value_47 hsw kw (jc_hashCode (e + 17) hs hκ (nmH_len k6)) meJ9_hashCode q1550 q1244 q1245 rfl rfl (Nat.le_of_ble_eq_true rfl) (fun κ z => eKn_e κ (Or.inr (Or.inl z))) (jk_n (fun u h3 hp fr => ?_)) jk_x
    obtain ⟨rfl, x1, x2, x3, x4⟩ := hp
    have fr' : hFr (fun z => z = 130) h h3 := fr
    have ns3 : cNS (fun z => z = 130) := by
      intro κ hκ z
      subst z
      revert hκ
      decide
    have m3 : cMn h h3 := ⟨fun a l t => t.fr fr' (by decide) (by decide) (by decide) (by decide) (by decide), fun a l t => x4 _ _ _ t, fun a k s c z => ⟨c, (fr'.2.2 a _ z).1 (by intro z; cases z)⟩⟩
    have hD3 := hD.kp fr' ns3 m3
    have hv3 := hv.kp fr' ns3 m3
    have hv23 := hv2.kp fr' ns3 m3
    have h13 := h1.fr fr' (by decide) (by decide) (by decide)
    have h23 := h2.fr fr' (by decide) (by decide) (by decide)
    have hca3 := (fr'.2.2 _ _ hca).1 (by intro z; cases z)
    have kwx := x1.cl
    have x10 := x1
    obtain ⟨_, _, bw', κb', hs1', hz', hsw', _⟩ := x10
    have f3 : hFr eKd h h3 := hFr.mono (fun κ z => Or.inr (Or.inl z)) fr'
    have hK : ∀ r h', cHq D w o1 o2 cap1 cap2 (n + 1) (hpV D k v v2) h3 r h' → hFr eKd h3 h' → (cHq D w o1 o2 cap1 cap2 (n + 1) (hpV D k v v2) h r h' ∧ hFr eKd h h') := fun r h' z1 z2 => ⟨z1.pre m3 x2 x3, f3.tr z2⟩
    rcases (show k = 1 ∨ k = 2 ∨ k = 3 ∨ k = 4 ∨ k = 5 ∨ k = 6 by omega) with rfl | rfl | rfl | rfl | rfl | rfl
    · refine g_lookup (pc := 50) (off := 50) (tgt := 100) dX15_value_50 (by decide) (by decide +kernel) rfl ?_
      refine g_aload (pc := 100) dX15_value_100 rfl ?_
      refine g_ldcK (pc := 102) dX15_value_102 ksX15_32 (fun hk => ?_)
      refine g_invV (pc := 104) dX15_value_104 hsw' kwx (jc_equals (e + 19) 930 _ _ x1 hk) meJ9_equals q1552 q965 q966 rfl rfl (Nat.le_of_ble_eq_true rfl) (by first | exact jF | exact fun _ z => z | assumption | (intro κ z; simp_all)) (jk_e ?_) jk_x
      refine g_if_eq (pc := 107) (tgt := 177) dX15_value_107 rfl (fun q_ => absurd q_ (by decide)) (fun _ => ?_)
      refine g_iconst (pc := 110) (v := nI 0) dX15_value_110 rfl ?_
      refine g_istore (pc := 111) (ls' := [(0, _), (1, _), (2, _), (3, _), (4, _), (5, _), (6, _)]) dX15_value_111 (Nat.le_of_ble_eq_true rfl) rfl ?_
      refine g_goto (pc := 113) (tgt := 177) dX15_value_113 rfl ?_
      refine g_iload (pc := 177) dX15_value_177 rfl ?_
      refine g_tableIn (pc := 179) (tgt := 212) dX15_value_179 (by decide) (by decide) rfl rfl ?_
      refine g_drop [1, 3] rfl (?_)
      exact ch_up (e + 21) (by omega) hca3 hD3 hv3 h13 h23 (by omega) (by omega) hK
    · refine g_lookup (pc := 50) (off := 66) (tgt := 116) dX15_value_50 (by decide) (by decide +kernel) rfl ?_
      refine g_aload (pc := 116) dX15_value_116 rfl ?_
      refine g_ldcK (pc := 118) dX15_value_118 ksX15_38 (fun hk => ?_)
      refine g_invV (pc := 120) dX15_value_120 hsw' kwx (jc_equals (e + 19) 930 _ _ x1 hk) meJ9_equals q1552 q965 q966 rfl rfl (Nat.le_of_ble_eq_true rfl) (by first | exact jF | exact fun _ z => z | assumption | (intro κ z; simp_all)) (jk_e ?_) jk_x
      refine g_if_eq (pc := 123) (tgt := 177) dX15_value_123 rfl (fun q_ => absurd q_ (by decide)) (fun _ => ?_)
      refine g_iconst (pc := 126) (v := nI 1) dX15_value_126 rfl ?_
      refine g_istore (pc := 127) (ls' := [(0, _), (1, _), (2, _), (3, _), (4, _), (5, _), (6, _)]) dX15_value_127 (Nat.le_of_ble_eq_true rfl) rfl ?_
      refine g_goto (pc := 129) (tgt := 177) dX15_value_129 rfl ?_
      refine g_iload (pc := 177) dX15_value_177 rfl ?_
      refine g_tableIn (pc := 179) (tgt := 253) dX15_value_179 (by decide) (by decide) rfl rfl ?_
      refine g_drop [1, 3] rfl (?_)
      exact ch_len (e + 21) (by omega) hD3 hv3 h13 h23 (by omega) (by omega) hK
    · refine g_lookup (pc := 50) (off := 82) (tgt := 132) dX15_value_50 (by decide) (by decide +kernel) rfl ?_
      refine g_aload (pc := 132) dX15_value_132 rfl ?_
      refine g_ldcK (pc := 134) dX15_value_134 ksX15_40 (fun hk => ?_)
      refine g_invV (pc := 136) dX15_value_136 hsw' kwx (jc_equals (e + 19) 930 _ _ x1 hk) meJ9_equals q1552 q965 q966 rfl rfl (Nat.le_of_ble_eq_true rfl) (by first | exact jF | exact fun _ z => z | assumption | (intro κ z; simp_all)) (jk_e ?_) jk_x
      refine g_if_eq (pc := 139) (tgt := 177) dX15_value_139 rfl (fun q_ => absurd q_ (by decide)) (fun _ => ?_)
      refine g_iconst (pc := 142) (v := nI 2) dX15_value_142 rfl ?_
      refine g_istore (pc := 143) (ls' := [(0, _), (1, _), (2, _), (3, _), (4, _), (5, _), (6, _)]) dX15_value_143 (Nat.le_of_ble_eq_true rfl) rfl ?_
      refine g_goto (pc := 145) (tgt := 177) dX15_value_145 rfl ?_
      refine g_iload (pc := 177) dX15_value_177 rfl ?_
      refine g_tableIn (pc := 179) (tgt := 273) dX15_value_179 (by decide) (by decide) rfl rfl ?_
      refine g_drop [1, 3] rfl (?_)
      exact ch_not (e + 21) (by omega) hD3 hv3 h13 h23 hK
    · refine g_lookup (pc := 50) (off := 114) (tgt := 164) dX15_value_50 (by decide) (by decide +kernel) rfl ?_
      refine g_aload (pc := 164) dX15_value_164 rfl ?_
      refine g_ldcK (pc := 166) dX15_value_166 ksX15_44 (fun hk => ?_)
      refine g_invV (pc := 168) dX15_value_168 hsw' kwx (jc_equals (e + 19) 930 _ _ x1 hk) meJ9_equals q1552 q965 q966 rfl rfl (Nat.le_of_ble_eq_true rfl) (by first | exact jF | exact fun _ z => z | assumption | (intro κ z; simp_all)) (jk_e ?_) jk_x
      refine g_if_eq (pc := 171) (tgt := 177) dX15_value_171 rfl (fun q_ => absurd q_ (by decide)) (fun _ => ?_)
      refine g_iconst (pc := 174) (v := nI 4) dX15_value_174 rfl ?_
      refine g_istore (pc := 175) (ls' := [(0, _), (1, _), (2, _), (3, _), (4, _), (5, _), (6, _)]) dX15_value_175 (Nat.le_of_ble_eq_true rfl) rfl ?_
      refine g_iload (pc := 177) dX15_value_177 rfl ?_
      refine g_tableIn (pc := 179) (tgt := 305) dX15_value_179 (by decide) (by decide) rfl rfl ?_
      refine g_drop [1, 3, 4] rfl (?_)
      exact ch_add (e + 21) (by omega) hD3 hv3 hv23 h13 h23 (by omega) (by omega) hK
    · refine g_lookup (pc := 50) (off := 98) (tgt := 148) dX15_value_50 (by decide) (by decide +kernel) rfl ?_
      refine g_aload (pc := 148) dX15_value_148 rfl ?_
      refine g_ldcK (pc := 150) dX15_value_150 ksX15_42 (fun hk => ?_)
      refine g_invV (pc := 152) dX15_value_152 hsw' kwx (jc_equals (e + 19) 930 _ _ x1 hk) meJ9_equals q1552 q965 q966 rfl rfl (Nat.le_of_ble_eq_true rfl) (by first | exact jF | exact fun _ z => z | assumption | (intro κ z; simp_all)) (jk_e ?_) jk_x
      refine g_if_eq (pc := 155) (tgt := 177) dX15_value_155 rfl (fun q_ => absurd q_ (by decide)) (fun _ => ?_)
      refine g_iconst (pc := 158) (v := nI 3) dX15_value_158 rfl ?_
      refine g_istore (pc := 159) (ls' := [(0, _), (1, _), (2, _), (3, _), (4, _), (5, _), (6, _)]) dX15_value_159 (Nat.le_of_ble_eq_true rfl) rfl ?_
      refine g_goto (pc := 161) (tgt := 177) dX15_value_161 rfl ?_
      refine g_iload (pc := 177) dX15_value_177 rfl ?_
      refine g_tableIn (pc := 179) (tgt := 281) dX15_value_179 (by decide) (by decide) rfl rfl ?_
      refine g_drop [1, 3, 4] rfl (?_)
      exact ch_eq (e + 21) (by omega) hca3 hD3 hv3 hv23 h13 h23 (by omega) (by omega) hK
    · refine g_lookup (pc := 50) (off := 127) (tgt := 177) dX15_value_50 (by decide) (by decide +kernel) rfl ?_
      refine g_iload (pc := 177) dX15_value_177 rfl ?_
      refine g_tableOut (pc := 179) (tgt := 348) dX15_value_179 (by decide) rfl ?_
      refine g_drop [1, 3, 4] rfl (?_)
      exact ch_at (e + 21) (by omega) hD3 hv3 hv23 h13 h23 hK
  have cA := cv_op (Z := Z) (e + 20) (by omega) A tn ht hA hC hD
  rw [n1] at cA ⊢
  refine g_aload_n (pc := 0) dX15_value_0 rfl rfl ?_
  refine g_get (pc := 1) (r := (RX15, TX15, 3)) 1 dX15_value_1 ha rfl (Nat.le_of_ble_eq_true rfl) q1313 (Or.inl rfl) rfl ?_
  refine g_aload_n (pc := 4) dX15_value_4 rfl rfl ?_
  refine g_iload_n (pc := 5) dX15_value_5 rfl rfl ?_
  refine do_X15a cA (Nat.le_of_ble_eq_true rfl) (by first | exact jF | exact fun _ z => z | assumption | (intro κ z; simp_all)) (jk_n (fun u h3 hp fr => ?_)) jk_x
  obtain ⟨x, rfl, hx, rfl⟩ := hp
  have hxn := hx.nr
  refine g_astore_nX (pc := 11) (ls' := [(0, _), (1, _), (2, _), (3, _)]) dX15_value_11 rfl (Nat.le_of_ble_eq_true rfl) rfl hxn ?_
  refine g_aload_n (pc := 12) dX15_value_12 rfl rfl ?_
  refine g_get (pc := 13) (r := (RX15, TX15, 3)) 2 dX15_value_13 ha rfl (Nat.le_of_ble_eq_true rfl) q1314 (Or.inl rfl) rfl ?_
  rcases hB with ⟨rfl, rfl⟩ | ⟨B', b, rfl, rfl, hB⟩
  · refine g_ifnonnullN (pc := 16) dX15_value_16 ?_
    refine g_null (pc := 19) dX15_value_19 ?_
    refine g_goto (pc := 20) (tgt := 34) dX15_value_20 rfl ?_
    exact mid _ none x .null hx cV.n0 rfl
  · have cB := cv_op (Z := Z) (e + 20) (by omega) B' tn ht hB hC hD
    rw [n1] at cB
    refine g_ifnonnull (pc := 16) (tgt := 23) dX15_value_16 rfl ?_
    refine g_aload_n (pc := 23) dX15_value_23 rfl rfl ?_
    refine g_get (pc := 24) (r := (RX15, TX15, 3)) 2 dX15_value_24 ha rfl (Nat.le_of_ble_eq_true rfl) q1314 (Or.inl rfl) rfl ?_
    refine g_aload_n (pc := 27) dX15_value_27 rfl rfl ?_
    refine g_iload_n (pc := 28) dX15_value_28 rfl rfl ?_
    refine do_X15b cB (Nat.le_of_ble_eq_true rfl) (by first | exact jF | exact fun _ z => z | assumption | (intro κ z; simp_all)) (jk_n (fun u h3 hp fr => ?_)) jk_x
    obtain ⟨y, rfl, hy, rfl⟩ := hp
    exact mid _ _ x y hx hy rfl
/-- any expression -/
theorem cv_ex (e : Nat) (x : aE) (tn : Option Nat) (he : D.1 + n + 21 ≤ e) (hn : C.length = n + 1) (ht : ∀ k, tn = some k → k < 10) (hx : cEx h x a) (hC : cCh D w CA m o1 o2 C h) (hD : cD D w h q) (h1 : cO h 4 o1 cap1 l1) (h2 : cO h 5 o2 cap2 l2) (r1 : h.1 + 1800 ≤ hLC Z) (r2 : h.2.1 + 5000 ≤ hLS) : hDs Z e eKd a [.ref (CA (C.length - 1)), .int (tI tn)] h (cHq D w o1 o2 cap1 cap2 (n + 1) (evE D C tn x) h) vlL := by
  rcases x with o | ⟨k, A, B⟩
  · obtain ⟨κ, fs, M', b1, b2, b3⟩ := cv_op (Z := Z) e (by omega) o tn ht hx hC hD
    refine ⟨κ, fs, M', b1, b2, ?_⟩
    refine hCt.shr (S' := fun _ => False) ?_
    refine hCt.mono b3 (fun r h' ⟨v, e1, z, e2, e3, e4⟩ => ?_)
    subst e1; subst e2; subst e4
    refine ⟨cHq.nw h1 h2 (hFr.rf _) rfl (e3.le (by omega)) (by omega) (by omega), hFr.rf _⟩
  · obtain ⟨k1, k6, s, κ, oa, ob, e1, e2, e3, e4, e5⟩ := hx
    exact ⟨_, _, mX15_value, e1, (by first | exact mm0 | exact mm1 | exact mm2 | exact mm3 | exact mm4), ch_help e k s κ oa ob A B tn he k1 k6 hn ht e1 e2 e3 e4 e5 hC hD h1 h2 r1 r2⟩
end CG
