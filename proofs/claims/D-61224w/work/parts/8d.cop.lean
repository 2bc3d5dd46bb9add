/-! COMPONENT 14: contexts; the plain operands -/
set_option maxRecDepth 100000
/-- a turn as an int -/
def tI : Option Nat → Int32
  | some k => nI k
  | none => -1
/-- the contexts: one chain, of which C is in use (the innermost first); every one has the same two Outputs -/
def cCh (D : aD) (w : cW) (CA : Nat → Nat) (m o1 o2 : Nat) (C : List aV) (h : hP) : Prop := 1 ≤ C.length ∧ C.length ≤ m + 1 ∧ m ≤ 13 ∧ (∀ i j, i ≤ m → j ≤ m → CA i = CA j → i = j) ∧ ∀ i, i ≤ m → ∃ x, h.2.2 (CA i) = some (20, .inl [x, (if i = 0 then .null else .ref (CA (i - 1))), (if i = m then .null else .ref (CA (i + 1))), .ref o1, .ref o2]) ∧ (i < C.length → cV D w.1 h i (C.getD (C.length - 1 - i) none) x)
theorem cCh.kp {D : aD} {w : cW} {CA : Nat → Nat} {m o1 o2 : Nat} {C : List aV} {h h' : hP} {S : Nat → Prop} (f : hFr S h h') (n : cNS S) (mn : cMn h h') (h20 : ¬ S 20) (x : cCh D w CA m o1 o2 C h) : cCh D w CA m o1 o2 C h' := by
  obtain ⟨x1, x2, x3, x4, x5⟩ := x
  refine ⟨x1, x2, x3, x4, fun i hi => ?_⟩
  obtain ⟨y, e1, e2⟩ := x5 i hi
  exact ⟨y, (f.2.2 _ _ e1).1 h20, fun z => (e2 z).kp f n mn⟩
/-- a plain operand -/
def cOp (h : hP) (o : aO) (a : Nat) : Prop := match o with
  | .inl b => h.2.2 a = some (12, .inl [.int (nI b.toNat)])
  | .inr (.inl (some (.inl k))) => ∃ (x : Nat) (w : Int32), h.2.2 a = some (13, .inl [.ref x]) ∧ h.2.2 x = some (5, .inl [.int w, .int k])
  | .inr (.inl (some (.inr (.inl l)))) => ∃ x, h.2.2 a = some (13, .inl [.ref x]) ∧ txt h x l
  | .inr (.inl _) => False
  | .inr (.inr (u, ns)) => ∃ ar f, h.2.2 a = some (14, .inl [.int (nI u), .ref ar]) ∧ h.2.2 ar = some (169, .inr (ns.length, f)) ∧ u ≤ 64 ∧ ns.length ≤ 64 ∧ ∀ i, i < ns.length → ∃ s κ, f i = .ref s ∧ jSt h κ s (ns.getD i []) ∧ (κ = 30 ∨ κ = 930) ∧ ns.getD i [] ≠ []
theorem cOp.kt {h h' : hP} {S : Nat → Prop} {o : aO} {a : Nat} (f : hFr S h h') (n : cNE S) (mn : cMn h h') (x : cOp h o a) : cOp h' o a := by
  rcases o with b | (_ | k | l | y) | ⟨u, ns⟩
  · exact (f.2.2 _ _ (show h.2.2 a = some (12, .inl [.int (nI b.toNat)]) from x)).1 (n 12 (by decide))
  · exact False.elim x
  · obtain ⟨y, w, e1, e2⟩ := x
    exact ⟨y, w, (f.2.2 _ _ e1).1 (n 13 (by decide)), (f.2.2 _ _ e2).1 (n 5 (by decide))⟩
  · obtain ⟨y, e1, e2⟩ := x
    exact ⟨y, (f.2.2 _ _ e1).1 (n 13 (by decide)), mn.1 _ _ e2⟩
  · exact False.elim x
  · obtain ⟨ar, g, e1, e2, e3, e4, e5⟩ := x
    refine ⟨ar, g, (f.2.2 _ _ e1).1 (n 14 (by decide)), (f.2.2 _ _ e2).1 (n 169 (by decide)), e3, e4, fun i hi => ?_⟩
    obtain ⟨s, κ, y1, y2, y3, y4⟩ := e5 i hi
    exact ⟨s, κ, y1, y2.fr f (by rcases y3 with z | z <;> rw [z] <;> exact n _ (by decide)) (n 60 (by decide)) (n 960 (by decide)), y3, y4⟩
theorem cOp.kp {h h' : hP} {S : Nat → Prop} {o : aO} {a : Nat} (f : hFr S h h') (n : cNS S) (mn : cMn h h') (x : cOp h o a) : cOp h' o a := cOp.kt f n.t.e mn x
/-- a value, nothing is changed -/
def vQ (D : aD) (w : cW) (h : hP) (n : Nat) (v : aV) : Option Value → hP → Prop := fun r h' => ∃ x, r = some x ∧ cV D w.1 h n v x ∧ h = h'
theorem dm_X14 {Z : hE} {X : hX} {d : Nat} {S : Nat → Prop} {hin : hP} {K : hO → hP → Prop} {ls : List (Nat × Value)} {h : hP} {S' : Nat → Prop} {K' : hO → hP → Prop} {b : Nat} {A1 : Value} {rest : List Value} (hc : hDs Z d S' b [A1] h K' [(5, mX4_member), (6, mX4_member), (7, mX7_member), (8, mX8_member), (21, mX4_member)]) (hw : (rest.map fun v => v.category).sum ≤ 8) (hS : ∀ κ, S' κ → S κ)
    (kn : ∀ v h', K' (.inl v) h' → hFr S' h h' → hG Z X mX14_value (d + 1) S hin K (70 + 3) ls (v.toList ++ rest) h')
    (kx : ∀ E h', K' (.inr E) h' → hFr S' h h' → hGX Z X mX14_value (d + 1) S hin K 70 ls E h') : hG Z X mX14_value (d + 1) S hin K 70 ls (A1 :: .ref b :: rest) h := by
  obtain ⟨κ, fs, M', hb, hm, hct⟩ := hc
  simp only [List.mem_cons, Prod.mk.injEq, List.not_mem_nil, or_false] at hm
  rcases hm with ⟨hk, rfl⟩ | ⟨hk, rfl⟩ | ⟨hk, rfl⟩ | ⟨hk, rfl⟩ | ⟨hk, rfl⟩
  · exact g_invV (pc := 70) dX14_value_70 (r := (RX5, TX5, 2)) hb (by rw [hk]; rfl) hct meX4_member q1527 q1528 q1539 rfl rfl hw hS kn kx
  · exact g_invV (pc := 70) dX14_value_70 (r := (RX6, TX6, 3)) hb (by rw [hk]; rfl) hct meX4_member q1527 q1528 q1540 rfl rfl hw hS kn kx
  · exact g_invU (pc := 70) dX14_value_70 (r := (RX7, TX7, 3)) hb (by rw [hk]; rfl) hct meX7_member q1527 q1529 (Or.inr ⟨_, _, _, q1528, q1541⟩) q1532 q1531 ⟨⟨by decide, by decide⟩, rfl⟩ rfl rfl hw hS kn kx
  · exact g_invU (pc := 70) dX14_value_70 (r := (RX8, TX8, 4)) hb (by rw [hk]; rfl) hct meX8_member q1527 q1529 (Or.inr ⟨_, _, _, q1528, q1541⟩) q1537 q1536 ⟨⟨by decide, by decide⟩, rfl⟩ rfl rfl hw hS kn kx
  · exact g_invV (pc := 70) dX14_value_70 (r := (RX21, TX21, 3)) hb (by rw [hk]; rfl) hct meX4_member q1527 q1528 q1530 rfl rfl hw hS kn kx
section CP
variable {Z : hE} {h : hP} {D : aD} {w : cW} {q a m o1 o2 : Nat} {CA : Nat → Nat} {C : List aV}
theorem cv_turn (d ca : Nat) (bf : Bool) (tn : Option Nat) (ht : ∀ k, tn = some k → k < 10) (ha : h.2.2 a = some (12, .inl [.int (nI bf.toNat)])) : jC Z mX12_value d (fun _ => False) [.ref a, .ref ca, .int (tI tn)] h (vQ D w h 0 (evO D C tn (.inl bf))) := by
  refine jC.of pnX12 rfl (Nat.le_of_ble_eq_true rfl) rfl (fun X => ?_)
  cases tn with
  | none =>
    refine g_iload_n (pc := 0) dX12_value_0 rfl rfl ?_
    refine g_if_ge (pc := 1) (tgt := 6) dX12_value_1 rfl (fun z => absurd z (by decide)) (fun _ => ?_)
    refine g_null (pc := 4) dX12_value_4 ?_
    exact g_aret (pc := 5) dX12_value_5 rfl (Or.inl ⟨_, rfl⟩) (Or.inl rfl) ⟨_, rfl, .null, rfl, rfl, rfl⟩
  | some k =>
    have hk := ht k rfl
    refine g_olds (fun hZ ho => ?_)
    obtain ⟨b1, g1, e1, e2, e3⟩ := st_digits.2 Z hZ
    have o1 := ho b1 _ e2
    have fin : ∀ j, j < 10 → j = (if bf = true then (if k = 0 then 1 else 0) else k) → hG Z X mX12_value d (fun _ => False) h (jK (vQ D w h 0 (evO D C (some k) (.inl bf)))) 29 [(0, .ref a), (1, .ref ca), (2, .int (tI (some k)))] [.int (nI j), .ref b1] h := by
      intro j hj hj2
      refine g_aald (pc := 29) j dX12_value_29 o1 rfl rfl hj rfl ?_
      rw [e3 j hj]
      refine g_aret (pc := 30) dX12_value_30 rfl (Or.inl ⟨_, rfl⟩) (Or.inr ⟨_, rfl⟩) ?_
      refine ⟨_, rfl, _, rfl, ⟨_, 905, .int 0, rfl, ho _ _ ?_, Or.inr rfl⟩, rfl⟩
      rw [(kDi_ev hj hZ).2, ← hj2]
    refine g_iload_n (pc := 0) dX12_value_0 rfl rfl ?_
    refine g_if_geN (pc := 1) (tgt := 6) (a := k) dX12_value_1 rfl (by omega) ?_
    refine g_getsN (pc := 6) dX12_value_6 st_digits.1 q1548 (Or.inl rfl) ?_
    rw [e1]
    refine g_aload_n (pc := 9) dX12_value_9 rfl rfl ?_
    refine g_get (pc := 10) (r := (RX12, TX12, 1)) 0 dX12_value_10 ha rfl (Nat.le_of_ble_eq_true rfl) q1177 (Or.inl rfl) rfl ?_
    cases bf with
    | false =>
      refine g_if_eq (pc := 13) (tgt := 28) dX12_value_13 rfl (fun _ => ?_) (fun q_ => absurd rfl q_)
      refine g_iload_n (pc := 28) dX12_value_28 rfl rfl ?_
      exact fin k hk rfl
    | true =>
      refine g_if_eq (pc := 13) (tgt := 28) dX12_value_13 rfl (fun q_ => absurd q_ (by decide)) (fun _ => ?_)
      refine g_iload_n (pc := 16) dX12_value_16 rfl rfl ?_
      refine g_if_neN (pc := 17) (tgt := 24) (a := k) dX12_value_17 rfl (by omega) (fun q1 => ?_) (fun q1 => ?_)
      · refine g_iconst (pc := 24) (v := nI 0) dX12_value_24 rfl ?_
        refine g_goto (pc := 25) (tgt := 29) dX12_value_25 rfl ?_
        exact fin 0 (by decide) (by rw [if_pos rfl, if_neg (by omega)])
      · refine g_iconst (pc := 20) (v := nI 1) dX12_value_20 rfl ?_
        refine g_goto (pc := 21) (tgt := 29) dX12_value_21 rfl ?_
        exact fin 1 (by decide) (by rw [if_pos rfl, if_pos q1])
theorem cv_fix (d ca : Nat) (t : Int32) (v : aV) (ho : cOp h (.inr (.inl v)) a) : jC Z mX13_value d (fun _ => False) [.ref a, .ref ca, .int t] h (vQ D w h 0 v) ∧ ∃ fs, h.2.2 a = some (13, .inl fs) := by
  have key : ∃ x, h.2.2 a = some (13, .inl [.ref x]) ∧ cV D w.1 h 0 v (.ref x) := by
    rcases v with _ | k | l | y
    · exact False.elim ho
    · obtain ⟨x, w, e1, e2⟩ := ho
      exact ⟨x, e1, ⟨x, 5, .int w, rfl, e2, Or.inl rfl⟩⟩
    · obtain ⟨x, e1, e2⟩ := ho
      exact ⟨x, e1, ⟨x, rfl, e2⟩⟩
    · exact False.elim ho
  obtain ⟨x, ha, hv⟩ := key
  refine ⟨?_, _, ha⟩
  refine jC.of pnX13 rfl (Nat.le_of_ble_eq_true rfl) rfl (fun X => ?_)
  refine g_aload_n (pc := 0) dX13_value_0 rfl rfl ?_
  refine g_get (pc := 1) (r := (RX13, TX13, 1)) 0 dX13_value_1 ha rfl (Nat.le_of_ble_eq_true rfl) q1208 (Or.inl rfl) rfl ?_
  exact g_aret (pc := 4) dX13_value_4 rfl (Or.inl ⟨_, rfl⟩) (Or.inr ⟨_, rfl⟩) ⟨_, rfl, _, rfl, hv, rfl⟩
theorem cv_path (d u ar : Nat) (t : Int32) (ns : List (List Nat)) (f : Nat → Value) (hC : cCh D w CA m o1 o2 C h) (hD : cD D w h q) (ha : h.2.2 a = some (14, .inl [.int (nI u), .ref ar])) (hr : h.2.2 ar = some (169, .inr (ns.length, f))) (hu : u ≤ 64) (hn : ns.length ≤ 64) (hf : ∀ i, i < ns.length → ∃ s κ, f i = .ref s ∧ jSt h κ s (ns.getD i []) ∧ (κ = 30 ∨ κ = 930) ∧ ns.getD i [] ≠ []) : jC Z mX14_value (d + 5) (fun _ => False) [.ref a, .ref (CA (C.length - 1)), .int t] h (vQ D w h (C.length - 1) (evO D C none (.inr (.inr (u, ns))))) := by
  refine jC.of pnX14 rfl (Nat.le_of_ble_eq_true rfl) rfl (fun X => ?_)
  obtain ⟨c1, c2, c3, c4, c5⟩ := hC
  have ev : evO D C none (.inr (.inr (u, ns))) = ns.foldl (mbV D) (C.getD u none) := rfl
  have nul : ∀ l : List (List Nat), l.foldl (mbV D) none = none := fun l => by
    induction l with
    | nil => rfl
    | cons x l ih => exact ih
  have loop2 : ∀ (k j : Nat) (x : Value), j + k = ns.length → cV D w.1 h (C.length - 1) ((ns.take j).foldl (mbV D) (C.getD u none)) x → hG Z X mX14_value (d + 5) (fun _ => False) h (jK (vQ D w h (C.length - 1) (evO D C none (.inr (.inr (u, ns)))))) 46 [(0, .ref a), (4, x), (5, .int (nI j))] [] h := by
    intro k
    induction k with
    | zero =>
      intro j x hj hv
      rw [show j = ns.length by omega, List.take_length] at hv
      refine g_iload (pc := 46) dX14_value_46 rfl ?_
      refine g_aload_n (pc := 48) dX14_value_48 rfl rfl ?_
      refine g_get (pc := 49) (r := (RX14, TX14, 2)) 1 dX14_value_49 ha rfl (Nat.le_of_ble_eq_true rfl) q1230 (Or.inl rfl) rfl ?_
      refine g_alen (pc := 52) dX14_value_52 hr ?_
      refine g_icmp_geN (pc := 53) (tgt := 81) dX14_value_53 rfl (by omega) (by omega) (fun _ => ?_) (fun q_ => absurd q_ (by omega))
      rcases hv.nr with rfl | ⟨c, rfl⟩
      · refine g_aloadN (pc := 81) dX14_value_81 rfl ?_
        exact g_aret (pc := 83) dX14_value_83 rfl (Or.inl ⟨_, rfl⟩) (Or.inl rfl) ⟨_, rfl, _, rfl, hv, rfl⟩
      ·
        refine g_aload (pc := 81) dX14_value_81 rfl ?_
        exact g_aret (pc := 83) dX14_value_83 rfl (Or.inl ⟨_, rfl⟩) (Or.inr ⟨_, rfl⟩) ⟨_, rfl, _, rfl, hv, rfl⟩
    | succ k ih =>
      intro j x hj hv
      obtain ⟨s, κ, e1, e2, e3, e4⟩ := hf j (by omega)
      refine g_iload (pc := 46) dX14_value_46 rfl ?_
      refine g_aload_n (pc := 48) dX14_value_48 rfl rfl ?_
      refine g_get (pc := 49) (r := (RX14, TX14, 2)) 1 dX14_value_49 ha rfl (Nat.le_of_ble_eq_true rfl) q1230 (Or.inl rfl) rfl ?_
      refine g_alen (pc := 52) dX14_value_52 hr ?_
      refine g_icmp_geN (pc := 53) (tgt := 81) dX14_value_53 rfl (by omega) (by omega) (fun q_ => absurd q_ (by omega)) (fun _ => ?_)
      rcases hv.nr with rfl | ⟨c, rfl⟩
      · have hz := hv.nul
        refine g_aloadN (pc := 56) dX14_value_56 rfl ?_
        refine g_ifnullN (pc := 58) (tgt := 81) dX14_value_58 rfl ?_
        refine g_aloadN (pc := 81) dX14_value_81 rfl ?_
        refine g_aret (pc := 83) dX14_value_83 rfl (Or.inl ⟨_, rfl⟩) (Or.inl rfl) ⟨_, rfl, .null, rfl, ?_, rfl⟩
        rw [ev, ← List.take_append_drop j ns, List.foldl_append, hz, nul]
        exact cV.n0
      ·
        refine g_aload (pc := 56) dX14_value_56 rfl ?_
        refine g_ifnull (pc := 58) dX14_value_58 ?_
        refine g_aload (pc := 61) dX14_value_61 rfl ?_
        refine g_aload_n (pc := 63) dX14_value_63 rfl rfl ?_
        refine g_get (pc := 64) (r := (RX14, TX14, 2)) 1 dX14_value_64 ha rfl (Nat.le_of_ble_eq_true rfl) q1230 (Or.inl rfl) rfl ?_
        refine g_iload (pc := 67) dX14_value_67 rfl ?_
        refine g_aald (pc := 69) j dX14_value_69 hr rfl rfl (by omega) rfl ?_
        rw [e1]
        refine dm_X14 (cmm_val hD e2 e4 _ (d + 4) c _ (by omega) hv) (Nat.le_of_ble_eq_true rfl) (by first | exact jF | exact fun _ z => z | assumption | (intro κ z; simp_all)) (jk_n (fun v h1 hp fr => ?_)) jk_x
        obtain ⟨x', rfl, y1, rfl⟩ := hp
        have y2 : cV D w.1 h (C.length - 1) ((ns.take (j + 1)).foldl (mbV D) (C.getD u none)) x' := by
          have hjl : j < ns.length := by omega
          rw [List.take_succ, List.foldl_append, List.getElem?_eq_getElem hjl]
          have : ns.getD j [] = ns[j] := by rw [List.getD_eq_getElem?_getD, List.getElem?_eq_getElem hjl]; rfl
          rw [this] at y1
          exact y1.le (Nat.zero_le _)
        rcases y1.nr with rfl | ⟨c', rfl⟩
        · refine g_astoreN (pc := 73) (ls' := [(0, _), (4, _), (5, _)]) dX14_value_73 (Nat.le_of_ble_eq_true rfl) rfl ?_
          refine g_iincN (pc := 75) (k0 := 1) (ls' := [(0, _), (4, _), (5, _)]) dX14_value_75 rfl (Nat.le_of_ble_eq_true rfl) rfl ?_
          refine g_goto (pc := 78) (tgt := 46) dX14_value_78 rfl ?_
          exact ih (j + 1) .null (by omega) y2
        ·
          refine g_astore (pc := 73) (ls' := [(0, _), (4, _), (5, _)]) dX14_value_73 (Nat.le_of_ble_eq_true rfl) rfl ?_
          refine g_iincN (pc := 75) (k0 := 1) (ls' := [(0, _), (4, _), (5, _)]) dX14_value_75 rfl (Nat.le_of_ble_eq_true rfl) rfl ?_
          refine g_goto (pc := 78) (tgt := 46) dX14_value_78 rfl ?_
          exact ih (j + 1) (.ref c') (by omega) y2
  have mid : ∀ (x : Value), cV D w.1 h (C.length - 1) (C.getD u none) x → hG Z X mX14_value (d + 5) (fun _ => False) h (jK (vQ D w h (C.length - 1) (evO D C none (.inr (.inr (u, ns)))))) 41 [(0, .ref a)] [x] h := by
    intro x hx
    have hx2 := hx
    rcases hx.nr with rfl | ⟨c', rfl⟩
    · refine g_astoreN (pc := 41) (ls' := [(0, _), (4, _)]) dX14_value_41 (Nat.le_of_ble_eq_true rfl) rfl ?_
      refine g_iconst (pc := 43) (v := nI 0) dX14_value_43 rfl ?_
      refine g_istore (pc := 44) (ls' := [(0, _), (4, _), (5, _)]) dX14_value_44 (Nat.le_of_ble_eq_true rfl) rfl ?_
      exact loop2 ns.length 0 .null (by omega) hx2
    ·
      refine g_astore (pc := 41) (ls' := [(0, _), (4, _)]) dX14_value_41 (Nat.le_of_ble_eq_true rfl) rfl ?_
      refine g_iconst (pc := 43) (v := nI 0) dX14_value_43 rfl ?_
      refine g_istore (pc := 44) (ls' := [(0, _), (4, _), (5, _)]) dX14_value_44 (Nat.le_of_ble_eq_true rfl) rfl ?_
      exact loop2 ns.length 0 (.ref c') (by omega) hx2
  have ex1 : u < C.length → hG Z X mX14_value (d + 5) (fun _ => False) h (jK (vQ D w h (C.length - 1) (evO D C none (.inr (.inr (u, ns)))))) 29 [(0, .ref a), (3, .ref (CA (C.length - 1 - u)))] [] h := by
    intro hlt
    obtain ⟨x, e1, e2⟩ := c5 (C.length - 1 - u) (by omega)
    refine g_aload_n (pc := 29) dX14_value_29 rfl rfl ?_
    refine g_ifnonnull (pc := 30) (tgt := 37) dX14_value_30 rfl ?_
    refine g_aload_n (pc := 37) dX14_value_37 rfl rfl ?_
    refine g_getN (pc := 38) (r := (RX20, TX20, 5)) 0 dX14_value_38 e1 rfl (Nat.le_of_ble_eq_true rfl) q1452 (Or.inl rfl) rfl ?_
    refine g_drop [0] rfl (mid x ?_)
    have := e2 (by omega)
    rw [show C.length - 1 - (C.length - 1 - u) = u by omega] at this
    exact this.le (by omega)
  have ex2 : C.length ≤ u → hG Z X mX14_value (d + 5) (fun _ => False) h (jK (vQ D w h (C.length - 1) (evO D C none (.inr (.inr (u, ns)))))) 29 [(0, .ref a), (3, .null)] [] h := by
    intro hle
    refine g_aload_nN (pc := 29) dX14_value_29 rfl rfl ?_
    refine g_ifnonnullN (pc := 30) dX14_value_30 ?_
    refine g_null (pc := 33) dX14_value_33 ?_
    refine g_goto (pc := 34) (tgt := 41) dX14_value_34 rfl ?_
    refine g_drop [0] rfl (mid .null ?_)
    rw [List.getD_eq_getElem?_getD, List.getElem?_eq_none hle]
    exact cV.n0
  have loop1 : ∀ (j k : Nat), k + j = u → k ≤ C.length → hG Z X mX14_value (d + 5) (fun _ => False) h (jK (vQ D w h (C.length - 1) (evO D C none (.inr (.inr (u, ns)))))) 5 [(0, .ref a), (3, if k < C.length then .ref (CA (C.length - 1 - k)) else .null), (4, .int (nI k))] [] h := by
    intro j
    induction j with
    | zero =>
      intro k hk hkC
      have hk : k = u := by omega
      subst hk
      refine g_iload (pc := 5) dX14_value_5 rfl ?_
      refine g_aload_n (pc := 7) dX14_value_7 rfl rfl ?_
      refine g_get (pc := 8) (r := (RX14, TX14, 2)) 0 dX14_value_8 ha rfl (Nat.le_of_ble_eq_true rfl) q1229 (Or.inl rfl) rfl ?_
      refine g_icmp_geN (pc := 11) (tgt := 29) dX14_value_11 rfl (by omega) (by omega) (fun _ => ?_) (fun q_ => absurd q_ (by omega))
      by_cases z : k < C.length
      · rw [if_pos z]; exact g_drop [0, 1] rfl (ex1 z)
      · rw [if_neg z]; exact g_drop [0, 1] rfl (ex2 (by omega))
    | succ j ih =>
      intro k hk hkC
      refine g_iload (pc := 5) dX14_value_5 rfl ?_
      refine g_aload_n (pc := 7) dX14_value_7 rfl rfl ?_
      refine g_get (pc := 8) (r := (RX14, TX14, 2)) 0 dX14_value_8 ha rfl (Nat.le_of_ble_eq_true rfl) q1229 (Or.inl rfl) rfl ?_
      refine g_icmp_geN (pc := 11) (tgt := 29) dX14_value_11 rfl (by omega) (by omega) (fun q_ => absurd q_ (by omega)) (fun _ => ?_)
      by_cases z : k < C.length
      · rw [if_pos z]
        obtain ⟨x, e1, e2⟩ := c5 (C.length - 1 - k) (by omega)
        refine g_aload_n (pc := 14) dX14_value_14 rfl rfl ?_
        refine g_ifnull (pc := 15) dX14_value_15 ?_
        refine g_aload_n (pc := 18) dX14_value_18 rfl rfl ?_
        refine g_get (pc := 19) (r := (RX20, TX20, 5)) 1 dX14_value_19 e1 rfl (Nat.le_of_ble_eq_true rfl) q1454 (Or.inl rfl) rfl ?_
        by_cases y : C.length - 1 - k = 0
        · rw [if_pos y]
          refine g_astore_nN (pc := 22) (ls' := [(0, _), (3, _), (4, _)]) dX14_value_22 rfl (Nat.le_of_ble_eq_true rfl) rfl ?_
          refine g_iincN (pc := 23) (k0 := 1) (ls' := [(0, _), (3, _), (4, _)]) dX14_value_23 rfl (Nat.le_of_ble_eq_true rfl) rfl ?_
          refine g_goto (pc := 26) (tgt := 5) dX14_value_26 rfl ?_
          have := ih (k + 1) (by omega) (by omega)
          rw [if_neg (by omega)] at this
          exact this
        · rw [if_neg y]
          refine g_astore_n (pc := 22) (ls' := [(0, _), (3, _), (4, _)]) dX14_value_22 rfl (Nat.le_of_ble_eq_true rfl) rfl ?_
          refine g_iincN (pc := 23) (k0 := 1) (ls' := [(0, _), (3, _), (4, _)]) dX14_value_23 rfl (Nat.le_of_ble_eq_true rfl) rfl ?_
          refine g_goto (pc := 26) (tgt := 5) dX14_value_26 rfl ?_
          have := ih (k + 1) (by omega) (by omega)
          rw [if_pos (by omega), show C.length - 1 - (k + 1) = C.length - 1 - k - 1 by omega] at this
          exact this
      · rw [if_neg z]
        refine g_aload_nN (pc := 14) dX14_value_14 rfl rfl ?_
        refine g_ifnullN (pc := 15) (tgt := 29) dX14_value_15 rfl ?_
        exact g_drop [0, 1] rfl (ex2 (by omega))
  refine g_aload_n (pc := 0) dX14_value_0 rfl rfl ?_
  refine g_astore_n (pc := 1) (ls' := [(0, _), (1, _), (2, _), (3, _)]) dX14_value_1 rfl (Nat.le_of_ble_eq_true rfl) rfl ?_
  refine g_iconst (pc := 2) (v := nI 0) dX14_value_2 rfl ?_
  refine g_istore (pc := 3) (ls' := [(0, _), (1, _), (2, _), (3, _), (4, _)]) dX14_value_3 (Nat.le_of_ble_eq_true rfl) rfl ?_
  have := loop1 u 0 (by omega) (by omega)
  rw [if_pos (by omega), Nat.sub_zero] at this
  exact g_drop [0, 3, 4] rfl this
end CP
abbrev vlL : List (Nat × hM) := [(12, mX12_value), (13, mX13_value), (14, mX14_value), (15, mX15_value)]
/-- any plain operand -/
theorem cv_op {Z : hE} {h : hP} {D : aD} {w : cW} {q a m o1 o2 : Nat} {CA : Nat → Nat} {C : List aV} (e : Nat) (he : 5 ≤ e) (o : aO) (tn : Option Nat) (ht : ∀ k, tn = some k → k < 10) (ho : cOp h o a) (hC : cCh D w CA m o1 o2 C h) (hD : cD D w h q) : hDs Z e (fun _ => False) a [.ref (CA (C.length - 1)), .int (tI tn)] h (jK (vQ D w h (C.length - 1) (evO D C tn o))) vlL := by
  obtain ⟨e, rfl⟩ : ∃ e', e = e' + 5 := ⟨e - 5, by omega⟩
  rcases o with b | v | ⟨u, ns⟩
  · have ho : h.2.2 a = some (12, .inl [.int (nI b.toNat)]) := ho
    exact ⟨_, _, mX12_value, ho, (by first | exact mm0 | exact mm1 | exact mm2 | exact mm3 | exact mm4), (cv_turn _ _ b tn ht ho).mono (fun r h' ⟨x, e1, e2, e3⟩ => ⟨x, e1, e2.le (Nat.zero_le _), e3⟩)⟩
  · obtain ⟨c, fs, e1⟩ := cv_fix (Z := Z) (D := D) (w := w) (e + 5) (CA (C.length - 1)) (tI tn) v ho
    exact ⟨_, _, mX13_value, e1, (by first | exact mm0 | exact mm1 | exact mm2 | exact mm3 | exact mm4), c.mono (fun r h' ⟨x, e1, e2, e3⟩ => ⟨x, e1, e2.le (Nat.zero_le _), e3⟩)⟩
  · obtain ⟨ar, f, e1, e2, e3, e4, e5⟩ := ho
    exact ⟨_, _, mX14_value, e1, (by first | exact mm0 | exact mm1 | exact mm2 | exact mm3 | exact mm4), cv_path e u ar _ ns f hC hD e1 e2 e3 e4 e5⟩
