/-! JDK 14: ArrayList.add -/
set_option maxRecDepth 100000
theorem shr1 {a : Nat} (h : a < 2147483648) : nI a >>> (nI 1 &&& 31) = nI (a / 2) := by
  rw [pk_shrN h _ 1 (by decide)]
section JC
variable {Z : hE} {h : hP} {κ a κe e cap : Nat} {xs : List Nat}
theorem mir_obj : hMirK "[Ljava/lang/Object;" := hMirK.of (hLeafOf (by decide +kernel))
theorem jc_ocopyOf3 (d κ0 n m : Nat) (f : Nat → Value) (he : h.2.2 e = some (κ0, .inr (n, f))) (hk0 : κ0 % 100 = 65) (hke : κe % 100 = 65) (hke9 : κe < 900) (hf : ∀ q, q < n → ∃ x, f q = .ref x ∧ elK h x) (hnm : n ≤ m) (hm : m ≤ 10000) (l1 : h.1 + 1 ≤ hLC Z) (l2 : h.2.1 + m ≤ hLS) : jC Z mJ13_copyOf_3 (d + 1) (fun _ => False) [.ref e, .int (nI m), .ref (hMirA "[Ljava/lang/Object;" Z)] h (fun v h' => v = some (.ref h.1) ∧ ∃ g, h' = hNew h (κe, .inr (m, g)) m ∧ ∀ k, k < n → g k = f k) := by
  refine jC.shr (jC.of pnJ13 rfl (Nat.le_of_ble_eq_true rfl) rfl (fun X => ?_))
  refine g_inl (fun hi => ?_)
  refine g_aload_n (pc := 0) dJ13_copyOf_3_0 rfl rfl ?_
  refine g_ldcM (pc := 1) (C := "[Ljava/lang/Object;") dJ13_copyOf_3_1 mir_obj q691 ?_
  refine g_acmp_ne (pc := 3) (tgt := 13) (some _) (some _) dJ13_copyOf_3_3 rfl rfl rfl (fun z => absurd rfl z) (fun _ => ?_)
  refine g_iload_n (pc := 6) dJ13_copyOf_3_6 rfl rfl ?_
  refine g_anew (pc := 7) (C := "java/lang/Object") κe m dJ13_copyOf_3_7 (jAL.ke hke) hke9 rfl (by omega) q692 q141 (by first | omega | (simp only [hNew_1, hNew_2, hSet_1, hSet_2]; omega)) (by first | omega | (simp only [hNew_1, hNew_2, hSet_1, hSet_2]; omega)) (fun hwf => ?_)
  have he1 := jNw (n := m) (c' := (κe, .inr (m, fun _ => .null))) hwf he
  refine g_goto (pc := 10) (tgt := 24) dJ13_copyOf_3_10 rfl ?_
  refine g_astore_n (pc := 24) (ls' := [(0, _), (1, _), (2, _), (3, _)]) dJ13_copyOf_3_24 rfl (Nat.le_of_ble_eq_true rfl) rfl ?_
  refine g_aload_n (pc := 25) dJ13_copyOf_3_25 rfl rfl ?_
  refine g_iconst (pc := 26) (v := nI 0) dJ13_copyOf_3_26 rfl ?_
  refine g_aload_n (pc := 27) dJ13_copyOf_3_27 rfl rfl ?_
  refine g_iconst (pc := 28) (v := nI 0) dJ13_copyOf_3_28 rfl ?_
  refine g_aload_n (pc := 29) dJ13_copyOf_3_29 rfl rfl ?_
  refine g_alen (pc := 30) dJ13_copyOf_3_30 he1 ?_
  refine g_iload_n (pc := 31) dJ13_copyOf_3_31 rfl rfl ?_
  refine g_invSF (pc := 32) dJ13_copyOf_3_32 (jc_min d n m (by omega) (by omega)) meJ12_min q263 q264 rfl rfl (Nat.le_of_ble_eq_true rfl) (by first | exact jF | exact fun _ z => z | assumption | (intro κ z; simp_all)) (jk_e ?_) jk_x
  rw [Nat.min_eq_left hnm]
  refine g_acopy (pc := 35) 0 0 n dJ13_copyOf_3_35 he1 (hNew_s _ _ _) (jAL.ke hk0) (jAL.ke hke) rfl rfl rfl (by omega) (by omega) hke9 trivial (Or.inr (fun q hq => ?_)) q266 q268 q267 q87 (Nat.le_of_ble_eq_true rfl) ?_
  · obtain ⟨x, e1, e2⟩ := hf q hq
    obtain ⟨κx, fx, r, g1, g2, g3⟩ := e2.may hi
    rw [Nat.zero_add]
    exact Or.inr ⟨x, κx, fx, r, "java/lang/Object", e1, jNw hwf g1, g2, rfl, by decide, Or.inr g3⟩
  rw [hSet_New]
  refine g_aload_n (pc := 38) dJ13_copyOf_3_38 rfl rfl ?_
  refine g_aret (pc := 39) dJ13_copyOf_3_39 rfl (Or.inr ⟨_, rfl⟩) (Or.inr ⟨_, rfl⟩) ?_
  refine ⟨_, rfl, ⟨rfl, _, rfl, fun k hk => ?_⟩, (hFr.rf h).new hwf⟩
  rw [cpV_in (by omega) (by omega), Nat.zero_add]
  rfl
theorem jc_ocopyOf2 (d κ0 n m : Nat) (f : Nat → Value) (he : h.2.2 e = some (κ0, .inr (n, f))) (hk0 : κ0 % 100 = 65) (hke : κe % 100 = 65) (hke9 : κe < 900) (hf : ∀ q, q < n → ∃ x, f q = .ref x ∧ elK h x) (hnm : n ≤ m) (hm : m ≤ 10000) (l1 : h.1 + 1 ≤ hLC Z) (l2 : h.2.1 + m ≤ hLS) : jC Z mJ13_copyOf_2 (d + 2) (fun _ => False) [.ref e, .int (nI m)] h (fun v h' => v = some (.ref h.1) ∧ ∃ g, h' = hNew h (κe, .inr (m, g)) m ∧ ∀ k, k < n → g k = f k) := by
  refine jC.of pnJ13 rfl (Nat.le_of_ble_eq_true rfl) rfl (fun X => ?_)
  refine g_aload_n (pc := 0) dJ13_copyOf_2_0 rfl rfl ?_
  refine g_iload_n (pc := 1) dJ13_copyOf_2_1 rfl rfl ?_
  refine g_aload_n (pc := 2) dJ13_copyOf_2_2 rfl rfl ?_
  refine g_getC (pc := 3) dJ13_copyOf_2_3 he (jAL.ke hk0) rfl mir_obj q653 q2320 q2319 q654 q687 (Nat.le_of_ble_eq_true rfl) ?_
  refine g_invS (pc := 6) dJ13_copyOf_2_6 (jc_ocopyOf3 d κ0 n m f he hk0 hke hke9 hf hnm hm l1 l2) meJ13_copyOf_3 q688 q689 rfl rfl (Nat.le_of_ble_eq_true rfl) (by first | exact jF | exact fun _ z => z | assumption | (intro κ z; simp_all)) (jk_n (fun v h' hp fr => ?_)) jk_x
  obtain ⟨rfl, hp⟩ := hp
  exact g_aret (pc := 9) dJ13_copyOf_2_9 rfl (Or.inr ⟨_, rfl⟩) (Or.inr ⟨_, rfl⟩) ⟨_, rfl, rfl, hp⟩
/-- after grow: a new array, the same elements -/
def jGw (h : hP) (κ a κe n : Nat) (md : Int32) (f : Nat → Value) (v : Option Value) (h' : hP) : Prop := v = some (.ref h.1) ∧ ∃ cap' g, n < cap' ∧ cap' ≤ 2 * n + 10 ∧ h' = hSet (hNew h (κe, .inr (cap', g)) cap') a (κ, .inl [.int md, .ref h.1, .int (nI n)]) ∧ ∀ k, k < n → g k = f k
theorem jc_grow2 (d : Nat) (md : Int32) (f : Nat → Value) (k1 : κ % 100 = 32) (k19 : κ < 900) (k2 : κe % 100 = 65) (k29 : κe < 900) (ha : h.2.2 a = some (κ, .inl [.int md, .ref e, .int (nI xs.length)])) (hx : ∀ x ∈ xs, elK h x) (hn : xs.length ≤ 4000) (he : (xs.length = 0 ∧ hSv "java/util/ArrayList" "DEFAULTCAPACITY_EMPTY_ELEMENTDATA" "[Ljava/lang/Object;" Z = .ref e ∧ h.2.2 e = some (965, .inr (0, f))) ∨ (0 < xs.length ∧ h.2.2 e = some (κe, .inr (xs.length, f)) ∧ ∀ i, i < xs.length → f i = .ref (xs.getD i 0))) (l1 : h.1 + 1 ≤ hLC Z) (l2 : h.2.1 + (2 * xs.length + 10) ≤ hLS) : jC Z mJ2_grow_2 (d + 3) (fun k => k = κ) [.ref a, .int (nI (xs.length + 1))] h (jGw h κ a κe xs.length md f) := by
  refine jC.of pnJ2 rfl (Nat.le_of_ble_eq_true rfl) rfl (fun X => ?_)
  have kc := jAL.kc k1
  rcases he with ⟨h0, hd, he⟩ | ⟨h0, he, hf⟩
  ·
    refine g_aload_n (pc := 0) dJ2_grow_2_0 rfl rfl ?_
    refine g_get (pc := 1) (r := (RJ2, TJ2, 3)) 1 dJ2_grow_2_1 ha kc (Nat.le_of_ble_eq_true rfl) q463 (Or.inl rfl) rfl ?_
    refine g_alen (pc := 4) dJ2_grow_2_4 he ?_
    refine g_istore_n (pc := 5) (ls' := [(0, _), (1, _), (2, _)]) dJ2_grow_2_5 rfl (Nat.le_of_ble_eq_true rfl) rfl ?_
    refine g_iload_n (pc := 6) dJ2_grow_2_6 rfl rfl ?_
    refine g_if_gtN (pc := 7) (tgt := 20) dJ2_grow_2_7 rfl (by omega) (fun q_ => absurd q_ (by omega)) (fun _ => ?_)
    refine g_aload_n (pc := 10) dJ2_grow_2_10 rfl rfl ?_
    refine g_get (pc := 11) (r := (RJ2, TJ2, 3)) 1 dJ2_grow_2_11 ha kc (Nat.le_of_ble_eq_true rfl) q463 (Or.inl rfl) rfl ?_
    refine g_gets (pc := 14) dJ2_grow_2_14 st_defcap.1 q647 (Or.inl rfl) ?_
    rw [hd]
    refine g_acmp_eq (pc := 17) (tgt := 45) (some e) (some e) dJ2_grow_2_17 rfl rfl rfl (fun _ => ?_) (fun z => absurd rfl z)
    refine g_aload_n (pc := 45) dJ2_grow_2_45 rfl rfl ?_
    refine g_bipush (pc := 46) (v := nI 10) dJ2_grow_2_46 rfl ?_
    refine g_iload_n (pc := 48) dJ2_grow_2_48 rfl rfl ?_
    refine g_invSF (pc := 49) dJ2_grow_2_49 (jc_max (d + 2) 10 (xs.length + 1) (by omega) (by omega)) meJ12_max q693 q246 rfl rfl (Nat.le_of_ble_eq_true rfl) (by first | exact jF | exact fun _ z => z | assumption | (intro κ z; simp_all)) (jk_e ?_) jk_x
    rw [h0, show max 10 (0 + 1) = 10 from rfl]
    refine g_anew (pc := 52) (C := "java/lang/Object") κe 10 dJ2_grow_2_52 (jAL.ke k2) k29 rfl (by omega) q140 q141 (by first | omega | (simp only [hNew_1, hNew_2, hSet_1, hSet_2]; omega)) (by first | omega | (simp only [hNew_1, hNew_2, hSet_1, hSet_2]; omega)) (fun hwf => ?_)
    have ha1 := jNw (n := 10) (c' := (κe, .inr (10, fun _ => .null))) hwf ha
    rw [h0] at ha1
    refine g_dup_x1 (pc := 55) dJ2_grow_2_55 rfl rfl ?_
    refine g_put (pc := 56) (r := (RJ2, TJ2, 3)) 1 dJ2_grow_2_56 ha1 kc (Nat.le_of_ble_eq_true rfl) q463 (Or.inl rfl) rfl k19 rfl (tyJ2_ok 1 (Nat.le_of_ble_eq_true rfl)) rfl rfl ?_
    exact g_aret (pc := 59) dJ2_grow_2_59 rfl (Or.inr ⟨_, rfl⟩) (Or.inr ⟨_, rfl⟩) ⟨_, rfl, rfl, 10, _, by omega, by omega, rfl, fun k hk => absurd hk (Nat.not_lt_zero _)⟩
  ·
    refine g_aload_n (pc := 0) dJ2_grow_2_0 rfl rfl ?_
    refine g_get (pc := 1) (r := (RJ2, TJ2, 3)) 1 dJ2_grow_2_1 ha kc (Nat.le_of_ble_eq_true rfl) q463 (Or.inl rfl) rfl ?_
    refine g_alen (pc := 4) dJ2_grow_2_4 he ?_
    refine g_istore_n (pc := 5) (ls' := [(0, _), (1, _), (2, _)]) dJ2_grow_2_5 rfl (Nat.le_of_ble_eq_true rfl) rfl ?_
    refine g_iload_n (pc := 6) dJ2_grow_2_6 rfl rfl ?_
    refine g_if_gtN (pc := 7) (tgt := 20) dJ2_grow_2_7 rfl (by omega) (fun _ => ?_) (fun q_ => absurd q_ (by omega))
    refine g_iload_n (pc := 20) dJ2_grow_2_20 rfl rfl ?_
    refine g_iload_n (pc := 21) dJ2_grow_2_21 rfl rfl ?_
    refine g_iload_n (pc := 22) dJ2_grow_2_22 rfl rfl ?_
    first | refine g_isubN (pc := 23) dJ2_grow_2_23 (by omega) ?_ | refine g_isub (pc := 23) dJ2_grow_2_23 ?_
    refine g_iload_n (pc := 24) dJ2_grow_2_24 rfl rfl ?_
    refine g_iconst (pc := 25) (v := nI 1) dJ2_grow_2_25 rfl ?_
    refine g_ishr (pc := 26) dJ2_grow_2_26 ?_
    rw [show nI xs.length >>> (nI 1 &&& 31) = nI (xs.length / 2) from shr1 (by omega)]
    rw [show xs.length + 1 - xs.length = 1 by omega]
    refine g_invS (pc := 27) dJ2_grow_2_27 (jc_newLength (d + 1) xs.length 1 (xs.length / 2) (by omega) (by omega) (by omega) (by omega)) meJ11_newLength q649 q243 rfl rfl (Nat.le_of_ble_eq_true rfl) (by first | exact jF | exact fun _ z => z | assumption | (intro κ z; simp_all)) (jk_e ?_) jk_x
    refine g_istore_n (pc := 30) (ls' := [(0, _), (1, _), (2, _), (3, _)]) dJ2_grow_2_30 rfl (Nat.le_of_ble_eq_true rfl) rfl ?_
    refine g_aload_n (pc := 31) dJ2_grow_2_31 rfl rfl ?_
    refine g_aload_n (pc := 32) dJ2_grow_2_32 rfl rfl ?_
    refine g_get (pc := 33) (r := (RJ2, TJ2, 3)) 1 dJ2_grow_2_33 ha kc (Nat.le_of_ble_eq_true rfl) q463 (Or.inl rfl) rfl ?_
    refine g_iload_n (pc := 36) dJ2_grow_2_36 rfl rfl ?_
    refine g_invS (pc := 37) dJ2_grow_2_37 (jc_ocopyOf2 d κe xs.length (xs.length + max 1 (xs.length / 2)) f he k2 k2 k29 (fun q hq => ⟨_, hf q hq, hx _ (getD_mem (d := 0) hq)⟩) (by omega) (by omega) l1 (by omega)) meJ13_copyOf_2 q650 q651 rfl rfl (Nat.le_of_ble_eq_true rfl) (by first | exact jF | exact fun _ z => z | assumption | (intro κ z; simp_all)) (jk_n (fun v h1 hp fr => ?_)) jk_x
    obtain ⟨rfl, g, rfl, hg⟩ := hp
    have ha1 := (fr.2.2 a _ ha).1 (fun z => z)
    refine g_dup_x1 (pc := 40) dJ2_grow_2_40 rfl rfl ?_
    refine g_put (pc := 41) (r := (RJ2, TJ2, 3)) 1 dJ2_grow_2_41 ha1 kc (Nat.le_of_ble_eq_true rfl) q463 (Or.inl rfl) rfl k19 rfl (tyJ2_ok 1 (Nat.le_of_ble_eq_true rfl)) rfl rfl ?_
    exact g_aret (pc := 44) dJ2_grow_2_44 rfl (Or.inr ⟨_, rfl⟩) (Or.inr ⟨_, rfl⟩) ⟨_, rfl, rfl, _, g, by omega, by omega, rfl, hg⟩
theorem jc_grow (d : Nat) (md : Int32) (f : Nat → Value) (k1 : κ % 100 = 32) (k19 : κ < 900) (k2 : κe % 100 = 65) (k29 : κe < 900) (ha : h.2.2 a = some (κ, .inl [.int md, .ref e, .int (nI xs.length)])) (hx : ∀ x ∈ xs, elK h x) (hn : xs.length ≤ 4000) (he : (xs.length = 0 ∧ hSv "java/util/ArrayList" "DEFAULTCAPACITY_EMPTY_ELEMENTDATA" "[Ljava/lang/Object;" Z = .ref e ∧ h.2.2 e = some (965, .inr (0, f))) ∨ (0 < xs.length ∧ h.2.2 e = some (κe, .inr (xs.length, f)) ∧ ∀ i, i < xs.length → f i = .ref (xs.getD i 0))) (l1 : h.1 + 1 ≤ hLC Z) (l2 : h.2.1 + (2 * xs.length + 10) ≤ hLS) : jC Z mJ2_grow (d + 4) (fun k => k = κ) [.ref a] h (jGw h κ a κe xs.length md f) := by
  refine jC.of pnJ2 rfl (Nat.le_of_ble_eq_true rfl) rfl (fun X => ?_)
  have kc := jAL.kc k1
  refine g_aload_n (pc := 0) dJ2_grow_0 rfl rfl ?_
  refine g_aload_n (pc := 1) dJ2_grow_1 rfl rfl ?_
  refine g_get (pc := 2) (r := (RJ2, TJ2, 3)) 2 dJ2_grow_2 ha kc (Nat.le_of_ble_eq_true rfl) q464 (Or.inl rfl) rfl ?_
  refine g_iconst (pc := 5) (v := nI 1) dJ2_grow_5 rfl ?_
  first | refine g_iaddN (pc := 6) dJ2_grow_6 ?_ | refine g_iadd (pc := 6) dJ2_grow_6 ?_
  refine g_invV (pc := 7) dJ2_grow_7 ha kc (jc_grow2 d md f k1 k19 k2 k29 ha hx hn he l1 l2) meJ2_grow_2 q643 q645 qs6 rfl rfl (Nat.le_of_ble_eq_true rfl) (by first | exact jF | exact fun _ z => z | assumption | (intro κ z; simp_all)) (jk_n (fun v h1 hp fr => ?_)) jk_x
  obtain ⟨rfl, hp⟩ := hp
  exact g_aret (pc := 10) dJ2_grow_10 rfl (Or.inr ⟨_, rfl⟩) (Or.inr ⟨_, rfl⟩) ⟨_, rfl, rfl, hp⟩
end JC
