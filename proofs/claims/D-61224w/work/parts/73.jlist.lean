/-! JDK 13: ArrayList -/
set_option maxRecDepth 100000
theorem hCl_hTy {k : Nat} {r : vw_C} {ty : FieldType} (h1 : hCl k = some r) (h2 : hTy k = some ty) : False := by
  unfold hTy at h2
  split at h2 <;> first | cases h2; done | (cases h1; done)
/-- an object stands there that may be an element of an Object array -/
def elK (h : hP) (x : Nat) : Prop := ∃ c r, h.2.2 x = some c ∧ hCl (c.1 % 100) = some r ∧ Cond.castable r.1 "java/lang/Object" ∈ lw_tbl
theorem elK.fr {S : Nat → Prop} {h h' : hP} {x : Nat} (f : hFr S h h') (e : elK h x) : elK h' x := by
  obtain ⟨c, r, e1, e2, e3⟩ := e
  obtain ⟨-, c', g1, g2⟩ := f.2.2 x c e1
  exact ⟨c', r, g1, by rw [g2]; exact e2, e3⟩
theorem elK.fa {A : Nat → Prop} {h h' : hP} {x : Nat} (f : hFa A h h') (e : elK h x) : elK h' x := by
  obtain ⟨c, r, e1, e2, e3⟩ := e
  obtain ⟨-, c', g1, g2⟩ := f.2.2 x c e1
  exact ⟨c', r, g1, by rw [g2]; exact e2, e3⟩
section GI
variable {Z : hE} {X : hX} {M : hM} {d : Nat} {S : Nat → Prop} {hin : hP} {K : hO → hP → Prop} {pc : Nat} {ls : List (Nat × Value)} {st : List Value} {h : hP}
theorem g_inl (k : (∀ x c r, h.2.2 x = some c → hCl (c.1 % 100) = some r → ∃ fs, c.2 = .inl fs) → hG Z X M d S hin K pc ls st h) : hG Z X M d S hin K pc ls st h := by
  intro O F H locs la a1 a2 a3 a4 a5
  refine k (fun x c r hx hr => ?_) O F H locs la a1 a2 a3 a4 a5
  obtain ⟨-, cell, -, hat⟩ := a1.2.2.2.1 x c hx
  obtain ⟨-, -, -, hm⟩ := hat
  cases e : c.2 with
  | inl fs => exact ⟨fs, rfl⟩
  | inr nf =>
    rw [e] at hm
    obtain ⟨ty, h1, -⟩ := hm
    exact (hCl_hTy hr h1).elim
theorem elK.may {h : hP} {x : Nat} (hi : ∀ x c r, h.2.2 x = some c → hCl (c.1 % 100) = some r → ∃ fs, c.2 = .inl fs) (e : elK h x) : ∃ κ fs r, h.2.2 x = some (κ, .inl fs) ∧ hCl (κ % 100) = some r ∧ Cond.castable r.1 "java/lang/Object" ∈ lw_tbl := by
  obtain ⟨⟨κ, c2⟩, r, e1, e2, e3⟩ := e
  obtain ⟨fs, ef⟩ := hi x _ r e1 e2
  have ef : c2 = .inl fs := ef
  subst ef
  exact ⟨κ, fs, r, e1, e2, e3⟩
end GI
/-- the array of a list: the empty one that is known, or one of kind κe -/
def jEl (Z : hE) (h : hP) (κe e cap : Nat) (xs : List Nat) : Prop := ∃ f, (cap = 0 ∧ hSv "java/util/ArrayList" "DEFAULTCAPACITY_EMPTY_ELEMENTDATA" "[Ljava/lang/Object;" Z = .ref e ∧ h.2.2 e = some (965, .inr (0, f))) ∨ (0 < cap ∧ h.2.2 e = some (κe, .inr (cap, f)) ∧ ∀ i, i < xs.length → f i = .ref (xs.getD i 0))
/-- the ArrayList at a has the elements xs -/
def jAL (Z : hE) (h : hP) (κ a κe e cap : Nat) (xs : List Nat) : Prop := (κ % 100 = 32 ∧ κ < 900) ∧ (κe % 100 = 65 ∧ κe < 900) ∧ cap ≤ 10000 ∧ xs.length ≤ cap ∧ (∀ x ∈ xs, elK h x) ∧ (∃ md, h.2.2 a = some (κ, .inl [.int md, .ref e, .int (nI xs.length)])) ∧ jEl Z h κe e cap xs
theorem jAL.kc {κ : Nat} (h : κ % 100 = 32) : hCl (κ % 100) = some (RJ2, TJ2, 3) := by rw [h]; rfl
theorem jAL.ke {κ : Nat} (h : κ % 100 = 65) : hTy (κ % 100) = some (.object "java/lang/Object") := by rw [h]; rfl
section JC
variable {Z : hE} {h : hP} {κ a κe e cap : Nat} {xs : List Nat}
theorem jc_lsize (d : Nat) (hs : jAL Z h κ a κe e cap xs) : jP Z mJ2_size d [.ref a] h (some (.int (nI xs.length))) := by
  refine jC.of pnJ2 rfl (Nat.le_of_ble_eq_true rfl) rfl (fun X => ?_)
  obtain ⟨⟨k1, _⟩, _, _, _, _, ⟨md, ha⟩, _⟩ := hs
  have kc := jAL.kc k1
  refine g_aload_n (pc := 0) dJ2_size_0 rfl rfl ?_
  refine g_get (pc := 1) (r := (RJ2, TJ2, 3)) 2 dJ2_size_1 ha kc (Nat.le_of_ble_eq_true rfl) q464 (Or.inl rfl) rfl ?_
  exact g_iret (pc := 4) dJ2_size_4 rfl ⟨_, rfl, rfl, rfl⟩
theorem jc_lelem (d i : Nat) (hs : jAL Z h κ a κe e cap xs) (hi : i < xs.length) : jP Z mJ2_elementData d [.ref a, .int (nI i)] h (some (.ref (xs.getD i 0))) := by
  refine jC.of pnJ2 rfl (Nat.le_of_ble_eq_true rfl) rfl (fun X => ?_)
  obtain ⟨⟨k1, _⟩, ⟨k2, _⟩, _, hle, _, ⟨md, ha⟩, ⟨f, hf⟩⟩ := hs
  have kc := jAL.kc k1
  rcases hf with ⟨z, _⟩ | ⟨_, he, hf⟩
  · omega
  ·
    refine g_aload_n (pc := 0) dJ2_elementData_0 rfl rfl ?_
    refine g_get (pc := 1) (r := (RJ2, TJ2, 3)) 1 dJ2_elementData_1 ha kc (Nat.le_of_ble_eq_true rfl) q463 (Or.inl rfl) rfl ?_
    refine g_iload_n (pc := 4) dJ2_elementData_4 rfl rfl ?_
    refine g_aald (pc := 5) i dJ2_elementData_5 he (jAL.ke k2) rfl (by omega) rfl ?_
    rw [hf i hi]
    exact g_aret (pc := 6) dJ2_elementData_6 rfl (Or.inl ⟨_, rfl⟩) (Or.inr ⟨_, rfl⟩) ⟨_, rfl, rfl, rfl⟩
theorem jc_ocheckIndex (d i n : Nat) (hi : i < n) (hn : n < 2147483648) : jP Z mJ22_checkIndex (d + 1) [.int (nI i), .int (nI n)] h (some (.int (nI i))) := by
  refine jC.of pnJ22 rfl (Nat.le_of_ble_eq_true rfl) rfl (fun X => ?_)
  refine g_iload_n (pc := 0) dJ22_checkIndex_0 rfl rfl ?_
  refine g_iload_n (pc := 1) dJ22_checkIndex_1 rfl rfl ?_
  refine g_null (pc := 2) dJ22_checkIndex_2 ?_
  refine g_invS (pc := 3) dJ22_checkIndex_3 (jc_pcheckIndex d i n .null (Or.inl rfl) hi hn) meJ14_checkIndex q874 q601 rfl rfl (Nat.le_of_ble_eq_true rfl) (by first | exact jF | exact fun _ z => z | assumption | (intro κ z; simp_all)) (jk_e ?_) jk_x
  exact g_iret (pc := 6) dJ22_checkIndex_6 rfl ⟨_, rfl, rfl, rfl⟩
theorem jc_lget (d i : Nat) (hs : jAL Z h κ a κe e cap xs) (hi : i < xs.length) : jP Z mJ2_get (d + 2) [.ref a, .int (nI i)] h (some (.ref (xs.getD i 0))) := by
  refine jC.of pnJ2 rfl (Nat.le_of_ble_eq_true rfl) rfl (fun X => ?_)
  have hs0 := hs
  obtain ⟨⟨k1, _⟩, ⟨k2, _⟩, hcap, hle, _, ⟨md, ha⟩, _⟩ := hs
  have kc := jAL.kc k1
  refine g_iload_n (pc := 0) dJ2_get_0 rfl rfl ?_
  refine g_aload_n (pc := 1) dJ2_get_1 rfl rfl ?_
  refine g_get (pc := 2) (r := (RJ2, TJ2, 3)) 2 dJ2_get_2 ha kc (Nat.le_of_ble_eq_true rfl) q464 (Or.inl rfl) rfl ?_
  refine g_invS (pc := 5) dJ2_get_5 (jc_ocheckIndex d i xs.length hi (by omega)) meJ22_checkIndex q871 q872 rfl rfl (Nat.le_of_ble_eq_true rfl) (by first | exact jF | exact fun _ z => z | assumption | (intro κ z; simp_all)) (jk_e ?_) jk_x
  refine g_pop (pc := 8) dJ2_get_8 rfl ?_
  refine g_aload_n (pc := 9) dJ2_get_9 rfl rfl ?_
  refine g_iload_n (pc := 10) dJ2_get_10 rfl rfl ?_
  refine g_invV (pc := 11) dJ2_get_11 ha kc (jc_lelem (d + 1) i hs0 hi) meJ2_elementData q875 q876 q877 rfl rfl (Nat.le_of_ble_eq_true rfl) (by first | exact jF | exact fun _ z => z | assumption | (intro κ z; simp_all)) (jk_e ?_) jk_x
  exact g_aret (pc := 14) dJ2_get_14 rfl (Or.inl ⟨_, rfl⟩) (Or.inr ⟨_, rfl⟩) ⟨_, rfl, rfl, rfl⟩
theorem jc_collInit (d : Nat) : jP Z mJ0_init (d + 1) [.ref a] h none := by
  refine jC.of pnJ0 rfl (Nat.le_of_ble_eq_true rfl) rfl (fun X => ?_)
  refine g_aload_n (pc := 0) dJ0_init_0 rfl rfl ?_
  refine g_objInit (pc := 1) dJ0_init_1 q139 q126 q127 (Nat.le_of_ble_eq_true rfl) ?_
  exact g_vret (pc := 4) dJ0_init_4 rfl ⟨_, rfl, rfl, rfl⟩
theorem jc_absInit (d : Nat) (v1 v2 v3 : Value) (ha : h.2.2 a = some (κ, .inl [v1, v2, v3])) (hk : κ % 100 = 32) (hk9 : κ < 900) : jC Z mJ1_init (d + 2) (fun k => k = κ) [.ref a] h (fun v h' => v = none ∧ h' = hSet h a (κ, .inl [.int (nI 0), v2, v3])) := by
  refine jC.of pnJ1 rfl (Nat.le_of_ble_eq_true rfl) rfl (fun X => ?_)
  have kc := jAL.kc hk
  refine g_aload_n (pc := 0) dJ1_init_0 rfl rfl ?_
  refine g_invI (pc := 1) dJ1_init_1 (jc_collInit d) meJ0_init rfl rfl q136 q137 rfl rfl (Nat.le_of_ble_eq_true rfl) (by first | exact jF | exact fun _ z => z | assumption | (intro κ z; simp_all)) (jk_e ?_) jk_x
  refine g_aload_n (pc := 4) dJ1_init_4 rfl rfl ?_
  refine g_iconst (pc := 5) (v := nI 0) dJ1_init_5 rfl ?_
  refine g_put (pc := 6) (r := (RJ2, TJ2, 3)) 0 dJ1_init_6 ha kc (Nat.le_of_ble_eq_true rfl) q465 (Or.inl rfl) rfl hk9 rfl (tyJ2_ok 0 (Nat.le_of_ble_eq_true rfl)) rfl rfl ?_
  exact g_vret (pc := 9) dJ1_init_9 rfl ⟨_, rfl, rfl, rfl⟩
theorem jc_listInit0 (d : Nat) (v1 v2 v3 : Value) (ha : h.2.2 a = some (κ, .inl [v1, v2, v3])) (hk : κ % 100 = 32) (hk9 : κ < 900) : jC Z mJ2_init_2 (d + 3) (fun k => k = κ) [.ref a] h (fun v h' => v = none ∧ ∃ e, hSv "java/util/ArrayList" "DEFAULTCAPACITY_EMPTY_ELEMENTDATA" "[Ljava/lang/Object;" Z = .ref e ∧ (∃ f, h.2.2 e = some (965, .inr (0, f))) ∧ h' = hSet h a (κ, .inl [.int (nI 0), .ref e, v3])) := by
  refine jC.of pnJ2 rfl (Nat.le_of_ble_eq_true rfl) rfl (fun X => ?_)
  have kc := jAL.kc hk
  refine g_olds (fun hZ ho => ?_)
  obtain ⟨e, f, e1, e2, -⟩ := st_defcap.2 Z hZ
  have he := ho e _ e2
  refine g_aload_n (pc := 0) dJ2_init_2_0 rfl rfl ?_
  refine g_invI (pc := 1) dJ2_init_2_1 (jc_absInit d v1 v2 v3 ha hk hk9) meJ1_init rfl rfl q133 q134 rfl rfl (Nat.le_of_ble_eq_true rfl) (by first | exact jF | exact fun _ z => z | assumption | (intro κ z; simp_all)) (jk_n (fun v h1 hp fr => ?_)) jk_x
  obtain ⟨rfl, rfl⟩ := hp
  have ha1 := hSet_s h a (κ, .inl [.int (nI 0), v2, v3])
  refine g_aload_n (pc := 4) dJ2_init_2_4 rfl rfl ?_
  refine g_gets (pc := 5) dJ2_init_2_5 st_defcap.1 q647 (Or.inl rfl) ?_
  rw [e1]
  refine g_put (pc := 8) (r := (RJ2, TJ2, 3)) 1 dJ2_init_2_8 ha1 kc (Nat.le_of_ble_eq_true rfl) q463 (Or.inl rfl) rfl hk9 rfl (tyJ2_ok 1 (Nat.le_of_ble_eq_true rfl)) rfl rfl ?_
  rw [hSet_Set]
  exact g_vret (pc := 11) dJ2_init_2_11 rfl ⟨_, rfl, rfl, e, rfl, ⟨f, he⟩, rfl⟩
theorem jc_listInit (d n κe : Nat) (v1 v2 v3 : Value) (ha : h.2.2 a = some (κ, .inl [v1, v2, v3])) (hk : κ % 100 = 32) (hk9 : κ < 900) (hke : κe % 100 = 65) (hke9 : κe < 900) (hn : 0 < n) (hn2 : n ≤ 10000) (l1 : h.1 + 1 ≤ hLC Z) (l2 : h.2.1 + n ≤ hLS) : jC Z mJ2_init (d + 3) (fun k => k = κ) [.ref a, .int (nI n)] h (fun v h' => v = none ∧ h' = hSet (hNew h (κe, .inr (n, fun _ => .null)) n) a (κ, .inl [.int (nI 0), .ref h.1, v3])) := by
  refine jC.of pnJ2 rfl (Nat.le_of_ble_eq_true rfl) rfl (fun X => ?_)
  have kc := jAL.kc hk
  refine g_aload_n (pc := 0) dJ2_init_0 rfl rfl ?_
  refine g_invI (pc := 1) dJ2_init_1 (jc_absInit d v1 v2 v3 ha hk hk9) meJ1_init rfl rfl q133 q134 rfl rfl (Nat.le_of_ble_eq_true rfl) (by first | exact jF | exact fun _ z => z | assumption | (intro κ z; simp_all)) (jk_n (fun v h1 hp fr => ?_)) jk_x
  obtain ⟨rfl, rfl⟩ := hp
  have ha1 := hSet_s h a (κ, .inl [.int (nI 0), v2, v3])
  refine g_iload_n (pc := 4) dJ2_init_4 rfl rfl ?_
  refine g_if_leN (pc := 5) (tgt := 19) dJ2_init_5 rfl (by omega) (fun q_ => absurd q_ (by omega)) (fun _ => ?_)
  refine g_aload_n (pc := 8) dJ2_init_8 rfl rfl ?_
  refine g_iload_n (pc := 9) dJ2_init_9 rfl rfl ?_
  refine g_anew (pc := 10) (C := "java/lang/Object") κe n dJ2_init_10 (jAL.ke hke) hke9 rfl (by omega) q140 q141 (by first | omega | (simp only [hNew_1, hNew_2, hSet_1, hSet_2]; omega)) (by first | omega | (simp only [hNew_1, hNew_2, hSet_1, hSet_2]; omega)) (fun hwf => ?_)
  have ha2 := jNw (n := n) (c' := (κe, .inr (n, fun _ => .null))) hwf ha1
  refine g_put (pc := 13) (r := (RJ2, TJ2, 3)) 1 dJ2_init_13 ha2 kc (Nat.le_of_ble_eq_true rfl) q463 (Or.inl rfl) rfl hk9 rfl (tyJ2_ok 1 (Nat.le_of_ble_eq_true rfl)) rfl rfl ?_
  refine g_goto (pc := 16) (tgt := 60) dJ2_init_16 rfl ?_
  refine g_vret (pc := 60) dJ2_init_60 rfl ?_
  refine ⟨_, rfl, rfl, ?_⟩
  have hne : a ≠ h.1 := Nat.ne_of_lt (hwf a _ ha1)
  unfold hSet hNew
  refine congrArg _ (congrArg _ (funext fun q => ?_))
  by_cases z : q = a
  · simp [z]
  · by_cases y : q = h.1
    · simp [y]
    · simp [z, y]
end JC
