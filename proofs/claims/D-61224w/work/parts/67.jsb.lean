/-! JDK 7: StringBuilder -/
set_option maxRecDepth 100000
/-- the StringBuilder at a (kinds of γ) has room cap and the characters l -/
def jSB (h : hP) (γ a cap : Nat) (l : List Nat) : Prop := (1 ≤ γ ∧ γ < 9) ∧ (∀ c ∈ l, c < 128) ∧ cap ≤ 1000000 ∧ l.length ≤ cap ∧ ∃ b ml f, h.2.2 a = some (100 * γ + 31, .inl [.ref b, .int (nI 0), .int ml, .int (nI l.length)]) ∧ h.2.2 b = some (100 * γ + 60, .inr (cap, f)) ∧ ∀ i, i < l.length → f i = .int (nI (l.getD i 0))
def jSS (γ : Nat) : Nat → Prop := fun k => k = 100 * γ + 31 ∨ k = 100 * γ + 60
/-- growth of a builder from cap to cap', and what it costs -/
def jGr (h h' : hP) (cap cap' m : Nat) : Prop := cap ≤ cap' ∧ cap' ≤ max cap (2 * m) ∧ h'.1 + cap ≤ h.1 + cap' ∧ h'.2.1 + 2 * cap ≤ h.2.1 + 2 * cap'
theorem k31 (γ : Nat) : hCl ((100 * γ + 31) % 100) = some (RJ8, TJ8, 4) := by rw [show (100 * γ + 31) % 100 = 31 by omega]; rfl
theorem k60 (γ : Nat) : hTy ((100 * γ + 60) % 100) = some .byte := by rw [show (100 * γ + 60) % 100 = 60 by omega]; rfl
theorem jSB.fr {S : Nat → Prop} {h h' : hP} {γ a cap : Nat} {l : List Nat} (f : hFr S h h') (h1 : ¬ S (100 * γ + 31)) (h2 : ¬ S (100 * γ + 60)) (q : jSB h γ a cap l) : jSB h' γ a cap l := by
  obtain ⟨q1, q2, q3, q4, b, ml, g, q5, q6, q7⟩ := q
  exact ⟨q1, q2, q3, q4, b, ml, g, (f.2.2 a _ q5).1 h1, (f.2.2 b _ q6).1 h2, q7⟩
theorem jSt.frB {h h' : hP} {γ κ a : Nat} {l : List Nat} (hγ : 1 ≤ γ ∧ γ < 9) (f : hFr (jSS γ) h h') (q : jSt h κ a l) : jSt h' κ a l := by
  refine jSt.fr f ?_ ?_ ?_ q
  · rcases q.1 with e | e | e <;> rw [e] <;> rintro (z | z) <;> omega
  · rintro (z | z) <;> omega
  · rintro (z | z) <;> omega
theorem hsJ8_J7_ensureCapacityInternal : hSel RJ8 mJ7_ensureCapacityInternal.2.1 := hSel.of (z := ⟨"java/lang/AbstractStringBuilder", "isLatin1", "()Z"⟩) rfl q272 q235 (by decide) q236 ⟨by decide, by decide⟩
theorem hsJ8_J7_newCapacity : hSel RJ8 mJ7_newCapacity.2.1 := hSel.of (z := ⟨"java/lang/AbstractStringBuilder", "isLatin1", "()Z"⟩) rfl q272 q239 (by decide) q240 ⟨by decide, by decide⟩
theorem hsJ8_J7_putStringAt : hSel RJ8 mJ7_putStringAt.2.1 := hSel.of (z := ⟨"java/lang/AbstractStringBuilder", "isLatin1", "()Z"⟩) rfl q272 q310 (by decide) q311 ⟨by decide, by decide⟩
theorem hsJ8_J7_inflateIfNeededFor : hSel RJ8 mJ7_inflateIfNeededFor.2.1 := hSel.of (z := ⟨"java/lang/AbstractStringBuilder", "isLatin1", "()Z"⟩) rfl q272 q314 (by decide) q315 ⟨by decide, by decide⟩
theorem pk_subLe {a b : Nat} (ha : a < 2147483648) (hb : b < 2147483648) (h : a ≤ b) : nI a - nI b ≤ 0 := by
  rw [Int32.le_iff_toInt_le, Int32.toInt_sub, nI_toInt ha, nI_toInt hb]
  show Int.bmod _ _ ≤ 0
  rw [Int.bmod_def]
  split <;> omega
section JC
variable {Z : hE} {h : hP} {κ γ a cap : Nat} {l : List Nat}
theorem jc_bIsLatin1 (d : Nat) (hs : jSB h γ a cap l) : jP Z mJ7_isLatin1 d [.ref a] h (some (.int (nI 1))) := by
  refine jC.of pnJ7 rfl (Nat.le_of_ble_eq_true rfl) rfl (fun X => ?_)
  have kc := k31 γ
  obtain ⟨_, _, _, _, b, ml, f, ha, _⟩ := hs
  refine g_gets (pc := 0) dJ7_isLatin1_0 st_compact q198 (Or.inl rfl) ?_
  refine g_if_eq (pc := 3) (tgt := 17) dJ7_isLatin1_3 rfl (fun q_ => absurd q_ (by decide)) (fun _ => ?_)
  refine g_aload_n (pc := 6) dJ7_isLatin1_6 rfl rfl ?_
  refine g_get (pc := 7) (r := (RJ8, TJ8, 4)) 1 dJ7_isLatin1_7 ha kc (Nat.le_of_ble_eq_true rfl) q208 (Or.inl rfl) rfl ?_
  refine g_if_neN (pc := 10) (tgt := 17) dJ7_isLatin1_10 rfl (by omega) (fun q_ => absurd q_ (by omega)) (fun _ => ?_)
  refine g_iconst (pc := 13) (v := nI 1) dJ7_isLatin1_13 rfl ?_
  refine g_goto (pc := 14) (tgt := 18) dJ7_isLatin1_14 rfl ?_
  exact g_zret (pc := 18) dJ7_isLatin1_18 rfl (by first | exact bz_n _ | rfl) ⟨_, rfl, rfl, rfl⟩
theorem jc_newLength (d o m p : Nat) (ho : o ≤ 1000000) (hm : m ≤ 1000000) (hp : p ≤ 2000000) (h0 : 0 < m) : jP Z mJ11_newLength (d + 1) [.int (nI o), .int (nI m), .int (nI p)] h (some (.int (nI (o + max m p)))) := by
  refine jC.of pnJ11 rfl (Nat.le_of_ble_eq_true rfl) rfl (fun X => ?_)
  refine g_iload_n (pc := 0) dJ11_newLength_0 rfl rfl ?_
  refine g_iload_n (pc := 1) dJ11_newLength_1 rfl rfl ?_
  refine g_iload_n (pc := 2) dJ11_newLength_2 rfl rfl ?_
  refine g_invSF (pc := 3) dJ11_newLength_3 (jc_max d m p (by omega) (by omega)) meJ12_max q245 q246 rfl rfl (Nat.le_of_ble_eq_true rfl) (by first | exact jF | exact fun _ z => z | assumption | (intro κ z; simp_all)) (jk_e ?_) jk_x
  first | refine g_iaddN (pc := 6) dJ11_newLength_6 ?_ | refine g_iadd (pc := 6) dJ11_newLength_6 ?_
  refine g_istore_n (pc := 7) (ls' := [(0, _), (1, _), (2, _), (3, _)]) dJ11_newLength_7 rfl (Nat.le_of_ble_eq_true rfl) rfl ?_
  refine g_iconst (pc := 8) (v := nI 0) dJ11_newLength_8 rfl ?_
  refine g_iload_n (pc := 9) dJ11_newLength_9 rfl rfl ?_
  refine g_icmp_geN (pc := 10) (tgt := 21) dJ11_newLength_10 rfl (by omega) (by omega) (fun q_ => absurd q_ (by omega)) (fun _ => ?_)
  refine g_iload_n (pc := 13) dJ11_newLength_13 rfl rfl ?_
  refine g_ldc (pc := 14) dJ11_newLength_14 q248 ?_
  rw [show (2147483639 : Int32) = nI 2147483639 from rfl]
  refine g_icmp_gtN (pc := 16) (tgt := 21) dJ11_newLength_16 rfl (by omega) (by omega) (fun q_ => absurd q_ (by omega)) (fun _ => ?_)
  refine g_iload_n (pc := 19) dJ11_newLength_19 rfl rfl ?_
  exact g_iret (pc := 20) dJ11_newLength_20 rfl ⟨_, rfl, rfl, rfl⟩
theorem jc_newCapacity (d m : Nat) (hs : jSB h γ a cap l) (hm : cap < m) (hm2 : m ≤ 1000000) : jP Z mJ7_newCapacity (d + 2) [.ref a, .int (nI m)] h (some (.int (nI (max (2 * cap + 2) m)))) := by
  refine jC.of pnJ7 rfl (Nat.le_of_ble_eq_true rfl) rfl (fun X => ?_)
  have kc := k31 γ
  obtain ⟨_, _, hcap, _, b, ml, f, ha, hb, _⟩ := hs
  refine g_aload_n (pc := 0) dJ7_newCapacity_0 rfl rfl ?_
  refine g_get (pc := 1) (r := (RJ8, TJ8, 4)) 0 dJ7_newCapacity_1 ha kc (Nat.le_of_ble_eq_true rfl) q207 (Or.inl rfl) rfl ?_
  refine g_alen (pc := 4) dJ7_newCapacity_4 hb ?_
  refine g_istore_n (pc := 5) (ls' := [(0, _), (1, _), (2, _)]) dJ7_newCapacity_5 rfl (Nat.le_of_ble_eq_true rfl) rfl ?_
  refine g_iload_n (pc := 6) dJ7_newCapacity_6 rfl rfl ?_
  refine g_aload_n (pc := 7) dJ7_newCapacity_7 rfl rfl ?_
  refine g_get (pc := 8) (r := (RJ8, TJ8, 4)) 1 dJ7_newCapacity_8 ha kc (Nat.le_of_ble_eq_true rfl) q208 (Or.inl rfl) rfl ?_
  refine g_ishl (pc := 11) dJ7_newCapacity_11 ?_
  rw [sl0]
  refine g_istore_n (pc := 12) (ls' := [(0, _), (1, _), (2, _), (3, _)]) dJ7_newCapacity_12 rfl (Nat.le_of_ble_eq_true rfl) rfl ?_
  refine g_iload_n (pc := 13) dJ7_newCapacity_13 rfl rfl ?_
  refine g_iload_n (pc := 14) dJ7_newCapacity_14 rfl rfl ?_
  first | refine g_isubN (pc := 15) dJ7_newCapacity_15 (by omega) ?_ | refine g_isub (pc := 15) dJ7_newCapacity_15 ?_
  refine g_istore (pc := 16) (ls' := [(0, _), (1, _), (2, _), (3, _), (4, _)]) dJ7_newCapacity_16 (Nat.le_of_ble_eq_true rfl) rfl ?_
  refine g_iload_n (pc := 18) dJ7_newCapacity_18 rfl rfl ?_
  refine g_iload (pc := 19) dJ7_newCapacity_19 rfl ?_
  refine g_iload_n (pc := 21) dJ7_newCapacity_21 rfl rfl ?_
  refine g_iconst (pc := 22) (v := nI 2) dJ7_newCapacity_22 rfl ?_
  refine g_aload_n (pc := 23) dJ7_newCapacity_23 rfl rfl ?_
  refine g_get (pc := 24) (r := (RJ8, TJ8, 4)) 1 dJ7_newCapacity_24 ha kc (Nat.le_of_ble_eq_true rfl) q208 (Or.inl rfl) rfl ?_
  refine g_ishl (pc := 27) dJ7_newCapacity_27 ?_
  rw [sl0]
  first | refine g_iaddN (pc := 28) dJ7_newCapacity_28 ?_ | refine g_iadd (pc := 28) dJ7_newCapacity_28 ?_
  refine g_invS (pc := 29) dJ7_newCapacity_29 (jc_newLength d cap (m - cap) (cap + 2) (by omega) (by omega) (by omega) (by omega)) meJ11_newLength q242 q243 rfl rfl (Nat.le_of_ble_eq_true rfl) (by first | exact jF | exact fun _ z => z | assumption | (intro κ z; simp_all)) (jk_e ?_) jk_x
  refine g_istore (pc := 32) (ls' := [(0, _), (1, _), (2, _), (3, _), (4, _), (5, _)]) dJ7_newCapacity_32 (Nat.le_of_ble_eq_true rfl) rfl ?_
  refine g_iload (pc := 34) dJ7_newCapacity_34 rfl ?_
  refine g_ldc (pc := 36) dJ7_newCapacity_36 q252 ?_
  rw [show (2147483647 : Int32) = nI 2147483647 from rfl]
  refine g_icmp_neN (pc := 38) (tgt := 51) dJ7_newCapacity_38 rfl (by omega) (by omega) (fun _ => ?_) (fun q_ => absurd q_ (by omega))
  refine g_iload (pc := 51) dJ7_newCapacity_51 rfl ?_
  refine g_aload_n (pc := 53) dJ7_newCapacity_53 rfl rfl ?_
  refine g_get (pc := 54) (r := (RJ8, TJ8, 4)) 1 dJ7_newCapacity_54 ha kc (Nat.le_of_ble_eq_true rfl) q208 (Or.inl rfl) rfl ?_
  refine g_ishr (pc := 57) dJ7_newCapacity_57 ?_
  rw [sh0, show cap + max (m - cap) (cap + 2) = max (2 * cap + 2) m by omega]
  exact g_iret (pc := 58) dJ7_newCapacity_58 rfl ⟨_, rfl, rfl, rfl⟩
theorem jc_ensureN (d m : Nat) (hs : jSB h γ a cap l) (hm : m ≤ cap) : jP Z mJ7_ensureCapacityInternal (d + 3) [.ref a, .int (nI m)] h none := by
  refine jC.of pnJ7 rfl (Nat.le_of_ble_eq_true rfl) rfl (fun X => ?_)
  have kc := k31 γ
  have hs0 := hs
  obtain ⟨hγ, hl, hcap, hlc, b, ml, f, ha, hb, hf⟩ := hs
  refine g_aload_n (pc := 0) dJ7_ensureCapacityInternal_0 rfl rfl ?_
  refine g_get (pc := 1) (r := (RJ8, TJ8, 4)) 0 dJ7_ensureCapacityInternal_1 ha kc (Nat.le_of_ble_eq_true rfl) q207 (Or.inl rfl) rfl ?_
  refine g_alen (pc := 4) dJ7_ensureCapacityInternal_4 hb ?_
  refine g_aload_n (pc := 5) dJ7_ensureCapacityInternal_5 rfl rfl ?_
  refine g_get (pc := 6) (r := (RJ8, TJ8, 4)) 1 dJ7_ensureCapacityInternal_6 ha kc (Nat.le_of_ble_eq_true rfl) q208 (Or.inl rfl) rfl ?_
  refine g_ishr (pc := 9) dJ7_ensureCapacityInternal_9 ?_
  rw [sh0]
  refine g_istore_n (pc := 10) (ls' := [(0, _), (1, _), (2, _)]) dJ7_ensureCapacityInternal_10 rfl (Nat.le_of_ble_eq_true rfl) rfl ?_
  refine g_iload_n (pc := 11) dJ7_ensureCapacityInternal_11 rfl rfl ?_
  refine g_iload_n (pc := 12) dJ7_ensureCapacityInternal_12 rfl rfl ?_
  refine g_isub (pc := 13) dJ7_ensureCapacityInternal_13 ?_
  refine g_if_le (pc := 14) (tgt := 38) dJ7_ensureCapacityInternal_14 rfl (fun _ => ?_) (fun z => absurd z ?_)
  · exact g_vret (pc := 38) dJ7_ensureCapacityInternal_38 rfl ⟨_, rfl, rfl, rfl⟩
  · rw [Classical.not_not]
    exact pk_subLe (by omega) (by omega) hm
theorem jBne {b : Nat} {x : Nat × (Nat → Value)} {fs : List Value} (hb : h.2.2 b = some (100 * γ + 60, .inr x)) (ha : h.2.2 a = some (100 * γ + 31, .inl fs)) : b ≠ a := fun e => by
  rw [e] at hb
  have z := congrArg Prod.fst (Option.some.inj (hb.symm.trans ha))
  have z : 100 * γ + 60 = 100 * γ + 31 := z
  omega
theorem jc_ensure (d m : Nat) (hs : jSB h γ a cap l) (hm : m ≤ 500000) (l1 : h.1 + 1 ≤ hLC Z) (l2 : h.2.1 + 2 * m ≤ hLS) : jC Z mJ7_ensureCapacityInternal (d + 3) (jSS γ) [.ref a, .int (nI m)] h (fun v h' => v = none ∧ ∃ cap', jSB h' γ a cap' l ∧ m ≤ cap' ∧ jGr h h' cap cap' m) := by
  refine jC.of pnJ7 rfl (Nat.le_of_ble_eq_true rfl) rfl (fun X => ?_)
  have kc := k31 γ
  have hs0 := hs
  obtain ⟨hγ, hl, hcap, hlc, b, ml, f, ha, hb, hf⟩ := hs
  refine g_aload_n (pc := 0) dJ7_ensureCapacityInternal_0 rfl rfl ?_
  refine g_get (pc := 1) (r := (RJ8, TJ8, 4)) 0 dJ7_ensureCapacityInternal_1 ha kc (Nat.le_of_ble_eq_true rfl) q207 (Or.inl rfl) rfl ?_
  refine g_alen (pc := 4) dJ7_ensureCapacityInternal_4 hb ?_
  refine g_aload_n (pc := 5) dJ7_ensureCapacityInternal_5 rfl rfl ?_
  refine g_get (pc := 6) (r := (RJ8, TJ8, 4)) 1 dJ7_ensureCapacityInternal_6 ha kc (Nat.le_of_ble_eq_true rfl) q208 (Or.inl rfl) rfl ?_
  refine g_ishr (pc := 9) dJ7_ensureCapacityInternal_9 ?_
  rw [sh0]
  refine g_istore_n (pc := 10) (ls' := [(0, _), (1, _), (2, _)]) dJ7_ensureCapacityInternal_10 rfl (Nat.le_of_ble_eq_true rfl) rfl ?_
  refine g_iload_n (pc := 11) dJ7_ensureCapacityInternal_11 rfl rfl ?_
  refine g_iload_n (pc := 12) dJ7_ensureCapacityInternal_12 rfl rfl ?_
  by_cases q : m ≤ cap
  · refine g_isub (pc := 13) dJ7_ensureCapacityInternal_13 ?_
    refine g_if_le (pc := 14) (tgt := 38) dJ7_ensureCapacityInternal_14 rfl (fun _ => ?_) (fun z => absurd z ?_)
    · exact g_vret (pc := 38) dJ7_ensureCapacityInternal_38 rfl ⟨_, rfl, rfl, cap, hs0, q, Nat.le_refl _, Nat.le_max_left _ _, Nat.le_refl _, Nat.le_refl _⟩
    · rw [Classical.not_not]
      exact pk_subLe (by omega) (by omega) q
  · first | refine g_isubN (pc := 13) dJ7_ensureCapacityInternal_13 (by omega) ?_ | refine g_isub (pc := 13) dJ7_ensureCapacityInternal_13 ?_
    refine g_if_leN (pc := 14) (tgt := 38) dJ7_ensureCapacityInternal_14 rfl (by omega) (fun q_ => absurd q_ (by omega)) (fun _ => ?_)
    refine g_aload_n (pc := 17) dJ7_ensureCapacityInternal_17 rfl rfl ?_
    refine g_aload_n (pc := 18) dJ7_ensureCapacityInternal_18 rfl rfl ?_
    refine g_get (pc := 19) (r := (RJ8, TJ8, 4)) 0 dJ7_ensureCapacityInternal_19 ha kc (Nat.le_of_ble_eq_true rfl) q207 (Or.inl rfl) rfl ?_
    refine g_aload_n (pc := 22) dJ7_ensureCapacityInternal_22 rfl rfl ?_
    refine g_iload_n (pc := 23) dJ7_ensureCapacityInternal_23 rfl rfl ?_
    refine g_invP (pc := 24) dJ7_ensureCapacityInternal_24 ha kc (jc_newCapacity d m hs0 (by omega) (by omega)) meJ7_newCapacity q238 q240 hsJ8_J7_newCapacity rfl rfl (Nat.le_of_ble_eq_true rfl) (by first | exact jF | exact fun _ z => z | assumption | (intro κ z; simp_all)) (jk_e ?_) jk_x
    refine g_aload_n (pc := 27) dJ7_ensureCapacityInternal_27 rfl rfl ?_
    refine g_get (pc := 28) (r := (RJ8, TJ8, 4)) 1 dJ7_ensureCapacityInternal_28 ha kc (Nat.le_of_ble_eq_true rfl) q208 (Or.inl rfl) rfl ?_
    refine g_ishl (pc := 31) dJ7_ensureCapacityInternal_31 ?_
    rw [sl0]
    refine g_invS (pc := 32) dJ7_ensureCapacityInternal_32 (jc_copyOf d (100 * γ + 60) (100 * γ + 60) b cap (max (2 * cap + 2) m) f hb (k60 γ) (k60 γ) (by omega) (by omega) (by omega) l1 (by omega)) meJ13_copyOf q253 q254 rfl rfl (Nat.le_of_ble_eq_true rfl) (by first | exact jF | exact fun _ z => z | assumption | (intro κ z; simp_all)) (jk_n (fun v h1 hp fr => ?_)) jk_x
    obtain ⟨rfl, g, rfl, hg⟩ := hp
    have ha1 := (fr.2.2 a _ ha).1 (fun z => z)
    refine g_put (pc := 35) (r := (RJ8, TJ8, 4)) 0 dJ7_ensureCapacityInternal_35 ha1 kc (Nat.le_of_ble_eq_true rfl) q207 (Or.inl rfl) rfl (by omega) (Or.inl rfl) (tyJ8_ok 0 (Nat.le_of_ble_eq_true rfl)) rfl rfl ?_
    refine g_vret (pc := 38) dJ7_ensureCapacityInternal_38 rfl ?_
    refine ⟨_, rfl, rfl, max (2 * cap + 2) m, ⟨hγ, hl, by omega, by omega, h.1, ml, g, hSet_s _ _ _, ?_, fun i hi => ?_⟩, by omega, by omega, by omega, ?_, ?_⟩
    · have hne : h.1 ≠ a := fun e => by
        rw [← e, hNew_s] at ha1
        have z := congrArg Prod.fst (Option.some.inj ha1)
        have z : 100 * γ + 60 = 100 * γ + 31 := z
        omega
      rw [hSet_n hne]; exact hNew_s _ _ _
    · exact (hg i (by omega)).trans ((if_pos (by omega)).trans (hf i hi))
    · show h.1 + 1 + cap ≤ _; omega
    · show h.2.1 + max (2 * cap + 2) m + 2 * cap ≤ _; omega
end JC
