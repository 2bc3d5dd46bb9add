/-! LAW 7: the loop; the start -/
set_option maxRecDepth 100000
section LL
variable {Z : hE} {X : hX} {xs : List Int32} {E o lo : Nat}
theorem law_end {ls : List (Nat × Value)} {h : hP} : LG Z X 824 ls [] h := by
  refine g_iconst (pc := 824) (v := nI 1) dL_law_824 rfl ?_
  exact g_zret (pc := 825) dL_law_825 rfl (by first | exact bz_n _ | rfl) rfl
theorem law_loop (hs : hScr Z xs) : ∀ (r c : Nat) (τ : tT) (h : hP), xs.length ≤ 3 * c + 3 * r → 3 * c ≤ xs.length → LI Z E o lo c τ h → LG Z X 23 (lwV Z E o lo c) [] h := by
  have h192 := hs.2
  intro r
  induction r with
  | zero =>
    intro c τ h hr hc hI
    refine g_iload (pc := 23) dL_law_23 rfl ?_
    refine g_aload_n (pc := 25) dL_law_25 rfl rfl ?_
    refine g_slen hs (pc := 26) dL_law_26 ?_
    refine g_iconst (pc := 27) (v := nI 3) dL_law_27 rfl ?_
    by_cases h3 : 3 ≤ xs.length
    · refine g_isubN (pc := 28) dL_law_28 h3 ?_
      refine g_icmp_gtN (pc := 29) (tgt := 824) dL_law_29 rfl (by omega) (by omega) (fun _ => law_end) (fun q_ => absurd q_ (by omega))
    · have hc0 : c = 0 := by omega
      subst hc0
      refine g_isub (pc := 28) dL_law_28 ?_
      have hn : xs.length = 0 ∨ xs.length = 1 ∨ xs.length = 2 := by omega
      refine g_icmp_gt (pc := 29) (tgt := 824) dL_law_29 rfl (fun _ => law_end) (fun q_ => absurd ?_ q_)
      rcases hn with z | z | z <;> (rw [z]; decide)
  | succ r ih =>
    intro c τ h hr hc hI
    refine g_iload (pc := 23) dL_law_23 rfl ?_
    refine g_aload_n (pc := 25) dL_law_25 rfl rfl ?_
    refine g_slen hs (pc := 26) dL_law_26 ?_
    refine g_iconst (pc := 27) (v := nI 3) dL_law_27 rfl ?_
    by_cases h3 : 3 ≤ xs.length
    · refine g_isubN (pc := 28) dL_law_28 h3 ?_
      refine g_icmp_gtN (pc := 29) (tgt := 824) dL_law_29 rfl (by omega) (by omega) (fun _ => law_end) (fun q_ => ?_)
      have hc3 : 3 * c + 3 ≤ xs.length := by omega
      have k818 : ∀ τ' h', LI Z E o lo (c + 1) τ' h' → LG Z X 818 (lwV Z E o lo c) [] h' := by
        intro τ' h' hI'
        refine g_iincN (pc := 818) (k0 := 3) (ls' := [(0, _), (1, _), (2, _), (3, _), (4, _)]) dL_law_818 rfl (Nat.le_of_ble_eq_true rfl) rfl ?_
        refine g_goto (pc := 821) (tgt := 23) dL_law_821 rfl ?_
        exact ih (c + 1) τ' h' (by omega) (by omega) hI'
      refine g_aload_n (pc := 32) dL_law_32 rfl rfl ?_
      refine g_iload (pc := 33) dL_law_33 rfl ?_
      refine g_sald hs (pc := 35) (3 * c) dL_law_35 (by omega) rfl ?_
      refine g_bipush (pc := 36) (v := nI 15) dL_law_36 rfl ?_
      refine g_iand (pc := 38) dL_law_38 ?_
      obtain ⟨k, hk, e⟩ := and15 (xs.getD (3 * c) 0)
      rw [e]
      have hk16 : k = 0 ∨ k = 1 ∨ k = 2 ∨ k = 3 ∨ k = 4 ∨ k = 5 ∨ k = 6 ∨ k = 7 ∨ k = 8 ∨ k = 9 ∨ k = 10 ∨ k = 11 ∨ k = 12 ∨ k = 13 ∨ k = 14 ∨ k = 15 := by omega
      clear e hk
      rcases hk16 with rfl | rfl | rfl | rfl | rfl | rfl | rfl | rfl | rfl | rfl | rfl | rfl | rfl | rfl | rfl | rfl
      · exact g_tableIn (pc := 39) (off := 69) (tgt := 108) dL_law_39 (by decide) (by decide) rfl rfl (st_type hs hI hc3 k818)
      · exact g_tableIn (pc := 39) (off := 125) (tgt := 164) dL_law_39 (by decide) (by decide) rfl rfl (st_number hs hI hc3 k818)
      · exact g_tableIn (pc := 39) (off := 181) (tgt := 220) dL_law_39 (by decide) (by decide) rfl rfl (st_text hs hI hc3 k818)
      · exact g_tableIn (pc := 39) (off := 225) (tgt := 264) dL_law_39 (by decide) (by decide) rfl rfl (st_list hs hI hc3 k818)
      · exact g_tableIn (pc := 39) (off := 269) (tgt := 308) dL_law_39 (by decide) (by decide) rfl rfl (st_map hs hI hc3 k818)
      · exact g_tableIn (pc := 39) (off := 313) (tgt := 352) dL_law_39 (by decide) (by decide) rfl rfl (st_add hs hI hc3 k818)
      · exact g_tableIn (pc := 39) (off := 381) (tgt := 420) dL_law_39 (by decide) (by decide) rfl rfl (st_put hs hI hc3 k818)
      · exact g_tableIn (pc := 39) (off := 449) (tgt := 488) dL_law_39 (by decide) (by decide) rfl rfl (st_compile hs hI hc3 k818)
      · exact g_tableIn (pc := 39) (off := 505) (tgt := 544) dL_law_39 (by decide) (by decide) rfl rfl (st_errorAt hI k818)
      · exact g_tableIn (pc := 39) (off := 518) (tgt := 557) dL_law_39 (by decide) (by decide) rfl rfl (st_render hs hI hc3 k818)
      · exact g_tableIn (pc := 39) (off := 586) (tgt := 625) dL_law_39 (by decide) (by decide) rfl rfl (st_at hs hI hc3 k818)
      · exact g_tableIn (pc := 39) (off := 642) (tgt := 681) dL_law_39 (by decide) (by decide) rfl rfl (st_kind hs hI hc3 k818)
      · exact g_tableIn (pc := 39) (off := 698) (tgt := 737) dL_law_39 (by decide) (by decide) rfl rfl (st_size hs hI hc3 k818)
      · exact g_tableIn (pc := 39) (off := 754) (tgt := 793) dL_law_39 (by decide) (by decide) rfl rfl (st_count hs hI hc3 k818)
      · exact g_tableOut (pc := 39) (tgt := 818) dL_law_39 (Or.inr (by decide)) rfl (k818 _ _ hI.up)
      · exact g_tableOut (pc := 39) (tgt := 818) dL_law_39 (Or.inr (by decide)) rfl (k818 _ _ hI.up)
    · have hc0 : c = 0 := by omega
      subst hc0
      refine g_isub (pc := 28) dL_law_28 ?_
      have hn : xs.length = 0 ∨ xs.length = 1 ∨ xs.length = 2 := by omega
      refine g_icmp_gt (pc := 29) (tgt := 824) dL_law_29 rfl (fun _ => law_end) (fun q_ => absurd ?_ q_)
      rcases hn with z | z | z <;> (rw [z]; decide)
theorem ti0 : TI (0, fun _ => .inl 0) (fun _ => none) [] [] (-1) 0 0 tT0 :=
  ⟨⟨rfl, Nat.zero_le _, fun x hx => absurd hx (Nat.not_lt_zero _)⟩, ⟨fun _ _ => rfl, fun _ _ _ => rfl, fun _ _ _ _ _ e => (by cases e), fun _ => (by show 0 < 65536; decide)⟩, rfl, fun i hi => absurd hi (Nat.not_lt_zero _), fun c hc => (by cases hc), rfl, Nat.zero_le _, fun i hi => absurd hi (Nat.not_lt_zero _), rfl, rfl, rfl⟩
set_option maxHeartbeats 4000000 in
theorem law_body (Z : hE) (hZ : hEnv Z) (xs : List Int32) (hs : hScr Z xs) (X : hX) : hG Z X mL_law 2048 (fun κ => κ < 900) (h00 Z) (fun r _ => r = .inl (some (.int 1))) 0 [(0, .ref Z.2.2.2.2)] [] (h00 Z) := by
  have s1 : (h00 Z).1 = Z.2.1.heap.size := rfl
  have s2 : (h00 Z).2.1 = 0 := rfl
  have c48 : iCn 48 ≤ 60 := by decide
  have s48 : iSum 48 ≤ 30000 := by decide
  have eL : hLC Z = Z.2.1.heap.size + 603072 := rfl
  have eS : hLS = 7166058 := rfl
  have lp : ∀ (E o lo r c : Nat) (τ : tT) (h : hP), xs.length ≤ 3 * c + 3 * r → 3 * c ≤ xs.length → LI Z E o lo c τ h → hG Z X mL_law 2048 (fun κ => κ < 900) (h00 Z) (fun r _ => r = .inl (some (.int 1))) 23 (lwV Z E o lo c) [] h := fun E o lo => law_loop hs
  generalize h00 Z = h at s1 s2 lp ⊢
  refine g_new (pc := 0) (r := (RX1, TX1, 8)) (fs := [.null, .null, .null, .null, .int (nI 0), .int (nI 0), .int (nI 0), .int (nI 0)]) 1 dL_law_0 rfl (by decide) q120 q121 q72 rfl (by first | omega | (simp only [hNew_1, hNew_2, hSet_1, hSet_2]; omega)) (by first | omega | (simp only [hNew_1, hNew_2, hSet_1, hSet_2]; omega)) (fun hwf0 => ?_)
  have n1 := hNew_s h (1, .inl [.null, .null, .null, .null, .int (nI 0), .int (nI 0), .int (nI 0), .int (nI 0)]) 8
  have z11 : (hNew h (1, .inl [.null, .null, .null, .null, .int (nI 0), .int (nI 0), .int (nI 0), .int (nI 0)]) 8).1 = h.1 + 1 := rfl
  have z12 : (hNew h (1, .inl [.null, .null, .null, .null, .int (nI 0), .int (nI 0), .int (nI 0), .int (nI 0)]) 8).2.1 = h.2.1 + 8 := rfl
  generalize hNew h (1, .inl [.null, .null, .null, .null, .int (nI 0), .int (nI 0), .int (nI 0), .int (nI 0)]) 8 = h1 at n1 z11 z12 ⊢
  refine g_dup (pc := 3) dL_law_3 rfl ?_
  refine g_invI (pc := 4) dL_law_4 (en_init 2041 n1 (by omega) (by omega)) meX1_init rfl rfl q122 q123 rfl rfl (Nat.le_of_ble_eq_true rfl) (fun κ z => by rw [z]; exact Nat.le_of_ble_eq_true rfl) (jk_n (fun u h2 hp2 fr2 => ?_)) jk_x
  obtain ⟨rfl, dl, el, ta, ln, rd, e1, e2, e3, e4, e5, -, rm⟩ := hp2
  have r1 := rm.1
  have r2 := rm.2
  have ci : CI Z h.1 (0, fun _ => .inl 0) (fun _ => none) [] [] (-1) 0 0 0 h2 := ⟨(fun _ => 0, fun _ => 0, fun _ => 0), dl, el, ta, ln, rd, 0, 200, 16, 2, ⟨e1, ⟨[], 60, e2, rfl, fun i hi => absurd hi (Nat.not_lt_zero _)⟩, ⟨fun i hi => absurd hi (Nat.not_lt_zero _), fun i j hi => absurd hi (Nat.not_lt_zero _), fun i j hi => absurd hi (Nat.not_lt_zero _), fun i j hi => absurd hi (Nat.not_lt_zero _), by omega, by show 0 ≤ 60; omega, acy.nil _ rfl⟩, e3, e4, e5, fun i hi => absurd hi (Nat.not_lt_zero _)⟩, ⟨Nat.le_refl _, by omega⟩, Or.inl rfl, Nat.le_refl _⟩
  refine g_astore_n (pc := 7) (ls' := [(0, _), (1, _)]) dL_law_7 rfl (Nat.le_of_ble_eq_true rfl) rfl ?_
  refine g_new (pc := 8) (r := (RX3, TX3, 48)) (fs := iFs h2.1 0) 3 dL_law_8 rfl (by decide) q1793 q1794 q93 rfl (by omega) (by show h2.2.1 + 48 ≤ _; omega) (fun hwf2 => ?_)
  show hG Z X mL_law 2048 _ h _ 11 _ _ (hNew h2 (3, .inl (iFs h2.1 0)) 48)
  have n3 := hNew_s h2 (3, .inl (iFs h2.1 0)) 48
  have f3 : hFr (fun _ => False) h2 (hNew h2 (3, .inl (iFs h2.1 0)) 48) := (hFr.rf h2).new hwf2
  have z31 : (hNew h2 (3, .inl (iFs h2.1 0)) 48).1 = h2.1 + 1 := rfl
  have z32 : (hNew h2 (3, .inl (iFs h2.1 0)) 48).2.1 = h2.2.1 + 48 := rfl
  generalize hNew h2 (3, .inl (iFs h2.1 0)) 48 = h3 at n3 f3 z31 z32 ⊢
  have ci3 := ci.kp (hFr.mono (fun _ z => z.elim) f3)
  refine g_dup (pc := 11) dL_law_11 rfl ?_
  refine g_invI (pc := 12) dL_law_12 (hc_tinit 2046 z31 n3 (by omega) (by omega)) meX3_init rfl rfl q1795 q1796 rfl rfl (Nat.le_of_ble_eq_true rfl) (fun κ z => tS_lt z) (fun u h4 hp4 fr4 => ?_) (fun xx h4 hp4 fr4 => ?_)
  · obtain ⟨z, hR4, z41, z42⟩ := hp4
    cases z
    have ci4 := ci3.kp (hFr.mono (fun _ z => Or.inr z) fr4)
    refine g_astore_n (pc := 15) (ls' := [(0, _), (1, _), (2, _)]) dL_law_15 rfl (Nat.le_of_ble_eq_true rfl) rfl ?_
    refine g_iconst (pc := 16) (v := nI 1) dL_law_16 rfl ?_
    refine g_newa (pc := 17) (ty := .long) 64 1 dL_law_17 rfl rfl (by decide) rfl (by decide) q1946 (by decide) rfl (fun _ e => by cases e) (fun _ e => by cases e) (by first | omega | (simp only [hNew_1, hNew_2, hSet_1, hSet_2]; omega)) (by first | omega | (simp only [hNew_1, hNew_2, hSet_1, hSet_2]; omega)) (fun hwf4 => ?_)
    have n5 := hNew_s h4 (64, .inr (1, fun _ => .long 0)) 1
    have f5 : hFr (fun _ => False) h4 (hNew h4 (64, .inr (1, fun _ => .long 0)) 1) := (hFr.rf h4).new hwf4
    have ci5 := ci4.kp (hFr.mono (fun _ z => z.elim) f5)
    have hR5 := hR4.fr f5 (fun _ _ z => z)
    refine g_astore_n (pc := 19) (ls' := [(0, _), (1, _), (2, _), (3, _)]) dL_law_19 rfl (Nat.le_of_ble_eq_true rfl) rfl ?_
    refine g_iconst (pc := 20) (v := nI 0) dL_law_20 rfl ?_
    refine g_istore (pc := 21) (ls' := [(0, _), (1, _), (2, _), (3, _), (4, _)]) dL_law_21 (Nat.le_of_ble_eq_true rfl) rfl ?_
    refine lp h.1 h2.1 h4.1 64 0 tT0 _ (by have := hs.2; omega) (Nat.zero_le _) ⟨_, _, _, _, _, _, _, ci5, ti0, hR5, ⟨_, n5⟩, Nat.zero_le _, Nat.zero_le _, Nat.zero_le _, ?_, ?_⟩
    · show h4.1 + 1 ≤ _; omega
    · show h4.2.1 + 1 ≤ _; omega
  · obtain ⟨z, -⟩ := hp4
    cases z
end LL
