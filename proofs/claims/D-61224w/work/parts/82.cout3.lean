/-! COMPONENT 3: Output.capitals, addChar, addEscaped -/
set_option maxRecDepth 100000
/-- capitals from a place on -/
def cpL (l : List Nat) (i : Nat) : List Nat := l.take i ++ (l.drop i).map upc
theorem cpL_len (l : List Nat) (i : Nat) : (cpL l i).length = l.length := by
  unfold cpL
  rw [List.length_append, List.length_map, ← List.length_append, List.take_append_drop]
theorem cpL_get {l : List Nat} {i k : Nat} (hk : k < l.length) : (cpL l i).getD k 0 = if k < i then l.getD k 0 else upc (l.getD k 0) := by
  unfold cpL
  rw [getD_app]
  by_cases q : k < i
  · rw [if_pos q, if_pos (by rw [List.length_take]; omega), getD_take q]
  · rw [if_neg q, if_neg (by rw [List.length_take]; omega), List.length_take, Nat.min_eq_left (by omega)]
    rw [List.getD_eq_getElem?_getD, List.getElem?_map, List.getElem?_drop, show i + (k - i) = k by omega, List.getElem?_eq_getElem hk, List.getD_eq_getElem?_getD, List.getElem?_eq_getElem hk]
    rfl
theorem list_ext0 {l l' : List Nat} (h : l.length = l'.length) (hk : ∀ k, k < l.length → l.getD k 0 = l'.getD k 0) : l = l' := by
  refine List.ext_getElem h (fun k h1 h2 => ?_)
  have := hk k h1
  rw [List.getD_eq_getElem?_getD, List.getD_eq_getElem?_getD, List.getElem?_eq_getElem h1, List.getElem?_eq_getElem h2] at this
  exact this
theorem upc_no {c : Nat} (h : c < 97 ∨ 122 < c) : upc c = c := by
  unfold upc isL
  rw [if_neg]
  rw [Bool.and_eq_true, decide_eq_true_eq, decide_eq_true_eq]
  omega
theorem upc_yes {c : Nat} (h : 97 ≤ c) (h2 : c ≤ 122) : upc c = c - 32 := by
  unfold upc isL
  rw [if_pos]
  rw [Bool.and_eq_true, decide_eq_true_eq, decide_eq_true_eq]
  omega
section CO
variable {Z : hE} {h : hP} {κ γ a cap : Nat} {l : List Nat}
theorem co_capitals (d i0 : Nat) (hs : cO h γ a cap l) (hi0 : i0 ≤ l.length) : jC Z mX2_capitals (d + 4) (jSS γ) [.ref a, .int (nI i0)] h (fun v h' => v = none ∧ cO h' γ a cap (cpL l i0) ∧ h'.1 = h.1 ∧ h'.2.1 = h.2.1) := by
  refine jC.of pnX2 rfl (Nat.le_of_ble_eq_true rfl) rfl (fun X => ?_)
  have kc := k02 γ
  have kt := k31 γ
  have loop : ∀ (j i : Nat) (cur : List Nat) (h1 : hP), i0 ≤ i → i + j = l.length → cur.length = l.length → (∀ k, k < l.length → cur.getD k 0 = if k < i then (cpL l i0).getD k 0 else l.getD k 0) → cO h1 γ a cap cur → hFr (jSS γ) h h1 → h1.1 = h.1 → h1.2.1 = h.2.1 → hG Z X mX2_capitals (d + 4) (jSS γ) h (jK (fun v h' => v = none ∧ cO h' γ a cap (cpL l i0) ∧ h'.1 = h.1 ∧ h'.2.1 = h.2.1)) 2 [(0, .ref a), (1, .int (nI i0)), (2, .int (nI i))] [] h1 := by
    intro j
    induction j with
    | zero =>
      intro i cur h1 hii hij hlen hcur hO hfr hr1 hr2
      have hO0 := hO
      obtain ⟨q1, q2, t, ha, hB⟩ := hO
      have hB0 := hB
      obtain ⟨hγ, hl, hcap, hlc, b, ml, f, ht, hb, hf⟩ := hB
      refine g_iload_n (pc := 2) dX2_capitals_2 rfl rfl ?_
      refine g_aload_n (pc := 3) dX2_capitals_3 rfl rfl ?_
      refine g_get (pc := 4) (r := (RX2, TX2, 1)) 0 dX2_capitals_4 ha kc (Nat.le_of_ble_eq_true rfl) q490 (Or.inl rfl) rfl ?_
      refine g_invV (pc := 7) dX2_capitals_7 ht kt (jc_blength (d + 2) hB0) meJ8_length q537 q390 q2268 rfl rfl (Nat.le_of_ble_eq_true rfl) (by first | exact jF | exact fun _ z => z | assumption | (intro κ z; simp_all)) (jk_e ?_) jk_x
      refine g_icmp_geN (pc := 10) (tgt := 53) dX2_capitals_10 rfl (by omega) (by omega) (fun _ => ?_) (fun q_ => absurd q_ (by omega))
      refine g_vret (pc := 53) dX2_capitals_53 rfl ?_
      have e : cur = cpL l i0 := list_ext0 (by rw [hlen, cpL_len]) (fun k hk => by rw [hcur k (by omega), if_pos (by omega)])
      rw [← e]
      exact ⟨_, rfl, rfl, hO0, hr1, hr2⟩
    | succ j ih =>
      intro i cur h1 hii hij hlen hcur hO hfr hr1 hr2
      have hO0 := hO
      obtain ⟨q1, q2, t, ha, hB⟩ := hO
      have hB0 := hB
      obtain ⟨hγ, hl, hcap, hlc, b, ml, f, ht, hb, hf⟩ := hB
      have hci := hcur i (by omega)
      rw [if_neg (by omega)] at hci
      have hc := hl _ (getD_mem (d := 0) (show i < cur.length by omega))
      have hup : (cpL l i0).getD i 0 = upc (l.getD i 0) := by rw [cpL_get (by omega), if_neg (by omega)]
      have stay : upc (l.getD i 0) = l.getD i 0 → hG Z X mX2_capitals (d + 4) (jSS γ) h (jK (fun v h' => v = none ∧ cO h' γ a cap (cpL l i0) ∧ h'.1 = h.1 ∧ h'.2.1 = h.2.1)) 47 [(0, .ref a), (1, .int (nI i0)), (2, .int (nI i)), (3, .int (nI (cur.getD i 0)))] [] h1 := by
        intro e
        refine g_iincN (pc := 47) (k0 := 1) (ls' := [(0, _), (1, _), (2, _), (3, _)]) dX2_capitals_47 rfl (Nat.le_of_ble_eq_true rfl) rfl ?_
        refine g_goto (pc := 50) (tgt := 2) dX2_capitals_50 rfl ?_
        refine g_drop [0, 1, 2] rfl ?_
        refine ih (i + 1) cur h1 (by omega) (by omega) hlen (fun k hk => ?_) hO0 hfr hr1 hr2
        rw [hcur k hk]
        by_cases z : k = i
        · rw [z, if_neg (by omega), if_pos (by omega), hup, e]
        · by_cases y : k < i
          · rw [if_pos y, if_pos (by omega)]
          · rw [if_neg y, if_neg (by omega)]
      refine g_iload_n (pc := 2) dX2_capitals_2 rfl rfl ?_
      refine g_aload_n (pc := 3) dX2_capitals_3 rfl rfl ?_
      refine g_get (pc := 4) (r := (RX2, TX2, 1)) 0 dX2_capitals_4 ha kc (Nat.le_of_ble_eq_true rfl) q490 (Or.inl rfl) rfl ?_
      refine g_invV (pc := 7) dX2_capitals_7 ht kt (jc_blength (d + 2) hB0) meJ8_length q537 q390 q2268 rfl rfl (Nat.le_of_ble_eq_true rfl) (by first | exact jF | exact fun _ z => z | assumption | (intro κ z; simp_all)) (jk_e ?_) jk_x
      refine g_icmp_geN (pc := 10) (tgt := 53) dX2_capitals_10 rfl (by omega) (by omega) (fun q_ => absurd q_ (by omega)) (fun _ => ?_)
      refine g_aload_n (pc := 13) dX2_capitals_13 rfl rfl ?_
      refine g_get (pc := 14) (r := (RX2, TX2, 1)) 0 dX2_capitals_14 ha kc (Nat.le_of_ble_eq_true rfl) q490 (Or.inl rfl) rfl ?_
      refine g_iload_n (pc := 17) dX2_capitals_17 rfl rfl ?_
      refine g_invV (pc := 18) dX2_capitals_18 ht kt (jc_bcharAt d i hB0 (by omega)) meJ8_charAt q1612 q1613 q1614 rfl rfl (Nat.le_of_ble_eq_true rfl) (by first | exact jF | exact fun _ z => z | assumption | (intro κ z; simp_all)) (jk_e ?_) jk_x
      refine g_istore_n (pc := 21) (ls' := [(0, _), (1, _), (2, _), (3, _)]) dX2_capitals_21 rfl (Nat.le_of_ble_eq_true rfl) rfl ?_
      refine g_iload_n (pc := 22) dX2_capitals_22 rfl rfl ?_
      refine g_bipush (pc := 23) (v := nI 97) dX2_capitals_23 rfl ?_
      refine g_icmp_ltN (pc := 25) (tgt := 47) dX2_capitals_25 rfl (by omega) (by omega) (fun c25 => ?_) (fun c25 => ?_)
      · exact stay (by rw [← hci]; exact upc_no (Or.inl c25))
      · refine g_iload_n (pc := 28) dX2_capitals_28 rfl rfl ?_
        refine g_bipush (pc := 29) (v := nI 122) dX2_capitals_29 rfl ?_
        refine g_icmp_gtN (pc := 31) (tgt := 47) dX2_capitals_31 rfl (by omega) (by omega) (fun c31 => ?_) (fun c31 => ?_)
        · exact stay (by rw [← hci]; exact upc_no (Or.inr c31))
        · refine g_aload_n (pc := 34) dX2_capitals_34 rfl rfl ?_
          refine g_get (pc := 35) (r := (RX2, TX2, 1)) 0 dX2_capitals_35 ha kc (Nat.le_of_ble_eq_true rfl) q490 (Or.inl rfl) rfl ?_
          refine g_iload_n (pc := 38) dX2_capitals_38 rfl rfl ?_
          refine g_iload_n (pc := 39) dX2_capitals_39 rfl rfl ?_
          refine g_bipush (pc := 40) (v := nI 32) dX2_capitals_40 rfl ?_
          first | refine g_isubN (pc := 42) dX2_capitals_42 (by omega) ?_ | refine g_isub (pc := 42) dX2_capitals_42 ?_
          refine g_i2cN (pc := 43) dX2_capitals_43 (by omega) ?_
          refine g_invV (pc := 44) dX2_capitals_44 ht kt (jc_setCharAt d i (cur.getD i 0 - 32) hB0 (by omega) (by omega)) meJ8_setCharAt q1622 q1623 q1624 rfl rfl (Nat.le_of_ble_eq_true rfl) (by first | exact jF | exact fun _ z => z | assumption | (intro κ z; simp_all)) (jk_n (fun v h2 hp fr => ?_)) jk_x
          obtain ⟨rfl, hB2, hr3, hr4⟩ := hp
          refine g_iincN (pc := 47) (k0 := 1) (ls' := [(0, _), (1, _), (2, _), (3, _)]) dX2_capitals_47 rfl (Nat.le_of_ble_eq_true rfl) rfl ?_
          refine g_goto (pc := 50) (tgt := 2) dX2_capitals_50 rfl ?_
          refine g_drop [0, 1, 2] rfl ?_
          refine ih (i + 1) _ h2 (by omega) (by omega) (by rw [List.length_set]; exact hlen) (fun k hk => ?_) (cO.up fr ha hB2 q1 (by rw [List.length_set]; exact q2)) (hfr.tr fr) (hr3.trans hr1) (hr4.trans hr2)
          rw [getD_set (by omega)]
          by_cases z : k = i
          · rw [if_pos z, if_pos (by omega), z, hup, ← hci]
            exact (upc_yes c25 c31).symm
          · rw [if_neg z, hcur k hk]
            by_cases y : k < i
            · rw [if_pos y, if_pos (by omega)]
            · rw [if_neg y, if_neg (by omega)]
  refine g_iload_n (pc := 0) dX2_capitals_0 rfl rfl ?_
  refine g_istore_n (pc := 1) (ls' := [(0, _), (1, _), (2, _)]) dX2_capitals_1 rfl (Nat.le_of_ble_eq_true rfl) rfl ?_
  refine loop (l.length - i0) i0 l h (Nat.le_refl _) (by omega) rfl (fun k hk => ?_) hs (hFr.rf h) rfl rfl
  by_cases q : k < i0
  · rw [if_pos q, cpL_get hk, if_pos q]
  · rw [if_neg q]
end CO
