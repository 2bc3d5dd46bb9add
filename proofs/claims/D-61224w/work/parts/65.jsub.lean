/-! JDK 5: newString, substring, indexOf -/
set_option maxRecDepth 100000
theorem hSet_New2 (h : hP) (c c' c2 : hC) (n m : Nat) : hSet (hNew (hNew h c n) c2 m) h.1 c' = hNew (hNew h c' n) c2 m := by
  unfold hSet hNew
  refine congrArg _ (congrArg _ (funext fun q => ?_))
  by_cases e : q = h.1
  · have : ¬ h.1 = h.1 + 1 := by omega
    simp [e, this]
  · simp [e]
/-- so much more room is used up -/
def jRm (h h' : hP) (c s : Nat) : Prop := h'.1 ≤ h.1 + c ∧ h'.2.1 ≤ h.2.1 + s
theorem jRm.rf (h : hP) (c s : Nat) : jRm h h c s := ⟨Nat.le_add_right _ _, Nat.le_add_right _ _⟩
theorem jRm.tr {h h1 h2 : hP} {a b c d : Nat} (x : jRm h h1 a b) (y : jRm h1 h2 c d) : jRm h h2 (a + c) (b + d) := by
  obtain ⟨x1, x2⟩ := x
  obtain ⟨y1, y2⟩ := y
  exact ⟨by omega, by omega⟩
theorem jRm.le {h h' : hP} {a b c d : Nat} (x : jRm h h' a b) (h1 : a ≤ c) (h2 : b ≤ d) : jRm h h' c d := by
  obtain ⟨x1, x2⟩ := x
  exact ⟨by omega, by omega⟩
/-- the answer is a String with the characters l, new of kind κ, or a constant -/
def jSb (h : hP) (κ : Nat) (l : List Nat) (v : Option Value) (h' : hP) : Prop := ∃ q κq, v = some (.ref q) ∧ jSt h' κq q l ∧ (κq = κ ∨ κq = 930) ∧ jRm h h' 2 (4 + l.length)
theorem getD_map_range {f : Nat → Nat} {n i : Nat} (h : i < n) : ((List.range n).map f).getD i 0 = f i := by
  rw [List.getD_eq_getElem?_getD, List.getElem?_map, List.getElem?_range h]; rfl
/-- the characters from i up to j -/
def sbL (l : List Nat) (i j : Nat) : List Nat := (List.range (j - i)).map (fun k => l.getD (i + k) 0)
theorem sbL_len (l : List Nat) (i j : Nat) : (sbL l i j).length = j - i := by simp [sbL]
theorem sbL_get {l : List Nat} {i j k : Nat} (h : k < j - i) : (sbL l i j).getD k 0 = l.getD (i + k) 0 := getD_map_range h
theorem sbL_mem {l : List Nat} {i j : Nat} (hj : j ≤ l.length) {P : Nat → Prop} (h : ∀ c ∈ l, P c) : ∀ c ∈ sbL l i j, P c := by
  intro c hc
  obtain ⟨k, hk, rfl⟩ := List.mem_map.mp hc
  have := List.mem_range.mp hk
  exact h _ (getD_mem (d := 0) (by omega))
theorem sbL_all (l : List Nat) : sbL l 0 l.length = l := by
  refine List.ext_getElem (by simp [sbL]) (fun i h1 h2 => ?_)
  simp [sbL, List.getD_eq_getElem?_getD, List.getElem?_eq_getElem h2]
section JC
variable {Z : hE} {h : hP} {κ a : Nat} {l : List Nat}
theorem jc_newString (d κ κ' b n i j : Nat) (l : List Nat) (hb : jBy h b κ n l) (hl : ∀ c ∈ l, c < 128) (hκ : κ' = 30 ∨ κ' = 130) (h1 : i ≤ j) (h2 : j ≤ l.length) (hn : n ≤ 67108864) (l1 : h.1 + 2 ≤ hLC Z) (l2 : h.2.1 + 4 + (j - i) ≤ hLS) : jC Z mJ15_newString (d + 3) (fun _ => False) [.ref b, .int (nI i), .int (nI (j - i))] h (jSb h κ' (sbL l i j)) := by
  refine jC.shr (jC.of pnJ15 rfl (Nat.le_of_ble_eq_true rfl) rfl (fun X => ?_))
  obtain ⟨f, hb, hty, hle, hn2, hf⟩ := hb
  have k9 : κ' < 900 := by rcases hκ with e | e <;> omega
  have k30 : κ' % 100 = 30 := by rcases hκ with e | e <;> omega
  have kc : hCl (κ' % 100) = some (RJ9, TJ9, 4) := by rw [k30]; rfl
  refine g_iload_n (pc := 0) dJ15_newString_0 rfl rfl ?_
  refine g_if_neN (pc := 1) (tgt := 7) dJ15_newString_1 rfl (by omega) (fun c1 => ?_) (fun c1 => ?_)
  · refine g_new (pc := 7) (r := (RJ9, TJ9, 4)) (fs := [.null, .int (nI 0), .int (nI 0), .int (nI 0)]) κ' dJ15_newString_7 kc k9 q1104 q373 q82 rfl (by first | omega | (simp only [hNew_1, hNew_2, hSet_1, hSet_2]; omega)) (by first | omega | (simp only [hNew_1, hNew_2, hSet_1, hSet_2]; omega)) (fun hwf => ?_)
    have hb' := jNw (n := 4) (c' := (κ', .inl [.null, .int (nI 0), .int (nI 0), .int (nI 0)])) hwf hb
    refine g_dup (pc := 10) dJ15_newString_10 rfl ?_
    refine g_aload_n (pc := 11) dJ15_newString_11 rfl rfl ?_
    refine g_iload_n (pc := 12) dJ15_newString_12 rfl rfl ?_
    refine g_iload_n (pc := 13) dJ15_newString_13 rfl rfl ?_
    refine g_iload_n (pc := 14) dJ15_newString_14 rfl rfl ?_
    first | refine g_iaddN (pc := 15) dJ15_newString_15 ?_ | refine g_iadd (pc := 15) dJ15_newString_15 ?_
    rw [show i + (j - i) = j by omega]
    refine g_invS (pc := 16) dJ15_newString_16 (jc_copyOfRange d κ 60 b n i j f hb' hty rfl (by decide) h1 (by omega) hn (by show h.1 + 1 + 1 ≤ _; omega) (by show h.2.1 + 4 + _ ≤ _; omega)) meJ13_copyOfRange q1105 q396 rfl rfl (Nat.le_of_ble_eq_true rfl) (by first | exact jF | exact fun _ z => z | assumption | (intro κ z; simp_all)) (jk_n (fun v h2 hp fr => ?_)) jk_x
    obtain ⟨rfl, g, rfl, hg⟩ := hp
    refine g_iconst (pc := 19) (v := nI 0) dJ15_newString_19 rfl ?_
    have hs0 : (hNew (hNew h (κ', .inl [.null, .int (nI 0), .int (nI 0), .int (nI 0)]) 4) (60, .inr (j - i, g)) (j - i)).2.2 h.1 = some (κ', .inl [.null, .int (nI 0), .int (nI 0), .int (nI 0)]) := by
      rw [hNew_n (by show h.1 ≠ h.1 + 1; omega)]; exact hNew_s _ _ _
    refine g_invI (pc := 20) dJ15_newString_20 (jc_strInit3 (d + 1) κ' h.1 (h.1 + 1) _ _ _ _ hs0 k30 k9) meJ9_init_3 rfl rfl q1106 q1107 rfl rfl (Nat.le_of_ble_eq_true rfl) (by first | exact jF | exact fun _ z => z | assumption | (intro κ z; simp_all)) (jk_n (fun v h3 hp fr2 => ?_)) jk_x
    obtain ⟨rfl, rfl⟩ := hp
    rw [hSet_New2]
    refine g_aret (pc := 23) dJ15_newString_23 rfl (Or.inl ⟨_, rfl⟩) (Or.inr ⟨_, rfl⟩) ?_
    have gb : (hNew (hNew h (κ', .inl [.ref (h.1 + 1), .int (nI 0), .int (nI 0), .int (nI 0)]) 4) (60, .inr (j - i, g)) (j - i)).2.2 (h.1 + 1) = some (60, .inr (j - i, g)) := hNew_s (hNew h (κ', .inl [.ref (h.1 + 1), .int (nI 0), .int (nI 0), .int (nI 0)]) 4) _ _
    have gs : (hNew (hNew h (κ', .inl [.ref (h.1 + 1), .int (nI 0), .int (nI 0), .int (nI 0)]) 4) (60, .inr (j - i, g)) (j - i)).2.2 h.1 = some (κ', .inl [.ref (h.1 + 1), .int (nI 0), .int (nI 0), .int (nI 0)]) := by
      rw [hNew_n (by show h.1 ≠ h.1 + 1; omega)]; exact hNew_s _ _ _
    refine ⟨_, rfl, ⟨h.1, κ', rfl, ⟨by rcases hκ with e | e <;> simp [e], sbL_mem h2 hl, h.1 + 1, 60, _, _, gs, Or.inl rfl, ⟨g, by rw [sbL_len]; exact gb, rfl, Nat.le_refl _, by rw [sbL_len]; omega, fun k hk => ?_⟩, Or.inl ⟨rfl, rfl, by omega⟩⟩, Or.inl rfl, ?_⟩, ?_⟩
    · rw [sbL_len] at hk
      refine (hg k hk).trans ?_
      show f (i + k) = _
      rw [hf _ (by omega), sbL_get hk]
    · rw [sbL_len]
      exact ⟨Nat.le_refl _, by show h.2.1 + 4 + (j - i) ≤ _; omega⟩
    · exact ((hFr.rf h).new hwf).new (fun a c e => by
        by_cases q : a = h.1
        · rw [q]; exact Nat.lt_succ_self _
        · rw [hNew_n q] at e
          exact Nat.lt_succ_of_lt (hwf a c e))
  · refine g_ldcK (pc := 4) dJ15_newString_4 ksJ15_151 (fun hk => ?_)
    refine g_aret (pc := 6) dJ15_newString_6 rfl (Or.inl ⟨_, rfl⟩) (Or.inr ⟨_, rfl⟩) ?_
    have e : sbL l i j = [] := List.eq_nil_of_length_eq_zero (by rw [sbL_len]; exact c1)
    rw [e]
    exact ⟨_, rfl, ⟨_, 930, rfl, hk, Or.inr rfl, jRm.rf _ _ _⟩, hFr.rf h⟩
theorem jc_substring2 (d κ' i j : Nat) (hs : jSt h κ a l) (hκ : κ' = 30 ∨ κ' = 130) (h1 : i ≤ j) (h2 : j ≤ l.length) (hn : l.length ≤ 1000000) (l1 : h.1 + 2 ≤ hLC Z) (l2 : h.2.1 + 4 + (j - i) ≤ hLS) : jC Z mJ9_substring_2 (d + 4) (fun _ => False) [.ref a, .int (nI i), .int (nI j)] h (fun v h' => jSb h κ' (sbL l i j) v h' ∨ (i = 0 ∧ j = l.length ∧ v = some (.ref a) ∧ h' = h)) := by
  refine jC.of pnJ9 rfl (Nat.le_of_ble_eq_true rfl) rfl (fun X => ?_)
  have hs0 := hs
  have kc := hs.cl
  obtain ⟨_, hl, b, κb, hs', hz, ha, _, hb, _⟩ := hs
  have slow : ∀ v3 : Int32, hG Z X mJ9_substring_2 (d + 4) (fun _ => False) h (jK (fun v h' => jSb h κ' (sbL l i j) v h' ∨ (i = 0 ∧ j = l.length ∧ v = some (.ref a) ∧ h' = h))) 22 [(0, .ref a), (1, .int (nI i)), (2, .int (nI j)), (3, .int v3)] [] h := by
    intro v3
    refine g_iload_n (pc := 22) dJ9_substring_2_22 rfl rfl ?_
    refine g_iload_n (pc := 23) dJ9_substring_2_23 rfl rfl ?_
    first | refine g_isubN (pc := 24) dJ9_substring_2_24 (by omega) ?_ | refine g_isub (pc := 24) dJ9_substring_2_24 ?_
    refine g_istore (pc := 25) (ls' := [(0, _), (1, _), (2, _), (3, _), (4, _)]) dJ9_substring_2_25 (Nat.le_of_ble_eq_true rfl) rfl ?_
    refine g_aload_n (pc := 27) dJ9_substring_2_27 rfl rfl ?_
    refine g_invV (pc := 28) dJ9_substring_2_28 ha kc (jc_isLatin1 (d + 3) hs0) meJ9_isLatin1 q945 q946 q947 rfl rfl (Nat.le_of_ble_eq_true rfl) (by first | exact jF | exact fun _ z => z | assumption | (intro κ z; simp_all)) (jk_e ?_) jk_x
    refine g_if_eqN (pc := 31) (tgt := 47) dJ9_substring_2_31 rfl (by omega) (fun q_ => absurd q_ (by omega)) (fun _ => ?_)
    refine g_aload_n (pc := 34) dJ9_substring_2_34 rfl rfl ?_
    refine g_get (pc := 35) (r := (RJ9, TJ9, 4)) 0 dJ9_substring_2_35 ha kc (Nat.le_of_ble_eq_true rfl) q449 (Or.inl rfl) rfl ?_
    refine g_iload_n (pc := 38) dJ9_substring_2_38 rfl rfl ?_
    refine g_iload (pc := 39) dJ9_substring_2_39 rfl ?_
    refine g_invS (pc := 41) dJ9_substring_2_41 (jc_newString d κb κ' b _ i j l hb hl hκ h1 h2 (by omega) l1 l2) meJ15_newString q1100 q1101 rfl rfl (Nat.le_of_ble_eq_true rfl) (by first | exact jF | exact fun _ z => z | assumption | (intro κ z; simp_all)) (jk_n (fun v h' hp fr => ?_)) jk_x
    obtain ⟨q, κq, rfl, hq⟩ := hp
    refine g_goto (pc := 44) (tgt := 57) dJ9_substring_2_44 rfl ?_
    exact g_aret (pc := 57) dJ9_substring_2_57 rfl (Or.inl ⟨_, rfl⟩) (Or.inr ⟨_, rfl⟩) ⟨_, rfl, Or.inl ⟨q, κq, rfl, hq⟩⟩
  refine g_aload_n (pc := 0) dJ9_substring_2_0 rfl rfl ?_
  refine g_invV (pc := 1) dJ9_substring_2_1 ha kc (jc_length (d + 2) hs0) meJ9_length q1055 q301 q302 rfl rfl (Nat.le_of_ble_eq_true rfl) (by first | exact jF | exact fun _ z => z | assumption | (intro κ z; simp_all)) (jk_e ?_) jk_x
  refine g_istore_n (pc := 4) (ls' := [(0, _), (1, _), (2, _), (3, _)]) dJ9_substring_2_4 rfl (Nat.le_of_ble_eq_true rfl) rfl ?_
  refine g_iload_n (pc := 5) dJ9_substring_2_5 rfl rfl ?_
  refine g_iload_n (pc := 6) dJ9_substring_2_6 rfl rfl ?_
  refine g_iload_n (pc := 7) dJ9_substring_2_7 rfl rfl ?_
  refine g_invS (pc := 8) dJ9_substring_2_8 (jc_checkBE (d + 2) i j l.length h1 h2 (by omega)) meJ9_checkBoundsBeginEnd q1099 q284 rfl rfl (Nat.le_of_ble_eq_true rfl) (by first | exact jF | exact fun _ z => z | assumption | (intro κ z; simp_all)) (jk_e ?_) jk_x
  refine g_iload_n (pc := 11) dJ9_substring_2_11 rfl rfl ?_
  refine g_if_neN (pc := 12) (tgt := 22) dJ9_substring_2_12 rfl (by omega) (fun c12 => ?_) (fun c12 => ?_)
  · exact slow _
  · refine g_iload_n (pc := 15) dJ9_substring_2_15 rfl rfl ?_
    refine g_iload_n (pc := 16) dJ9_substring_2_16 rfl rfl ?_
    refine g_icmp_neN (pc := 17) (tgt := 22) dJ9_substring_2_17 rfl (by omega) (by omega) (fun c17 => ?_) (fun c17 => ?_)
    · exact slow _
    · refine g_aload_n (pc := 20) dJ9_substring_2_20 rfl rfl ?_
      exact g_aret (pc := 21) dJ9_substring_2_21 rfl (Or.inl ⟨_, rfl⟩) (Or.inr ⟨_, rfl⟩) ⟨_, rfl, Or.inr ⟨c12, c17, rfl, rfl⟩⟩
theorem jc_substring (d κ' i : Nat) (hs : jSt h κ a l) (hκ : κ' = 30 ∨ κ' = 130) (h1 : i ≤ l.length) (hn : l.length ≤ 1000000) (l1 : h.1 + 2 ≤ hLC Z) (l2 : h.2.1 + 4 + (l.length - i) ≤ hLS) : jC Z mJ9_substring (d + 5) (fun _ => False) [.ref a, .int (nI i)] h (fun v h' => jSb h κ' (sbL l i l.length) v h' ∨ (i = 0 ∧ v = some (.ref a) ∧ h' = h)) := by
  refine jC.of pnJ9 rfl (Nat.le_of_ble_eq_true rfl) rfl (fun X => ?_)
  have hs0 := hs
  have kc := hs.cl
  obtain ⟨_, hl, b, κb, hs', hz, ha, _, hb, _⟩ := hs
  refine g_aload_n (pc := 0) dJ9_substring_0 rfl rfl ?_
  refine g_iload_n (pc := 1) dJ9_substring_1 rfl rfl ?_
  refine g_aload_n (pc := 2) dJ9_substring_2 rfl rfl ?_
  refine g_invV (pc := 3) dJ9_substring_3 ha kc (jc_length (d + 3) hs0) meJ9_length q1055 q301 q302 rfl rfl (Nat.le_of_ble_eq_true rfl) (by first | exact jF | exact fun _ z => z | assumption | (intro κ z; simp_all)) (jk_e ?_) jk_x
  refine g_invV (pc := 6) dJ9_substring_6 ha kc (jc_substring2 d κ' i l.length hs0 hκ h1 (Nat.le_refl _) hn l1 l2) meJ9_substring_2 q1095 q1096 q1097 rfl rfl (Nat.le_of_ble_eq_true rfl) (by first | exact jF | exact fun _ z => z | assumption | (intro κ z; simp_all)) (jk_n (fun v h' hp fr => ?_)) jk_x
  rcases hp with ⟨q, κq, rfl, hq⟩ | ⟨e1, _, rfl, rfl⟩
  · exact g_aret (pc := 9) dJ9_substring_9 rfl (Or.inl ⟨_, rfl⟩) (Or.inr ⟨_, rfl⟩) ⟨_, rfl, Or.inl ⟨q, κq, rfl, hq⟩⟩
  · exact g_aret (pc := 9) dJ9_substring_9 rfl (Or.inl ⟨_, rfl⟩) (Or.inr ⟨_, rfl⟩) ⟨_, rfl, Or.inr ⟨e1, rfl, rfl⟩⟩
end JC
