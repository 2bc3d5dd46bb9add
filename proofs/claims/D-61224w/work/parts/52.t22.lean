/-! TWIN 22: emit, emitWord, show -/
set_option maxRecDepth 100000
/-- out holds l -/
def outL (τ : tT) (l : List Nat) : Prop := τ.1 34 = l.length ∧ l.length ≤ 400 ∧ ∀ i, i < l.length → τ.2.2.1 31 i = l.getD i 0 ∧ l.getD i 0 < 65536
theorem outL.same {a b : tT} {l : List Nat} (h : outL a l) (h1 : b.1 34 = a.1 34) (h2 : ∀ i, b.2.2.1 31 i = a.2.2.1 31 i) : outL b l := ⟨h1.trans h.1, h.2.1, fun i hi => ⟨(h2 i).trans (h.2.2 i hi).1, (h.2.2 i hi).2⟩⟩
theorem outL.kp {R : Nat → Prop} {a b : tT} {l : List Nat} (h : outL a l) (k : vK R a b) : outL b l := h.same (k.1 34 (by decide) (by decide) (by decide)) (fun i => (k.2.2.2 31 i (Or.inl (Or.inr (Or.inl rfl)))).1)
/-- out and fail alone change -/
def eK (τ τ' : tT) : Prop := (∀ k, k ≠ 34 → k ≠ 38 → τ'.1 k = τ.1 k) ∧ τ'.2.1 = τ.2.1 ∧ τ'.2.2.2 = τ.2.2.2 ∧ ∀ k, k ≠ 31 → τ'.2.2.1 k = τ.2.2.1 k
theorem eK.refl (τ : tT) : eK τ τ := ⟨fun _ _ _ => rfl, rfl, rfl, fun _ _ => rfl⟩
theorem eK.trans {a b c : tT} (h : eK a b) (g : eK b c) : eK a c := ⟨fun k z w => (g.1 k z w).trans (h.1 k z w), g.2.1.trans h.2.1, g.2.2.1.trans h.2.2.1, fun k z => (g.2.2.2 k z).trans (h.2.2.2 k z)⟩
/-- m has been put out behind l -/
def eI (l m : List Nat) (τ : tT) : Prop := (l.length + m.length ≤ 400 ∧ outL τ (l ++ m) ∧ τ.1 38 = 0) ∨ (400 < l.length + m.length ∧ τ.1 34 = 400 ∧ τ.1 38 = 4)
def wBL (w : Int64) (i : Nat) : Int64 := (w >>> ((nI (8 * i)).toInt64 &&& 63)) &&& 255
def spellL (w : Int64) (l : List Nat) : Prop := ∃ b : Nat → Nat, (∀ i, i < 8 → b i < 256 ∧ wBL w i = lN (b i)) ∧ wL b 8 = l
theorem spellL_1 : spellL 164843319355 [38, 97, 109, 112, 59] := ⟨fun i => [59, 112, 109, 97, 38, 0, 0, 0].getD i 0, by decide +kernel, by decide +kernel⟩
theorem spellL_2 : spellL 644641851 [38, 108, 116, 59] := ⟨fun i => [59, 116, 108, 38, 0, 0, 0, 0].getD i 0, by decide +kernel, by decide +kernel⟩
theorem spellL_3 : spellL 644314171 [38, 103, 116, 59] := ⟨fun i => [59, 116, 103, 38, 0, 0, 0, 0].getD i 0, by decide +kernel, by decide +kernel⟩
theorem spellL_4 : spellL 42268743398459 [38, 113, 117, 111, 116, 59] := ⟨fun i => [59, 116, 111, 117, 113, 38, 0, 0].getD i 0, by decide +kernel, by decide +kernel⟩
/-- what is shown changes raw and out alone -/
def sKp (k : Nat) : Prop := k < 30 ∨ k = 32 ∨ (39 < k ∧ k ≠ 44 ∧ k ≠ 45)
def sK (τ τ' : tT) : Prop := (∀ k, k ≠ 33 → k ≠ 34 → k ≠ 38 → k ≠ 39 → τ'.1 k = τ.1 k) ∧ τ'.2.1 = τ.2.1 ∧ τ'.2.2.2.2 = τ.2.2.2.2 ∧ ∀ k i, sKp k → τ'.2.2.1 k i = τ.2.2.1 k i ∧ τ'.2.2.2.1 k i = τ.2.2.2.1 k i
theorem sK.refl (τ : tT) : sK τ τ := ⟨fun _ _ _ _ _ => rfl, rfl, rfl, fun _ _ _ => ⟨rfl, rfl⟩⟩
theorem sK.trans {a b c : tT} (h : sK a b) (g : sK b c) : sK a c := ⟨fun k x y z w => (g.1 k x y z w).trans (h.1 k x y z w), g.2.1.trans h.2.1, g.2.2.1.trans h.2.2.1, fun k i q => ⟨(g.2.2.2 k i q).1.trans (h.2.2.2 k i q).1, (g.2.2.2 k i q).2.trans (h.2.2.2 k i q).2⟩⟩
theorem eK.sK {a b : tT} (h : eK a b) : sK a b := ⟨fun k _ y z _ => h.1 k y z, h.2.1, by rw [h.2.2.1], fun k i q => ⟨by rw [h.2.2.2 k (by unfold sKp at q; omega)], by rw [h.2.2.1]⟩⟩
theorem vK.sK {a b : tT} (h : vK (fun _ => False) a b) : sK a b := ⟨fun k x _ z w => h.1 k x z w, h.2.1, h.2.2.1, fun k i q => h.2.2.2 k i (by
  rcases q with q | q | q
  · rcases (show k < 26 ∨ k = 26 ∨ k = 27 ∨ k = 28 ∨ k = 29 by omega) with z | z | z | z | z
    · exact Or.inl (Or.inl z)
    · exact Or.inr (Or.inl ⟨Or.inl z, fun y => y⟩)
    · exact Or.inr (Or.inl ⟨Or.inr (Or.inl z), fun y => y⟩)
    · exact Or.inr (Or.inl ⟨Or.inr (Or.inr z), fun y => y⟩)
    · exact Or.inr (Or.inr ⟨z, fun y => y⟩)
  · exact Or.inl (Or.inr (Or.inr (Or.inl q)))
  · exact Or.inl (Or.inr (Or.inr (Or.inr q))))⟩
theorem esc_lt {c : Nat} (h : c < 128) : ∀ x ∈ esc c, x < 128 := by
  intro x hx
  unfold esc at hx
  repeat' split at hx
  all_goals simp at hx
  all_goals omega
section TW22
variable {Z : hE} {o : Nat} {τ : tT}
theorem tc_emit (d c : Nat) (l m : List Nat) (hc : c < 65536) (hl : eI l m τ) : tC Z mX3_emit d o [.ref o, .int (nI c)] τ (fun r τ' => r = none ∧ eI l (m ++ [c]) τ' ∧ eK τ τ') := by
  refine tC.of rfl rfl (Nat.le_of_ble_eq_true rfl) rfl (fun X hin h hR => ?_)
  refine g_aload_n (pc := 0) dX3_emit_0 rfl rfl ?_
  refine t_get (pc := 1) (v := .int (nI _)) 34 dX3_emit_1 hR rfl q1833 (Nat.le_of_ble_eq_true rfl) rfl rfl ?_
  rcases hl with ⟨h1, h2, h3⟩ | ⟨h1, h2, h3⟩
  · have h34 : τ.1 34 = l.length + m.length := by rw [h2.1, List.length_append]
    rw [h34]
    refine g_sipush (pc := 4) (v := nI 400) dX3_emit_4 rfl ?_
    refine g_icmp_neN (pc := 7) (tgt := 18) dX3_emit_7 rfl (by omega) (by omega) (fun q => ?_) (fun q => ?_)
    · refine g_aload_n (pc := 18) dX3_emit_18 rfl rfl ?_
      refine t_get (pc := 19) (v := .ref (tAd _ 31)) 31 dX3_emit_19 hR rfl q1830 (Nat.le_of_ble_eq_true rfl) rfl rfl ?_
      refine g_aload_n (pc := 22) dX3_emit_22 rfl rfl ?_
      refine t_get (pc := 23) (v := .int (nI _)) 34 dX3_emit_23 hR rfl q1833 (Nat.le_of_ble_eq_true rfl) rfl rfl ?_
      rw [h34]
      refine g_iload_n (pc := 26) dX3_emit_26 rfl rfl ?_
      refine g_i2cN (pc := 27) dX3_emit_27 (by omega) ?_
      refine t_cast (pc := 28) dX3_emit_28 hR rfl (by decide) rfl (by decide) (by show _ < 400; omega) (by omega) (fun h hR => ?_)
      refine g_aload_n (pc := 29) dX3_emit_29 rfl rfl ?_
      refine g_dup (pc := 30) dX3_emit_30 rfl ?_
      refine t_get (pc := 31) (v := .int (nI _)) 34 dX3_emit_31 hR rfl q1833 (Nat.le_of_ble_eq_true rfl) rfl rfl ?_
      rw [show (tAN τ 31 (l.length + m.length) c).1 34 = l.length + m.length from h34]
      refine g_iconst (pc := 34) (v := nI 1) dX3_emit_34 rfl ?_
      first | refine g_iaddN (pc := 35) dX3_emit_35 ?_ | refine g_iadd (pc := 35) dX3_emit_35 ?_
      refine t_put (pc := 36) 34 dX3_emit_36 hR rfl q1833 (Nat.le_of_ble_eq_true rfl) rfl rfl (by decide) rfl rfl (fun h hR => ?_)
      refine t_vret (pc := 39) dX3_emit_39 hR rfl ⟨rfl, Or.inl ⟨?_, ⟨?_, ?_, fun i hi => ?_⟩, ?_⟩, ⟨fun k x y => rFN_n x, rfl, rfl, fun k x => rAN_k (τ := τ) x⟩⟩
      · rw [List.length_append]; simp; omega
      · rw [rFN_s, List.length_append, List.length_append]; simp; omega
      · rw [List.length_append, List.length_append]; simp; omega
      · rw [← List.append_assoc]
        rw [List.length_append, List.length_append] at hi
        simp at hi
        show (tAN τ 31 (l.length + m.length) c).2.2.1 31 i = _ ∧ _
        by_cases e : i = l.length + m.length
        · rw [e, rAN_s, ← List.length_append, getD_app2]
          exact ⟨rfl, hc⟩
        · rw [rAN_i e, getD_app1 (by rw [List.length_append]; omega)]
          exact h2.2.2 i (by rw [List.length_append]; omega)
      · exact (rFN_n (by decide)).trans h3
    · refine g_aload_n (pc := 10) dX3_emit_10 rfl rfl ?_
      refine g_iconst (pc := 11) (v := nI 4) dX3_emit_11 rfl ?_
      refine t_put (pc := 12) 38 dX3_emit_12 hR rfl q1837 (Nat.le_of_ble_eq_true rfl) rfl rfl (by decide) rfl rfl (fun h hR => ?_)
      refine g_goto (pc := 15) (tgt := 39) dX3_emit_15 rfl ?_
      refine t_vret (pc := 39) dX3_emit_39 hR rfl ⟨rfl, Or.inr ⟨?_, ?_, rFN_s⟩, ⟨fun k x y => rFN_n y, rfl, rfl, fun k x => rfl⟩⟩
      · rw [List.length_append]; simp; omega
      · rw [rFN_n (by decide), h34, q]
  · rw [h2]
    refine g_sipush (pc := 4) (v := nI 400) dX3_emit_4 rfl ?_
    refine g_icmp_neN (pc := 7) (tgt := 18) dX3_emit_7 rfl (by omega) (by omega) (fun q => ?_) (fun q => ?_)
    · exact absurd rfl q
    · refine g_aload_n (pc := 10) dX3_emit_10 rfl rfl ?_
      refine g_iconst (pc := 11) (v := nI 4) dX3_emit_11 rfl ?_
      refine t_put (pc := 12) 38 dX3_emit_12 hR rfl q1837 (Nat.le_of_ble_eq_true rfl) rfl rfl (by decide) rfl rfl (fun h hR => ?_)
      refine g_goto (pc := 15) (tgt := 39) dX3_emit_15 rfl ?_
      refine t_vret (pc := 39) dX3_emit_39 hR rfl ⟨rfl, Or.inr ⟨?_, (rFN_n (by decide)).trans h2, rFN_s⟩, ⟨fun k x y => rFN_n y, rfl, rfl, fun k x => rfl⟩⟩
      rw [List.length_append]; simp; omega
theorem tc_emitWord (d : Nat) (w : Int64) (l m s : List Nat) (hs : spellL w s) (hl : eI l m τ) : tC Z mX3_emitWord (d + 1) o [.ref o, .long w] τ (fun r τ' => r = none ∧ eI l (m ++ s) τ' ∧ eK τ τ') := by
  obtain ⟨b, hb, rfl⟩ := hs
  refine tC.of rfl rfl (Nat.le_of_ble_eq_true rfl) rfl (fun X hin h hR => ?_)
  have loop : ∀ (n : Nat) (m' : List Nat) (x : Int32) (τc : tT), n ≤ 8 → m' ++ wL b n = m ++ wL b 8 → x = nI (8 * n) - 8 → eI l m' τc → eK τ τc → ∀ h, tH o τc hin h → hG Z X mX3_emitWord (d + 1) tS hin (tK o hin (fun r τ' => r = none ∧ eI l (m ++ wL b 8) τ' ∧ eK τ τ')) 3 [(0, .ref o), (1, .long w), (3, .int x)] [] h := by
    intro n
    induction n with
    | zero =>
      intro m' x τc h1 h2 h3 h4 h5 h hR
      subst h3
      refine g_iload_n (pc := 3) dX3_emitWord_3 rfl rfl ?_
      refine g_if_lt (pc := 4) (tgt := 37) dX3_emitWord_4 rfl (fun _ => ?_) (fun z => absurd (by decide) z)
      have h2 : m' ++ [] = m ++ wL b 8 := h2
      rw [List.append_nil] at h2
      rw [h2] at h4
      exact t_vret (pc := 37) dX3_emitWord_37 hR rfl (⟨rfl, h4, h5⟩)
    | succ n ih =>
      intro m' x τc h1 h2 h3 h4 h5 h hR
      have hx : x = nI (8 * n) := by rw [h3, i8]
      subst hx
      have hbn := hb n (by omega)
      refine g_iload_n (pc := 3) dX3_emitWord_3 rfl rfl ?_
      refine g_if_ltN (pc := 4) (tgt := 37) dX3_emitWord_4 rfl (by omega) ?_
      refine g_lload_n (pc := 7) dX3_emitWord_7 rfl rfl ?_
      refine g_iload_n (pc := 8) dX3_emitWord_8 rfl rfl ?_
      refine g_lshr (pc := 9) dX3_emitWord_9 ?_
      refine g_ldc2 (pc := 10) dX3_emitWord_10 q2031 ?_
      refine g_land (pc := 13) dX3_emitWord_13 ?_
      rw [show (w >>> ((nI (8 * n)).toInt64 &&& 63) &&& 255) = lN (b n) from hbn.2]
      refine g_lconst (pc := 14) (v := lN 0) dX3_emitWord_14 rfl ?_
      refine g_lcmp (pc := 15) dX3_emitWord_15 ?_
      have h2 : m' ++ (if b n = 0 then wL b n else b n :: wL b n) = m ++ wL b 8 := h2
      have fin : ∀ (m2 : List Nat) (τ2 : tT), m2 ++ wL b n = m ++ wL b 8 → eI l m2 τ2 → eK τ τ2 → ∀ h, tH o τ2 hin h → hG Z X mX3_emitWord (d + 1) tS hin (tK o hin (fun r τ' => r = none ∧ eI l (m ++ wL b 8) τ' ∧ eK τ τ')) 31 [(0, .ref o), (1, .long w), (3, .int (nI (8 * n)))] [] h := by
        intro m2 τ2 g1 g2 g3 h hR
        refine g_iinc (pc := 31) (v := nI (8 * n) + (-8)) (ls' := [(0, _), (1, _), (3, _)]) dX3_emitWord_31 rfl rfl (Nat.le_of_ble_eq_true rfl) rfl ?_
        refine g_goto (pc := 34) (tgt := 3) dX3_emitWord_34 rfl ?_
        exact ih m2 _ τ2 (by omega) g1 (m8 _) g2 g3 h hR
      refine g_if_eq (pc := 16) (tgt := 31) dX3_emitWord_16 rfl (fun z => ?_) (fun z => ?_)
      · have z : b n = 0 := (pk_lEQ (by omega) (by decide)).mp (lg_cmp_0.mp z)
        rw [if_pos z] at h2
        exact fin m' τc h2 h4 h5 h hR
      · have z : b n ≠ 0 := fun y => z (lg_cmp_0.mpr (by rw [y]))
        rw [if_neg z] at h2
        refine g_aload_n (pc := 19) dX3_emitWord_19 rfl rfl ?_
        refine g_lload_n (pc := 20) dX3_emitWord_20 rfl rfl ?_
        refine g_iload_n (pc := 21) dX3_emitWord_21 rfl rfl ?_
        refine g_lshr (pc := 22) dX3_emitWord_22 ?_
        refine g_ldc2 (pc := 23) dX3_emitWord_23 q2031 ?_
        refine g_land (pc := 26) dX3_emitWord_26 ?_
        rw [show (w >>> ((nI (8 * n)).toInt64 &&& 63) &&& 255) = lN (b n) from hbn.2]
        first | refine g_l2iN (pc := 27) dX3_emitWord_27 ?_ | refine g_l2i (pc := 27) dX3_emitWord_27 ?_
        refine t_inv (pc := 28) dX3_emitWord_28 hR (tc_emit _ (b n) l m' (by omega) h4) meX3_emit q2124 q2126 qs43 rfl rfl (Nat.le_of_ble_eq_true rfl) (fun u τ1 h hp hR => ?_)
        obtain ⟨rfl, c1, c2⟩ := hp
        exact fin (m' ++ [b n]) τ1 (by rw [List.append_assoc]; exact h2) c1 (h5.trans c2) h hR
  refine g_bipush (pc := 0) (v := nI 56) dX3_emitWord_0 rfl ?_
  refine g_istore_n (pc := 2) (ls' := [(0, _), (1, _), (3, _)]) dX3_emitWord_2 rfl (Nat.le_of_ble_eq_true rfl) rfl ?_
  exact loop 8 m _ τ (by decide) rfl rfl hl (eK.refl τ) h hR
theorem escL_app : ∀ (a b : List Nat), escL (a ++ b) = escL a ++ escL b
  | [], _ => rfl
  | c :: a, b => by
    show esc c ++ escL (a ++ b) = _
    rw [escL_app a b, ← List.append_assoc]
    rfl
theorem esc_len (c : Nat) : 1 ≤ (esc c).length := by
  unfold esc
  repeat' split
  all_goals simp
theorem escL_len : ∀ (a : List Nat), a.length ≤ (escL a).length
  | [] => Nat.le_refl _
  | c :: a => by
    show a.length + 1 ≤ (esc c ++ escL a).length
    rw [List.length_append]
    have := escL_len a
    have := esc_len c
    omega
theorem shO_app (raw : Bool) (a b : List Nat) : shO raw (a ++ b) = shO raw a ++ shO raw b := by
  cases raw
  · exact escL_app a b
  · rfl
theorem tc_show (d : Nat) (raw : Bool) (D : aD) (v : aV) (l : List Nat) (hD : tD τ D) (ha : acy D) (hv : vR D τ 2 v) (hl : outL τ l) (h38 : τ.1 38 = 0) : tC Z mX3_show (d + 4) o [.ref o, .int (nI raw.toNat)] τ (fun r τ' => r = none ∧ sK τ τ' ∧ ((¬ (400 < (shw D v).length ∨ 400 < l.length + (shO raw (shw D v)).length) ∧ outL τ' (l ++ shO raw (shw D v)) ∧ τ'.1 38 = 0) ∨ ((400 < (shw D v).length ∨ 400 < l.length + (shO raw (shw D v)).length) ∧ τ'.1 38 = 4))) := by
  refine tC.of rfl rfl (Nat.le_of_ble_eq_true rfl) rfl (fun X hin h hR => ?_)
  have h128 := shw_lt hD hv
  generalize hs : shw D v = s at h128
  generalize hQ : (fun (r : Option Value) (τ' : tT) => r = none ∧ sK τ τ' ∧ ((¬ (400 < s.length ∨ 400 < l.length + (shO raw s).length) ∧ outL τ' (l ++ shO raw s) ∧ τ'.1 38 = 0) ∨ ((400 < s.length ∨ 400 < l.length + (shO raw s).length) ∧ τ'.1 38 = 4))) = Q
  refine g_aload_n (pc := 0) dX3_show_0 rfl rfl ?_
  refine g_iconst (pc := 1) (v := nI 2) dX3_show_1 rfl ?_
  refine t_inv (pc := 2) dX3_show_2 hR (tc_showRaw _ 2 D v (by decide) hD ha hv) meX3_showRaw q2184 q2186 qs58 rfl rfl (Nat.le_of_ble_eq_true rfl) (fun u τ1 h hp hR => ?_)
  obtain ⟨rfl, c1, c2, c3⟩ := hp
  rw [hs] at c1 c3
  rw [h38] at c3
  by_cases h4 : 400 < s.length
  · rw [if_pos h4] at c3
    refine g_iconst (pc := 5) (v := nI 0) dX3_show_5 rfl ?_
    refine g_istore_n (pc := 6) (ls' := [(0, _), (1, _), (2, _)]) dX3_show_6 rfl (Nat.le_of_ble_eq_true rfl) rfl ?_
    refine g_iload_n (pc := 7) dX3_show_7 rfl rfl ?_
    refine g_aload_n (pc := 8) dX3_show_8 rfl rfl ?_
    refine t_get (pc := 9) (v := .int (nI _)) 33 dX3_show_9 hR rfl q1832 (Nat.le_of_ble_eq_true rfl) rfl rfl ?_
    rw [c1.1]
    refine g_icmp_geN (pc := 12) (tgt := 114) dX3_show_12 rfl (by omega) (by omega) (fun q => ?_) (fun q => ?_)
    · exact absurd q (by omega)
    · refine g_aload_n (pc := 15) dX3_show_15 rfl rfl ?_
      refine t_get (pc := 16) (v := .int (nI _)) 38 dX3_show_16 hR rfl q1837 (Nat.le_of_ble_eq_true rfl) rfl rfl ?_
      rw [c3]
      refine g_if_neN (pc := 19) (tgt := 114) dX3_show_19 rfl (by omega) (fun q2 => ?_) (fun q2 => ?_)
      · subst hQ
        exact t_vret (pc := 114) dX3_show_114 hR rfl (⟨rfl, c2.sK, Or.inr ⟨Or.inl h4, c3⟩⟩)
      · exact absurd q2 (by decide)
  · rw [if_neg h4] at c3
    have i0 : eI l [] τ1 := Or.inl ⟨by have := hl.2.1; simp; omega, by rw [List.append_nil]; exact hl.kp c2, c3⟩
    have loop : ∀ (j k : Nat) (τc : tT), k + j = s.length → eI l (shO raw (s.take k)) τc → eK τ1 τc → ∀ h, tH o τc hin h → hG Z X mX3_show (d + 4) tS hin (tK o hin Q) 7 [(0, .ref o), (1, .int (nI raw.toNat)), (2, .int (nI k))] [] h := by
      intro j
      induction j with
      | zero =>
        intro k τc hk a1 a2 h hR
        have h33 : τc.1 33 = s.length := by rw [a2.1 33 (by decide) (by decide), c1.1]; omega
        rw [List.take_of_length_le (by omega)] at a1
        refine g_iload_n (pc := 7) dX3_show_7 rfl rfl ?_
        refine g_aload_n (pc := 8) dX3_show_8 rfl rfl ?_
        refine t_get (pc := 9) (v := .int (nI _)) 33 dX3_show_9 hR rfl q1832 (Nat.le_of_ble_eq_true rfl) rfl rfl ?_
        rw [h33]
        refine g_icmp_geN (pc := 12) (tgt := 114) dX3_show_12 rfl (by omega) (by omega) (fun q => ?_) (fun q => ?_)
        · subst hQ
          refine t_vret (pc := 114) dX3_show_114 hR rfl ⟨rfl, c2.sK.trans a2.sK, ?_⟩
          rcases a1 with ⟨x, y, z⟩ | ⟨x, y, z⟩
          · exact Or.inl ⟨by omega, y, z⟩
          · exact Or.inr ⟨Or.inr x, z⟩
        · exact absurd q (by omega)
      | succ j ih =>
        intro k τc hk a1 a2 h hR
        have h33 : τc.1 33 = s.length := by rw [a2.1 33 (by decide) (by decide), c1.1]; omega
        have hck : s.getD k 0 < 128 := h128 _ (getD_mem (by omega))
        have h30 : τc.2.2.1 30 k = s.getD k 0 := by rw [a2.2.2.2 30 (by decide)]; exact c1.2 k (by omega) (by omega)
        have etk : s.take (k + 1) = s.take k ++ [s.getD k 0] := by
          rw [List.getD_eq_getElem?_getD, List.getElem?_eq_getElem (by omega)]
          exact (List.take_append_getElem (by omega)).symm
        have hmore : (shO raw (s.take k)).length ≤ (shO raw s).length := by
          have e := shO_app raw (s.take k) (s.drop k)
          rw [List.take_append_drop] at e
          rw [e, List.length_append]; omega
        refine g_iload_n (pc := 7) dX3_show_7 rfl rfl ?_
        refine g_aload_n (pc := 8) dX3_show_8 rfl rfl ?_
        refine t_get (pc := 9) (v := .int (nI _)) 33 dX3_show_9 hR rfl q1832 (Nat.le_of_ble_eq_true rfl) rfl rfl ?_
        rw [h33]
        refine g_icmp_geN (pc := 12) (tgt := 114) dX3_show_12 rfl (by omega) (by omega) (fun q => ?_) (fun q => ?_)
        · exact absurd q (by omega)
        · refine g_aload_n (pc := 15) dX3_show_15 rfl rfl ?_
          refine t_get (pc := 16) (v := .int (nI _)) 38 dX3_show_16 hR rfl q1837 (Nat.le_of_ble_eq_true rfl) rfl rfl ?_
          rcases a1 with ⟨x, y, z⟩ | ⟨x, y, z⟩
          · rw [z]
            refine g_if_neN (pc := 19) (tgt := 114) dX3_show_19 rfl (by omega) (fun q_ => absurd q_ (by omega)) (fun _ => ?_)
            refine g_aload_n (pc := 22) dX3_show_22 rfl rfl ?_
            refine t_get (pc := 23) (v := .ref (tAd _ 30)) 30 dX3_show_23 hR rfl q1829 (Nat.le_of_ble_eq_true rfl) rfl rfl ?_
            refine g_iload_n (pc := 26) dX3_show_26 rfl rfl ?_
            refine t_cald (pc := 27) dX3_show_27 hR rfl (by decide) rfl (by decide) (by show _ < 401; omega) ?_
            rw [h30]
            refine g_istore_n (pc := 28) (ls' := [(0, _), (1, _), (2, _), (3, _)]) dX3_show_28 rfl (Nat.le_of_ble_eq_true rfl) rfl ?_
            refine g_iload_n (pc := 29) dX3_show_29 rfl rfl ?_
            generalize hc : s.getD k 0 = c at hck etk
            have nx : ∀ (τ2 : tT), eI l (shO raw (s.take (k + 1))) τ2 → eK τc τ2 → ∀ h, tH o τ2 hin h → hG Z X mX3_show (d + 4) tS hin (tK o hin Q) 108 [(0, .ref o), (1, .int (nI raw.toNat)), (2, .int (nI k)), (3, .int (nI c))] [] h := by
              intro τ2 b1 b2 h hR
              refine g_iincN (pc := 108) (k0 := 1) (ls' := [(0, _), (1, _), (2, _), (3, _)]) dX3_show_108 rfl (Nat.le_of_ble_eq_true rfl) rfl ?_
              refine g_goto (pc := 111) (tgt := 7) dX3_show_111 rfl ?_
              refine g_drop [0, 1, 2] rfl ?_
              exact ih (k + 1) τ2 (by omega) b1 (a2.trans b2) h hR
            have plain : shO raw [c] = [c] → ∀ h, tH o τc hin h → hG Z X mX3_show (d + 4) tS hin (tK o hin Q) 57 [(0, .ref o), (1, .int (nI raw.toNat)), (2, .int (nI k)), (3, .int (nI c))] [] h := by
              intro hp h hR
              refine g_aload_n (pc := 57) dX3_show_57 rfl rfl ?_
              refine g_iload_n (pc := 58) dX3_show_58 rfl rfl ?_
              refine t_inv (pc := 59) dX3_show_59 hR (tc_emit _ c l (shO raw (s.take k)) (by omega) (Or.inl ⟨x, y, z⟩)) meX3_emit q2124 q2126 qs43 rfl rfl (Nat.le_of_ble_eq_true rfl) (fun u τ2 h hp2 hR => ?_)
              obtain ⟨rfl, b1, b2⟩ := hp2
              refine g_goto (pc := 62) (tgt := 108) dX3_show_62 rfl ?_
              refine nx τ2 ?_ b2 h hR
              rw [etk, shO_app, hp]; exact b1
            have word : ∀ (w : Int64) (e : List Nat), spellL w e → shO raw [c] = e → ∀ h, tH o τc hin h → hG Z X mX3_show (d + 4) tS hin (tK o hin Q) 105 [(0, .ref o), (1, .int (nI raw.toNat)), (2, .int (nI k)), (3, .int (nI c))] [.long w, .ref o] h := by
              intro w e hw hp h hR
              refine t_inv (pc := 105) dX3_show_105 hR (tc_emitWord _ w l (shO raw (s.take k)) e hw (Or.inl ⟨x, y, z⟩)) meX3_emitWord q2239 q2241 qs70 rfl rfl (Nat.le_of_ble_eq_true rfl) (fun u τ2 h hp2 hR => ?_)
              obtain ⟨rfl, b1, b2⟩ := hp2
              refine nx τ2 ?_ b2 h hR
              rw [etk, shO_app, hp]; exact b1
            cases raw with
            | true =>
              refine g_if_ne (pc := 30) (tgt := 57) dX3_show_30 rfl (fun _ => ?_) (fun q_ => absurd q_ (by decide))
              exact plain rfl h hR
            | false =>
              have esc1 : shO false [c] = esc c := by show esc c ++ [] = _; rw [List.append_nil]
              refine g_if_ne (pc := 30) (tgt := 57) dX3_show_30 rfl (fun q_ => absurd q_ (by decide)) (fun _ => ?_)
              refine g_iload_n (pc := 33) dX3_show_33 rfl rfl ?_
              refine g_bipush (pc := 34) (v := nI 38) dX3_show_34 rfl ?_
              refine g_icmp_eqN (pc := 36) (tgt := 65) dX3_show_36 rfl (by omega) (by omega) (fun z1 => ?_) (fun z1 => ?_)
              · refine g_aload_n (pc := 65) dX3_show_65 rfl rfl ?_
                refine g_iload_n (pc := 66) dX3_show_66 rfl rfl ?_
                refine g_bipush (pc := 67) (v := nI 38) dX3_show_67 rfl ?_
                refine g_icmp_neN (pc := 69) (tgt := 78) dX3_show_69 rfl (by omega) (by omega) (fun z2 => ?_) (fun z2 => ?_)
                · exact absurd z1 z2
                · refine g_ldc2 (pc := 72) dX3_show_72 q2235 ?_
                  refine g_goto (pc := 75) (tgt := 105) dX3_show_75 rfl ?_
                  exact word _ _ spellL_1 (by rw [esc1]; unfold esc; rw [if_pos z1]) h hR
              · refine g_iload_n (pc := 39) dX3_show_39 rfl rfl ?_
                refine g_bipush (pc := 40) (v := nI 60) dX3_show_40 rfl ?_
                refine g_icmp_eqN (pc := 42) (tgt := 65) dX3_show_42 rfl (by omega) (by omega) (fun z2 => ?_) (fun z2 => ?_)
                · refine g_aload_n (pc := 65) dX3_show_65 rfl rfl ?_
                  refine g_iload_n (pc := 66) dX3_show_66 rfl rfl ?_
                  refine g_bipush (pc := 67) (v := nI 38) dX3_show_67 rfl ?_
                  refine g_icmp_neN (pc := 69) (tgt := 78) dX3_show_69 rfl (by omega) (by omega) (fun _ => ?_) (fun q_ => absurd q_ (by omega))
                  refine g_iload_n (pc := 78) dX3_show_78 rfl rfl ?_
                  refine g_bipush (pc := 79) (v := nI 60) dX3_show_79 rfl ?_
                  refine g_icmp_neN (pc := 81) (tgt := 90) dX3_show_81 rfl (by omega) (by omega) (fun q_ => absurd q_ (fun y => y z2)) (fun _ => ?_)
                  refine g_ldc2 (pc := 84) dX3_show_84 q2236 ?_
                  refine g_goto (pc := 87) (tgt := 105) dX3_show_87 rfl ?_
                  exact word _ _ spellL_2 (by rw [esc1]; unfold esc; rw [if_neg z1, if_pos z2]) h hR
                · refine g_iload_n (pc := 45) dX3_show_45 rfl rfl ?_
                  refine g_bipush (pc := 46) (v := nI 62) dX3_show_46 rfl ?_
                  refine g_icmp_eqN (pc := 48) (tgt := 65) dX3_show_48 rfl (by omega) (by omega) (fun z3 => ?_) (fun z3 => ?_)
                  · refine g_aload_n (pc := 65) dX3_show_65 rfl rfl ?_
                    refine g_iload_n (pc := 66) dX3_show_66 rfl rfl ?_
                    refine g_bipush (pc := 67) (v := nI 38) dX3_show_67 rfl ?_
                    refine g_icmp_neN (pc := 69) (tgt := 78) dX3_show_69 rfl (by omega) (by omega) (fun _ => ?_) (fun q_ => absurd q_ (by omega))
                    refine g_iload_n (pc := 78) dX3_show_78 rfl rfl ?_
                    refine g_bipush (pc := 79) (v := nI 60) dX3_show_79 rfl ?_
                    refine g_icmp_neN (pc := 81) (tgt := 90) dX3_show_81 rfl (by omega) (by omega) (fun _ => ?_) (fun q_ => absurd q_ (by omega))
                    refine g_iload_n (pc := 90) dX3_show_90 rfl rfl ?_
                    refine g_bipush (pc := 91) (v := nI 62) dX3_show_91 rfl ?_
                    refine g_icmp_neN (pc := 93) (tgt := 102) dX3_show_93 rfl (by omega) (by omega) (fun q_ => absurd q_ (fun y => y z3)) (fun _ => ?_)
                    refine g_ldc2 (pc := 96) dX3_show_96 q2237 ?_
                    refine g_goto (pc := 99) (tgt := 105) dX3_show_99 rfl ?_
                    exact word _ _ spellL_3 (by rw [esc1]; unfold esc; rw [if_neg z1, if_neg z2, if_pos z3]) h hR
                  · refine g_iload_n (pc := 51) dX3_show_51 rfl rfl ?_
                    refine g_bipush (pc := 52) (v := nI 34) dX3_show_52 rfl ?_
                    refine g_icmp_eqN (pc := 54) (tgt := 65) dX3_show_54 rfl (by omega) (by omega) (fun z4 => ?_) (fun z4 => ?_)
                    · refine g_aload_n (pc := 65) dX3_show_65 rfl rfl ?_
                      refine g_iload_n (pc := 66) dX3_show_66 rfl rfl ?_
                      refine g_bipush (pc := 67) (v := nI 38) dX3_show_67 rfl ?_
                      refine g_icmp_neN (pc := 69) (tgt := 78) dX3_show_69 rfl (by omega) (by omega) (fun _ => ?_) (fun q_ => absurd q_ (by omega))
                      refine g_iload_n (pc := 78) dX3_show_78 rfl rfl ?_
                      refine g_bipush (pc := 79) (v := nI 60) dX3_show_79 rfl ?_
                      refine g_icmp_neN (pc := 81) (tgt := 90) dX3_show_81 rfl (by omega) (by omega) (fun _ => ?_) (fun q_ => absurd q_ (by omega))
                      refine g_iload_n (pc := 90) dX3_show_90 rfl rfl ?_
                      refine g_bipush (pc := 91) (v := nI 62) dX3_show_91 rfl ?_
                      refine g_icmp_neN (pc := 93) (tgt := 102) dX3_show_93 rfl (by omega) (by omega) (fun _ => ?_) (fun q_ => absurd q_ (by omega))
                      refine g_ldc2 (pc := 102) dX3_show_102 q2238 ?_
                      exact word _ _ spellL_4 (by rw [esc1]; unfold esc; rw [if_neg z1, if_neg z2, if_neg z3, if_pos z4]) h hR
                    · exact plain (by rw [esc1]; unfold esc; rw [if_neg z1, if_neg z2, if_neg z3, if_neg z4]) h hR
          · rw [z]
            refine g_if_neN (pc := 19) (tgt := 114) dX3_show_19 rfl (by omega) (fun _ => ?_) (fun q_ => absurd q_ (by omega))
            subst hQ
            exact t_vret (pc := 114) dX3_show_114 hR rfl (⟨rfl, c2.sK.trans a2.sK, Or.inr ⟨Or.inr (by omega), z⟩⟩)
    refine g_iconst (pc := 5) (v := nI 0) dX3_show_5 rfl ?_
    refine g_istore_n (pc := 6) (ls' := [(0, _), (1, _), (2, _)]) dX3_show_6 rfl (Nat.le_of_ble_eq_true rfl) rfl ?_
    exact loop s.length 0 τ1 (by omega) (by cases raw <;> exact i0) (eK.refl τ1) h hR
end TW22
