/-! TWIN 7: the table of tags; fit; takeApart -/
set_option maxRecDepth 100000
section TW7
variable {Z : hE} {o : Nat} {τ : tT}
def oS (b : Nat) : Option Nat → Int32
  | none => -1
  | some m => nI (b + m)
/-- row g of template k's table -/
def tRw (τ : tT) (k g : Nat) (t : tGt) (ot la : Option Nat) : Prop :=
  τ.2.2.1 18 (50 * k + g) = 200 * k + t.1 ∧ τ.2.2.1 20 (50 * k + g) = 200 * k + t.2.1 ∧ τ.2.2.1 21 (50 * k + g) = 200 * k + t.2.2.1 ∧ τ.2.2.1 19 (50 * k + g) = 200 * k + t.2.2.2.1 ∧ τ.2.2.2.1 22 (50 * k + g) = nI t.2.2.2.2 ∧ τ.2.2.2.1 23 (50 * k + g) = oS (50 * k) ot ∧ τ.2.2.2.1 24 (50 * k + g) = oS (50 * k) la
def tTa (τ : tT) (k n : Nat) (T : tTb) : Prop := ∀ g, g < n → tRw τ k g (T.1 g) (T.2.1 g) (T.2.2 g)
def tOp (τ : tT) : List Nat → Prop
  | [] => True
  | b :: S => τ.2.2.1 25 S.length = 200 + b ∧ tOp τ S
theorem up2_o {α : Type} {f : Nat → Nat → α} {k i a i' : Nat} {v : α} (h : i' ≠ i) : up2 f k i v a i' = f a i' := by
  unfold up2
  split
  · exact if_neg h
  · rfl
theorem up2_ko {α : Type} {f : Nat → Nat → α} {k i a i' : Nat} {v : α} (h : a ≠ k) : up2 f k i v a i' = f a i' := by
  rw [up2_k h]
theorem tOp_same {τ' : tT} : ∀ {S : List Nat}, (∀ i, i < S.length → τ'.2.2.1 25 i = τ.2.2.1 25 i) → tOp τ S → tOp τ' S
  | [], _, _ => trivial
  | b :: S, h, q => ⟨(h S.length (by simp)).trans q.1, tOp_same (fun i hi => h i (by simp; omega)) q.2⟩
theorem tRw_same {τ' : tT} {k g : Nat} {t : tGt} {ot la : Option Nat} (h : ∀ a, τ'.2.2.1 a (50 * k + g) = τ.2.2.1 a (50 * k + g) ∧ τ'.2.2.2.1 a (50 * k + g) = τ.2.2.2.1 a (50 * k + g)) (q : tRw τ k g t ot la) : tRw τ' k g t ot la := by
  unfold tRw at q ⊢
  rw [(h 18).1, (h 20).1, (h 21).1, (h 19).1, (h 22).2, (h 23).2, (h 24).2]
  exact q
theorem tTa_Sg {g : Nat} {T : tTb} {t : tGt} (h : tTa τ 4 g T) : tTa (tSg τ (200 + g) (800 + t.1) (800 + t.2.1) (800 + t.2.2.1) (800 + t.2.2.2.1) (nI t.2.2.2.2)) 4 (g + 1) (upO T.1 g t, upO T.2.1 g none, upO T.2.2 g none) := by
  intro j hj
  by_cases e : j = g
  · subst e
    simp [tRw, tSg, tAI, tAN, up2, upO, oS]
  · have := h j (by omega)
    refine tRw_same (τ := τ) (fun a => ?_) ?_
    · have e2 : 50 * 4 + j ≠ 200 + g := by omega
      constructor
      · simp only [tSg, tAI, tAN, up2_o e2]
      · simp only [tSg, tAI, tAN, up2_o e2]
    · simp only [upO, e, if_false]
      exact this
theorem fitE_cons (T : tTb) (g s b : Nat) (S' : List Nat) : fitE T g s (b :: S') = (if s = 6 then (if (T.2.1 b).isSome then none else some (b :: S', (T.1, upO T.2.1 b (some g), upO T.2.2 g (some b))))
    else if (T.1 b).2.2.2.2 + 4 = s then some (S', (T.1, T.2.1, upO (upO T.2.2 g (some b)) b (some g))) else none) := rfl
def ftP (τ : tT) (g : Nat) (x : Option (List Nat × tTb)) (r : Option Value) (τ' : tT) : Prop := tA4 τ τ' ∧ τ'.2.2.1 18 = τ.2.2.1 18 ∧ τ'.2.2.1 19 = τ.2.2.1 19 ∧ τ'.2.2.1 14 = τ.2.2.1 14 ∧ match x with
  | none => r = some (.int (-1))
  | some (S', T') => r = some (.int (nI S'.length)) ∧ tTa τ' 4 (g + 1) T' ∧ tOp τ' S'
theorem tc_fit (d g : Nat) (T : tTb) (S : List Nat) (hg : g < 50) (hT : tTa τ 4 (g + 1) T) (hS : tOp τ S) (hSg : ∀ b ∈ S, b < g) (hl : S.length ≤ 4) (hs10 : ∀ j, (T.1 j).2.2.2.2 ≤ 10) (hoth : ∀ j m, T.2.1 j = some m → m < 100) : tC Z mX3_fit d o [.ref o, .int (nI (200 + g)), .int (nI S.length)] τ (ftP τ g (fitT T g S)) := by
  refine tC.of rfl rfl (Nat.le_of_ble_eq_true rfl) rfl (fun X hin h hR => ?_)
  have hr := hT g (by omega)
  have hs : τ.2.2.2.1 22 (200 + g) = nI (T.1 g).2.2.2.2 := hr.2.2.2.2.1
  have hsl := hs10 g
  have hft : fitT T g S = (if 2 < (T.1 g).2.2.2.2 ∧ (T.1 g).2.2.2.2 < 6 then (if S.length = 4 then none else some (g :: S, T))
    else if (T.1 g).2.2.2.2 < 6 ∨ (T.1 g).2.2.2.2 = 10 then some (S, T)
    else fitE T g (T.1 g).2.2.2.2 S) := rfl
  generalize (T.1 g).2.2.2.2 = s at hs hsl hft
  have keep : ((s < 6 ∧ ¬ 2 < s) ∨ s = 10) → ∀ h, tH o τ hin h → hG Z X mX3_fit d tS hin (tK o hin (ftP τ g (fitT T g S))) 48 [(0, .ref o), (1, .int (nI (200 + g))), (2, .int (nI S.length)), (3, .int (nI s))] [] h := by
    intro hc h hR
    rw [hft, if_neg (by omega), if_pos (by omega)]
    refine g_iload_n (pc := 48) dX3_fit_48 rfl rfl ?_
    exact t_iret (pc := 49) dX3_fit_49 hR rfl (⟨tA4.refl τ, rfl, rfl, rfl, rfl, hT, hS⟩)
  have r50 : 6 ≤ s → s ≠ 10 → ∀ h, tH o τ hin h → hG Z X mX3_fit d tS hin (tK o hin (ftP τ g (fitT T g S))) 50 [(0, .ref o), (1, .int (nI (200 + g))), (2, .int (nI S.length)), (3, .int (nI s))] [] h := by
    intro h6 h10 h hR
    rw [hft, if_neg (by omega), if_neg (by omega)]
    refine g_iload_n (pc := 50) dX3_fit_50 rfl rfl ?_
    cases S with
    | nil =>
      refine g_if_neN (pc := 51) (tgt := 56) dX3_fit_51 rfl (by omega) (fun c1 => ?_) (fun c1 => ?_)
      · exact absurd c1 (by decide)
      · refine g_iconst (pc := 54) (v := (-1)) dX3_fit_54 rfl ?_
        exact t_iret (pc := 55) dX3_fit_55 hR rfl (⟨tA4.refl τ, rfl, rfl, rfl, rfl⟩)
    | cons b S' =>
      have hb := hSg b List.mem_cons_self
      have hop : τ.2.2.1 25 S'.length = 200 + b := hS.1
      have hrb := hT b (by omega)
      have hsb : τ.2.2.2.1 22 (200 + b) = nI (T.1 b).2.2.2.2 := hrb.2.2.2.2.1
      have hob : τ.2.2.2.1 23 (200 + b) = oS 200 (T.2.1 b) := hrb.2.2.2.2.2.1
      have hsbl := hs10 b
      have hl2 : S'.length + 1 ≤ 4 := hl
      rw [show (b :: S').length = S'.length + 1 from rfl]
      refine g_if_neN (pc := 51) (tgt := 56) dX3_fit_51 rfl (by omega) (fun c1 => ?_) (fun c1 => ?_)
      · refine g_aload_n (pc := 56) dX3_fit_56 rfl rfl ?_
        refine t_get (pc := 57) (v := .ref (tAd _ 25)) 25 dX3_fit_57 hR rfl q1824 (Nat.le_of_ble_eq_true rfl) rfl rfl ?_
        refine g_iload_n (pc := 60) dX3_fit_60 rfl rfl ?_
        refine g_iconst (pc := 61) (v := nI 1) dX3_fit_61 rfl ?_
        first | refine g_isubN (pc := 62) dX3_fit_62 (by omega) ?_ | refine g_isub (pc := 62) dX3_fit_62 ?_
        rw [show S'.length + 1 - 1 = S'.length by omega]
        refine t_iald (pc := 63) dX3_fit_63 hR rfl (by decide) rfl (by decide) (by show _ < 4; omega) ?_
        rw [hop]
        refine g_istore (pc := 64) (ls' := [(0, _), (1, _), (2, _), (3, _), (4, _)]) dX3_fit_64 (Nat.le_of_ble_eq_true rfl) rfl ?_
        refine g_aload_n (pc := 66) dX3_fit_66 rfl rfl ?_
        refine t_get (pc := 67) (v := .ref (tAd _ 24)) 24 dX3_fit_67 hR rfl q1823 (Nat.le_of_ble_eq_true rfl) rfl rfl ?_
        refine g_iload_n (pc := 70) dX3_fit_70 rfl rfl ?_
        refine g_iload (pc := 71) dX3_fit_71 rfl ?_
        refine t_iastI (pc := 73) dX3_fit_73 hR rfl (by decide) rfl (by decide) (by show _ < 250; omega) (fun h hR => ?_)
        refine g_iload_n (pc := 74) dX3_fit_74 rfl rfl ?_
        refine g_bipush (pc := 75) (v := nI 6) dX3_fit_75 rfl ?_
        refine g_icmp_neN (pc := 77) (tgt := 102) dX3_fit_77 rfl (by omega) (by omega) (fun c2 => ?_) (fun c2 => ?_)
        · -- an end
          rw [fitE_cons, if_neg c2]
          refine g_aload_n (pc := 102) dX3_fit_102 rfl rfl ?_
          refine t_get (pc := 103) (v := .ref (tAd _ 22)) 22 dX3_fit_103 hR rfl q1821 (Nat.le_of_ble_eq_true rfl) rfl rfl ?_
          refine g_iload (pc := 106) dX3_fit_106 rfl ?_
          refine t_ialdI (pc := 108) dX3_fit_108 hR rfl (by decide) rfl (by decide) (by show _ < 250; omega) ?_
          rw [show (tAI τ 24 (200 + g) (nI (200 + b))).2.2.2.1 22 (200 + b) = nI (T.1 b).2.2.2.2 from hsb]
          refine g_iload_n (pc := 109) dX3_fit_109 rfl rfl ?_
          refine g_iconst (pc := 110) (v := nI 4) dX3_fit_110 rfl ?_
          first | refine g_isubN (pc := 111) dX3_fit_111 (by omega) ?_ | refine g_isub (pc := 111) dX3_fit_111 ?_
          refine g_icmp_eqN (pc := 112) (tgt := 117) dX3_fit_112 rfl (by omega) (by omega) (fun c3 => ?_) (fun c3 => ?_)
          · rw [if_pos (by omega)]
            refine g_aload_n (pc := 117) dX3_fit_117 rfl rfl ?_
            refine t_get (pc := 118) (v := .ref (tAd _ 24)) 24 dX3_fit_118 hR rfl q1823 (Nat.le_of_ble_eq_true rfl) rfl rfl ?_
            refine g_iload (pc := 121) dX3_fit_121 rfl ?_
            refine g_iload_n (pc := 123) dX3_fit_123 rfl rfl ?_
            refine t_iastI (pc := 124) dX3_fit_124 hR rfl (by decide) rfl (by decide) (by show _ < 250; omega) (fun h hR => ?_)
            refine g_iload_n (pc := 125) dX3_fit_125 rfl rfl ?_
            refine g_iconst (pc := 126) (v := nI 1) dX3_fit_126 rfl ?_
            first | refine g_isubN (pc := 127) dX3_fit_127 (by omega) ?_ | refine g_isub (pc := 127) dX3_fit_127 ?_
            rw [show S'.length + 1 - 1 = S'.length by omega]
            refine t_iret (pc := 128) dX3_fit_128 hR rfl ⟨tA4.ai (tA4.ai (tA4.refl τ) (by unfold tA4k; omega)) (by unfold tA4k; omega), rfl, rfl, rfl, rfl, ?_, tOp_same (τ := τ) (fun i hi => rfl) hS.2⟩
            intro j hj
            have hj0 := hT j hj
            refine ⟨hj0.1, hj0.2.1, hj0.2.2.1, hj0.2.2.2.1, hj0.2.2.2.2.1, hj0.2.2.2.2.2.1, ?_⟩
            show up2 (up2 τ.2.2.2.1 24 (200 + g) _) 24 (200 + b) _ 24 (200 + j) = oS 200 (upO (upO T.2.2 g (some b)) b (some g) j)
            by_cases e1 : j = b
            · subst e1
              rw [up2_s]
              simp [upO, oS]
            · rw [up2_i (by omega)]
              by_cases e2 : j = g
              · subst e2
                rw [up2_s]
                simp [upO, oS, e1]
              · rw [up2_i (by omega)]
                simp only [upO, e1, e2, if_false]
                exact hj0.2.2.2.2.2.2
          · rw [if_neg (by omega)]
            refine g_iconst (pc := 115) (v := (-1)) dX3_fit_115 rfl ?_
            exact t_iret (pc := 116) dX3_fit_116 hR rfl (⟨tA4.ai (tA4.refl τ) (by unfold tA4k; omega), rfl, rfl, rfl, rfl⟩)
        · -- an else
          rw [fitE_cons, if_pos c2]
          refine g_aload_n (pc := 80) dX3_fit_80 rfl rfl ?_
          refine t_get (pc := 81) (v := .ref (tAd _ 23)) 23 dX3_fit_81 hR rfl q1822 (Nat.le_of_ble_eq_true rfl) rfl rfl ?_
          refine g_iload (pc := 84) dX3_fit_84 rfl ?_
          refine t_ialdI (pc := 86) dX3_fit_86 hR rfl (by decide) rfl (by decide) (by show _ < 250; omega) ?_
          rw [show (tAI τ 24 (200 + g) (nI (200 + b))).2.2.2.1 23 (200 + b) = oS 200 (T.2.1 b) from hob]
          cases ho : T.2.1 b with
          | none =>
            refine g_if_lt (pc := 87) (tgt := 92) dX3_fit_87 rfl (fun _ => ?_) (fun c => absurd (by decide) c)
            refine g_aload_n (pc := 92) dX3_fit_92 rfl rfl ?_
            refine t_get (pc := 93) (v := .ref (tAd _ 23)) 23 dX3_fit_93 hR rfl q1822 (Nat.le_of_ble_eq_true rfl) rfl rfl ?_
            refine g_iload (pc := 96) dX3_fit_96 rfl ?_
            refine g_iload_n (pc := 98) dX3_fit_98 rfl rfl ?_
            refine t_iastI (pc := 99) dX3_fit_99 hR rfl (by decide) rfl (by decide) (by show _ < 250; omega) (fun h hR => ?_)
            refine g_iload_n (pc := 100) dX3_fit_100 rfl rfl ?_
            refine t_iret (pc := 101) dX3_fit_101 hR rfl ⟨tA4.ai (tA4.ai (tA4.refl τ) (by unfold tA4k; omega)) (by unfold tA4k; omega), rfl, rfl, rfl, rfl, ?_, tOp_same (τ := τ) (fun i hi => rfl) hS⟩
            intro j hj
            have hj0 := hT j hj
            refine ⟨hj0.1, hj0.2.1, hj0.2.2.1, hj0.2.2.2.1, hj0.2.2.2.2.1, ?_, ?_⟩
            · show up2 (up2 τ.2.2.2.1 24 (200 + g) (nI (200 + b))) 23 (200 + b) (nI (200 + g)) 23 (200 + j) = oS 200 (upO T.2.1 b (some g) j)
              by_cases e1 : j = b
              · subst e1
                rw [up2_s]
                simp [upO, oS]
              · rw [up2_i (by omega), up2_ko (by decide)]
                simp only [upO, e1, if_false]
                exact hj0.2.2.2.2.2.1
            · show up2 (up2 τ.2.2.2.1 24 (200 + g) (nI (200 + b))) 23 (200 + b) (nI (200 + g)) 24 (200 + j) = oS 200 (upO T.2.2 g (some b) j)
              rw [up2_ko (by decide)]
              by_cases e1 : j = g
              · subst e1
                rw [up2_s]
                simp [upO, oS]
              · rw [up2_i (by omega)]
                simp only [upO, e1, if_false]
                exact hj0.2.2.2.2.2.2
          | some m =>
            have hm : (0 : Int) ≤ 0 := by decide
            refine g_if_lt (pc := 87) (tgt := 92) dX3_fit_87 rfl (fun c => ?_) (fun c => ?_)
            · exact absurd c (by
                have hmb := hoth b m ho
                exact nI_pos (by omega))
            · refine g_iconst (pc := 90) (v := (-1)) dX3_fit_90 rfl ?_
              exact t_iret (pc := 91) dX3_fit_91 hR rfl (⟨tA4.ai (tA4.refl τ) (by unfold tA4k; omega), rfl, rfl, rfl, rfl⟩)
      · exact absurd c1 (by omega)
  refine g_aload_n (pc := 0) dX3_fit_0 rfl rfl ?_
  refine t_get (pc := 1) (v := .ref (tAd _ 22)) 22 dX3_fit_1 hR rfl q1821 (Nat.le_of_ble_eq_true rfl) rfl rfl ?_
  refine g_iload_n (pc := 4) dX3_fit_4 rfl rfl ?_
  refine t_ialdI (pc := 5) dX3_fit_5 hR rfl (by decide) rfl (by decide) (by show _ < 250; omega) ?_
  rw [hs]
  refine g_istore_n (pc := 6) (ls' := [(0, _), (1, _), (2, _), (3, _)]) dX3_fit_6 rfl (Nat.le_of_ble_eq_true rfl) rfl ?_
  refine g_iload_n (pc := 7) dX3_fit_7 rfl rfl ?_
  refine g_iconst (pc := 8) (v := nI 2) dX3_fit_8 rfl ?_
  refine g_icmp_leN (pc := 9) (tgt := 36) dX3_fit_9 rfl (by omega) (by omega) (fun c1 => ?_) (fun c1 => ?_)
  · refine g_iload_n (pc := 36) dX3_fit_36 rfl rfl ?_
    refine g_bipush (pc := 37) (v := nI 6) dX3_fit_37 rfl ?_
    refine g_icmp_ltN (pc := 39) (tgt := 48) dX3_fit_39 rfl (by omega) (by omega) (fun c2 => ?_) (fun c2 => ?_)
    · exact keep (by omega) h hR
    · exact absurd c2 (by omega)
  · refine g_iload_n (pc := 12) dX3_fit_12 rfl rfl ?_
    refine g_bipush (pc := 13) (v := nI 6) dX3_fit_13 rfl ?_
    refine g_icmp_geN (pc := 15) (tgt := 36) dX3_fit_15 rfl (by omega) (by omega) (fun c2 => ?_) (fun c2 => ?_)
    · refine g_iload_n (pc := 36) dX3_fit_36 rfl rfl ?_
      refine g_bipush (pc := 37) (v := nI 6) dX3_fit_37 rfl ?_
      refine g_icmp_ltN (pc := 39) (tgt := 48) dX3_fit_39 rfl (by omega) (by omega) (fun c3 => ?_) (fun c3 => ?_)
      · exact absurd c3 (by omega)
      · refine g_iload_n (pc := 42) dX3_fit_42 rfl rfl ?_
        refine g_bipush (pc := 43) (v := nI 10) dX3_fit_43 rfl ?_
        refine g_icmp_neN (pc := 45) (tgt := 50) dX3_fit_45 rfl (by omega) (by omega) (fun c4 => ?_) (fun c4 => ?_)
        · exact r50 c2 c4 h hR
        · exact keep (by omega) h hR
    · rw [hft, if_pos ⟨by omega, by omega⟩]
      refine g_iload_n (pc := 18) dX3_fit_18 rfl rfl ?_
      refine g_iconst (pc := 19) (v := nI 4) dX3_fit_19 rfl ?_
      refine g_icmp_neN (pc := 20) (tgt := 25) dX3_fit_20 rfl (by omega) (by omega) (fun c3 => ?_) (fun c3 => ?_)
      · rw [if_neg c3]
        refine g_aload_n (pc := 25) dX3_fit_25 rfl rfl ?_
        refine t_get (pc := 26) (v := .ref (tAd _ 25)) 25 dX3_fit_26 hR rfl q1824 (Nat.le_of_ble_eq_true rfl) rfl rfl ?_
        refine g_iload_n (pc := 29) dX3_fit_29 rfl rfl ?_
        refine g_iload_n (pc := 30) dX3_fit_30 rfl rfl ?_
        refine t_iast (pc := 31) dX3_fit_31 hR rfl (by decide) rfl (by decide) (by show _ < 4; omega) (fun h hR => ?_)
        refine g_iload_n (pc := 32) dX3_fit_32 rfl rfl ?_
        refine g_iconst (pc := 33) (v := nI 1) dX3_fit_33 rfl ?_
        first | refine g_iaddN (pc := 34) dX3_fit_34 ?_ | refine g_iadd (pc := 34) dX3_fit_34 ?_
        refine t_iret (pc := 35) dX3_fit_35 hR rfl ⟨tA4.an (tA4.refl τ) (by unfold tA4k; omega), rfl, rfl, rfl, rfl, hT, ?_, tOp_same (fun i hi => ?_) hS⟩
        · show up2 τ.2.2.1 25 _ _ 25 _ = _
          rw [up2_s]
        · show up2 τ.2.2.1 25 _ _ 25 i = _
          rw [up2_i (by omega)]
      · rw [if_pos c3]
        refine g_iconst (pc := 23) (v := (-1)) dX3_fit_23 rfl ?_
        exact t_iret (pc := 24) dX3_fit_24 hR rfl (⟨tA4.refl τ, rfl, rfl, rfl, rfl⟩)
end TW7
