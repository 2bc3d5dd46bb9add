/-! TWIN 21: expr -/
set_option maxRecDepth 100000
theorem cA_cut {f : Nat → Nat} {e k i : Nat} (h : i < k) (hk : k ≤ e) : cA f k i = cA f e i := by
  rw [cA_eq h, cA_eq (by omega)]
theorem stB_cut {f : Nat → Nat} {e k : Nat} (hk : k ≤ e) : ∀ (w : List Nat) (p : Nat), p + w.length ≤ k → stB f k p w = stB f e p w
  | [], _, _ => rfl
  | c :: cs, p, h => by
    have h : p + (cs.length + 1) ≤ k := h
    rw [stB_cons, stB_cons, cA_cut (by omega) hk, stB_cut hk cs (p + 1) (by omega)]
theorem stB_up {f : Nat → Nat} {e k : Nat} (hk : k ≤ e) {w : List Nat} {p : Nat} (hw : ∀ c ∈ w, c ≠ 0) (hne : w ≠ []) (h : stB f k p w = true) : stB f e p w = true := by
  rw [← stB_cut hk w p (stB_len hw hne h)]; exact h
theorem lts_cut {f : Nat → Nat} {e k : Nat} (hk : k ≤ e) : ∀ (n p : Nat), lts f e p = n → p + n ≤ k → lts f k p = n
  | 0, p, h, _ => by
    apply lts_stop
    cases hz : isL (cA f e p) with
    | true => rw [lts_step hz] at h; cases h
    | false =>
      by_cases hp : p < k
      · rw [cA_cut hp hk]; exact hz
      · rw [cA_ge (by omega)]; rfl
  | n + 1, p, h, hp => by
    cases hz : isL (cA f e p) with
    | false => rw [lts_stop hz] at h; cases h
    | true =>
      rw [lts_step hz] at h
      rw [lts_step (by rw [cA_cut (by omega) hk]; exact hz), lts_cut hk n (p + 1) (by omega) (by omega)]
theorem dtF_ge {f : Nat → Nat} {e : Nat} : ∀ (n k r : Nat), dtF f e n k = some r → k ≤ r
  | 0, k, r, h => by cases h; exact Nat.le_refl _
  | n + 1, k, r, h => by
    unfold dtF at h
    split at h
    · dsimp only at h
      generalize (if lts f e (k + 1) = 0 ∧ isD (cA f e (k + 1)) = true then 1 else lts f e (k + 1)) = x at h
      split at h
      · cases h
      · have := dtF_ge n _ r h
        omega
    · cases h; exact Nat.le_refl _
theorem dtF_cut {f : Nat → Nat} {e k : Nat} (hk : k ≤ e) : ∀ (n m p : Nat), dtF f e n p = some k → k - p ≤ m → dtF f k m p = some k
  | 0, m, p, h, hm => by
    cases h
    cases m with
    | zero => rfl
    | succ m => unfold dtF; rw [cA_ge (Nat.le_refl _)]; rfl
  | n + 1, m, p, h, hm => by
    have hp := dtF_ge _ _ _ h
    unfold dtF at h
    split at h
    · rename_i hc
      dsimp only at h
      generalize hx : (if lts f e (p + 1) = 0 ∧ isD (cA f e (p + 1)) = true then 1 else lts f e (p + 1)) = x at h
      split at h
      · cases h
      · rename_i hb
        have hp2 := dtF_ge _ _ _ h
        cases m with
        | zero => omega
        | succ m =>
          unfold dtF
          rw [cA_cut (by omega) hk, if_pos hc]
          dsimp only
          have hlt : lts f k (p + 1) = lts f e (p + 1) := by
            apply lts_cut hk _ _ rfl
            split at hx
            · rename_i hy; omega
            · omega
          rw [hlt, cA_cut (by omega) hk, hx, if_neg hb]
          exact dtF_cut hk n m _ h (by omega)
    · cases h
      cases m with
      | zero => rfl
      | succ m => unfold dtF; rw [cA_ge (Nat.le_refl _)]; rfl
theorem upF_ge {f : Nat → Nat} {e : Nat} : ∀ (n p : Nat), p ≤ upF f e n p
  | 0, p => Nat.le_refl _
  | n + 1, p => by
    unfold upF
    split
    · have := upF_ge (f := f) (e := e) n (p + 3); omega
    · exact Nat.le_refl _
theorem upF_cut {f : Nat → Nat} {e k : Nat} (hk : k ≤ e) : ∀ (n m p : Nat), upF f e n p ≤ k → e - p ≤ n → k - p ≤ m → upF f k m p = upF f e n p
  | 0, 0, p, _, _, _ => rfl
  | 0, m + 1, p, h, hn, _ => by
    unfold upF
    rw [if_neg]
    intro z
    have := stB_len (by simp) (by simp) z
    simp at this
    omega
  | n + 1, m, p, h, hn, hm => by
    unfold upF at h ⊢
    split at h
    · rename_i hs
      rw [if_pos hs]
      have h1 := upF_ge (f := f) (e := e) n (p + 3)
      cases m with
      | zero => omega
      | succ m =>
        show (if stB f k p [46, 46, 47] then upF f k m (p + 3) else p) = _
        rw [stB_cut hk _ _ (by simp; omega), if_pos hs]
        exact upF_cut hk n m (p + 3) h (by omega) (by omega)
    · rename_i hs
      rw [if_neg hs]
      cases m with
      | zero => rfl
      | succ m =>
        show (if stB f k p [46, 46, 47] then upF f k m (p + 3) else p) = _
        rw [if_neg]
        intro z
        exact hs (stB_up hk (by simp) (by simp) z)
theorem pathE_cut {f : Nat → Nat} {e k p : Nat} (hk : k ≤ e) (h : pathE f e p = some k) : pathE f k p = some k := by
  unfold pathE at h ⊢
  split at h
  · rename_i hs
    cases h
    rw [stB_cut hk _ _ (by simp), stB_cut hk _ _ (by simp), if_pos hs]
  · rename_i hs
    dsimp only at h
    generalize hK : upF f e e p = K at h
    generalize hN : lts f e K = N at h
    split at h
    · cases h
    · rename_i hn
      have hKk : K + N ≤ k := by
        split at h
        · rename_i h4; cases h; omega
        · exact dtF_ge _ _ _ h
      have e1 : upF f k k p = K := by
        rw [← hK]
        exact upF_cut hk e k p (by omega) (by omega) (by omega)
      have e2 : lts f k K = N := lts_cut hk N K hN hKk
      rw [if_neg]
      · dsimp only
        rw [e1, e2, if_neg hn]
        split at h
        · rename_i h4
          have h5 := Option.some.inj h
          rw [stB_cut hk _ _ (by simp; omega), if_pos h4, h5]
        · rename_i h4
          rw [if_neg]
          · exact dtF_cut hk e k _ h (by omega)
          · intro z
            exact h4 ⟨z.1, stB_up hk (by simp) (by simp) z.2⟩
      · intro z
        apply hs
        rw [Bool.or_eq_true] at z ⊢
        rcases z with q | q
        · exact Or.inl (stB_up hk (by simp) (by simp) q)
        · exact Or.inr (stB_up hk (by simp) (by simp) q)
theorem quF_cut {f : Nat → Nat} {e k : Nat} (hk : k ≤ e) : ∀ (n m p : Nat), quF f e n p < k → e - p ≤ n → k - p ≤ m → quF f k m p = quF f e n p
  | 0, 0, p, _, _, _ => rfl
  | 0, m + 1, p, h, hn, _ => by
    unfold quF at h
    omega
  | n + 1, m, p, h, hn, hm => by
    have h0 := quF_all (f := f) (e := e) (n + 1) p
    unfold quF at h ⊢
    split at h
    · rename_i hs
      rw [if_pos hs]
      have h1 := quF_all (f := f) (e := e) n (p + 1)
      cases m with
      | zero => omega
      | succ m =>
        show (if p < k ∧ f p ≠ 34 ∧ f p ≠ 125 then quF f k m (p + 1) else p) = _
        rw [if_pos ⟨by omega, hs.2⟩]
        exact quF_cut hk n m (p + 1) h (by omega) (by omega)
    · rename_i hs
      rw [if_neg hs]
      cases m with
      | zero => rfl
      | succ m =>
        show (if p < k ∧ f p ≠ 34 ∧ f p ≠ 125 then quF f k m (p + 1) else p) = _
        rw [if_neg]
        intro z
        exact hs ⟨by omega, z.2⟩
theorem dgF_cut {f : Nat → Nat} {e k : Nat} (hk : k ≤ e) : ∀ (n p : Nat), dgF f e n p = k → dgF f k n p = k
  | 0, p, h => h
  | n + 1, p, h => by
    have h0 := (dgF_all (f := f) (e := e) (n + 1) p).1
    rw [h] at h0
    unfold dgF at h ⊢
    split at h
    · rename_i hs
      have h1 := (dgF_all (f := f) (e := e) n (p + 1)).1
      rw [h] at h1
      rw [if_pos (by rw [cA_cut (by omega) hk]; exact hs)]
      exact dgF_cut hk n (p + 1) h
    · subst h
      rw [cA_ge (Nat.le_refl _)]
      rfl
theorem operE_gt {f : Nat → Nat} {e p k : Nat} (h : operE f e p = some k) : p < k := by
  unfold operE at h
  split at h
  · dsimp only at h
    split at h
    · cases h
      have := quF_all (f := f) (e := e) e (p + 1)
      omega
    · cases h
  · split at h
    · rename_i hd
      cases h
      have : dgF f e 5 p = if isD (cA f e p) then dgF f e 4 (p + 1) else p := rfl
      rw [this, if_pos hd]
      have := (dgF_all (f := f) (e := e) 4 (p + 1)).1
      omega
    · unfold pathE at h
      split at h
      · cases h; omega
      · dsimp only at h
        have h0 := upF_ge (f := f) (e := e) e p
        split at h
        · cases h
        · split at h
          · cases h; omega
          · have := dtF_ge _ _ _ h
            omega
theorem operE_cut {f : Nat → Nat} {e k p : Nat} (h : operE f e p = some k) : operE f k p = some k := by
  have hk := operE_le h
  have hp := operE_gt h
  unfold operE at h ⊢
  rw [cA_cut hp hk]
  split at h
  · rename_i hc
    rw [if_pos hc]
    dsimp only at h ⊢
    split at h
    · rename_i hq
      have h1 := Option.some.inj h
      have e1 : quF f k k (p + 1) = quF f e e (p + 1) := quF_cut hk e k (p + 1) (by omega) (by omega) (by omega)
      rw [e1, cA_cut (by omega) hk, if_pos hq, h1]
    · cases h
  · rename_i hc
    rw [if_neg hc]
    split at h
    · rename_i hd
      rw [if_pos hd, dgF_cut hk 5 p (Option.some.inj h)]
    · rename_i hd
      rw [if_neg hd]
      exact pathE_cut hk h
theorem isEx_lt {f : Nat → Nat} {e p : Nat} (h : isEx f e p = true) : p < e := by
  unfold isEx at h
  split at h
  · rw [Bool.and_eq_true] at h
    simpa using h.2
  · split at h
    · cases h
    · rename_i k hk
      have h1 := operE_gt hk
      have h2 := operE_le hk
      omega
theorem vR.num {D : aD} {τ : tT} {r : Nat} : ∀ {v : aV}, vR D τ r v → (τ.2.2.2.1 26 r = nI 0 ∧ ∃ k, v = some (.inl k) ∧ τ.2.2.2.1 27 r = k) ∨ (τ.2.2.2.1 26 r ≠ nI 0 ∧ ∀ k, v ≠ some (.inl k))
  | none, h => Or.inr ⟨by rw [show τ.2.2.2.1 26 r = -1 from h]; decide, fun x z => by cases z⟩
  | some (.inl v), h => Or.inl ⟨h.1, v, rfl, h.2⟩
  | some (.inr (.inl l)), h => Or.inr ⟨by rw [h.1]; decide, fun x z => by cases z⟩
  | some (.inr (.inr x)), ⟨x1, x2, m, ps, x3, x4⟩ => Or.inr ⟨by rw [x4]; cases m <;> decide, fun x z => by cases z⟩
def exP (D : aD) (τ : tT) (x : Option aV) (u : Option Value) (τ' : tT) : Prop := u = none ∧ vK r3 τ τ' ∧ (match x with | none => τ'.1 38 = 4 | some v => τ'.1 38 = 0 ∧ vR D τ' 2 v)
section TW21
variable {Z : hE} {o : Nat} {τ : tT}
theorem tc_expr (d p e : Nat) (Tm : Nat → Option aT) (D : aD) (t n : Nat) (f : Nat → Nat) (g : Nat) (T : tTb) (U : List aU) (C : List aV) (hB : evB Tm D t n f g T U C τ) (F : Nat → Nat) (hFe : τ.2.2.1 14 = F) (he : e ≤ 1000) (hep : e ≤ p + 300) (h128 : ∀ i, p ≤ i → i < e → F i < 128) (hv : isEx F e p = true) (h38 : τ.1 38 = 0) : tC Z mX3_expr (d + 6) o [.ref o, .int (nI p), .int (nI e)] τ (exP D τ (evE D C (lpU T U) (exO F e p))) := by
  refine tC.of rfl rfl (Nat.le_of_ble_eq_true rfl) rfl (fun X hin h hR => ?_)
  have hB0 := hB
  obtain ⟨⟨q1, q2, q3, q4, q5⟩, ⟨q6, q7, q8⟩, ⟨q9, q10, q11⟩, q12, q13, q14⟩ := hB
  have hFb : ∀ i, F i < 65536 := by rw [← hFe]; exact q14
  have hpe := isEx_lt hv
  have hh7 := helpN_le F e p
  unfold isEx at hv
  unfold exO
  generalize hh : helpN F e p = hn at hv hh7
  refine g_aload_n (pc := 0) dX3_expr_0 rfl rfl ?_
  refine g_iload_n (pc := 1) dX3_expr_1 rfl rfl ?_
  refine g_iload_n (pc := 2) dX3_expr_2 rfl rfl ?_
  refine t_invE (pc := 3) dX3_expr_3 hR (tf_helper hFe _ p e (by omega) he hFb) meX3_helper q2047 q2049 qs30 rfl rfl (Nat.le_of_ble_eq_true rfl) (fun h hR => ?_)
  rw [hh]
  refine g_istore_n (pc := 6) (ls' := [(0, _), (1, _), (2, _), (3, _)]) dX3_expr_6 rfl (Nat.le_of_ble_eq_true rfl) rfl ?_
  refine g_iload_n (pc := 7) dX3_expr_7 rfl rfl ?_
  by_cases h0 : hn = 0
  · subst h0
    rw [if_pos rfl, Bool.and_eq_true] at hv
    have hv1 : operE F e p = some e := by simpa using hv.1
    rw [if_pos rfl]
    refine g_if_neN (pc := 8) (tgt := 19) dX3_expr_8 rfl (by omega) (fun q_ => absurd q_ (by omega)) (fun _ => ?_)
    refine g_aload_n (pc := 11) dX3_expr_11 rfl rfl ?_
    refine g_iconst (pc := 12) (v := nI 2) dX3_expr_12 rfl ?_
    refine g_iload_n (pc := 13) dX3_expr_13 rfl rfl ?_
    refine g_iload_n (pc := 14) dX3_expr_14 rfl rfl ?_
    refine t_inv (pc := 15) dX3_expr_15 hR (tc_operand _ 2 p e Tm D t n f g T U C hB0 F hFe (by decide) he hpe hep h128 hv1) meX3_operand q2148 q2150 qs49 rfl rfl (Nat.le_of_ble_eq_true rfl) (fun u τ1 h hp hR => ?_)
    obtain ⟨rfl, g1, g2, g3⟩ := hp
    exact t_vret (pc := 18) dX3_expr_18 hR rfl (⟨rfl, g2.r3 (fun i z => by omega), by rw [g1]; exact h38, g3⟩)
  · rw [if_neg h0] at hv ⊢
    have hns := nameS_le hn
    refine g_if_neN (pc := 8) (tgt := 19) dX3_expr_8 rfl (by omega) (fun _ => ?_) (fun q_ => absurd q_ (by omega))
    refine g_iload_n (pc := 19) dX3_expr_19 rfl rfl ?_
    refine g_aload_n (pc := 20) dX3_expr_20 rfl rfl ?_
    refine g_iload_n (pc := 21) dX3_expr_21 rfl rfl ?_
    refine t_invE (pc := 22) dX3_expr_22 hR (tc_nameSize _ hn (by omega)) meX3_nameSize q2077 q2079 qs35 rfl rfl (Nat.le_of_ble_eq_true rfl) (fun h hR => ?_)
    generalize hq : p + nameS hn = q at hv
    first | refine g_iaddN (pc := 25) dX3_expr_25 ?_ | refine g_iadd (pc := 25) dX3_expr_25 ?_
    refine g_istore (pc := 26) (ls' := [(0, _), (1, _), (2, _), (3, _), (4, _)]) dX3_expr_26 (Nat.le_of_ble_eq_true rfl) rfl ?_
    rw [hq]
    refine g_aload_n (pc := 28) dX3_expr_28 rfl rfl ?_
    refine g_iload (pc := 29) dX3_expr_29 rfl ?_
    refine g_iload_n (pc := 31) dX3_expr_31 rfl rfl ?_
    refine t_invE (pc := 32) dX3_expr_32 hR (tf_operandEnd hFe _ q e (by omega) he hFb) meX3_operandEnd q2057 q2059 qs31 rfl rfl (Nat.le_of_ble_eq_true rfl) (fun h hR => ?_)
    cases hk : operE F e q with
    | none => rw [hk] at hv; cases hv
    | some k =>
      rw [hk] at hv
      dsimp only at hv
      have hk1 := operE_gt hk
      have hk2 := operE_le hk
      have hk3 := operE_cut hk
      have eg : (some k : Option Nat).getD 0 = k := rfl
      rw [eg]
      refine g_istore (pc := 35) (ls' := [(0, _), (1, _), (2, _), (3, _), (4, _), (5, _)]) dX3_expr_35 (Nat.le_of_ble_eq_true rfl) rfl ?_
      refine g_aload_n (pc := 37) dX3_expr_37 rfl rfl ?_
      refine g_iconst (pc := 38) (v := nI 0) dX3_expr_38 rfl ?_
      refine g_iload (pc := 39) dX3_expr_39 rfl ?_
      refine g_iload (pc := 41) dX3_expr_41 rfl ?_
      refine t_inv (pc := 43) dX3_expr_43 hR (tc_operand _ 0 q k Tm D t n f g T U C hB0 F hFe (by decide) (by omega) hk1 (by omega) (fun i h1 h2 => h128 i (by omega) (by omega)) hk3) meX3_operand q2148 q2150 qs49 rfl rfl (Nat.le_of_ble_eq_true rfl) (fun u τ1 h hp hR => ?_)
      obtain ⟨rfl, g1, g2, g3⟩ := hp
      generalize hx : evO D C (lpU T U) (opO F k q) = x at g3
      have k1 : vK r3 τ τ1 := g2.r3 (fun i z => by omega)
      have hB1 := hB0.keep k1 (fun r hr => r3_k hr)
      have h38a : τ1.1 38 = 0 := by rw [g1]; exact h38
      rcases (show hn = 1 ∨ hn = 2 ∨ hn = 3 ∨ 3 < hn by omega) with e1 | e1 | e1 | e1
      · subst e1
        show hG _ _ _ _ _ _ (tK o hin (exP D τ (hpV D 1 (evO D C (lpU T U) (opO F k q)) none))) _ _ _ _
        rw [hx]
        refine g_iload_n (pc := 46) dX3_expr_46 rfl rfl ?_
        refine g_iconst (pc := 47) (v := nI 3) dX3_expr_47 rfl ?_
        refine g_icmp_leN (pc := 48) (tgt := 61) dX3_expr_48 rfl (by omega) (by omega) (fun _ => ?_) (fun q_ => absurd q_ (by omega))
        refine g_iload_n (pc := 61) dX3_expr_61 rfl rfl ?_
        refine g_iconst (pc := 62) (v := nI 1) dX3_expr_62 rfl ?_
        refine g_icmp_neN (pc := 63) (tgt := 70) dX3_expr_63 rfl (by omega) (by omega) (fun q_ => absurd q_ (by omega)) (fun _ => ?_)
        refine g_aload_n (pc := 66) dX3_expr_66 rfl rfl ?_
        refine t_inv (pc := 67) dX3_expr_67 hR (tc_upper _ D x hB1.2.2.2.1 q13 g3 h38a) meX3_upper q2180 q2182 qs57 rfl rfl (Nat.le_of_ble_eq_true rfl) (fun u τ2 h hp hR => ?_)
        obtain ⟨rfl, c1, c2, c3⟩ := hp
        refine g_iload_n (pc := 70) dX3_expr_70 rfl rfl ?_
        refine g_iconst (pc := 71) (v := nI 2) dX3_expr_71 rfl ?_
        refine g_icmp_neN (pc := 72) (tgt := 85) dX3_expr_72 rfl (by omega) (by omega) (fun _ => ?_) (fun q_ => absurd q_ (by omega))
        refine g_iload_n (pc := 85) dX3_expr_85 rfl rfl ?_
        refine g_iconst (pc := 86) (v := nI 3) dX3_expr_86 rfl ?_
        refine g_icmp_neN (pc := 87) (tgt := 108) dX3_expr_87 rfl (by omega) (by omega) (fun _ => ?_) (fun q_ => absurd q_ (by omega))
        refine g_iload_n (pc := 108) dX3_expr_108 rfl rfl ?_
        refine g_iconst (pc := 109) (v := nI 5) dX3_expr_109 rfl ?_
        refine g_icmp_neN (pc := 110) (tgt := 130) dX3_expr_110 rfl (by omega) (by omega) (fun _ => ?_) (fun q_ => absurd q_ (by omega))
        refine g_iload_n (pc := 130) dX3_expr_130 rfl rfl ?_
        refine g_iconst (pc := 131) (v := nI 4) dX3_expr_131 rfl ?_
        refine g_icmp_neN (pc := 132) (tgt := 174) dX3_expr_132 rfl (by omega) (by omega) (fun _ => ?_) (fun q_ => absurd q_ (by omega))
        refine g_iload_n (pc := 174) dX3_expr_174 rfl rfl ?_
        refine g_iconst (pc := 175) (v := nI 4) dX3_expr_175 rfl ?_
        refine g_icmp_neN (pc := 176) (tgt := 184) dX3_expr_176 rfl (by omega) (by omega) (fun _ => ?_) (fun q_ => absurd q_ (by omega))
        refine g_iload_n (pc := 184) dX3_expr_184 rfl rfl ?_
        refine g_bipush (pc := 185) (v := nI 6) dX3_expr_185 rfl ?_
        refine g_icmp_neN (pc := 187) (tgt := 220) dX3_expr_187 rfl (by omega) (by omega) (fun _ => ?_) (fun q_ => absurd q_ (by omega))
        refine t_vret (pc := 220) dX3_expr_220 hR rfl ⟨rfl, k1.trans (c1.r3 (fun i z => by omega)), ?_⟩
        have hp1 : hpV D 1 x none = (if (shw D x).length ≤ 400 then some (some (.inr (.inl ((shw D x).map upc)))) else none) := rfl
        rw [hp1]
        by_cases z : (shw D x).length ≤ 400
        · rw [if_pos z]
          exact ⟨by rw [c2, if_neg (by omega)], c3 z⟩
        · rw [if_neg z]
          show τ2.1 38 = 4
          rw [c2, if_pos (by omega)]
      · subst e1
        show hG _ _ _ _ _ _ (tK o hin (exP D τ (hpV D 2 (evO D C (lpU T U) (opO F k q)) none))) _ _ _ _
        rw [hx]
        refine g_iload_n (pc := 46) dX3_expr_46 rfl rfl ?_
        refine g_iconst (pc := 47) (v := nI 3) dX3_expr_47 rfl ?_
        refine g_icmp_leN (pc := 48) (tgt := 61) dX3_expr_48 rfl (by omega) (by omega) (fun _ => ?_) (fun q_ => absurd q_ (by omega))
        refine g_iload_n (pc := 61) dX3_expr_61 rfl rfl ?_
        refine g_iconst (pc := 62) (v := nI 1) dX3_expr_62 rfl ?_
        refine g_icmp_neN (pc := 63) (tgt := 70) dX3_expr_63 rfl (by omega) (by omega) (fun _ => ?_) (fun q_ => absurd q_ (by omega))
        refine g_iload_n (pc := 70) dX3_expr_70 rfl rfl ?_
        refine g_iconst (pc := 71) (v := nI 2) dX3_expr_71 rfl ?_
        refine g_icmp_neN (pc := 72) (tgt := 85) dX3_expr_72 rfl (by omega) (by omega) (fun q_ => absurd q_ (by omega)) (fun _ => ?_)
        refine g_aload_n (pc := 75) dX3_expr_75 rfl rfl ?_
        refine g_iconst (pc := 76) (v := nI 2) dX3_expr_76 rfl ?_
        refine g_aload_n (pc := 77) dX3_expr_77 rfl rfl ?_
        refine g_iconst (pc := 78) (v := nI 0) dX3_expr_78 rfl ?_
        refine t_inv (pc := 79) dX3_expr_79 hR (tc_lengthOf _ 0 D x (by decide) hB1.2.2.2.1 q13 g3) meX3_lengthOf q2207 q2209 qs63 rfl rfl (Nat.le_of_ble_eq_true rfl) (fun u τ2 h hp hR => ?_)
        obtain ⟨rfl, c1, c2⟩ := hp
        refine t_invE (pc := 82) dX3_expr_82 hR (tc_setNumber _ 2 _ (by decide)) meX3_setNumber q2152 q2154 qs50 rfl rfl (Nat.le_of_ble_eq_true rfl) (fun h hR => ?_)
        refine g_iload_n (pc := 85) dX3_expr_85 rfl rfl ?_
        refine g_iconst (pc := 86) (v := nI 3) dX3_expr_86 rfl ?_
        refine g_icmp_neN (pc := 87) (tgt := 108) dX3_expr_87 rfl (by omega) (by omega) (fun _ => ?_) (fun q_ => absurd q_ (by omega))
        refine g_iload_n (pc := 108) dX3_expr_108 rfl rfl ?_
        refine g_iconst (pc := 109) (v := nI 5) dX3_expr_109 rfl ?_
        refine g_icmp_neN (pc := 110) (tgt := 130) dX3_expr_110 rfl (by omega) (by omega) (fun _ => ?_) (fun q_ => absurd q_ (by omega))
        refine g_iload_n (pc := 130) dX3_expr_130 rfl rfl ?_
        refine g_iconst (pc := 131) (v := nI 4) dX3_expr_131 rfl ?_
        refine g_icmp_neN (pc := 132) (tgt := 174) dX3_expr_132 rfl (by omega) (by omega) (fun _ => ?_) (fun q_ => absurd q_ (by omega))
        refine g_iload_n (pc := 174) dX3_expr_174 rfl rfl ?_
        refine g_iconst (pc := 175) (v := nI 4) dX3_expr_175 rfl ?_
        refine g_icmp_neN (pc := 176) (tgt := 184) dX3_expr_176 rfl (by omega) (by omega) (fun _ => ?_) (fun q_ => absurd q_ (by omega))
        refine g_iload_n (pc := 184) dX3_expr_184 rfl rfl ?_
        refine g_bipush (pc := 185) (v := nI 6) dX3_expr_185 rfl ?_
        refine g_icmp_neN (pc := 187) (tgt := 220) dX3_expr_187 rfl (by omega) (by omega) (fun _ => ?_) (fun q_ => absurd q_ (by omega))
        refine t_vret (pc := 220) dX3_expr_220 hR rfl ⟨rfl, ((k1.trans (c1.mono (fun i z => z.elim))).ai (vKp_r (Or.inl rfl) (by unfold r3; decide))).ai (vKp_r (Or.inr (Or.inl rfl)) (by unfold r3; decide)), ?_⟩
        exact ⟨by show τ2.1 38 = 0; rw [c2]; exact h38a, by rw [rAI_k (by decide)]; exact rAI_s, rAI_s⟩
      · subst e1
        show hG _ _ _ _ _ _ (tK o hin (exP D τ (hpV D 3 (evO D C (lpU T U) (opO F k q)) none))) _ _ _ _
        rw [hx]
        have num : ∀ (b : Bool) (τ2 : tT), b = flV D x → vK (fun _ => False) τ1 τ2 → τ2.1 38 = τ1.1 38 → ∀ h, tH o τ2 hin h → hG Z X mX3_expr (d + 6) tS hin (tK o hin (exP D τ (hpV D 3 x none))) 105 [(0, .ref o), (1, .int (nI p)), (2, .int (nI e)), (3, .int (nI 3)), (4, .int (nI q)), (5, .int (nI k))] [.int (nI b.toNat), .int (nI 2), .ref o] h := by
          intro b τ2 hb c1 c2 h hR
          refine t_invE (pc := 105) dX3_expr_105 hR (tc_setNumber _ 2 _ (by decide)) meX3_setNumber q2152 q2154 qs50 rfl rfl (Nat.le_of_ble_eq_true rfl) (fun h hR => ?_)
          refine g_iload_n (pc := 108) dX3_expr_108 rfl rfl ?_
          refine g_iconst (pc := 109) (v := nI 5) dX3_expr_109 rfl ?_
          refine g_icmp_neN (pc := 110) (tgt := 130) dX3_expr_110 rfl (by omega) (by omega) (fun _ => ?_) (fun q_ => absurd q_ (by omega))
          refine g_iload_n (pc := 130) dX3_expr_130 rfl rfl ?_
          refine g_iconst (pc := 131) (v := nI 4) dX3_expr_131 rfl ?_
          refine g_icmp_neN (pc := 132) (tgt := 174) dX3_expr_132 rfl (by omega) (by omega) (fun _ => ?_) (fun q_ => absurd q_ (by omega))
          refine g_iload_n (pc := 174) dX3_expr_174 rfl rfl ?_
          refine g_iconst (pc := 175) (v := nI 4) dX3_expr_175 rfl ?_
          refine g_icmp_neN (pc := 176) (tgt := 184) dX3_expr_176 rfl (by omega) (by omega) (fun _ => ?_) (fun q_ => absurd q_ (by omega))
          refine g_iload_n (pc := 184) dX3_expr_184 rfl rfl ?_
          refine g_bipush (pc := 185) (v := nI 6) dX3_expr_185 rfl ?_
          refine g_icmp_neN (pc := 187) (tgt := 220) dX3_expr_187 rfl (by omega) (by omega) (fun _ => ?_) (fun q_ => absurd q_ (by omega))
          refine t_vret (pc := 220) dX3_expr_220 hR rfl ⟨rfl, ((k1.trans (c1.mono (fun i z => z.elim))).ai (vKp_r (Or.inl rfl) (by unfold r3; decide))).ai (vKp_r (Or.inr (Or.inl rfl)) (by unfold r3; decide)), ?_⟩
          refine ⟨by show τ2.1 38 = 0; rw [c2]; exact h38a, by rw [rAI_k (by decide)]; exact rAI_s, ?_⟩
          rw [rAI_s, hb]
        refine g_iload_n (pc := 46) dX3_expr_46 rfl rfl ?_
        refine g_iconst (pc := 47) (v := nI 3) dX3_expr_47 rfl ?_
        refine g_icmp_leN (pc := 48) (tgt := 61) dX3_expr_48 rfl (by omega) (by omega) (fun _ => ?_) (fun q_ => absurd q_ (by omega))
        refine g_iload_n (pc := 61) dX3_expr_61 rfl rfl ?_
        refine g_iconst (pc := 62) (v := nI 1) dX3_expr_62 rfl ?_
        refine g_icmp_neN (pc := 63) (tgt := 70) dX3_expr_63 rfl (by omega) (by omega) (fun _ => ?_) (fun q_ => absurd q_ (by omega))
        refine g_iload_n (pc := 70) dX3_expr_70 rfl rfl ?_
        refine g_iconst (pc := 71) (v := nI 2) dX3_expr_71 rfl ?_
        refine g_icmp_neN (pc := 72) (tgt := 85) dX3_expr_72 rfl (by omega) (by omega) (fun _ => ?_) (fun q_ => absurd q_ (by omega))
        refine g_iload_n (pc := 85) dX3_expr_85 rfl rfl ?_
        refine g_iconst (pc := 86) (v := nI 3) dX3_expr_86 rfl ?_
        refine g_icmp_neN (pc := 87) (tgt := 108) dX3_expr_87 rfl (by omega) (by omega) (fun q_ => absurd q_ (by omega)) (fun _ => ?_)
        refine g_aload_n (pc := 90) dX3_expr_90 rfl rfl ?_
        refine g_iconst (pc := 91) (v := nI 2) dX3_expr_91 rfl ?_
        refine g_aload_n (pc := 92) dX3_expr_92 rfl rfl ?_
        refine g_iconst (pc := 93) (v := nI 0) dX3_expr_93 rfl ?_
        refine t_inv (pc := 94) dX3_expr_94 hR (tc_isFalse _ 0 D x (by decide) hB1.2.2.2.1 q13 g3) meX3_isFalse q2211 q2213 qs64 rfl rfl (Nat.le_of_ble_eq_true rfl) (fun u τ2 h hp hR => ?_)
        obtain ⟨rfl, c1, c2⟩ := hp
        refine g_if_eqB (pc := 97) (tgt := 104) dX3_expr_97 rfl (fun z => ?_) (fun z => ?_)
        · refine g_iconst (pc := 104) (v := nI 0) dX3_expr_104 rfl ?_
          exact num false τ2 z.symm c1 c2 h hR
        · refine g_iconst (pc := 100) (v := nI 1) dX3_expr_100 rfl ?_
          refine g_goto (pc := 101) (tgt := 105) dX3_expr_101 rfl ?_
          exact num true τ2 z.symm c1 c2 h hR
      · rw [if_neg (by omega), Bool.and_eq_true] at hv
        have hv2 : operE F e (k + 1) = some e := by simpa using hv.2
        have hk4 := operE_gt hv2
        have e4 : ¬ hn < 4 := by omega
        rw [if_neg e4]
        refine g_iload_n (pc := 46) dX3_expr_46 rfl rfl ?_
        refine g_iconst (pc := 47) (v := nI 3) dX3_expr_47 rfl ?_
        refine g_icmp_leN (pc := 48) (tgt := 61) dX3_expr_48 rfl (by omega) (by omega) (fun q_ => absurd q_ (by omega)) (fun _ => ?_)
        refine g_aload_n (pc := 51) dX3_expr_51 rfl rfl ?_
        refine g_iconst (pc := 52) (v := nI 1) dX3_expr_52 rfl ?_
        refine g_iload (pc := 53) dX3_expr_53 rfl ?_
        refine g_iconst (pc := 55) (v := nI 1) dX3_expr_55 rfl ?_
        first | refine g_iaddN (pc := 56) dX3_expr_56 ?_ | refine g_iadd (pc := 56) dX3_expr_56 ?_
        refine g_iload_n (pc := 57) dX3_expr_57 rfl rfl ?_
        refine t_inv (pc := 58) dX3_expr_58 hR (tc_operand _ 1 (k + 1) e Tm D t n f g T U C hB1 F (k1.tx.trans hFe) (by decide) he hk4 (by omega) (fun i h1 h2 => h128 i (by omega) (by omega)) hv2) meX3_operand q2148 q2150 qs49 rfl rfl (Nat.le_of_ble_eq_true rfl) (fun u τ2 h hp hR => ?_)
        obtain ⟨rfl, j1, j2, j3⟩ := hp
        show hG _ _ _ _ _ _ (tK o hin (exP D τ (hpV D hn (evO D C (lpU T U) (opO F k q)) (evO D C (lpU T U) (opO F e (k + 1)))))) _ _ _ _
        rw [hx]
        generalize hy : evO D C (lpU T U) (opO F e (k + 1)) = y at j3
        have k2 : vK r3 τ τ2 := k1.trans (j2.r3 (fun i z => by omega))
        have hB2 := hB0.keep k2 (fun r hr => r3_k hr)
        have h38b : τ2.1 38 = 0 := by rw [j1]; exact h38a
        have g3' : vR D τ2 0 x := vR.keep j2 (by decide) g3
        refine g_iload_n (pc := 61) dX3_expr_61 rfl rfl ?_
        refine g_iconst (pc := 62) (v := nI 1) dX3_expr_62 rfl ?_
        refine g_icmp_neN (pc := 63) (tgt := 70) dX3_expr_63 rfl (by omega) (by omega) (fun _ => ?_) (fun q_ => absurd q_ (by omega))
        refine g_iload_n (pc := 70) dX3_expr_70 rfl rfl ?_
        refine g_iconst (pc := 71) (v := nI 2) dX3_expr_71 rfl ?_
        refine g_icmp_neN (pc := 72) (tgt := 85) dX3_expr_72 rfl (by omega) (by omega) (fun _ => ?_) (fun q_ => absurd q_ (by omega))
        refine g_iload_n (pc := 85) dX3_expr_85 rfl rfl ?_
        refine g_iconst (pc := 86) (v := nI 3) dX3_expr_86 rfl ?_
        refine g_icmp_neN (pc := 87) (tgt := 108) dX3_expr_87 rfl (by omega) (by omega) (fun _ => ?_) (fun q_ => absurd q_ (by omega))
        refine g_iload_n (pc := 108) dX3_expr_108 rfl rfl ?_
        refine g_iconst (pc := 109) (v := nI 5) dX3_expr_109 rfl ?_
        rcases (show hn = 4 ∨ hn = 5 ∨ hn = 6 by omega) with e5 | e5 | e5
        · subst e5
          have hpe4 : hpV D 4 x y = some (adV x y) := rfl
          rw [hpe4]
          have none_ : adV x y = none → ∀ h, tH o τ2 hin h → hG Z X mX3_expr (d + 6) tS hin (tK o hin (exP D τ (some (adV x y)))) 174 [(0, .ref o), (1, .int (nI p)), (2, .int (nI e)), (3, .int (nI 4)), (4, .int (nI q)), (5, .int (nI k))] [] h := by
            intro hno h hR
            refine g_iload_n (pc := 174) dX3_expr_174 rfl rfl ?_
            refine g_iconst (pc := 175) (v := nI 4) dX3_expr_175 rfl ?_
            refine g_icmp_neN (pc := 176) (tgt := 184) dX3_expr_176 rfl (by omega) (by omega) (fun q_ => absurd q_ (by omega)) (fun _ => ?_)
            refine g_aload_n (pc := 179) dX3_expr_179 rfl rfl ?_
            refine g_iconst (pc := 180) (v := nI 2) dX3_expr_180 rfl ?_
            refine t_invE (pc := 181) dX3_expr_181 hR (tc_nothing _ 2 (by decide)) meX3_nothing q2164 q2166 qs53 rfl rfl (Nat.le_of_ble_eq_true rfl) (fun h hR => ?_)
            refine g_iload_n (pc := 184) dX3_expr_184 rfl rfl ?_
            refine g_bipush (pc := 185) (v := nI 6) dX3_expr_185 rfl ?_
            refine g_icmp_neN (pc := 187) (tgt := 220) dX3_expr_187 rfl (by omega) (by omega) (fun _ => ?_) (fun q_ => absurd q_ (by omega))
            rw [hno]
            refine t_vret (pc := 220) dX3_expr_220 hR rfl ⟨rfl, k2.ai (vKp_r (Or.inl rfl) (by unfold r3; decide)), h38b, rAI_s⟩
          refine g_icmp_neN (pc := 110) (tgt := 130) dX3_expr_110 rfl (by omega) (by omega) (fun _ => ?_) (fun q_ => absurd q_ (by omega))
          refine g_iload_n (pc := 130) dX3_expr_130 rfl rfl ?_
          refine g_iconst (pc := 131) (v := nI 4) dX3_expr_131 rfl ?_
          refine g_icmp_neN (pc := 132) (tgt := 174) dX3_expr_132 rfl (by omega) (by omega) (fun q_ => absurd q_ (by omega)) (fun _ => ?_)
          refine g_aload_n (pc := 135) dX3_expr_135 rfl rfl ?_
          refine t_get (pc := 136) (v := .ref (tAd _ 26)) 26 dX3_expr_136 hR rfl q1825 (Nat.le_of_ble_eq_true rfl) rfl rfl ?_
          refine g_iconst (pc := 139) (v := nI 0) dX3_expr_139 rfl ?_
          refine t_ialdI (pc := 140) dX3_expr_140 hR rfl (by decide) rfl (by decide) (by show _ < 18; omega) ?_
          rcases g3'.num with ⟨m1, kx, rfl, m2⟩ | ⟨m1, m2⟩
          · rw [m1]
            refine g_if_neN (pc := 141) (tgt := 174) dX3_expr_141 rfl (by omega) (fun q_ => absurd q_ (by omega)) (fun _ => ?_)
            refine g_aload_n (pc := 144) dX3_expr_144 rfl rfl ?_
            refine t_get (pc := 145) (v := .ref (tAd _ 26)) 26 dX3_expr_145 hR rfl q1825 (Nat.le_of_ble_eq_true rfl) rfl rfl ?_
            refine g_iconst (pc := 148) (v := nI 1) dX3_expr_148 rfl ?_
            refine t_ialdI (pc := 149) dX3_expr_149 hR rfl (by decide) rfl (by decide) (by show _ < 18; omega) ?_
            rcases j3.num with ⟨l1, ky, rfl, l2⟩ | ⟨l1, l2⟩
            · rw [l1]
              refine g_if_neN (pc := 150) (tgt := 174) dX3_expr_150 rfl (by omega) (fun q_ => absurd q_ (by omega)) (fun _ => ?_)
              refine g_aload_n (pc := 153) dX3_expr_153 rfl rfl ?_
              refine g_iconst (pc := 154) (v := nI 2) dX3_expr_154 rfl ?_
              refine g_aload_n (pc := 155) dX3_expr_155 rfl rfl ?_
              refine t_get (pc := 156) (v := .ref (tAd _ 27)) 27 dX3_expr_156 hR rfl q1826 (Nat.le_of_ble_eq_true rfl) rfl rfl ?_
              refine g_iconst (pc := 159) (v := nI 0) dX3_expr_159 rfl ?_
              refine t_ialdI (pc := 160) dX3_expr_160 hR rfl (by decide) rfl (by decide) (by show _ < 18; omega) ?_
              rw [m2]
              refine g_aload_n (pc := 161) dX3_expr_161 rfl rfl ?_
              refine t_get (pc := 162) (v := .ref (tAd _ 27)) 27 dX3_expr_162 hR rfl q1826 (Nat.le_of_ble_eq_true rfl) rfl rfl ?_
              refine g_iconst (pc := 165) (v := nI 1) dX3_expr_165 rfl ?_
              refine t_ialdI (pc := 166) dX3_expr_166 hR rfl (by decide) rfl (by decide) (by show _ < 18; omega) ?_
              rw [l2]
              refine g_iadd (pc := 167) dX3_expr_167 ?_
              refine t_invE (pc := 168) dX3_expr_168 hR (tc_setNumber _ 2 _ (by decide)) meX3_setNumber q2152 q2154 qs50 rfl rfl (Nat.le_of_ble_eq_true rfl) (fun h hR => ?_)
              refine g_goto (pc := 171) (tgt := 184) dX3_expr_171 rfl ?_
              refine g_iload_n (pc := 184) dX3_expr_184 rfl rfl ?_
              refine g_bipush (pc := 185) (v := nI 6) dX3_expr_185 rfl ?_
              refine g_icmp_neN (pc := 187) (tgt := 220) dX3_expr_187 rfl (by omega) (by omega) (fun _ => ?_) (fun q_ => absurd q_ (by omega))
              refine t_vret (pc := 220) dX3_expr_220 hR rfl ⟨rfl, (k2.ai (vKp_r (Or.inl rfl) (by unfold r3; decide))).ai (vKp_r (Or.inr (Or.inl rfl)) (by unfold r3; decide)), h38b, ?_, rAI_s⟩
              rw [rAI_k (by decide)]; exact rAI_s
            · refine g_if_ne (pc := 150) (tgt := 174) dX3_expr_150 rfl (fun _ => ?_) (fun z => absurd z l1)
              refine none_ ?_ h hR
              rcases y with _ | v | w
              · rfl
              · exact absurd rfl (l2 v)
              · rfl
          · refine g_if_ne (pc := 141) (tgt := 174) dX3_expr_141 rfl (fun _ => ?_) (fun z => absurd z m1)
            refine none_ ?_ h hR
            rcases x with _ | v | w
            · rfl
            · exact absurd rfl (m2 v)
            · rfl
        · subst e5
          have hpe5 : hpV D 5 x y = (if (shw D x).length ≤ 400 ∧ (shw D y).length ≤ 400 then some (some (.inl (nI (decide (shw D x = shw D y)).toNat))) else none) := rfl
          have num : ∀ (b : Bool) (τ3 : tT), vK (fun i => i = 2) τ2 τ3 → τ3.1 38 = (if 400 < (shw D x).length ∨ 400 < (shw D y).length then 4 else 0) → ((shw D x).length ≤ 400 → (shw D y).length ≤ 400 → b = decide (shw D x = shw D y)) → ∀ h, tH o τ3 hin h → hG Z X mX3_expr (d + 6) tS hin (tK o hin (exP D τ (hpV D 5 x y))) 127 [(0, .ref o), (1, .int (nI p)), (2, .int (nI e)), (3, .int (nI 5)), (4, .int (nI q)), (5, .int (nI k))] [.int (nI b.toNat), .int (nI 2), .ref o] h := by
            intro b τ3 c1 c2 c3 h hR
            refine t_invE (pc := 127) dX3_expr_127 hR (tc_setNumber _ 2 _ (by decide)) meX3_setNumber q2152 q2154 qs50 rfl rfl (Nat.le_of_ble_eq_true rfl) (fun h hR => ?_)
            refine g_iload_n (pc := 130) dX3_expr_130 rfl rfl ?_
            refine g_iconst (pc := 131) (v := nI 4) dX3_expr_131 rfl ?_
            refine g_icmp_neN (pc := 132) (tgt := 174) dX3_expr_132 rfl (by omega) (by omega) (fun _ => ?_) (fun q_ => absurd q_ (by omega))
            refine g_iload_n (pc := 174) dX3_expr_174 rfl rfl ?_
            refine g_iconst (pc := 175) (v := nI 4) dX3_expr_175 rfl ?_
            refine g_icmp_neN (pc := 176) (tgt := 184) dX3_expr_176 rfl (by omega) (by omega) (fun _ => ?_) (fun q_ => absurd q_ (by omega))
            refine g_iload_n (pc := 184) dX3_expr_184 rfl rfl ?_
            refine g_bipush (pc := 185) (v := nI 6) dX3_expr_185 rfl ?_
            refine g_icmp_neN (pc := 187) (tgt := 220) dX3_expr_187 rfl (by omega) (by omega) (fun _ => ?_) (fun q_ => absurd q_ (by omega))
            refine t_vret (pc := 220) dX3_expr_220 hR rfl ⟨rfl, ((k2.trans (c1.r3 (fun i z => by omega))).ai (vKp_r (Or.inl rfl) (by unfold r3; decide))).ai (vKp_r (Or.inr (Or.inl rfl)) (by unfold r3; decide)), ?_⟩
            rw [hpe5]
            by_cases z : (shw D x).length ≤ 400 ∧ (shw D y).length ≤ 400
            · rw [if_pos z]
              refine ⟨?_, by rw [rAI_k (by decide)]; exact rAI_s, ?_⟩
              · show τ3.1 38 = 0
                rw [c2, if_neg (by omega)]
              · rw [rAI_s, c3 z.1 z.2]
            · rw [if_neg z]
              show τ3.1 38 = 4
              rw [c2, if_pos (by omega)]
          refine g_icmp_neN (pc := 110) (tgt := 130) dX3_expr_110 rfl (by omega) (by omega) (fun q_ => absurd q_ (by omega)) (fun _ => ?_)
          refine g_aload_n (pc := 113) dX3_expr_113 rfl rfl ?_
          refine g_iconst (pc := 114) (v := nI 2) dX3_expr_114 rfl ?_
          refine g_aload_n (pc := 115) dX3_expr_115 rfl rfl ?_
          refine t_inv (pc := 116) dX3_expr_116 hR (tc_alike _ D x y hB2.2.2.2.1 q13 g3' j3 h38b) meX3_alike q2215 q2217 qs65 rfl rfl (Nat.le_of_ble_eq_true rfl) (fun u τ3 h hp hR => ?_)
          obtain ⟨b, rfl, c1, c2, c3⟩ := hp
          refine g_if_eqB (pc := 119) (tgt := 126) dX3_expr_119 rfl (fun z => ?_) (fun z => ?_)
          · refine g_iconst (pc := 126) (v := nI 0) dX3_expr_126 rfl ?_
            subst z
            exact num false τ3 c1 c2 c3 h hR
          · refine g_iconst (pc := 122) (v := nI 1) dX3_expr_122 rfl ?_
            refine g_goto (pc := 123) (tgt := 127) dX3_expr_123 rfl ?_
            subst z
            exact num true τ3 c1 c2 c3 h hR
        · subst e5
          have hpe6 : hpV D 6 x y = some (atV D x y) := rfl
          rw [hpe6]
          refine g_icmp_neN (pc := 110) (tgt := 130) dX3_expr_110 rfl (by omega) (by omega) (fun _ => ?_) (fun q_ => absurd q_ (by omega))
          refine g_iload_n (pc := 130) dX3_expr_130 rfl rfl ?_
          refine g_iconst (pc := 131) (v := nI 4) dX3_expr_131 rfl ?_
          refine g_icmp_neN (pc := 132) (tgt := 174) dX3_expr_132 rfl (by omega) (by omega) (fun _ => ?_) (fun q_ => absurd q_ (by omega))
          refine g_iload_n (pc := 174) dX3_expr_174 rfl rfl ?_
          refine g_iconst (pc := 175) (v := nI 4) dX3_expr_175 rfl ?_
          refine g_icmp_neN (pc := 176) (tgt := 184) dX3_expr_176 rfl (by omega) (by omega) (fun _ => ?_) (fun q_ => absurd q_ (by omega))
          refine g_iload_n (pc := 184) dX3_expr_184 rfl rfl ?_
          refine g_bipush (pc := 185) (v := nI 6) dX3_expr_185 rfl ?_
          refine g_icmp_neN (pc := 187) (tgt := 220) dX3_expr_187 rfl (by omega) (by omega) (fun q_ => absurd q_ (by omega)) (fun _ => ?_)
          refine g_aload_n (pc := 190) dX3_expr_190 rfl rfl ?_
          refine g_iconst (pc := 191) (v := nI 2) dX3_expr_191 rfl ?_
          refine g_iconst (pc := 192) (v := nI 0) dX3_expr_192 rfl ?_
          refine t_inv (pc := 193) dX3_expr_193 hR (tc_copy _ 2 0 D x (by decide) (by decide) (by decide) g3') meX3_copy q2168 q2170 qs54 rfl rfl (Nat.le_of_ble_eq_true rfl) (fun u τ3 h hp hR => ?_)
          obtain ⟨rfl, c1, c2, c3⟩ := hp
          have k3 : vK r3 τ τ3 := k2.trans (c2.r3 (fun i z => by omega))
          have hB3 := hB0.keep k3 (fun r hr => r3_k hr)
          have j3' : vR D τ3 1 y := vR.keep c2 (by decide) j3
          have el : ∀ (w : Int32), elV D x w = atV D x y → ∀ h, tH o τ3 hin h → hG Z X mX3_expr (d + 6) tS hin (tK o hin (exP D τ (some (atV D x y)))) 217 [(0, .ref o), (1, .int (nI p)), (2, .int (nI e)), (3, .int (nI 6)), (4, .int (nI q)), (5, .int (nI k))] [.int w, .int (nI 2), .ref o] h := by
            intro w hw h hR
            refine t_inv (pc := 217) dX3_expr_217 hR (tc_element _ 2 w D x (by decide) hB3.2.2.2.1 c3) meX3_element q2176 q2178 qs56 rfl rfl (Nat.le_of_ble_eq_true rfl) (fun u τ4 h hp hR => ?_)
            obtain ⟨rfl, b1, b2, b3⟩ := hp
            exact t_vret (pc := 220) dX3_expr_220 hR rfl (⟨rfl, k3.trans (b2.r3 (fun i z => by omega)), by rw [b1, c1]; exact h38b, by rw [← hw]; exact b3⟩)
          refine g_aload_n (pc := 196) dX3_expr_196 rfl rfl ?_
          refine g_iconst (pc := 197) (v := nI 2) dX3_expr_197 rfl ?_
          refine g_aload_n (pc := 198) dX3_expr_198 rfl rfl ?_
          refine t_get (pc := 199) (v := .ref (tAd _ 26)) 26 dX3_expr_199 hR rfl q1825 (Nat.le_of_ble_eq_true rfl) rfl rfl ?_
          refine g_iconst (pc := 202) (v := nI 1) dX3_expr_202 rfl ?_
          refine t_ialdI (pc := 203) dX3_expr_203 hR rfl (by decide) rfl (by decide) (by show _ < 18; omega) ?_
          rcases j3'.num with ⟨m1, ky, rfl, m2⟩ | ⟨m1, m2⟩
          · rw [m1]
            refine g_if_neN (pc := 204) (tgt := 216) dX3_expr_204 rfl (by omega) (fun q_ => absurd q_ (by omega)) (fun _ => ?_)
            refine g_aload_n (pc := 207) dX3_expr_207 rfl rfl ?_
            refine t_get (pc := 208) (v := .ref (tAd _ 27)) 27 dX3_expr_208 hR rfl q1826 (Nat.le_of_ble_eq_true rfl) rfl rfl ?_
            refine g_iconst (pc := 211) (v := nI 1) dX3_expr_211 rfl ?_
            refine t_ialdI (pc := 212) dX3_expr_212 hR rfl (by decide) rfl (by decide) (by show _ < 18; omega) ?_
            rw [m2]
            refine g_goto (pc := 213) (tgt := 217) dX3_expr_213 rfl ?_
            exact el ky rfl h hR
          · refine g_if_ne (pc := 204) (tgt := 216) dX3_expr_204 rfl (fun _ => ?_) (fun z => absurd z m1)
            refine g_iconst (pc := 216) (v := (-1)) dX3_expr_216 rfl ?_
            refine el (-1) ?_ h hR
            have ha : atV D x y = none := by
              unfold atV
              split
              · rename_i ky; exact absurd rfl (m2 ky)
              · rfl
            rw [ha]
            unfold elV
            split
            · rw [if_neg (by intro z; exact absurd z.2.1 (by decide))]
            · rfl
end TW21
