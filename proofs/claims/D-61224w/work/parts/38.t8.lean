/-! TWIN 8: takeApart -/
set_option maxRecDepth 100000
section TW8
variable {Z : hE} {o : Nat} {τ : tT}
def taP (τ : tT) (n : Nat) (f : Nat → Nat) (x : Option Nat × Nat × tTb) (r : Option Value) (τ' : tT) : Prop :=
  r = some (.int (oI x.1)) ∧ tA4 τ τ' ∧ (∀ i, τ'.2.2.1 14 i < 65536) ∧ (∀ k, x.1 = some k → k < n) ∧ (x.1 = none → tTa τ' 4 x.2.1 x.2.2 ∧ τ'.2.2.1 16 4 = x.2.1 ∧ (∀ i, i < n → τ'.2.2.1 14 (800 + i) = f i) ∧ ∃ p, p ≤ n ∧ tTok n x.2.1 p x.2.2 ∧ 4 * x.2.1 ≤ p)
/-- what is kept: at the machine's state s -/
def taR (τ : tT) (n : Nat) (f : Nat → Nat) (s : tPs) (τc : tT) : Prop :=
  tA4 τ τc ∧ (∀ i, τc.2.2.1 14 i < 65536) ∧ (∀ i, i < n → τc.2.2.1 14 (800 + i) = f i) ∧ tTa τc 4 s.2.1 s.2.2.2 ∧ tOp τc s.2.2.1
theorem tc_takeApart (d n m : Nat) (f : Nat → Nat) (x : Option Nat × Nat × tTb) (hn : τ.1 2 = n) (hn2 : n ≤ 180) (hf : ∀ i, i < n → τ.2.2.1 7 i = f i) (hf2 : ∀ i, i < n → f i < 65536) (ht : ∀ i, τ.2.2.1 14 i < 65536) (hx : tpI f n m tP0 = .inr x) : tC Z mX3_takeApart (d + 7) o [.ref o] τ (taP τ n f x) := by
  refine tC.of rfl rfl (Nat.le_of_ble_eq_true rfl) rfl (fun X hin h hR => ?_)
  have main : ∀ (m : Nat) (s : tPs) (τc : tT), tInv n s → tpI f n m s = .inr x → taR τ n f s τc → ∀ h, tH o τc hin h → hG Z X mX3_takeApart (d + 7) tS hin (tK o hin (taP τ n f x)) 56 [(0, .ref o), (1, .int (nI (800 + s.1))), (2, .int (nI (800 + n))), (3, .int (nI s.2.2.1.length)), (4, .int (nI (200 + s.2.1)))] [] h := by
    intro m
    induction m with
    | zero =>
      intro s τc hi hq _ h hR
      cases hq
    | succ m ih =>
      intro s τc hi hq hc h hR
      obtain ⟨c1, c2, c3, c4, c5⟩ := hc
      obtain ⟨p, g, S, T⟩ := s
      dsimp only at *
      have hi' := hi
      obtain ⟨i1, i2, i3, i4, i5⟩ := hi'
      dsimp only at i1 i2 i3 i4 i5
      refine g_aload_n (pc := 56) dX3_takeApart_56 rfl rfl ?_
      refine g_iload_n (pc := 57) dX3_takeApart_57 rfl rfl ?_
      refine g_iload_n (pc := 58) dX3_takeApart_58 rfl rfl ?_
      refine g_iload (pc := 59) dX3_takeApart_59 rfl ?_
      refine t_inv (pc := 61) dX3_takeApart_61 hR (tc_takeTag d (800 + p) (800 + n) (200 + g) (by omega) (by omega) (by omega) (by omega) rfl c2) meX3_takeTag q2022 q2024 qs25 rfl rfl (Nat.le_of_ble_eq_true rfl) (fun v τ0 h hp hR => ?_)
      rw [tkT_sh c3] at hp
      cases hk : tkT f n p with
      | none =>
        rw [hk] at hp
        obtain ⟨rfl, e0⟩ := hp
        rw [e0] at hR
        clear e0
        rw [tpI_inr (tpS_none hk)] at hq
        cases hq
        refine g_istore (pc := 64) (ls' := [(0, _), (1, _), (2, _), (3, _), (4, _), (5, _)]) dX3_takeApart_64 (Nat.le_of_ble_eq_true rfl) rfl ?_
        refine g_iload (pc := 66) dX3_takeApart_66 rfl ?_
        refine g_if_geN (pc := 68) (tgt := 83) dX3_takeApart_68 rfl (by omega) ?_
        refine g_iload (pc := 83) dX3_takeApart_83 rfl ?_
        refine g_if_neN (pc := 85) (tgt := 91) dX3_takeApart_85 rfl (by omega) (fun q1 => ?_) (fun q1 => ?_)
        · exact absurd q1 (by decide)
        · refine g_goto (pc := 88) (tgt := 129) dX3_takeApart_88 rfl ?_
          refine g_aload_n (pc := 129) dX3_takeApart_129 rfl rfl ?_
          refine t_get (pc := 130) (v := .ref (tAd _ 16)) 16 dX3_takeApart_130 hR rfl q1815 (Nat.le_of_ble_eq_true rfl) rfl rfl ?_
          refine g_iconst (pc := 133) (v := nI 4) dX3_takeApart_133 rfl ?_
          refine g_iload (pc := 134) dX3_takeApart_134 rfl ?_
          refine g_sipush (pc := 136) (v := nI 200) dX3_takeApart_136 rfl ?_
          first | refine g_isubN (pc := 139) dX3_takeApart_139 (by omega) ?_ | refine g_isub (pc := 139) dX3_takeApart_139 ?_
          rw [show 200 + g - 200 = g by omega]
          refine t_iast (pc := 140) dX3_takeApart_140 hR rfl (by decide) rfl (by decide) (by show _ < 5; omega) (fun h hR => ?_)
          refine g_iload_n (pc := 141) dX3_takeApart_141 rfl rfl ?_
          cases S with
          | nil =>
            refine g_if_leN (pc := 142) (tgt := 165) dX3_takeApart_142 rfl (by omega) (fun q2 => ?_) (fun q2 => ?_)
            · refine g_iconst (pc := 165) (v := (-1)) dX3_takeApart_165 rfl ?_
              exact t_iret (pc := 166) dX3_takeApart_166 hR rfl (⟨rfl, tA4.an c1 (by unfold tA4k; omega), c2, (fun k z => by cases z), fun _ => ⟨c4, up2_s τc.2.2.1 16 4 g, c3, p, i1, i5, i2⟩⟩)
            · exact absurd q2 (by decide)
          | cons b S' =>
            have hop : τc.2.2.1 25 S'.length = 200 + b := c5.1
            have hb := i3 b List.mem_cons_self
            have hbb : τc.2.2.1 18 (200 + b) = 800 + (T.1 b).1 := (c4 b hb).1
            have hbk := i5.1 b hb
            unfold tgOK at hbk
            have hl2 : S'.length + 1 ≤ 4 := i4
            rw [show (b :: S').length = S'.length + 1 from rfl]
            refine g_if_leN (pc := 142) (tgt := 165) dX3_takeApart_142 rfl (by omega) (fun q2 => ?_) (fun q2 => ?_)
            · exact absurd q2 (by omega)
            · refine g_aload_n (pc := 145) dX3_takeApart_145 rfl rfl ?_
              refine t_get (pc := 146) (v := .ref (tAd _ 18)) 18 dX3_takeApart_146 hR rfl q1817 (Nat.le_of_ble_eq_true rfl) rfl rfl ?_
              refine g_aload_n (pc := 149) dX3_takeApart_149 rfl rfl ?_
              refine t_get (pc := 150) (v := .ref (tAd _ 25)) 25 dX3_takeApart_150 hR rfl q1824 (Nat.le_of_ble_eq_true rfl) rfl rfl ?_
              refine g_iload_n (pc := 153) dX3_takeApart_153 rfl rfl ?_
              refine g_iconst (pc := 154) (v := nI 1) dX3_takeApart_154 rfl ?_
              first | refine g_isubN (pc := 155) dX3_takeApart_155 (by omega) ?_ | refine g_isub (pc := 155) dX3_takeApart_155 ?_
              rw [show S'.length + 1 - 1 = S'.length by omega]
              refine t_iald (pc := 156) (k := 25) dX3_takeApart_156 hR rfl (by decide) rfl (by decide) (by show _ < 4; omega) ?_
              rw [show (tAN τc 16 4 g).2.2.1 25 S'.length = 200 + b from hop]
              refine t_iald (pc := 157) (k := 18) dX3_takeApart_157 hR rfl (by decide) rfl (by decide) (by show _ < 250; omega) ?_
              rw [show (tAN τc 16 4 g).2.2.1 18 (200 + b) = 800 + (T.1 b).1 from hbb]
              refine g_sipush (pc := 158) (v := nI 800) dX3_takeApart_158 rfl ?_
              first | refine g_isubN (pc := 161) dX3_takeApart_161 (by omega) ?_ | refine g_isub (pc := 161) dX3_takeApart_161 ?_
              refine g_goto (pc := 162) (tgt := 166) dX3_takeApart_162 rfl ?_
              rw [show 800 + (T.1 b).1 - 800 = (T.1 b).1 by omega]
              exact t_iret (pc := 166) dX3_takeApart_166 hR rfl (⟨rfl, tA4.an c1 (by unfold tA4k; omega), c2, (fun k z => by cases z; show (T.1 b).1 < n; omega), (fun z => by cases z)⟩)
      | some y =>
        rw [hk] at hp
        cases y with
        | inl k =>
          obtain ⟨rfl, a4, h14, hb⟩ := hp
          rw [tpI_inr (tpS_fl hk)] at hq
          cases hq
          have hkn := tkT_fl hk
          refine g_istore (pc := 64) (ls' := [(0, _), (1, _), (2, _), (3, _), (4, _), (5, _)]) dX3_takeApart_64 (Nat.le_of_ble_eq_true rfl) rfl ?_
          refine g_iload (pc := 66) dX3_takeApart_66 rfl ?_
          refine g_if_ge (pc := 68) (tgt := 83) dX3_takeApart_68 rfl (fun c => absurd c (by decide)) (fun _ => ?_)
          refine g_aload_n (pc := 71) dX3_takeApart_71 rfl rfl ?_
          refine t_get (pc := 72) (v := .ref (tAd _ 18)) 18 dX3_takeApart_72 hR rfl q1817 (Nat.le_of_ble_eq_true rfl) rfl rfl ?_
          refine g_iload (pc := 75) dX3_takeApart_75 rfl ?_
          refine t_iald (pc := 77) dX3_takeApart_77 hR rfl (by decide) rfl (by decide) (by show _ < 250; omega) ?_
          rw [hb]
          refine g_sipush (pc := 78) (v := nI 800) dX3_takeApart_78 rfl ?_
          first | refine g_isubN (pc := 81) dX3_takeApart_81 (by omega) ?_ | refine g_isub (pc := 81) dX3_takeApart_81 ?_
          rw [show 800 + k - 800 = k by omega]
          exact t_iret (pc := 82) dX3_takeApart_82 hR rfl (⟨rfl, c1.trans a4, (by rw [h14]; exact c2), (fun k' z => by cases z; exact hkn.2), (fun z => by cases z)⟩)
        | inr t =>
          obtain ⟨rfl, e0⟩ := hp
          obtain ⟨k1, k2⟩ := tkT_ok hk
          have k3 := k2
          unfold tgOK at k3
          have hT1 := tTa_Sg (t := t) c4
          have hok := tTok_new i5 k1 k2
          have a4 : tA4 τc (tSg τc (200 + g) (800 + t.1) (800 + t.2.1) (800 + t.2.2.1) (800 + t.2.2.2.1) (nI t.2.2.2.2)) := tSg_A4 (by omega)
          generalize hτ1 : tSg τc (200 + g) (800 + t.1) (800 + t.2.1) (800 + t.2.2.1) (800 + t.2.2.2.1) (nI t.2.2.2.2) = τ1 at hT1 a4
          have hR : tH o τ1 hin h := by rw [← hτ1]; rw [e0] at hR; exact hR
          have h14 : τ1.2.2.1 14 = τc.2.2.1 14 := by rw [← hτ1]; rfl
          have hop : tOp τ1 S := by rw [← hτ1]; exact tOp_same (τ := τc) (fun i hi => rfl) c5
          have hbg : τ1.2.2.1 18 (200 + g) = 800 + t.1 := (hT1 g (by omega)).1.trans (by show 200 * 4 + (upO T.1 g t g).1 = _; rw [upO_s])
          have hyg : τ1.2.2.1 19 (200 + g) = 800 + t.2.2.2.1 := (hT1 g (by omega)).2.2.2.1.trans (by show 200 * 4 + (upO T.1 g t g).2.2.2.1 = _; rw [upO_s])
          refine g_istore (pc := 64) (ls' := [(0, _), (1, _), (2, _), (3, _), (4, _), (5, _)]) dX3_takeApart_64 (Nat.le_of_ble_eq_true rfl) rfl ?_
          refine g_iload (pc := 66) dX3_takeApart_66 rfl ?_
          refine g_if_geN (pc := 68) (tgt := 83) dX3_takeApart_68 rfl (by omega) ?_
          refine g_iload (pc := 83) dX3_takeApart_83 rfl ?_
          refine g_if_neN (pc := 85) (tgt := 91) dX3_takeApart_85 rfl (by omega) (fun q1 => ?_) (fun q1 => ?_)
          · refine g_aload_n (pc := 91) dX3_takeApart_91 rfl rfl ?_
            refine g_iload (pc := 92) dX3_takeApart_92 rfl ?_
            refine g_iload_n (pc := 94) dX3_takeApart_94 rfl rfl ?_
            refine t_inv (pc := 95) dX3_takeApart_95 hR (tc_fit _ g _ S (by omega) hT1 hop i3 i4 hok.2.2.2.2.2 (fun j m z => by have := hok.2.2.2.1 j m z; omega)) meX3_fit q2088 q2090 qs36 rfl rfl (Nat.le_of_ble_eq_true rfl) (fun v τ2 h hp hR => ?_)
            obtain ⟨b4, b18, b19, b14, hp⟩ := hp
            cases hft : fitT (upO T.1 g t, upO T.2.1 g none, upO T.2.2 g none) g S with
            | none =>
              rw [hft] at hp
              subst hp
              rw [tpI_inr (tpS_no hk hft)] at hq
              cases hq
              refine g_istore_n (pc := 98) (ls' := [(0, _), (1, _), (2, _), (3, _), (4, _), (5, _)]) dX3_takeApart_98 rfl (Nat.le_of_ble_eq_true rfl) rfl ?_
              refine g_iload_n (pc := 99) dX3_takeApart_99 rfl rfl ?_
              refine g_if_ge (pc := 100) (tgt := 115) dX3_takeApart_100 rfl (fun c => absurd c (by decide)) (fun _ => ?_)
              refine g_aload_n (pc := 103) dX3_takeApart_103 rfl rfl ?_
              refine t_get (pc := 104) (v := .ref (tAd _ 18)) 18 dX3_takeApart_104 hR rfl q1817 (Nat.le_of_ble_eq_true rfl) rfl rfl ?_
              refine g_iload (pc := 107) dX3_takeApart_107 rfl ?_
              refine t_iald (pc := 109) dX3_takeApart_109 hR rfl (by decide) rfl (by decide) (by show _ < 250; omega) ?_
              rw [b18, hbg]
              refine g_sipush (pc := 110) (v := nI 800) dX3_takeApart_110 rfl ?_
              first | refine g_isubN (pc := 113) dX3_takeApart_113 (by omega) ?_ | refine g_isub (pc := 113) dX3_takeApart_113 ?_
              rw [show 800 + t.1 - 800 = t.1 by omega]
              exact t_iret (pc := 114) dX3_takeApart_114 hR rfl (⟨rfl, (c1.trans a4).trans b4, (by rw [b14, h14]; exact c2), (fun k' z => by cases z; show t.1 < n; omega), (fun z => by cases z)⟩)
            | some y =>
              obtain ⟨S', T'⟩ := y
              rw [hft] at hp
              obtain ⟨rfl, b5, b6⟩ := hp
              rw [tpI_inl (tpS_tg hk hft)] at hq
              have hi2 := tInv_step hi (tpS_tg hk hft)
              have hl' := hi2.2.2.2.1
              dsimp only at hl'
              refine g_istore_n (pc := 98) (ls' := [(0, _), (1, _), (2, _), (3, _), (4, _), (5, _)]) dX3_takeApart_98 rfl (Nat.le_of_ble_eq_true rfl) rfl ?_
              refine g_iload_n (pc := 99) dX3_takeApart_99 rfl rfl ?_
              refine g_if_geN (pc := 100) (tgt := 115) dX3_takeApart_100 rfl (by omega) ?_
              refine g_aload_n (pc := 115) dX3_takeApart_115 rfl rfl ?_
              refine t_get (pc := 116) (v := .ref (tAd _ 19)) 19 dX3_takeApart_116 hR rfl q1818 (Nat.le_of_ble_eq_true rfl) rfl rfl ?_
              refine g_iload (pc := 119) dX3_takeApart_119 rfl ?_
              refine t_iald (pc := 121) dX3_takeApart_121 hR rfl (by decide) rfl (by decide) (by show _ < 250; omega) ?_
              rw [b19, hyg]
              refine g_istore_n (pc := 122) (ls' := [(0, _), (1, _), (2, _), (3, _), (4, _), (5, _)]) dX3_takeApart_122 rfl (Nat.le_of_ble_eq_true rfl) rfl ?_
              refine g_iincN (pc := 123) (k0 := 1) (ls' := [(0, _), (1, _), (2, _), (3, _), (4, _), (5, _)]) dX3_takeApart_123 rfl (Nat.le_of_ble_eq_true rfl) rfl ?_
              refine g_goto (pc := 126) (tgt := 56) dX3_takeApart_126 rfl ?_
              refine g_drop [0, 1, 2, 3, 4] rfl ?_
              exact ih (t.2.2.2.1, g + 1, S', T') τ2 hi2 hq ⟨(c1.trans a4).trans b4, (by rw [b14, h14]; exact c2), (by rw [b14, h14]; exact c3), b5, b6⟩ h hR
          · exact absurd q1 (by decide)
  have copy : ∀ (j k : Nat) (τc : tT), k + j = n → tA4 τ τc → (∀ i, τc.2.2.1 14 i < 65536) → (∀ i, i < k → τc.2.2.1 14 (800 + i) = f i) → ∀ h, tH o τc hin h → hG Z X mX3_takeApart (d + 7) tS hin (tK o hin (taP τ n f x)) 23 [(0, .ref o), (1, .int (nI 800)), (2, .int (nI (800 + n))), (3, .int (nI 0)), (4, .int (nI 200)), (5, .int (nI k))] [] h := by
    intro j
    induction j with
    | zero =>
      intro k τc hk a4 c2 c3 h hR
      have hty : τc.1 2 = n := by rw [a4.1]; exact hn
      refine g_iload (pc := 23) dX3_takeApart_23 rfl ?_
      refine g_aload_n (pc := 25) dX3_takeApart_25 rfl rfl ?_
      refine t_get (pc := 26) (v := .int (nI _)) 2 dX3_takeApart_26 hR rfl q1801 (Nat.le_of_ble_eq_true rfl) rfl rfl ?_
      rw [hty]
      refine g_icmp_geN (pc := 29) (tgt := 56) dX3_takeApart_29 rfl (by omega) (by omega) (fun q => ?_) (fun q => ?_)
      · refine g_drop [0, 1, 2, 3, 4] rfl ?_
        exact main m tP0 τc (tInv_0 n) hx ⟨a4, c2, fun i hi => c3 i (by omega), fun g hg => absurd hg (Nat.not_lt_zero _), trivial⟩ h hR
      · exact absurd q (by omega)
    | succ j ih =>
      intro k τc hk a4 c2 c3 h hR
      have hty : τc.1 2 = n := by rw [a4.1]; exact hn
      have hln : τc.2.2.1 7 k = f k := by rw [(a4.2.2.2 7 k (by unfold tA4k; omega)).1]; exact hf k (by omega)
      have hfk := hf2 k (by omega)
      refine g_iload (pc := 23) dX3_takeApart_23 rfl ?_
      refine g_aload_n (pc := 25) dX3_takeApart_25 rfl rfl ?_
      refine t_get (pc := 26) (v := .int (nI _)) 2 dX3_takeApart_26 hR rfl q1801 (Nat.le_of_ble_eq_true rfl) rfl rfl ?_
      rw [hty]
      refine g_icmp_geN (pc := 29) (tgt := 56) dX3_takeApart_29 rfl (by omega) (by omega) (fun q => ?_) (fun q => ?_)
      · exact absurd q (by omega)
      · refine g_aload_n (pc := 32) dX3_takeApart_32 rfl rfl ?_
        refine t_get (pc := 33) (v := .ref (tAd _ 14)) 14 dX3_takeApart_33 hR rfl q1813 (Nat.le_of_ble_eq_true rfl) rfl rfl ?_
        refine g_sipush (pc := 36) (v := nI 800) dX3_takeApart_36 rfl ?_
        refine g_iload (pc := 39) dX3_takeApart_39 rfl ?_
        first | refine g_iaddN (pc := 41) dX3_takeApart_41 ?_ | refine g_iadd (pc := 41) dX3_takeApart_41 ?_
        refine g_aload_n (pc := 42) dX3_takeApart_42 rfl rfl ?_
        refine t_get (pc := 43) (v := .ref (tAd _ 7)) 7 dX3_takeApart_43 hR rfl q1806 (Nat.le_of_ble_eq_true rfl) rfl rfl ?_
        refine g_iload (pc := 46) dX3_takeApart_46 rfl ?_
        refine t_cald (pc := 48) dX3_takeApart_48 hR rfl (by decide) rfl (by decide) (by show _ < 200; omega) ?_
        rw [hln]
        refine t_cast (pc := 49) dX3_takeApart_49 hR rfl (by decide) rfl (by decide) (by show _ < 1000; omega) (by omega) (fun h hR => ?_)
        refine g_iincN (pc := 50) (k0 := 1) (ls' := [(0, _), (1, _), (2, _), (3, _), (4, _), (5, _)]) dX3_takeApart_50 rfl (Nat.le_of_ble_eq_true rfl) rfl ?_
        refine g_goto (pc := 53) (tgt := 23) dX3_takeApart_53 rfl ?_
        refine ih (k + 1) _ (by omega) (tA4.an a4 (by unfold tA4k; omega)) (fun i => ?_) (fun i hi => ?_) h hR
        · show up2 τc.2.2.1 14 (800 + k) (f k) 14 i < 65536
          by_cases e : i = 800 + k
          · rw [e, up2_s]; exact hfk
          · rw [up2_i e]; exact c2 i
        · show up2 τc.2.2.1 14 (800 + k) (f k) 14 (800 + i) = f i
          by_cases e : i = k
          · rw [e, up2_s]
          · rw [up2_i (by omega)]; exact c3 i (by omega)
  refine g_sipush (pc := 0) (v := nI 800) dX3_takeApart_0 rfl ?_
  refine g_istore_n (pc := 3) (ls' := [(0, _), (1, _)]) dX3_takeApart_3 rfl (Nat.le_of_ble_eq_true rfl) rfl ?_
  refine g_sipush (pc := 4) (v := nI 800) dX3_takeApart_4 rfl ?_
  refine g_aload_n (pc := 7) dX3_takeApart_7 rfl rfl ?_
  refine t_get (pc := 8) (v := .int (nI _)) 2 dX3_takeApart_8 hR rfl q1801 (Nat.le_of_ble_eq_true rfl) rfl rfl ?_
  rw [hn]
  first | refine g_iaddN (pc := 11) dX3_takeApart_11 ?_ | refine g_iadd (pc := 11) dX3_takeApart_11 ?_
  refine g_istore_n (pc := 12) (ls' := [(0, _), (1, _), (2, _)]) dX3_takeApart_12 rfl (Nat.le_of_ble_eq_true rfl) rfl ?_
  refine g_iconst (pc := 13) (v := nI 0) dX3_takeApart_13 rfl ?_
  refine g_istore_n (pc := 14) (ls' := [(0, _), (1, _), (2, _), (3, _)]) dX3_takeApart_14 rfl (Nat.le_of_ble_eq_true rfl) rfl ?_
  refine g_sipush (pc := 15) (v := nI 200) dX3_takeApart_15 rfl ?_
  refine g_istore (pc := 18) (ls' := [(0, _), (1, _), (2, _), (3, _), (4, _)]) dX3_takeApart_18 (Nat.le_of_ble_eq_true rfl) rfl ?_
  refine g_iconst (pc := 20) (v := nI 0) dX3_takeApart_20 rfl ?_
  refine g_istore (pc := 21) (ls' := [(0, _), (1, _), (2, _), (3, _), (4, _), (5, _)]) dX3_takeApart_21 (Nat.le_of_ble_eq_true rfl) rfl ?_
  exact copy n 0 τ (by omega) (tA4.refl τ) ht (fun i hi => absurd hi (Nat.not_lt_zero _)) h hR
end TW8
