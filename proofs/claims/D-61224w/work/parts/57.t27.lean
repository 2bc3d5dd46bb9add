/-! TWIN 27: go, render, size -/
set_option maxRecDepth 100000
theorem tgF_p {T : tTb} {p : Nat} : ∀ {n i : Nat}, i ≤ tgF T n i p ∧ tgF T n i p ≤ i + n ∧ (tgF T n i p < i + n → p ≤ (T.1 (tgF T n i p)).1)
  | 0, i => ⟨Nat.le_refl _, Nat.le_refl _, fun h => absurd h (Nat.lt_irrefl _)⟩
  | n + 1, i => by
    unfold tgF
    split
    · rename_i h
      exact ⟨Nat.le_refl _, by omega, fun _ => h⟩
    · obtain ⟨a, b, c⟩ := tgF_p (T := T) (p := p) (n := n) (i := i + 1)
      exact ⟨by omega, by omega, fun h => c (by omega)⟩
theorem tgF_up {T : tTb} {p S : Nat} (hp : p ≤ S) : ∀ {n i : Nat}, (tgF T n i p < i + n → S ≤ (T.1 (tgF T n i p)).1) → tgF T n i S = tgF T n i p
  | 0, _, _ => rfl
  | n + 1, i, h => by
    unfold tgF at h ⊢
    split at h
    · rename_i hz
      rw [if_pos hz, if_pos (h (by omega))]
    · rename_i hz
      rw [if_neg hz, if_neg (by omega)]
      exact tgF_up hp (fun y => h (by omega))
/-- a template's end -/
def mPop (Tm : Nat → Option aT) (U : List aU) (C : List aV) (out : List Nat) (seen : Nat) : aZ := match U with
  | [] => .inr (.inr (out, seen))
  | .inl (t', g') :: U' => (match Tm t' with
    | some (_, _, _, T') => .inl (t', (T'.1 g').2.2.2.1, U', C, out, seen)
    | none => .inr (.inl 0))
  | .inr _ :: _ => .inr (.inl 0)
/-- what a run leaves -/
def goP (τ0 : tT) (res : Nat ⊕ (List Nat × Nat)) (r : Option Value) (τ' : tT) : Prop := r = none ∧ gK τ0 τ' ∧ match res with
  | .inl e => τ'.1 38 = e
  | .inr (out, seen) => τ'.1 38 = 0 ∧ outL τ' out ∧ τ'.1 5 = seen ∧ seen ≤ 600
section TW27
variable {Z : hE} {o : Nat} {τ : tT}
theorem tc_go (d k : Nat) (hk4 : k < 4) (Tm : Nat → Option aT) (D : aD) (c0 : aM) (res : Nat ⊕ (List Nat × Nat)) (N : Nat) (hN : mI Tm D N c0 = .inr res) (hres : ∀ e, res = .inl e → 0 < e ∧ e < 5) (hr0 : rnR Tm D k τ c0 τ) (h0 : c0.1 = k ∧ c0.2.1 = 0) : tC Z mX3_go (d + 9) o [.ref o, .int (nI k)] τ (goP τ res) := by
  refine tC.of rfl rfl (Nat.le_of_ble_eq_true rfl) rfl (fun X hin h hR => ?_)
  have main : ∀ (N N' : Nat) (c : aM) (τc : tT), N' ≤ N → mI Tm D N' c = .inr res → rnR Tm D k τ c τc → ∀ h, tH o τc hin h → hG Z X mX3_go (d + 9) tS hin (tK o hin (goP τ res)) 6 [(0, .ref o), (1, .int (nI k)), (2, .int (nI (200 * c.1 + c.2.1)))] [] h := by
    intro N
    induction N with
    | zero =>
      intro N' c τc hle hrun
      have : N' = 0 := by omega
      subst this
      cases hrun
    | succ N ih =>
      intro N' c τc hle hrun hr h hR
      obtain ⟨t, p, U, C, out, seen⟩ := c
      have hr1 := hr
      obtain ⟨n, f, g, T, hB, hpn, hbot, hout, h5, h600, h38, hgk, hm⟩ := hr1
      dsimp only at hB hpn hbot hout h5 h600
      obtain ⟨⟨q1, q2, q3, q4, q5⟩, ⟨q6, q7, q8⟩, ⟨q9, q10, q11⟩, q12, q13, q14⟩ := id hB
      obtain ⟨hTp, hok⟩ := hm.2.2.1 t n f g T q2
      have hn180 : n ≤ 180 := hok.1
      generalize hj : tgF T g 0 p = j
      obtain ⟨j1, j2, j3⟩ := tgF_p (T := T) (p := p) (n := g) (i := 0)
      rw [hj, Nat.zero_add] at j2 j3
      generalize hS : (if j < g then (T.1 j).1 else n) = S
      have hSn : S ≤ n := by
        rw [← hS]
        split
        · rename_i z
          have := (hok.tag z).1
          unfold tgOK at this; omega
        · exact Nat.le_refl _
      have hpS : p ≤ S := by
        rw [← hS]
        split
        · rename_i z; exact j3 z
        · exact hpn
      have hjS : tgF T g 0 S = j := by
        rw [← hj]
        refine tgF_up hpS (fun z => ?_)
        rw [hj, Nat.zero_add] at z
        rw [hj, ← hS, if_pos z]
        exact Nat.le_refl _
      -- a failure ends it
      have bad : ∀ (e : Nat) (τ2 : tT) (w : Int32), res = .inl e → τ2.1 38 = e → gK τ τ2 → ∀ h, tH o τ2 hin h → hG Z X mX3_go (d + 9) tS hin (tK o hin (goP τ res)) 6 [(0, .ref o), (1, .int (nI k)), (2, .int w)] [] h := by
        intro e τ2 w he h38e hg2 h hR
        obtain ⟨e1, e2⟩ := hres e he
        refine g_aload_n (pc := 6) dX3_go_6 rfl rfl ?_
        refine t_get (pc := 7) (v := .int (nI _)) 38 dX3_go_7 hR rfl q1837 (Nat.le_of_ble_eq_true rfl) rfl rfl ?_
        rw [h38e]
        refine g_if_neN (pc := 10) (tgt := 144) dX3_go_10 rfl (by omega) (fun _ => ?_) (fun q_ => absurd q_ (by omega))
        subst he
        exact t_vret (pc := 144) dX3_go_144 hR rfl (⟨rfl, hg2, h38e⟩)
      have stepS : ∀ (out' : List Nat), mS Tm D (t, S, U, C, out', seen) = (if j < g then mTag Tm D f T t j U C out' seen
          else mPop Tm U C out' seen) := by
        intro out'
        unfold mS
        simp only [q2, hjS, hS, Nat.lt_irrefl, if_false]
        rfl
      -- the tag at S
      have tag : ∀ (N' : Nat) (out' : List Nat) (τ2 : tT), N' ≤ N + 1 → mI Tm D N' (t, S, U, C, out', seen) = .inr res → rnR Tm D k τ (t, S, U, C, out', seen) τ2 → ∀ h, tH o τ2 hin h → hG Z X mX3_go (d + 9) tS hin (tK o hin (goP τ res)) 93 [(0, .ref o), (1, .int (nI k)), (2, .int (nI (200 * t + S))), (3, .int (nI t)), (4, .int (oS (50 * t) (if j < g then some j else none))), (5, .int (nI (200 * t + S)))] [] h := by
        intro N' out' τ2 hle hrun hr2 h hR
        cases N' with
        | zero => cases hrun
        | succ N' =>
          have hst := stepS out'
          refine g_iload (pc := 93) dX3_go_93 rfl ?_
          by_cases hjg : j < g
          · rw [if_pos hjg] at hst ⊢
            refine g_if_ltN (pc := 95) (tgt := 108) dX3_go_95 rfl (by omega) ?_
            have hne : mTag Tm D f T t j U C out' seen ≠ .inr (.inl 0) := fun z => by
              rw [z] at hst
              rw [mI_inr hst] at hrun
              cases hrun
              exact absurd (hres 0 rfl).1 (Nat.lt_irrefl _)
            refine g_aload_n (pc := 98) dX3_go_98 rfl rfl ?_
            refine g_iload (pc := 99) dX3_go_99 rfl ?_
            refine t_inv (pc := 101) dX3_go_101 hR (tc_tag _ j S k Tm D t n f g T U C out' seen τ q2 hr2 hjg _ rfl hne) meX3_tag q2128 q2130 qs44 rfl rfl (Nat.le_of_ble_eq_true rfl) (fun u τ3 h hp hR => ?_)
            cases hmt : mTag Tm D f T t j U C out' seen with
            | inl c' =>
              rw [hmt] at hp hst
              obtain ⟨rfl, hr3⟩ := hp
              rw [mI_inl hst] at hrun
              refine g_istore_n (pc := 104) (ls' := [(0, _), (1, _), (2, _), (3, _), (4, _), (5, _)]) dX3_go_104 rfl (Nat.le_of_ble_eq_true rfl) rfl ?_
              refine g_goto (pc := 105) (tgt := 141) dX3_go_105 rfl ?_
              refine g_goto (pc := 141) (tgt := 6) dX3_go_141 rfl ?_
              refine g_drop [0, 1, 2] rfl ?_
              exact ih N' c' τ3 (by omega) hrun hr3 h hR
            | inr y =>
              rw [hmt] at hp hst
              rw [mI_inr hst] at hrun
              have hy : y = res := Sum.inr.inj hrun
              subst hy
              cases y with
              | inl e =>
                obtain ⟨⟨w, rfl⟩, hp1, hp2⟩ := hp
                refine g_istore_n (pc := 104) (ls' := [(0, _), (1, _), (2, _), (3, _), (4, _), (5, _)]) dX3_go_104 rfl (Nat.le_of_ble_eq_true rfl) rfl ?_
                refine g_goto (pc := 105) (tgt := 141) dX3_go_105 rfl ?_
                refine g_goto (pc := 141) (tgt := 6) dX3_go_141 rfl ?_
                refine g_drop [0, 1, 2] rfl ?_
                exact bad e τ3 w rfl hp1 hp2 h hR
              | inr y => exact hp.elim
          · rw [if_neg hjg] at hst ⊢
            refine g_if_lt (pc := 95) (tgt := 108) dX3_go_95 rfl (fun _ => ?_) (fun z => absurd (show (-1 : Int32) < 0 by decide) z)
            obtain ⟨n', f', g', T', hB2, hpn2, hbot2, hout2, h52, h6002, h382, hgk2, hm2⟩ := hr2
            dsimp only at hB2 hpn2 hbot2 hout2 h52 h6002
            obtain ⟨_, ⟨p6, p7, p8⟩, ⟨p9, p10, p11⟩, p12, p13, p14⟩ := hB2
            refine g_aload_n (pc := 108) dX3_go_108 rfl rfl ?_
            refine t_get (pc := 109) (v := .int (nI _)) 37 dX3_go_109 hR rfl q1836 (Nat.le_of_ble_eq_true rfl) rfl rfl ?_
            rw [p7]
            cases U with
            | nil =>
              have hst : mS Tm D (t, S, [], C, out', seen) = .inr (.inr (out', seen)) := hst
              rw [mI_inr hst] at hrun
              cases hrun
              refine g_if_ne (pc := 112) (tgt := 116) dX3_go_112 rfl (fun q_ => absurd q_ (by decide)) (fun _ => ?_)
              exact t_vret (pc := 115) dX3_go_115 hR rfl (⟨rfl, hgk2, h382, hout2, h52, h6002⟩)
            | cons fr U' =>
              rcases fr with ⟨t', g''⟩ | y
              · obtain ⟨u1, u2, u3, u4, ⟨n1, f1, g1, T1, u5, u5'⟩, u6⟩ := p6
                have hst : mS Tm D (t, S, .inl (t', g'') :: U', C, out', seen) = (match Tm t' with
                  | some (_, _, _, T') => .inl (t', (T'.1 g'').2.2.2.1, U', C, out', seen)
                  | none => .inr (.inl 0)) := hst
                rw [u5] at hst
                have hst : mS Tm D (t, S, .inl (t', g'') :: U', C, out', seen) = .inl (t', (T1.1 g'').2.2.2.1, U', C, out', seen) := hst
                rw [mI_inl hst] at hrun
                obtain ⟨hTp1, hok1⟩ := hm2.2.2.1 t' n1 f1 g1 T1 u5
                have tg1 := (hok1.tag u5').1
                unfold tgOK at tg1
                have hg50 : g'' < 50 := by have h1 := hok1.2.2.1; have h2 := hok1.1; dsimp only at h1 h2; omega
                obtain ⟨_, _, _, w4, _, _, _⟩ := hTp1.2.2.2.2 g'' u5'
                have hU20 : U'.length + 1 ≤ 20 := p8
                rw [show (Sum.inl (t', g'') :: U' : List aU).length = U'.length + 1 from rfl] at p7 ⊢
                refine g_if_neN (pc := 112) (tgt := 116) dX3_go_112 rfl (by omega) (fun _ => ?_) (fun q_ => absurd q_ (by omega))
                refine g_aload_n (pc := 116) dX3_go_116 rfl rfl ?_
                refine g_dup (pc := 117) dX3_go_117 rfl ?_
                refine t_get (pc := 118) (v := .int (nI _)) 37 dX3_go_118 hR rfl q1836 (Nat.le_of_ble_eq_true rfl) rfl rfl ?_
                rw [p7]
                refine g_iconst (pc := 121) (v := nI 1) dX3_go_121 rfl ?_
                first | refine g_isubN (pc := 122) dX3_go_122 (by omega) ?_ | refine g_isub (pc := 122) dX3_go_122 ?_
                rw [Nat.add_sub_cancel]
                refine t_put (pc := 123) 37 dX3_go_123 hR rfl q1836 (Nat.le_of_ble_eq_true rfl) rfl rfl (by decide) rfl rfl (fun h hR => ?_)
                refine g_aload_n (pc := 126) dX3_go_126 rfl rfl ?_
                refine t_get (pc := 127) (v := .ref (tAd _ 19)) 19 dX3_go_127 hR rfl q1818 (Nat.le_of_ble_eq_true rfl) rfl rfl ?_
                refine g_aload_n (pc := 130) dX3_go_130 rfl rfl ?_
                refine t_get (pc := 131) (v := .ref (tAd _ 41)) 41 dX3_go_131 hR rfl q1840 (Nat.le_of_ble_eq_true rfl) rfl rfl ?_
                refine g_aload_n (pc := 134) dX3_go_134 rfl rfl ?_
                refine t_get (pc := 135) (v := .int (nI _)) 37 dX3_go_135 hR rfl q1836 (Nat.le_of_ble_eq_true rfl) rfl rfl ?_
                rw [rFN_s]
                refine t_iald (pc := 138) dX3_go_138 hR rfl (by decide) rfl (by decide) (by show _ < 20; omega) ?_
                rw [show (tFN τ2 37 U'.length).2.2.1 41 U'.length = 50 * t' + g'' from u3]
                refine t_iald (pc := 139) (k := 19) dX3_go_139 hR rfl (by decide) rfl (by decide) (by show _ < 250; omega) ?_
                rw [show (tFN τ2 37 U'.length).2.2.1 19 (50 * t' + g'') = 200 * t' + (T1.1 g'').2.2.2.1 from w4]
                refine g_istore_n (pc := 140) (ls' := [(0, _), (1, _), (2, _), (3, _), (4, _), (5, _)]) dX3_go_140 rfl (Nat.le_of_ble_eq_true rfl) rfl ?_
                refine g_goto (pc := 141) (tgt := 6) dX3_go_141 rfl ?_
                refine g_drop [0, 1, 2] rfl ?_
                have gk : gK τ2 (tFN τ2 37 U'.length) := (gK.refl _).fn (by decide)
                refine ih N' (t', (T1.1 g'').2.2.2.1, U', C, out', seen) (tFN τ2 37 U'.length) (by omega) hrun (rnR.mk (hm2.gK gk) u5 ⟨uR.same (a := τ2) (fun i _ => by exact ⟨rfl, rfl, rfl, rfl, rfl, rfl⟩) u6, rFN_s, by omega⟩ ⟨vC.same (a := τ2) (fun _ _ _ => by exact ⟨rfl, rfl⟩) p9, (rFN_n (by decide)).trans p10, p11⟩ (p12.gK gk) p13 (by omega) hbot2 (hout2.same (rFN_n (by decide)) (fun _ => by rfl)) ((rFN_n (by decide)).trans h52) h6002 ((rFN_n (by decide)).trans h382) (hgk2.trans gk)) h hR
              · have hst : mS Tm D (t, S, .inr y :: U', C, out', seen) = .inr (.inl 0) := hst
                rw [mI_inr hst] at hrun
                cases hrun
                exact absurd (hres 0 rfl).1 (Nat.lt_irrefl _)
      -- the plain text
      have text : ∀ (m i : Nat) (τ2 : tT), i + m = S - p → eI out (sgF f p i) τ2 → eK τc τ2 → ∀ h, tH o τ2 hin h → hG Z X mX3_go (d + 9) tS hin (tK o hin (goP τ res)) 56 [(0, .ref o), (1, .int (nI k)), (2, .int (nI (200 * t + (p + i)))), (3, .int (nI t)), (4, .int (oS (50 * t) (if j < g then some j else none))), (5, .int (nI (200 * t + S)))] [] h := by
        -- behind it, out of a failure
        have over : ∀ (i : Nat) (τ2 : tT), i ≤ S - p → 400 < out.length + i → τ2.1 38 = 4 → eK τc τ2 → ∀ h, tH o τ2 hin h → hG Z X mX3_go (d + 9) tS hin (tK o hin (goP τ res)) 85 [(0, .ref o), (1, .int (nI k)), (2, .int (nI (200 * t + (p + i)))), (3, .int (nI t)), (4, .int (oS (50 * t) (if j < g then some j else none))), (5, .int (nI (200 * t + S)))] [] h := by
          intro i τ2 hi h4 h38e ek h hR
          have hout400 := hout.2.1
          have hlt : p < S := by omega
          have hst : mS Tm D (t, p, U, C, out, seen) = .inr (.inl 4) := by
            unfold mS
            simp only [q2, hj, hS, hlt, if_true]
            rw [if_pos (by omega)]
          cases N' with
          | zero => cases hrun
          | succ N' =>
            rw [mI_inr hst] at hrun
            cases hrun
            refine g_aload_n (pc := 85) dX3_go_85 rfl rfl ?_
            refine t_get (pc := 86) (v := .int (nI _)) 38 dX3_go_86 hR rfl q1837 (Nat.le_of_ble_eq_true rfl) rfl rfl ?_
            rw [h38e]
            refine g_if_eqN (pc := 89) (tgt := 93) dX3_go_89 rfl (by omega) (fun q_ => absurd q_ (by omega)) (fun _ => ?_)
            exact t_vret (pc := 92) dX3_go_92 hR rfl (⟨rfl, hgk.trans ek.sK.gK, h38e⟩)
        intro m
        induction m with
        | zero =>
          intro i τ2 him he ek h hR
          have hi : i = S - p := by omega
          subst hi
          rw [show p + (S - p) = S by omega]
          have fin : ∀ h, tH o τ2 hin h → hG Z X mX3_go (d + 9) tS hin (tK o hin (goP τ res)) 85 [(0, .ref o), (1, .int (nI k)), (2, .int (nI (200 * t + S))), (3, .int (nI t)), (4, .int (oS (50 * t) (if j < g then some j else none))), (5, .int (nI (200 * t + S)))] [] h := by
            intro h hR
            rcases he with ⟨e1, e2, e3⟩ | ⟨e1, e2, e3⟩
            · rw [sgF_len] at e1
              refine g_aload_n (pc := 85) dX3_go_85 rfl rfl ?_
              refine t_get (pc := 86) (v := .int (nI _)) 38 dX3_go_86 hR rfl q1837 (Nat.le_of_ble_eq_true rfl) rfl rfl ?_
              rw [e3]
              refine g_if_eqN (pc := 89) (tgt := 93) dX3_go_89 rfl (by omega) (fun _ => ?_) (fun q_ => absurd q_ (by omega))
              have hr2 : rnR Tm D k τ (t, S, U, C, out ++ sgF f p (S - p), seen) τ2 := rnR.sk ek.sK q2 e3 e2 hSn hr
              by_cases hlt : p < S
              · have hst : mS Tm D (t, p, U, C, out, seen) = .inl (t, S, U, C, out ++ sgF f p (S - p), seen) := by
                  unfold mS
                  simp only [q2, hj, hS, hlt, if_true]
                  rw [if_neg (by omega)]
                cases N' with
                | zero => cases hrun
                | succ N' =>
                  rw [mI_inl hst] at hrun
                  exact tag N' _ τ2 (by omega) hrun hr2 h hR
              · have hpS2 : p = S := by omega
                rw [hpS2, Nat.sub_self] at hr2
                rw [hpS2] at hrun
                have e0 : out ++ sgF f S 0 = out := by simp [sgF]
                rw [e0] at hr2
                exact tag N' out τ2 hle hrun hr2 h hR
            · rw [sgF_len] at e1
              have := over (S - p) τ2 (Nat.le_refl _) e1 e3 ek h hR
              rw [show p + (S - p) = S by omega] at this
              exact this
          refine g_iload_n (pc := 56) dX3_go_56 rfl rfl ?_
          refine g_iload (pc := 57) dX3_go_57 rfl ?_
          refine g_icmp_geN (pc := 59) (tgt := 85) dX3_go_59 rfl (by omega) (by omega) (fun z => ?_) (fun z => ?_)
          · exact fin h hR
          · exact absurd z (by omega)
        | succ m ihm =>
          intro i τ2 him he ek h hR
          refine g_iload_n (pc := 56) dX3_go_56 rfl rfl ?_
          refine g_iload (pc := 57) dX3_go_57 rfl ?_
          refine g_icmp_geN (pc := 59) (tgt := 85) dX3_go_59 rfl (by omega) (by omega) (fun z => ?_) (fun z => ?_)
          · exact absurd z (by omega)
          · refine g_aload_n (pc := 62) dX3_go_62 rfl rfl ?_
            refine t_get (pc := 63) (v := .int (nI _)) 38 dX3_go_63 hR rfl q1837 (Nat.le_of_ble_eq_true rfl) rfl rfl ?_
            rcases he with ⟨e1, e2, e3⟩ | ⟨e1, e2, e3⟩
            · have hch : τ2.2.2.1 14 (200 * t + (p + i)) = f (p + i) := by rw [ek.2.2.2 14 (by decide)]; exact hTp.2.2.2.1 _ (by omega)
              have hcl : f (p + i) < 128 := hok.2.1 _ (by show _ < n; omega)
              rw [e3]
              refine g_if_neN (pc := 66) (tgt := 85) dX3_go_66 rfl (by omega) (fun q_ => absurd q_ (by omega)) (fun _ => ?_)
              refine g_aload_n (pc := 69) dX3_go_69 rfl rfl ?_
              refine g_aload_n (pc := 70) dX3_go_70 rfl rfl ?_
              refine t_get (pc := 71) (v := .ref (tAd _ 14)) 14 dX3_go_71 hR rfl q1813 (Nat.le_of_ble_eq_true rfl) rfl rfl ?_
              refine g_iload_n (pc := 74) dX3_go_74 rfl rfl ?_
              refine t_cald (pc := 75) dX3_go_75 hR rfl (by decide) rfl (by decide) (by show _ < 1000; omega) ?_
              rw [hch]
              refine t_inv (pc := 76) dX3_go_76 hR (tc_emit _ (f (p + i)) out (sgF f p i) (by omega) (Or.inl ⟨e1, e2, e3⟩)) meX3_emit q2124 q2126 qs43 rfl rfl (Nat.le_of_ble_eq_true rfl) (fun u τ3 h hp hR => ?_)
              obtain ⟨rfl, a1, a2⟩ := hp
              refine g_iincN (pc := 79) (k0 := 1) (ls' := [(0, _), (1, _), (2, _), (3, _), (4, _), (5, _)]) dX3_go_79 rfl (Nat.le_of_ble_eq_true rfl) rfl ?_
              refine g_goto (pc := 82) (tgt := 56) dX3_go_82 rfl ?_
              rw [show 200 * t + (p + i) + 1 = 200 * t + (p + (i + 1)) by omega]
              exact ihm (i + 1) τ3 (by omega) (by rw [sgF_snoc]; exact a1) (ek.trans a2) h hR
            · rw [e3]
              rw [sgF_len] at e1
              refine g_if_neN (pc := 66) (tgt := 85) dX3_go_66 rfl (by omega) (fun _ => ?_) (fun q_ => absurd q_ (by omega))
              exact over i τ2 (by omega) e1 e3 ek h hR
      refine g_aload_n (pc := 6) dX3_go_6 rfl rfl ?_
      refine t_get (pc := 7) (v := .int (nI _)) 38 dX3_go_7 hR rfl q1837 (Nat.le_of_ble_eq_true rfl) rfl rfl ?_
      rw [h38]
      refine g_if_neN (pc := 10) (tgt := 144) dX3_go_10 rfl (by omega) (fun q_ => absurd q_ (by omega)) (fun _ => ?_)
      refine g_aload_n (pc := 13) dX3_go_13 rfl rfl ?_
      refine g_iload_n (pc := 14) dX3_go_14 rfl rfl ?_
      refine t_invE (pc := 15) dX3_go_15 hR (tc_here _ Tm D t k U q6 hbot q7 q8) meX3_here q2116 q2118 qs41 rfl rfl (Nat.le_of_ble_eq_true rfl) (fun h hR => ?_)
      refine g_istore_n (pc := 18) (ls' := [(0, _), (1, _), (2, _), (3, _)]) dX3_go_18 rfl (Nat.le_of_ble_eq_true rfl) rfl ?_
      refine g_aload_n (pc := 19) dX3_go_19 rfl rfl ?_
      refine g_iload_n (pc := 20) dX3_go_20 rfl rfl ?_
      refine g_iload_n (pc := 21) dX3_go_21 rfl rfl ?_
      refine t_invE (pc := 22) dX3_go_22 hR (tc_tagFrom _ t p g T q1 q3 hTp.2.2.1 q4 (by omega) (fun j hj => by have := (hok.tag hj).1; unfold tgOK at this; omega)) meX3_tagFrom q2120 q2122 qs42 rfl rfl (Nat.le_of_ble_eq_true rfl) (fun h hR => ?_)
      rw [hj]
      have i0 : eI out (sgF f p 0) τc := Or.inl ⟨by have := hout.2.1; simp [sgF]; omega, by simpa [sgF] using hout, h38⟩
      refine g_istore (pc := 25) (ls' := [(0, _), (1, _), (2, _), (3, _), (4, _)]) dX3_go_25 (Nat.le_of_ble_eq_true rfl) rfl ?_
      refine g_iload (pc := 27) dX3_go_27 rfl ?_
      by_cases hjg : j < g
      · have hS2 : (T.1 j).1 = S := by rw [← hS, if_pos hjg]
        have hr1' := (q3 j hjg).1
        rw [hS2] at hr1'
        rw [if_pos hjg] at text ⊢
        refine g_if_geN (pc := 29) (tgt := 47) dX3_go_29 rfl (by omega) ?_
        refine g_aload_n (pc := 47) dX3_go_47 rfl rfl ?_
        refine t_get (pc := 48) (v := .ref (tAd _ 18)) 18 dX3_go_48 hR rfl q1817 (Nat.le_of_ble_eq_true rfl) rfl rfl ?_
        refine g_iload (pc := 51) dX3_go_51 rfl ?_
        refine t_iald (pc := 53) (k := 18) dX3_go_53 hR rfl (by decide) rfl (by decide) (by show _ < 250; omega) ?_
        rw [hr1']
        refine g_istore (pc := 54) (ls' := [(0, _), (1, _), (2, _), (3, _), (4, _), (5, _)]) dX3_go_54 (Nat.le_of_ble_eq_true rfl) rfl ?_
        exact text (S - p) 0 τc (by omega) i0 (eK.refl τc) h hR
      · have hS2 : n = S := by rw [← hS, if_neg hjg]
        rw [if_neg hjg] at text ⊢
        refine g_if_ge (pc := 29) (tgt := 47) dX3_go_29 rfl (fun z => absurd z (show ¬ (0 : Int32) ≤ -1 by decide)) (fun _ => ?_)
        refine g_iload_n (pc := 32) dX3_go_32 rfl rfl ?_
        refine g_sipush (pc := 33) (v := nI 200) dX3_go_33 rfl ?_
        first | refine g_imulN (pc := 36) dX3_go_36 ?_ | refine g_imul (pc := 36) dX3_go_36 ?_
        refine g_aload_n (pc := 37) dX3_go_37 rfl rfl ?_
        refine t_get (pc := 38) (v := .ref (tAd _ 15)) 15 dX3_go_38 hR rfl q1814 (Nat.le_of_ble_eq_true rfl) rfl rfl ?_
        refine g_iload_n (pc := 41) dX3_go_41 rfl rfl ?_
        refine t_iald (pc := 42) dX3_go_42 hR rfl (by decide) rfl (by decide) (by show _ < 5; omega) ?_
        rw [hTp.2.1, hS2, Nat.mul_comm t 200]
        first | refine g_iaddN (pc := 43) dX3_go_43 ?_ | refine g_iadd (pc := 43) dX3_go_43 ?_
        refine g_goto (pc := 44) (tgt := 54) dX3_go_44 rfl ?_
        refine g_istore (pc := 54) (ls' := [(0, _), (1, _), (2, _), (3, _), (4, _), (5, _)]) dX3_go_54 (Nat.le_of_ble_eq_true rfl) rfl ?_
        exact text (S - p) 0 τc (by omega) i0 (eK.refl τc) h hR
  refine g_iload_n (pc := 0) dX3_go_0 rfl rfl ?_
  refine g_sipush (pc := 1) (v := nI 200) dX3_go_1 rfl ?_
  first | refine g_imulN (pc := 4) dX3_go_4 ?_ | refine g_imul (pc := 4) dX3_go_4 ?_
  refine g_istore_n (pc := 5) (ls' := [(0, _), (1, _), (2, _)]) dX3_go_5 rfl (Nat.le_of_ble_eq_true rfl) rfl ?_
  have e : k * 200 = 200 * c0.1 + c0.2.1 := by rw [h0.1, h0.2]; omega
  rw [e]
  exact main N N c0 τ (Nat.le_refl _) hN hr0 h hR
end TW27
