/-! TWIN 6: tags taken, fitted -/
set_option maxRecDepth 100000
section TW6
variable {Z : hE} {o : Nat} {τ : tT}
/-- the same with the text's function given -/
theorem tf_stands {f : Nat → Nat} (hfe : τ.2.2.1 14 = f) (d p e : Nat) (w : Int64) (l : List Nat) (hw : spells w l) (hp : p < 2000) (he : e ≤ 1000) (hf : ∀ i, f i < 65536) : tC Z mX3_stands (d + 1) o [.ref o, .int (nI p), .int (nI e), .long w] τ (fun r τ' => r = some (.int (nI (stB f e p l).toNat)) ∧ τ' = τ) := by
  subst hfe; exact tc_stands d p e w l hw hp he hf
theorem tf_at0 {f : Nat → Nat} (hfe : τ.2.2.1 14 = f) (d p e : Nat) (hp : p < 2147483648) (he : e ≤ 1000) : tC Z mX3_at0 d o [.ref o, .int (nI p), .int (nI e)] τ (fun r τ' => r = some (.int (nI (cA f e p))) ∧ τ' = τ) := by
  subst hfe; exact tc_at0 d p e hp he
theorem tf_letters {f : Nat → Nat} (hfe : τ.2.2.1 14 = f) (d p e : Nat) (hp : p < 2000) (he : e ≤ 1000) (hf : ∀ i, f i < 65536) : tC Z mX3_letters (d + 1) o [.ref o, .int (nI p), .int (nI e)] τ (fun r τ' => r = some (.int (nI (lts f e p))) ∧ τ' = τ) := by
  subst hfe; exact tc_letters d p e hp he hf
theorem tf_operandEnd {f : Nat → Nat} (hfe : τ.2.2.1 14 = f) (d p e : Nat) (hp : p < 1090) (he : e ≤ 1000) (hf : ∀ i, f i < 65536) : tC Z mX3_operandEnd (d + 3) o [.ref o, .int (nI p), .int (nI e)] τ (fun r τ' => r = some (.int (oI (operE f e p))) ∧ τ' = τ) := by
  subst hfe; exact tc_operandEnd d p e hp he hf
theorem tf_helper {f : Nat → Nat} (hfe : τ.2.2.1 14 = f) (d p e : Nat) (hp : p < 1090) (he : e ≤ 1000) (hf : ∀ i, f i < 65536) : tC Z mX3_helper (d + 2) o [.ref o, .int (nI p), .int (nI e)] τ (fun r τ' => r = some (.int (nI (helpN f e p))) ∧ τ' = τ) := by
  subst hfe; exact tc_helper d p e hp he hf
theorem tf_sortOf {f : Nat → Nat} (hfe : τ.2.2.1 14 = f) (d p e : Nat) (three : Bool) (hpe : p ≤ e) (he : e ≤ 1000) (hf : ∀ i, f i < 65536) : tC Z mX3_sortOf (d + 5) o [.ref o, .int (nI p), .int (nI e), .int (nI three.toNat)] τ (fun r τ' => r = some (.int (oI (sortN f e p three))) ∧ τ' = τ) := by
  subst hfe; exact tc_sortOf d p e three hpe he hf
/-- nothing else than the template that is taken apart (4) changes -/
def tA4k (k i : Nat) : Prop := k < 14 ∨ 25 < k ∨ k = 15 ∨ k = 17 ∨ (18 ≤ k ∧ k ≤ 24 ∧ i < 200) ∨ (k = 14 ∧ i < 800) ∨ (k = 16 ∧ i < 4)
def tA4 (τ τ' : tT) : Prop := τ'.1 = τ.1 ∧ τ'.2.1 = τ.2.1 ∧ τ'.2.2.2.2 = τ.2.2.2.2 ∧ ∀ k i, tA4k k i → τ'.2.2.1 k i = τ.2.2.1 k i ∧ τ'.2.2.2.1 k i = τ.2.2.2.1 k i
theorem tA4.refl (τ : tT) : tA4 τ τ := ⟨rfl, rfl, rfl, fun _ _ _ => ⟨rfl, rfl⟩⟩
theorem tA4.trans {a b c : tT} (h1 : tA4 a b) (h2 : tA4 b c) : tA4 a c :=
  ⟨h2.1.trans h1.1, h2.2.1.trans h1.2.1, h2.2.2.1.trans h1.2.2.1, fun k i q => ⟨(h2.2.2.2 k i q).1.trans (h1.2.2.2 k i q).1, (h2.2.2.2 k i q).2.trans (h1.2.2.2 k i q).2⟩⟩
theorem tA4.an {a b : tT} {k i v : Nat} (h : tA4 a b) (hk : ¬ tA4k k i) : tA4 a (tAN b k i v) := by
  refine h.trans ⟨rfl, rfl, rfl, fun k' i' q => ⟨?_, rfl⟩⟩
  by_cases e : k' = k
  · subst e
    by_cases e2 : i' = i
    · subst e2; exact absurd q hk
    · exact congrFun (show up2 b.2.2.1 k' i v k' = _ from rfl) i' |>.trans (up2_i e2)
  · exact congrFun (up2_k e) i'
theorem tA4.ai {a b : tT} {k i : Nat} {v : Int32} (h : tA4 a b) (hk : ¬ tA4k k i) : tA4 a (tAI b k i v) := by
  refine h.trans ⟨rfl, rfl, rfl, fun k' i' q => ⟨rfl, ?_⟩⟩
  by_cases e : k' = k
  · subst e
    by_cases e2 : i' = i
    · subst e2; exact absurd q hk
    · exact up2_i e2
  · exact congrFun (up2_k e) i'
/-- a tag is set down at g -/
def tSg (τ : tT) (g : Nat) (b x q y : Nat) (s : Int32) : tT := tAI (tAI (tAI (tAN (tAN (tAN (tAN τ 18 g b) 20 g x) 21 g q) 19 g y) 22 g s) 23 g (-1)) 24 g (-1)
theorem tSg_A4 {g b x q y : Nat} {s : Int32} (hg : 200 ≤ g) : tA4 τ (tSg τ g b x q y s) := by
  unfold tSg
  refine tA4.ai (tA4.ai (tA4.ai (tA4.an (tA4.an (tA4.an (tA4.an (tA4.refl τ) ?_) ?_) ?_) ?_) ?_) ?_) ?_ <;> (unfold tA4k; omega)
def tkP (τ : tT) (g : Nat) (x : Option (Nat ⊕ tGt)) (r : Option Value) (τ' : tT) : Prop := match x with
  | none => r = some (.int (nI 0)) ∧ τ' = τ
  | some (.inl k) => r = some (.int (-1)) ∧ tA4 τ τ' ∧ τ'.2.2.1 14 = τ.2.2.1 14 ∧ τ'.2.2.1 18 g = k
  | some (.inr (b, x, q, y, s)) => r = some (.int (nI 1)) ∧ τ' = tSg τ g b x q y (nI s)
theorem tc_takeTag (d p e g : Nat) (hp : p ≤ e) (he : e ≤ 990) (hg : 200 ≤ g) (hg2 : g < 250) {f : Nat → Nat} (hfe : τ.2.2.1 14 = f) (hf : ∀ i, f i < 65536) : tC Z mX3_takeTag (d + 6) o [.ref o, .int (nI p), .int (nI e), .int (nI g)] τ (tkP τ g (tkT f e p)) := by
  refine tC.of rfl rfl (Nat.le_of_ble_eq_true rfl) rfl (fun X hin h hR => ?_)
  -- the tag begins at K
  generalize hK : findF f e [123, 123] e p = K
  have hK1 : K ≤ e := by rw [← hK]; have := findF_le (f := f) (e := e) (w := [123, 123]) e p; omega
  have r28 : ∀ h, tH o τ hin h → hG Z X mX3_takeTag (d + 6) tS hin (tK o hin (tkP τ g (tkT f e p))) 28 [(0, .ref o), (1, .int (nI p)), (2, .int (nI e)), (3, .int (nI g)), (4, .int (nI K))] [] h := by
    intro h hR
    refine g_iload (pc := 28) dX3_takeTag_28 rfl ?_
    refine g_iload_n (pc := 30) dX3_takeTag_30 rfl rfl ?_
    refine g_icmp_ltN (pc := 31) (tgt := 36) dX3_takeTag_31 rfl (by omega) (by omega) (fun c1 => ?_) (fun c1 => ?_)
    · refine g_aload_n (pc := 36) dX3_takeTag_36 rfl rfl ?_
      refine t_get (pc := 37) (v := .ref (tAd _ 18)) 18 dX3_takeTag_37 hR rfl q1817 (Nat.le_of_ble_eq_true rfl) rfl rfl ?_
      refine g_iload_n (pc := 40) dX3_takeTag_40 rfl rfl ?_
      refine g_iload (pc := 41) dX3_takeTag_41 rfl ?_
      refine t_iast (pc := 43) dX3_takeTag_43 hR rfl (by decide) rfl (by decide) (by show _ < 250; omega) (fun h hR => ?_)
      refine g_aload_n (pc := 44) dX3_takeTag_44 rfl rfl ?_
      refine g_iload (pc := 45) dX3_takeTag_45 rfl ?_
      refine g_iload_n (pc := 47) dX3_takeTag_47 rfl rfl ?_
      refine g_ldc2 (pc := 48) dX3_takeTag_48 q2036 ?_
      refine t_invE (pc := 51) dX3_takeTag_51 hR (tf_stands (τ := tAN τ 18 g K) (f := f) hfe _ K e _ _ spells_8092539 (by omega) (by omega) hf) meX3_stands q2027 q2029 qs26 rfl rfl (Nat.le_of_ble_eq_true rfl) (fun h hR => ?_)
      generalize hthree : stB f e K [123, 123, 123] = three
      generalize hn : (if three = true then 3 else 2) = n
      have hn3 : n ≤ 3 := by rw [← hn]; split <;> omega
      generalize hQ : findF f e (if three then [125, 125, 125] else [125, 125]) e (K + n) = Q
      have hQ2 : K + n ≤ Q := by rw [← hQ]; exact findF_ge _ _
      have hQ1 : Q ≤ e + 3 := by rw [← hQ]; have := findF_le (f := f) (e := e) (w := (if three then [125, 125, 125] else [125, 125])) e (K + n); omega
      have hT : tkT f e p = (if e ≤ Q then some (.inl K) else match sortN f Q (K + n) three with | none => some (.inl K) | some s => some (.inr (K, K + n, Q, Q + n, s))) := by
        unfold tkT
        dsimp only
        rw [hK, if_neg (by omega), hthree, hn, hQ]
        cases sortN f Q (K + n) three <;> rfl
      have r111 : ∀ h, tH o (tAN τ 18 g K) hin h → hG Z X mX3_takeTag (d + 6) tS hin (tK o hin (tkP τ g (tkT f e p))) 111 [(0, .ref o), (1, .int (nI p)), (2, .int (nI e)), (3, .int (nI g)), (4, .int (nI K)), (5, .int (nI three.toNat)), (6, .int (nI n)), (7, .int (nI Q))] [] h := by
        intro h hR
        refine g_iload (pc := 111) dX3_takeTag_111 rfl ?_
        refine g_iload_n (pc := 113) dX3_takeTag_113 rfl rfl ?_
        refine g_icmp_ltN (pc := 114) (tgt := 119) dX3_takeTag_114 rfl (by omega) (by omega) (fun c2 => ?_) (fun c2 => ?_)
        · rw [hT, if_neg (by omega)]
          refine g_aload_n (pc := 119) dX3_takeTag_119 rfl rfl ?_
          refine t_get (pc := 120) (v := .ref (tAd _ 20)) 20 dX3_takeTag_120 hR rfl q1819 (Nat.le_of_ble_eq_true rfl) rfl rfl ?_
          refine g_iload_n (pc := 123) dX3_takeTag_123 rfl rfl ?_
          refine g_iload (pc := 124) dX3_takeTag_124 rfl ?_
          refine g_iload (pc := 126) dX3_takeTag_126 rfl ?_
          first | refine g_iaddN (pc := 128) dX3_takeTag_128 ?_ | refine g_iadd (pc := 128) dX3_takeTag_128 ?_
          refine t_iast (pc := 129) dX3_takeTag_129 hR rfl (by decide) rfl (by decide) (by show _ < 250; omega) (fun h hR => ?_)
          refine g_aload_n (pc := 130) dX3_takeTag_130 rfl rfl ?_
          refine t_get (pc := 131) (v := .ref (tAd _ 21)) 21 dX3_takeTag_131 hR rfl q1820 (Nat.le_of_ble_eq_true rfl) rfl rfl ?_
          refine g_iload_n (pc := 134) dX3_takeTag_134 rfl rfl ?_
          refine g_iload (pc := 135) dX3_takeTag_135 rfl ?_
          refine t_iast (pc := 137) dX3_takeTag_137 hR rfl (by decide) rfl (by decide) (by show _ < 250; omega) (fun h hR => ?_)
          refine g_aload_n (pc := 138) dX3_takeTag_138 rfl rfl ?_
          refine t_get (pc := 139) (v := .ref (tAd _ 19)) 19 dX3_takeTag_139 hR rfl q1818 (Nat.le_of_ble_eq_true rfl) rfl rfl ?_
          refine g_iload_n (pc := 142) dX3_takeTag_142 rfl rfl ?_
          refine g_iload (pc := 143) dX3_takeTag_143 rfl ?_
          refine g_iload (pc := 145) dX3_takeTag_145 rfl ?_
          first | refine g_iaddN (pc := 147) dX3_takeTag_147 ?_ | refine g_iadd (pc := 147) dX3_takeTag_147 ?_
          refine t_iast (pc := 148) dX3_takeTag_148 hR rfl (by decide) rfl (by decide) (by show _ < 250; omega) (fun h hR => ?_)
          refine g_aload_n (pc := 149) dX3_takeTag_149 rfl rfl ?_
          refine t_get (pc := 150) (v := .ref (tAd _ 22)) 22 dX3_takeTag_150 hR rfl q1821 (Nat.le_of_ble_eq_true rfl) rfl rfl ?_
          refine g_iload_n (pc := 153) dX3_takeTag_153 rfl rfl ?_
          refine g_aload_n (pc := 154) dX3_takeTag_154 rfl rfl ?_
          refine g_iload (pc := 155) dX3_takeTag_155 rfl ?_
          refine g_iload (pc := 157) dX3_takeTag_157 rfl ?_
          first | refine g_iaddN (pc := 159) dX3_takeTag_159 ?_ | refine g_iadd (pc := 159) dX3_takeTag_159 ?_
          refine g_iload (pc := 160) dX3_takeTag_160 rfl ?_
          refine g_iload (pc := 162) dX3_takeTag_162 rfl ?_
          refine t_invE (pc := 164) dX3_takeTag_164 hR (tf_sortOf (τ := tAN (tAN (tAN (tAN τ 18 g K) 20 g (K + n)) 21 g Q) 19 g (Q + n)) (f := f) hfe _ (K + n) Q three (by omega) (by omega) hf) meX3_sortOf q2039 q2041 qs28 rfl rfl (Nat.le_of_ble_eq_true rfl) (fun h hR => ?_)
          refine t_iastI (pc := 167) dX3_takeTag_167 hR rfl (by decide) rfl (by decide) (by show _ < 250; omega) (fun h hR => ?_)
          refine g_aload_n (pc := 168) dX3_takeTag_168 rfl rfl ?_
          refine t_get (pc := 169) (v := .ref (tAd _ 23)) 23 dX3_takeTag_169 hR rfl q1822 (Nat.le_of_ble_eq_true rfl) rfl rfl ?_
          refine g_iload_n (pc := 172) dX3_takeTag_172 rfl rfl ?_
          refine g_iconst (pc := 173) (v := (-1)) dX3_takeTag_173 rfl ?_
          refine t_iastI (pc := 174) dX3_takeTag_174 hR rfl (by decide) rfl (by decide) (by show _ < 250; omega) (fun h hR => ?_)
          refine g_aload_n (pc := 175) dX3_takeTag_175 rfl rfl ?_
          refine t_get (pc := 176) (v := .ref (tAd _ 24)) 24 dX3_takeTag_176 hR rfl q1823 (Nat.le_of_ble_eq_true rfl) rfl rfl ?_
          refine g_iload_n (pc := 179) dX3_takeTag_179 rfl rfl ?_
          refine g_iconst (pc := 180) (v := (-1)) dX3_takeTag_180 rfl ?_
          refine t_iastI (pc := 181) dX3_takeTag_181 hR rfl (by decide) rfl (by decide) (by show _ < 250; omega) (fun h hR => ?_)
          refine g_aload_n (pc := 182) dX3_takeTag_182 rfl rfl ?_
          refine t_get (pc := 183) (v := .ref (tAd _ 22)) 22 dX3_takeTag_183 hR rfl q1821 (Nat.le_of_ble_eq_true rfl) rfl rfl ?_
          refine g_iload_n (pc := 186) dX3_takeTag_186 rfl rfl ?_
          refine t_ialdI (pc := 187) dX3_takeTag_187 hR rfl (by decide) rfl (by decide) (by show _ < 250; omega) ?_
          rw [show (tAI (tAI (tAI (tAN (tAN (tAN (tAN τ 18 g K) 20 g (K + n)) 21 g Q) 19 g (Q + n)) 22 g (oI (sortN f Q (K + n) three))) 23 g (-1)) 24 g (-1)).2.2.2.1 22 g = oI (sortN f Q (K + n) three) from by simp [tAI, up2]]
          cases hsn : sortN f Q (K + n) three with
          | none =>
            refine g_if_ge (pc := 188) (tgt := 195) dX3_takeTag_188 rfl (fun c => absurd c (by decide)) (fun _ => ?_)
            refine g_iconst (pc := 191) (v := (-1)) dX3_takeTag_191 rfl ?_
            refine g_goto (pc := 192) (tgt := 196) dX3_takeTag_192 rfl ?_
            exact t_iret (pc := 196) dX3_takeTag_196 hR rfl (⟨rfl, (by rw [hsn] at hR; exact tSg_A4 hg), rfl, by simp [tAI, tAN, up2]⟩)
          | some s =>
            have hs : s < 2147483648 := by
              have := sortN_le hsn
              omega
            refine g_if_geN (pc := 188) (tgt := 195) dX3_takeTag_188 rfl hs ?_
            refine g_iconst (pc := 195) (v := nI 1) dX3_takeTag_195 rfl ?_
            rw [hsn] at hR
            exact t_iret (pc := 196) dX3_takeTag_196 hR rfl (⟨rfl, rfl⟩)
        · rw [hT, if_pos (by omega)]
          refine g_iconst (pc := 117) (v := (-1)) dX3_takeTag_117 rfl ?_
          exact t_iret (pc := 118) dX3_takeTag_118 hR rfl (⟨rfl, tA4.an (tA4.refl τ) (by unfold tA4k; omega), rfl, by simp [tAN, up2]⟩)
      have l75 : ∀ (m q : Nat), e - q ≤ m → q ≤ e + 3 → findF f e (if three then [125, 125, 125] else [125, 125]) m q = Q → ∀ h, tH o (tAN τ 18 g K) hin h → hG Z X mX3_takeTag (d + 6) tS hin (tK o hin (tkP τ g (tkT f e p))) 75 [(0, .ref o), (1, .int (nI p)), (2, .int (nI e)), (3, .int (nI g)), (4, .int (nI K)), (5, .int (nI three.toNat)), (6, .int (nI n)), (7, .int (nI q))] [] h := by
        intro m
        induction m with
        | zero =>
          intro q h1 h2 h3 h hR
          have h4 : q = Q := h3
          refine g_iload (pc := 75) dX3_takeTag_75 rfl ?_
          refine g_iload_n (pc := 77) dX3_takeTag_77 rfl rfl ?_
          refine g_icmp_geN (pc := 78) (tgt := 111) dX3_takeTag_78 rfl (by omega) (by omega) (fun c2 => ?_) (fun c2 => ?_)
          · rw [h4]; exact r111 h hR
          · exact absurd c2 (by omega)
        | succ m ih =>
          intro q h1 h2 h3 h hR
          unfold findF at h3
          refine g_iload (pc := 75) dX3_takeTag_75 rfl ?_
          refine g_iload_n (pc := 77) dX3_takeTag_77 rfl rfl ?_
          refine g_icmp_geN (pc := 78) (tgt := 111) dX3_takeTag_78 rfl (by omega) (by omega) (fun c2 => ?_) (fun c2 => ?_)
          · rw [if_neg (by omega)] at h3
            rw [h3]; exact r111 h hR
          · refine g_aload_n (pc := 81) dX3_takeTag_81 rfl rfl ?_
            refine g_iload (pc := 82) dX3_takeTag_82 rfl ?_
            refine g_iload_n (pc := 84) dX3_takeTag_84 rfl rfl ?_
            refine g_iload (pc := 85) dX3_takeTag_85 rfl ?_
            have go : ∀ (b : Bool) h, stB f e q (if three then [125, 125, 125] else [125, 125]) = b → tH o (tAN τ 18 g K) hin h → hG Z X mX3_takeTag (d + 6) tS hin (tK o hin (tkP τ g (tkT f e p))) 102 [(0, .ref o), (1, .int (nI p)), (2, .int (nI e)), (3, .int (nI g)), (4, .int (nI K)), (5, .int (nI three.toNat)), (6, .int (nI n)), (7, .int (nI q))] [.int (nI b.toNat)] h := by
              intro b h hb hR
              refine g_if_neB (pc := 102) (tgt := 111) dX3_takeTag_102 rfl (fun c3 => ?_) (fun c3 => ?_)
              · rw [if_neg (fun z => by rw [hb, c3] at z; exact absurd z.2 (by decide))] at h3
                rw [h3]; exact r111 h hR
              · rw [if_pos ⟨c2, by rw [hb, c3]⟩] at h3
                refine g_iincN (pc := 105) (k0 := 1) (ls' := [(0, _), (1, _), (2, _), (3, _), (4, _), (5, _), (6, _), (7, _)]) dX3_takeTag_105 rfl (Nat.le_of_ble_eq_true rfl) rfl ?_
                refine g_goto (pc := 108) (tgt := 75) dX3_takeTag_108 rfl ?_
                exact ih (q + 1) (by omega) (by omega) h3 h hR
            refine g_if_eqB (pc := 87) (tgt := 96) dX3_takeTag_87 rfl (fun c3 => ?_) (fun c3 => ?_)
            · subst c3
              refine g_ldc2 (pc := 96) dX3_takeTag_96 q2038 ?_
              refine t_invE (pc := 99) dX3_takeTag_99 hR (tf_stands (τ := tAN τ 18 g K) (f := f) hfe _ q e _ _ spells_32125 (by omega) (by omega) hf) meX3_stands q2027 q2029 qs26 rfl rfl (Nat.le_of_ble_eq_true rfl) (fun h hR => ?_)
              exact go _ h rfl hR
            · subst c3
              refine g_ldc2 (pc := 90) dX3_takeTag_90 q2037 ?_
              refine g_goto (pc := 93) (tgt := 99) dX3_takeTag_93 rfl ?_
              refine t_invE (pc := 99) dX3_takeTag_99 hR (tf_stands (τ := tAN τ 18 g K) (f := f) hfe _ q e _ _ spells_8224125 (by omega) (by omega) hf) meX3_stands q2027 q2029 qs26 rfl rfl (Nat.le_of_ble_eq_true rfl) (fun h hR => ?_)
              exact go _ h rfl hR
      refine g_istore (pc := 54) (ls' := [(0, _), (1, _), (2, _), (3, _), (4, _), (5, _)]) dX3_takeTag_54 (Nat.le_of_ble_eq_true rfl) rfl ?_
      refine g_iload (pc := 56) dX3_takeTag_56 rfl ?_
      refine g_if_eqB (pc := 58) (tgt := 65) dX3_takeTag_58 rfl (fun c3 => ?_) (fun c3 => ?_)
      · subst c3
        refine g_iconst (pc := 65) (v := nI 2) dX3_takeTag_65 rfl ?_
        refine g_istore (pc := 66) (ls' := [(0, _), (1, _), (2, _), (3, _), (4, _), (5, _), (6, _)]) dX3_takeTag_66 (Nat.le_of_ble_eq_true rfl) rfl ?_
        refine g_iload (pc := 68) dX3_takeTag_68 rfl ?_
        refine g_iload (pc := 70) dX3_takeTag_70 rfl ?_
        first | refine g_iaddN (pc := 72) dX3_takeTag_72 ?_ | refine g_iadd (pc := 72) dX3_takeTag_72 ?_
        refine g_istore (pc := 73) (ls' := [(0, _), (1, _), (2, _), (3, _), (4, _), (5, _), (6, _), (7, _)]) dX3_takeTag_73 (Nat.le_of_ble_eq_true rfl) rfl ?_
        have e2 : n = 2 := hn.symm
        subst e2
        exact l75 e (K + 2) (by omega) (by omega) hQ h hR
      · subst c3
        refine g_iconst (pc := 61) (v := nI 3) dX3_takeTag_61 rfl ?_
        refine g_goto (pc := 62) (tgt := 66) dX3_takeTag_62 rfl ?_
        refine g_istore (pc := 66) (ls' := [(0, _), (1, _), (2, _), (3, _), (4, _), (5, _), (6, _)]) dX3_takeTag_66 (Nat.le_of_ble_eq_true rfl) rfl ?_
        refine g_iload (pc := 68) dX3_takeTag_68 rfl ?_
        refine g_iload (pc := 70) dX3_takeTag_70 rfl ?_
        first | refine g_iaddN (pc := 72) dX3_takeTag_72 ?_ | refine g_iadd (pc := 72) dX3_takeTag_72 ?_
        refine g_istore (pc := 73) (ls' := [(0, _), (1, _), (2, _), (3, _), (4, _), (5, _), (6, _), (7, _)]) dX3_takeTag_73 (Nat.le_of_ble_eq_true rfl) rfl ?_
        have e2 : n = 3 := hn.symm
        subst e2
        exact l75 e (K + 3) (by omega) (by omega) hQ h hR
    · have hT : tkT f e p = none := by
        unfold tkT
        dsimp only
        rw [hK, if_pos (by omega)]
      rw [hT]
      refine g_iconst (pc := 34) (v := nI 0) dX3_takeTag_34 rfl ?_
      exact t_iret (pc := 35) dX3_takeTag_35 hR rfl (⟨rfl, rfl⟩)
  have l3 : ∀ (m k : Nat), e - k ≤ m → k ≤ e → findF f e [123, 123] m k = K → ∀ h, tH o τ hin h → hG Z X mX3_takeTag (d + 6) tS hin (tK o hin (tkP τ g (tkT f e p))) 3 [(0, .ref o), (1, .int (nI p)), (2, .int (nI e)), (3, .int (nI g)), (4, .int (nI k))] [] h := by
    intro m
    induction m with
    | zero =>
      intro k h1 h2 h3 h hR
      have h4 : k = K := h3
      refine g_iload (pc := 3) dX3_takeTag_3 rfl ?_
      refine g_iload_n (pc := 5) dX3_takeTag_5 rfl rfl ?_
      refine g_icmp_geN (pc := 6) (tgt := 28) dX3_takeTag_6 rfl (by omega) (by omega) (fun c2 => ?_) (fun c2 => ?_)
      · rw [h4]; exact r28 h hR
      · exact absurd c2 (by omega)
    | succ m ih =>
      intro k h1 h2 h3 h hR
      unfold findF at h3
      refine g_iload (pc := 3) dX3_takeTag_3 rfl ?_
      refine g_iload_n (pc := 5) dX3_takeTag_5 rfl rfl ?_
      refine g_icmp_geN (pc := 6) (tgt := 28) dX3_takeTag_6 rfl (by omega) (by omega) (fun c2 => ?_) (fun c2 => ?_)
      · rw [if_neg (by omega)] at h3
        rw [h3]; exact r28 h hR
      · refine g_aload_n (pc := 9) dX3_takeTag_9 rfl rfl ?_
        refine g_iload (pc := 10) dX3_takeTag_10 rfl ?_
        refine g_iload_n (pc := 12) dX3_takeTag_12 rfl rfl ?_
        refine g_ldc2 (pc := 13) dX3_takeTag_13 q2026 ?_
        refine t_invE (pc := 16) dX3_takeTag_16 hR (tf_stands hfe _ k e _ _ spells_31611 (by omega) (by omega) hf) meX3_stands q2027 q2029 qs26 rfl rfl (Nat.le_of_ble_eq_true rfl) (fun h hR => ?_)
        refine g_if_neB (pc := 19) (tgt := 28) dX3_takeTag_19 rfl (fun c3 => ?_) (fun c3 => ?_)
        · rw [if_neg (fun z => by rw [c3] at z; exact absurd z.2 (by decide))] at h3
          rw [h3]; exact r28 h hR
        · rw [if_pos ⟨c2, c3⟩] at h3
          refine g_iincN (pc := 22) (k0 := 1) (ls' := [(0, _), (1, _), (2, _), (3, _), (4, _)]) dX3_takeTag_22 rfl (Nat.le_of_ble_eq_true rfl) rfl ?_
          refine g_goto (pc := 25) (tgt := 3) dX3_takeTag_25 rfl ?_
          exact ih (k + 1) (by omega) (by omega) h3 h hR
  refine g_iload_n (pc := 0) dX3_takeTag_0 rfl rfl ?_
  refine g_istore (pc := 1) (ls' := [(0, _), (1, _), (2, _), (3, _), (4, _)]) dX3_takeTag_1 (Nat.le_of_ble_eq_true rfl) rfl ?_
  exact l3 e p (by omega) hp hK h hR
end TW6
