/-! TWIN 19: path, operand -/
set_option maxRecDepth 100000
theorem cA_b {f : Nat → Nat} {e k : Nat} (h : ∀ i, f i < 65536) : cA f e k < 65536 := by
  unfold cA
  split
  · exact h k
  · decide
theorem cA_64 {f : Nat → Nat} {e p c : Nat} (h : cA f e p = c) (hc : c ≠ 0) : p < e ∧ f p = c := by
  have hp : p < e := cA_lt (by rw [h]; exact hc)
  rw [cA_eq hp] at h
  exact ⟨hp, h⟩
theorem stB_head {f : Nat → Nat} {e p c : Nat} {cs : List Nat} (h : stB f e p (c :: cs) = true) (hc : c ≠ 0) : p < e ∧ f p = c := by
  rw [stB_cons, Bool.and_eq_true] at h
  exact cA_64 (by simpa using h.1) hc
theorem upF_no {f : Nat → Nat} {e p : Nat} (h : f p ≠ 46) : ∀ n, upF f e n p = p
  | 0 => rfl
  | n + 1 => by
    unfold upF
    rw [if_neg]
    intro z
    exact h (stB_head z (by decide)).2
theorem path_at {f : Nat → Nat} {e p : Nat} (h : f p = 64) (hv : pathE f e p = some e) : p + 6 = e ∧ (f (p + 1) = 105 ∨ f (p + 1) = 102) := by
  unfold pathE at hv
  split at hv
  · rename_i hc
    cases hv
    rw [Bool.or_eq_true] at hc
    refine ⟨rfl, ?_⟩
    rcases hc with q | q
    · rw [stB_cons, Bool.and_eq_true] at q
      exact Or.inl (stB_head q.2 (by decide)).2
    · rw [stB_cons, Bool.and_eq_true] at q
      exact Or.inr (stB_head q.2 (by decide)).2
  · dsimp only at hv
    rw [upF_no (by rw [h]; decide)] at hv
    have hl : lts f e p = 0 := by
      apply lts_stop
      unfold cA
      split
      · rw [h]; rfl
      · rfl
    rw [hl, if_pos (Or.inl (by decide))] at hv
    cases hv
theorem path_el {f : Nat → Nat} {e p : Nat} (h : f p ≠ 64) (hv : pathE f e p = some e) : 1 ≤ lts f e (upF f e e p) ∧ lts f e (upF f e e p) ≤ 8 ∧ ((lts f e (upF f e e p) = 4 ∧ stB f e (upF f e e p) [116, 104, 105, 115] = true ∧ upF f e e p + 4 = e) ∨ (¬ (lts f e (upF f e e p) = 4 ∧ stB f e (upF f e e p) [116, 104, 105, 115] = true) ∧ dtF f e e (upF f e e p + lts f e (upF f e e p)) = some e)) := by
  unfold pathE at hv
  rw [if_neg] at hv
  · dsimp only at hv
    split at hv
    · cases hv
    · rename_i hn
      refine ⟨by omega, by omega, ?_⟩
      split at hv
      · rename_i q
        exact Or.inl ⟨q.1, by simpa using q.2, Option.some.inj hv⟩
      · rename_i q
        exact Or.inr ⟨q, hv⟩
  · intro z
    rw [Bool.or_eq_true] at z
    rcases z with q | q <;> exact h (stB_head q (by decide)).2
theorem mbV_dig {D : aD} {τ : tT} {r c : Nat} {v : aV} (hD : tD τ D) (hv : vR D τ r v) (hc : isD c = true) : mbV D v [c] = elV D v (nI (c - 48)) := by
  rcases hv.is hD with ⟨_, x, rfl, x1, x2, _⟩ | ⟨_, x, rfl, x1, x2, _⟩ | ⟨_, _, h3⟩
  · show (if _ then _ else _) = _
    rw [if_neg (by rw [isLs_eq x2]; simp [isMp])]
    show (if isD c = true then elV D (some (.inr (.inr x))) (nI (c - 48)) else none) = _
    rw [if_pos hc]
  · have hit := (hD.2.2 x x1).1
    rw [isMp_eq x2] at hit
    obtain ⟨_, _, _, _, kn⟩ := hit
    have kn := kn rfl
    have hf : fnP [c] (aPs (D.2 x)) = none := by
      refine fnP_none (fun j hj z => ?_)
      have := (kn j hj).2.1
      rw [z] at this
      have h1 := isL_iff.mp (this c (by simp))
      have h2 := isD_iff.mp hc
      omega
    show (if _ then _ else _) = (if _ then _ else _)
    rw [if_pos x2, hf, if_neg]
    intro z
    rw [isMp_eq x2] at z
    exact absurd z.1 (by simp [isLs])
  · rcases v with _ | v | l | x
    · rfl
    · rfl
    · rfl
    · exact absurd rfl (h3 x)
/-- what the twin holds while it renders -/
def evB (Tm : Nat → Option aT) (D : aD) (t n : Nat) (f : Nat → Nat) (g : Nat) (T : tTb) (U : List aU) (C : List aV) (τ : tT) : Prop :=
  (t < 4 ∧ Tm t = some (n, f, g, T) ∧ tTa τ t g T ∧ g ≤ 50 ∧ (∀ j, (T.1 j).2.2.2.2 ≤ 10)) ∧ (uR Tm D τ t U ∧ τ.1 37 = U.length ∧ U.length ≤ 20) ∧ (vC D τ C ∧ τ.1 36 = C.length ∧ C.length ≤ 14) ∧ tD τ D ∧ acy D ∧ txB τ
theorem tTa.keep {R : Nat → Prop} {a b : tT} (h : vK R a b) {k n : Nat} {T : tTb} (q : tTa a k n T) : tTa b k n T := by
  intro g hg
  obtain ⟨q1, q2, q3, q4, q5, q6, q7⟩ := q g hg
  have hk : ∀ k, k < 26 → ∀ i, b.2.2.1 k i = a.2.2.1 k i ∧ b.2.2.2.1 k i = a.2.2.2.1 k i := fun k h1 i => h.2.2.2 k i (Or.inl (Or.inl h1))
  exact ⟨(hk 18 (by decide) _).1.trans q1, (hk 20 (by decide) _).1.trans q2, (hk 21 (by decide) _).1.trans q3, (hk 19 (by decide) _).1.trans q4, (hk 22 (by decide) _).2.trans q5, (hk 23 (by decide) _).2.trans q6, (hk 24 (by decide) _).2.trans q7⟩
theorem evB.keep {R : Nat → Prop} {a b : tT} (h : vK R a b) (hr : ∀ r, 3 ≤ r → ¬ R r) {Tm : Nat → Option aT} {D : aD} {t n : Nat} {f : Nat → Nat} {g : Nat} {T : tTb} {U : List aU} {C : List aV} (q : evB Tm D t n f g T U C a) : evB Tm D t n f g T U C b := by
  obtain ⟨⟨q1, q2, q3, q4, q5⟩, ⟨q6, q7, q8⟩, ⟨q9, q10, q11⟩, q12, q13, q14⟩ := q
  exact ⟨⟨q1, q2, q3.keep h, q4, q5⟩, ⟨q6.keep h, (h.1 37 (by decide) (by decide) (by decide)).trans q7, q8⟩, ⟨q9.keep h (fun r h1 _ => hr r h1), (h.1 36 (by decide) (by decide) (by decide)).trans q10, q11⟩, q12.keep h, q13, fun i => by rw [(h.2.2.2 14 i (Or.inl (Or.inl (by decide)))).1]; exact q14 i⟩
theorem vK.tx {R : Nat → Prop} {a b : tT} (h : vK R a b) : b.2.2.1 14 = a.2.2.1 14 := by
  funext i
  exact (h.2.2.2 14 i (Or.inl (Or.inl (by decide)))).1
section TW19
variable {Z : hE} {o : Nat} {τ : tT}
theorem tc_path (d r p e : Nat) (Tm : Nat → Option aT) (D : aD) (t n : Nat) (f : Nat → Nat) (g : Nat) (T : tTb) (U : List aU) (C : List aV) (hB : evB Tm D t n f g T U C τ) (F : Nat → Nat) (hFe : τ.2.2.1 14 = F) (hr : r < 3) (he : e ≤ 1000) (hp : p < e) (hv : pathE F e p = some e) : tC Z mX3_path (d + 3) o [.ref o, .int (nI r), .int (nI p), .int (nI e)] τ (fun u τ' => u = none ∧ τ'.1 = τ.1 ∧ vK (fun i => i = r) τ τ' ∧ vR D τ' r (evO D C (lpU T U) (pathO F e p))) := by
  refine tC.of rfl rfl (Nat.le_of_ble_eq_true rfl) rfl (fun X hin h hR => ?_)
  have hB0 := hB
  obtain ⟨⟨q1, q2, q3, q4, q5⟩, ⟨q6, q7, q8⟩, ⟨q9, q10, q11⟩, q12, q13, q14⟩ := hB
  have hFb : ∀ i, F i < 65536 := by rw [← hFe]; exact q14
  have hfp := hFb p
  generalize hQ : (fun (u : Option Value) (τ' : tT) => u = none ∧ τ'.1 = τ.1 ∧ vK (fun i => i = r) τ τ' ∧ vR D τ' r (evO D C (lpU T U) (pathO F e p))) = Q
  refine g_aload_n (pc := 0) dX3_path_0 rfl rfl ?_
  refine t_get (pc := 1) (v := .ref (tAd _ 14)) 14 dX3_path_1 hR rfl q1813 (Nat.le_of_ble_eq_true rfl) rfl rfl ?_
  refine g_iload_n (pc := 4) dX3_path_4 rfl rfl ?_
  refine t_cald (pc := 5) dX3_path_5 hR rfl (by decide) rfl (by decide) (by show _ < 1000; omega) ?_
  rw [hFe]
  refine g_bipush (pc := 6) (v := nI 64) dX3_path_6 rfl ?_
  refine g_icmp_neN (pc := 8) (tgt := 74) dX3_path_8 rfl (by omega) (by omega) (fun z => ?_) (fun z => ?_)
  · obtain ⟨n1, n8, hcase⟩ := path_el z hv
    generalize hK : upF F e e p = K at n1 n8 hcase
    generalize hN : lts F e K = N at n1 n8 hcase
    have hKN : K + N ≤ e := by have := lts_le (f := F) (e := e) (p := K); omega
    have hlet := lts_all hN
    -- behind the dots
    have dots : ∀ (m k : Nat) (v : aV) (τc : tT), e - k ≤ m → k ≤ e → dtF F e m k = some e → τc.1 = τ.1 → vK (fun i => i = r) τ τc → vR D τc r v → (dnF F e m k).foldl (mbV D) v = evO D C (lpU T U) (pathO F e p) → ∀ w : Int32, ∀ h, tH o τc hin h → hG Z X mX3_path (d + 3) tS hin (tK o hin Q) 192 [(0, .ref o), (1, .int (nI r)), (2, .int (nI p)), (3, .int (nI e)), (5, .int (nI k)), (6, .int w)] [] h := by
      intro m
      induction m with
      | zero =>
        intro k v τc hm hk hd c1 c2 c3 hf w h hR
        refine g_aload_n (pc := 192) dX3_path_192 rfl rfl ?_
        refine g_iload (pc := 193) dX3_path_193 rfl ?_
        refine g_iload_n (pc := 195) dX3_path_195 rfl rfl ?_
        refine t_invE (pc := 196) dX3_path_196 hR (tf_at0 (c2.tx.trans hFe) _ k e (by omega) he) meX3_at0 q2032 q2034 qs27 rfl rfl (Nat.le_of_ble_eq_true rfl) (fun h hR => ?_)
        rw [cA_ge (by omega)]
        refine g_bipush (pc := 199) (v := nI 46) dX3_path_199 rfl ?_
        refine g_icmp_neN (pc := 201) (tgt := 266) dX3_path_201 rfl (by omega) (by omega) (fun z2 => ?_) (fun z2 => ?_)
        · subst hQ
          exact t_vret (pc := 266) dX3_path_266 hR rfl (⟨rfl, c1, c2, by rw [← hf]; exact c3⟩)
        · exact absurd z2 (by decide)
      | succ m ih =>
        intro k v τc hm hk hd c1 c2 c3 hf w h hR
        have hB2 := hB0.keep c2 (fun i hi z => by omega)
        have hD2 := hB2.2.2.2.1
        have hck : cA F e k < 65536 := cA_b hFb
        unfold dtF at hd
        unfold dnF at hf
        refine g_aload_n (pc := 192) dX3_path_192 rfl rfl ?_
        refine g_iload (pc := 193) dX3_path_193 rfl ?_
        refine g_iload_n (pc := 195) dX3_path_195 rfl rfl ?_
        refine t_invE (pc := 196) dX3_path_196 hR (tf_at0 (c2.tx.trans hFe) _ k e (by omega) he) meX3_at0 q2032 q2034 qs27 rfl rfl (Nat.le_of_ble_eq_true rfl) (fun h hR => ?_)
        refine g_bipush (pc := 199) (v := nI 46) dX3_path_199 rfl ?_
        refine g_icmp_neN (pc := 201) (tgt := 266) dX3_path_201 rfl (by omega) (by omega) (fun z2 => ?_) (fun z2 => ?_)
        · rw [if_neg z2] at hf
          subst hQ
          exact t_vret (pc := 266) dX3_path_266 hR rfl (⟨rfl, c1, c2, by rw [← hf]; exact c3⟩)
        · rw [if_pos z2] at hf hd
          have hke := cA_lt (f := F) (e := e) (p := k) (by rw [z2]; decide)
          dsimp only at hf hd
          refine g_aload_n (pc := 204) dX3_path_204 rfl rfl ?_
          refine g_iload (pc := 205) dX3_path_205 rfl ?_
          refine g_iconst (pc := 207) (v := nI 1) dX3_path_207 rfl ?_
          first | refine g_iaddN (pc := 208) dX3_path_208 ?_ | refine g_iadd (pc := 208) dX3_path_208 ?_
          refine g_iload_n (pc := 209) dX3_path_209 rfl rfl ?_
          refine t_invE (pc := 210) dX3_path_210 hR (tf_letters (c2.tx.trans hFe) _ (k + 1) e (by omega) he hFb) meX3_letters q2072 q2074 qs34 rfl rfl (Nat.le_of_ble_eq_true rfl) (fun h hR => ?_)
          refine g_istore (pc := 213) (ls' := [(0, _), (1, _), (2, _), (3, _), (5, _), (6, _)]) dX3_path_213 (Nat.le_of_ble_eq_true rfl) rfl ?_
          refine g_iload (pc := 215) dX3_path_215 rfl ?_
          generalize hn2 : lts F e (k + 1) = n2 at hf hd
          have hn2l : n2 ≤ e - (k + 1) := by rw [← hn2]; exact lts_le
          generalize hm2 : (if n2 = 0 ∧ isD (cA F e (k + 1)) = true then 1 else n2) = m2 at hf hd
          split at hd
          · cases hd
          · rename_i hm8
            refine g_if_leN (pc := 217) (tgt := 234) dX3_path_217 rfl (by omega) (fun z3 => ?_) (fun z3 => ?_)
            · have hdg : isD (cA F e (k + 1)) = true := by
                cases hz : isD (cA F e (k + 1)) with
                | true => rfl
                | false =>
                  rw [if_neg (by rw [hz]; simp)] at hm2
                  omega
              have e2 : m2 = 1 := by rw [← hm2, if_pos ⟨z3, hdg⟩]
              subst e2
              have hk1 := cA_lt (isD_pos hdg)
              rw [cA_eq hk1] at hdg
              have hdd := isD_iff.mp hdg
              refine g_iconst (pc := 234) (v := nI 1) dX3_path_234 rfl ?_
              refine g_istore (pc := 235) (ls' := [(0, _), (1, _), (2, _), (3, _), (5, _), (6, _)]) dX3_path_235 (Nat.le_of_ble_eq_true rfl) rfl ?_
              refine g_aload_n (pc := 237) dX3_path_237 rfl rfl ?_
              refine g_iload_n (pc := 238) dX3_path_238 rfl rfl ?_
              refine g_aload_n (pc := 239) dX3_path_239 rfl rfl ?_
              refine t_get (pc := 240) (v := .ref (tAd _ 14)) 14 dX3_path_240 hR rfl q1813 (Nat.le_of_ble_eq_true rfl) rfl rfl ?_
              refine g_iload (pc := 243) dX3_path_243 rfl ?_
              refine g_iconst (pc := 245) (v := nI 1) dX3_path_245 rfl ?_
              first | refine g_iaddN (pc := 246) dX3_path_246 ?_ | refine g_iadd (pc := 246) dX3_path_246 ?_
              refine t_cald (pc := 247) dX3_path_247 hR rfl (by decide) rfl (by decide) (by show _ < 1000; omega) ?_
              rw [c2.tx, hFe]
              refine g_bipush (pc := 248) (v := nI 48) dX3_path_248 rfl ?_
              first | refine g_isubN (pc := 250) dX3_path_250 (by omega) ?_ | refine g_isub (pc := 250) dX3_path_250 ?_
              refine t_inv (pc := 251) dX3_path_251 hR (tc_element _ r (nI (F (k + 1) - 48)) D v (by omega) hD2 c3) meX3_element q2176 q2178 qs56 rfl rfl (Nat.le_of_ble_eq_true rfl) (fun u τ1 h hp1 hR => ?_)
              obtain ⟨rfl, g1, g2, g3⟩ := hp1
              refine g_iload (pc := 254) dX3_path_254 rfl ?_
              refine g_iconst (pc := 256) (v := nI 1) dX3_path_256 rfl ?_
              refine g_iload (pc := 257) dX3_path_257 rfl ?_
              first | refine g_iaddN (pc := 259) dX3_path_259 ?_ | refine g_iadd (pc := 259) dX3_path_259 ?_
              first | refine g_iaddN (pc := 260) dX3_path_260 ?_ | refine g_iadd (pc := 260) dX3_path_260 ?_
              refine g_istore (pc := 261) (ls' := [(0, _), (1, _), (2, _), (3, _), (5, _), (6, _)]) dX3_path_261 (Nat.le_of_ble_eq_true rfl) rfl ?_
              refine g_goto (pc := 263) (tgt := 192) dX3_path_263 rfl ?_
              have e1 : sgF F (k + 1) 1 = [F (k + 1)] := rfl
              rw [e1, List.foldl_cons, mbV_dig hD2 c3 hdg] at hf
              rw [show k + (1 + 1) = k + 1 + 1 by omega]
              exact ih (k + 1 + 1) _ τ1 (by omega) (by omega) hd (g1.trans c1) (c2.trans g2) g3 hf _ h hR
            · have e2 : m2 = n2 := by rw [← hm2, if_neg (fun y => by have := y.1; omega)]
              subst e2
              refine g_aload_n (pc := 220) dX3_path_220 rfl rfl ?_
              refine g_iload_n (pc := 221) dX3_path_221 rfl rfl ?_
              refine g_iload (pc := 222) dX3_path_222 rfl ?_
              refine g_iconst (pc := 224) (v := nI 1) dX3_path_224 rfl ?_
              first | refine g_iaddN (pc := 225) dX3_path_225 ?_ | refine g_iadd (pc := 225) dX3_path_225 ?_
              refine g_iload (pc := 226) dX3_path_226 rfl ?_
              refine t_inv (pc := 228) dX3_path_228 hR (tc_member _ r (k + 1) m2 D v F (c2.tx.trans hFe) (by omega) hD2 c3 (by omega) (by omega) (by omega) (fun i hi => (lts_all hn2 i hi).2)) meX3_member q2172 q2174 qs55 rfl rfl (Nat.le_of_ble_eq_true rfl) (fun u τ1 h hp1 hR => ?_)
              obtain ⟨rfl, g1, g2, g3⟩ := hp1
              refine g_goto (pc := 231) (tgt := 254) dX3_path_231 rfl ?_
              refine g_iload (pc := 254) dX3_path_254 rfl ?_
              refine g_iconst (pc := 256) (v := nI 1) dX3_path_256 rfl ?_
              refine g_iload (pc := 257) dX3_path_257 rfl ?_
              first | refine g_iaddN (pc := 259) dX3_path_259 ?_ | refine g_iadd (pc := 259) dX3_path_259 ?_
              first | refine g_iaddN (pc := 260) dX3_path_260 ?_ | refine g_iadd (pc := 260) dX3_path_260 ?_
              refine g_istore (pc := 261) (ls' := [(0, _), (1, _), (2, _), (3, _), (5, _), (6, _)]) dX3_path_261 (Nat.le_of_ble_eq_true rfl) rfl ?_
              refine g_goto (pc := 263) (tgt := 192) dX3_path_263 rfl ?_
              rw [List.foldl_cons] at hf
              rw [show k + (1 + m2) = k + 1 + m2 by omega]
              exact ih (k + 1 + m2) _ τ1 (by omega) (by omega) hd (g1.trans c1) (c2.trans g2) g3 hf _ h hR
    -- the first name
    have first : ∀ (bk : Nat) (τc : tT), K = p + 3 * bk → τc.1 = τ.1 → vK (fun i => i = r) τ τc → vR D τc r (C.getD bk none) → ∀ h, tH o τc hin h → hG Z X mX3_path (d + 3) tS hin (tK o hin Q) 133 [(0, .ref o), (1, .int (nI r)), (2, .int (nI p)), (3, .int (nI e)), (4, .int (nI bk)), (5, .int (nI K))] [] h := by
      intro bk τc hbk c1 c2 c3 h hR
      have hB2 := hB0.keep c2 (fun i hi z => by omega)
      have hD2 := hB2.2.2.2.1
      have hdiv : (K - p) / 3 = bk := by omega
      have member : ¬ (N = 4 ∧ stB F e K [116, 104, 105, 115] = true) → dtF F e e (K + N) = some e → ∀ h, tH o τc hin h → hG Z X mX3_path (d + 3) tS hin (tK o hin Q) 176 [(0, .ref o), (1, .int (nI r)), (2, .int (nI p)), (3, .int (nI e)), (4, .int (nI bk)), (5, .int (nI K)), (6, .int (nI N))] [] h := by
        intro hno hdt h hR
        refine g_aload_n (pc := 176) dX3_path_176 rfl rfl ?_
        refine g_iload_n (pc := 177) dX3_path_177 rfl rfl ?_
        refine g_iload (pc := 178) dX3_path_178 rfl ?_
        refine g_iload (pc := 180) dX3_path_180 rfl ?_
        refine t_inv (pc := 182) dX3_path_182 hR (tc_member _ r K N D _ F (c2.tx.trans hFe) (by omega) hD2 c3 n1 n8 (by omega) (fun i hi => (hlet i hi).2)) meX3_member q2172 q2174 qs55 rfl rfl (Nat.le_of_ble_eq_true rfl) (fun u τ1 h hp1 hR => ?_)
        obtain ⟨rfl, g1, g2, g3⟩ := hp1
        refine g_iload (pc := 185) dX3_path_185 rfl ?_
        refine g_iload (pc := 187) dX3_path_187 rfl ?_
        first | refine g_iaddN (pc := 189) dX3_path_189 ?_ | refine g_iadd (pc := 189) dX3_path_189 ?_
        refine g_istore (pc := 190) (ls' := [(0, _), (1, _), (2, _), (3, _), (4, _), (5, _), (6, _)]) dX3_path_190 (Nat.le_of_ble_eq_true rfl) rfl ?_
        refine g_drop [0, 1, 2, 3, 5, 6] rfl ?_
        refine dots e (K + N) _ τ1 (by omega) hKN hdt (g1.trans c1) (c2.trans g2) g3 ?_ _ h hR
        unfold pathO
        rw [if_neg z, hK, hN, if_neg hno, hdiv]
        rfl
      refine g_aload_n (pc := 133) dX3_path_133 rfl rfl ?_
      refine g_iload (pc := 134) dX3_path_134 rfl ?_
      refine g_iload_n (pc := 136) dX3_path_136 rfl rfl ?_
      refine t_invE (pc := 137) dX3_path_137 hR (tf_letters (c2.tx.trans hFe) _ K e (by omega) he hFb) meX3_letters q2072 q2074 qs34 rfl rfl (Nat.le_of_ble_eq_true rfl) (fun h hR => ?_)
      rw [hN]
      refine g_istore (pc := 140) (ls' := [(0, _), (1, _), (2, _), (3, _), (4, _), (5, _), (6, _)]) dX3_path_140 (Nat.le_of_ble_eq_true rfl) rfl ?_
      refine g_iload (pc := 142) dX3_path_142 rfl ?_
      refine g_iconst (pc := 144) (v := nI 4) dX3_path_144 rfl ?_
      rcases hcase with ⟨a1, a2, a3⟩ | ⟨b1, b2⟩
      · refine g_icmp_neN (pc := 145) (tgt := 176) dX3_path_145 rfl (by omega) (by omega) (fun z2 => ?_) (fun z2 => ?_)
        · exact absurd a1 z2
        · refine g_aload_n (pc := 148) dX3_path_148 rfl rfl ?_
          refine g_iload (pc := 149) dX3_path_149 rfl ?_
          refine g_iload_n (pc := 151) dX3_path_151 rfl rfl ?_
          refine g_ldc2 (pc := 152) dX3_path_152 q2076 ?_
          refine t_invE (pc := 155) dX3_path_155 hR (tf_stands (c2.tx.trans hFe) _ K e _ _ spells_1952999795 (by omega) he hFb) meX3_stands q2027 q2029 qs26 rfl rfl (Nat.le_of_ble_eq_true rfl) (fun h hR => ?_)
          refine g_if_eqB (pc := 158) (tgt := 176) dX3_path_158 rfl (fun z3 => ?_) (fun z3 => ?_)
          · rw [a2] at z3; cases z3
          · refine g_aload_n (pc := 161) dX3_path_161 rfl rfl ?_
            refine g_iload (pc := 162) dX3_path_162 rfl ?_
            refine g_iconst (pc := 164) (v := nI 4) dX3_path_164 rfl ?_
            first | refine g_iaddN (pc := 165) dX3_path_165 ?_ | refine g_iadd (pc := 165) dX3_path_165 ?_
            refine g_iload_n (pc := 166) dX3_path_166 rfl rfl ?_
            refine t_invE (pc := 167) dX3_path_167 hR (tf_at0 (c2.tx.trans hFe) _ (K + 4) e (by omega) he) meX3_at0 q2032 q2034 qs27 rfl rfl (Nat.le_of_ble_eq_true rfl) (fun h hR => ?_)
            rw [cA_ge (by omega)]
            refine g_bipush (pc := 170) (v := nI 46) dX3_path_170 rfl ?_
            refine g_icmp_eqN (pc := 172) (tgt := 176) dX3_path_172 rfl (by omega) (by omega) (fun z4 => ?_) (fun z4 => ?_)
            · exact absurd z4 (by decide)
            · subst hQ
              refine t_vret (pc := 175) dX3_path_175 hR rfl ⟨rfl, c1, c2, ?_⟩
              unfold pathO
              rw [if_neg z, hK, hN, if_pos ⟨a1, a2⟩, hdiv]
              exact c3
      · refine g_icmp_neN (pc := 145) (tgt := 176) dX3_path_145 rfl (by omega) (by omega) (fun z2 => ?_) (fun z2 => ?_)
        · exact member b1 b2 h hR
        · refine g_aload_n (pc := 148) dX3_path_148 rfl rfl ?_
          refine g_iload (pc := 149) dX3_path_149 rfl ?_
          refine g_iload_n (pc := 151) dX3_path_151 rfl rfl ?_
          refine g_ldc2 (pc := 152) dX3_path_152 q2076 ?_
          refine t_invE (pc := 155) dX3_path_155 hR (tf_stands (c2.tx.trans hFe) _ K e _ _ spells_1952999795 (by omega) he hFb) meX3_stands q2027 q2029 qs26 rfl rfl (Nat.le_of_ble_eq_true rfl) (fun h hR => ?_)
          refine g_if_eqB (pc := 158) (tgt := 176) dX3_path_158 rfl (fun z3 => ?_) (fun z3 => ?_)
          · exact member b1 b2 h hR
          · exact absurd ⟨z2, z3⟩ b1
    -- the dots that climb
    have climb : ∀ (m k bk : Nat), e - k ≤ m → k ≤ e → k = p + 3 * bk → upF F e m k = K → ∀ h, tH o τ hin h → hG Z X mX3_path (d + 3) tS hin (tK o hin Q) 80 [(0, .ref o), (1, .int (nI r)), (2, .int (nI p)), (3, .int (nI e)), (4, .int (nI bk)), (5, .int (nI k))] [] h := by
      have done : ∀ (k bk : Nat), k ≤ e → k = p + 3 * bk → k = K → ∀ h, tH o τ hin h → hG Z X mX3_path (d + 3) tS hin (tK o hin Q) 102 [(0, .ref o), (1, .int (nI r)), (2, .int (nI p)), (3, .int (nI e)), (4, .int (nI bk)), (5, .int (nI k))] [] h := by
        intro k bk hk hkb hkK h hR
        subst hkK
        refine g_iload (pc := 102) dX3_path_102 rfl ?_
        refine g_aload_n (pc := 104) dX3_path_104 rfl rfl ?_
        refine t_get (pc := 105) (v := .int (nI _)) 36 dX3_path_105 hR rfl q1835 (Nat.le_of_ble_eq_true rfl) rfl rfl ?_
        rw [q10]
        refine g_icmp_ltN (pc := 108) (tgt := 119) dX3_path_108 rfl (by omega) (by omega) (fun z2 => ?_) (fun z2 => ?_)
        · refine g_aload_n (pc := 119) dX3_path_119 rfl rfl ?_
          refine g_iload_n (pc := 120) dX3_path_120 rfl rfl ?_
          refine g_iconst (pc := 121) (v := nI 2) dX3_path_121 rfl ?_
          refine g_aload_n (pc := 122) dX3_path_122 rfl rfl ?_
          refine t_get (pc := 123) (v := .int (nI _)) 36 dX3_path_123 hR rfl q1835 (Nat.le_of_ble_eq_true rfl) rfl rfl ?_
          rw [q10]
          first | refine g_iaddN (pc := 126) dX3_path_126 ?_ | refine g_iadd (pc := 126) dX3_path_126 ?_
          refine g_iload (pc := 127) dX3_path_127 rfl ?_
          first | refine g_isubN (pc := 129) dX3_path_129 (by omega) ?_ | refine g_isub (pc := 129) dX3_path_129 ?_
          refine t_inv (pc := 130) dX3_path_130 hR (tc_copy _ r (2 + C.length - bk) D _ (by omega) (by omega) (by omega) (q9.get z2)) meX3_copy q2168 q2170 qs54 rfl rfl (Nat.le_of_ble_eq_true rfl) (fun u τ1 h hp1 hR => ?_)
          obtain ⟨rfl, g1, g2, g3⟩ := hp1
          exact first bk τ1 hkb g1 g2 g3 h hR
        · refine g_aload_n (pc := 111) dX3_path_111 rfl rfl ?_
          refine g_iload_n (pc := 112) dX3_path_112 rfl rfl ?_
          refine t_invE (pc := 113) dX3_path_113 hR (tc_nothing _ r (by omega)) meX3_nothing q2164 q2166 qs53 rfl rfl (Nat.le_of_ble_eq_true rfl) (fun h hR => ?_)
          refine g_goto (pc := 116) (tgt := 133) dX3_path_116 rfl ?_
          refine first bk (tAI τ 26 r (-1)) hkb rfl ((vK.refl (fun i => i = r) τ).ai (vKp_r (Or.inl rfl) rfl)) ?_ h hR
          rw [List.getD_eq_getElem?_getD, List.getElem?_eq_none (by omega)]
          exact rAI_s
      intro m
      induction m with
      | zero =>
        intro k bk hm hk hkb hu h hR
        refine g_aload_n (pc := 80) dX3_path_80 rfl rfl ?_
        refine g_iload (pc := 81) dX3_path_81 rfl ?_
        refine g_iload_n (pc := 83) dX3_path_83 rfl rfl ?_
        refine g_ldc2 (pc := 84) dX3_path_84 q2071 ?_
        refine t_invE (pc := 87) dX3_path_87 hR (tf_stands hFe _ k e _ _ spells_3026479 (by omega) he hFb) meX3_stands q2027 q2029 qs26 rfl rfl (Nat.le_of_ble_eq_true rfl) (fun h hR => ?_)
        refine g_if_eqB (pc := 90) (tgt := 102) dX3_path_90 rfl (fun z2 => ?_) (fun z2 => ?_)
        · exact done k bk hk hkb hu h hR
        · have := stB_len (by simp) (by simp) z2
          simp at this
          omega
      | succ m ih =>
        intro k bk hm hk hkb hu h hR
        unfold upF at hu
        refine g_aload_n (pc := 80) dX3_path_80 rfl rfl ?_
        refine g_iload (pc := 81) dX3_path_81 rfl ?_
        refine g_iload_n (pc := 83) dX3_path_83 rfl rfl ?_
        refine g_ldc2 (pc := 84) dX3_path_84 q2071 ?_
        refine t_invE (pc := 87) dX3_path_87 hR (tf_stands hFe _ k e _ _ spells_3026479 (by omega) he hFb) meX3_stands q2027 q2029 qs26 rfl rfl (Nat.le_of_ble_eq_true rfl) (fun h hR => ?_)
        refine g_if_eqB (pc := 90) (tgt := 102) dX3_path_90 rfl (fun z2 => ?_) (fun z2 => ?_)
        · rw [if_neg (by rw [z2]; decide)] at hu
          exact done k bk hk hkb hu h hR
        · rw [if_pos z2] at hu
          have := stB_len (by simp) (by simp) z2
          simp at this
          refine g_iincN (pc := 93) (k0 := 3) (ls' := [(0, _), (1, _), (2, _), (3, _), (4, _), (5, _)]) dX3_path_93 rfl (Nat.le_of_ble_eq_true rfl) rfl ?_
          refine g_iincN (pc := 96) (k0 := 1) (ls' := [(0, _), (1, _), (2, _), (3, _), (4, _), (5, _)]) dX3_path_96 rfl (Nat.le_of_ble_eq_true rfl) rfl ?_
          refine g_goto (pc := 99) (tgt := 80) dX3_path_99 rfl ?_
          exact ih (k + 3) (bk + 1) (by omega) (by omega) (by omega) hu h hR
    refine g_iconst (pc := 74) (v := nI 0) dX3_path_74 rfl ?_
    refine g_istore (pc := 75) (ls' := [(0, _), (1, _), (2, _), (3, _), (4, _)]) dX3_path_75 (Nat.le_of_ble_eq_true rfl) rfl ?_
    refine g_iload_n (pc := 77) dX3_path_77 rfl rfl ?_
    refine g_istore (pc := 78) (ls' := [(0, _), (1, _), (2, _), (3, _), (4, _), (5, _)]) dX3_path_78 (Nat.le_of_ble_eq_true rfl) rfl ?_
    exact climb e p 0 (by omega) (by omega) (by omega) hK h hR
  · obtain ⟨a1, a2⟩ := path_at z hv
    have hpo : pathO F e p = .inl (decide (F (p + 1) ≠ 105)) := by unfold pathO; rw [if_pos z]
    have num : ∀ (u : Nat), lpU T U = some (τ.2.2.1 42 u) → ∀ w : Nat, w = (if F (p + 1) ≠ 105 then (if τ.2.2.1 42 u = 0 then 1 else 0) else τ.2.2.1 42 u) → ∀ h, tH o τ hin h → hG Z X mX3_path (d + 3) tS hin (tK o hin Q) 70 [(0, .ref o), (1, .int (nI r)), (2, .int (nI p)), (3, .int (nI e)), (4, .int (nI u))] [.int (nI w), .int (nI r), .ref o] h := by
      intro u hl w hw h hR
      refine t_invE (pc := 70) dX3_path_70 hR (tc_setNumber _ r (nI w) (by omega)) meX3_setNumber q2152 q2154 qs50 rfl rfl (Nat.le_of_ble_eq_true rfl) (fun h hR => ?_)
      subst hQ
      refine t_vret (pc := 73) dX3_path_73 hR rfl ⟨rfl, rfl, ((vK.refl (fun i => i = r) τ).ai (vKp_r (Or.inl rfl) rfl)).ai (vKp_r (Or.inr (Or.inl rfl)) rfl), ?_⟩
      rw [hpo, hl]
      refine ⟨?_, ?_⟩
      · rw [rAI_k (by decide)]; exact rAI_s
      · rw [rAI_s, hw]
        by_cases hz : F (p + 1) = 105 <;> simp [hz]
    refine g_aload_n (pc := 11) dX3_path_11 rfl rfl ?_
    refine t_inv (pc := 12) dX3_path_12 hR (tc_loop _ Tm D t U n f g T q1 q2 q3 q4 q5 q6 q7 q8) meX3_loop q2160 q2162 qs52 rfl rfl (Nat.le_of_ble_eq_true rfl) (fun u τ1 h hp1 hR => ?_)
    obtain ⟨e0, x, rfl, x1, x2⟩ := hp1
    rw [e0] at hR
    refine g_istore (pc := 15) (ls' := [(0, _), (1, _), (2, _), (3, _), (4, _)]) dX3_path_15 (Nat.le_of_ble_eq_true rfl) rfl ?_
    refine g_iload (pc := 17) dX3_path_17 rfl ?_
    cases x with
    | none =>
      refine g_if_ge (pc := 19) (tgt := 30) dX3_path_19 rfl (fun z => absurd z (by decide)) (fun _ => ?_)
      refine g_aload_n (pc := 22) dX3_path_22 rfl rfl ?_
      refine g_iload_n (pc := 23) dX3_path_23 rfl rfl ?_
      refine t_invE (pc := 24) dX3_path_24 hR (tc_nothing _ r (by omega)) meX3_nothing q2164 q2166 qs53 rfl rfl (Nat.le_of_ble_eq_true rfl) (fun h hR => ?_)
      refine g_goto (pc := 27) (tgt := 73) dX3_path_27 rfl ?_
      subst hQ
      refine t_vret (pc := 73) dX3_path_73 hR rfl ⟨rfl, rfl, (vK.refl (fun i => i = r) τ).ai (vKp_r (Or.inl rfl) rfl), ?_⟩
      rw [hpo, x1 rfl]
      exact rAI_s
    | some u =>
      obtain ⟨y1, y2, y3⟩ := x2 u rfl
      refine g_if_geN (pc := 19) (tgt := 30) dX3_path_19 rfl (by omega) ?_
      refine g_aload_n (pc := 30) dX3_path_30 rfl rfl ?_
      refine g_iload_n (pc := 31) dX3_path_31 rfl rfl ?_
      refine g_aload_n (pc := 32) dX3_path_32 rfl rfl ?_
      refine t_get (pc := 33) (v := .ref (tAd _ 14)) 14 dX3_path_33 hR rfl q1813 (Nat.le_of_ble_eq_true rfl) rfl rfl ?_
      refine g_iload_n (pc := 36) dX3_path_36 rfl rfl ?_
      refine g_iconst (pc := 37) (v := nI 1) dX3_path_37 rfl ?_
      first | refine g_iaddN (pc := 38) dX3_path_38 ?_ | refine g_iadd (pc := 38) dX3_path_38 ?_
      refine t_cald (pc := 39) dX3_path_39 hR rfl (by decide) rfl (by decide) (by show _ < 1000; omega) ?_
      rw [hFe]
      refine g_bipush (pc := 40) (v := nI 105) dX3_path_40 rfl ?_
      have hf1 := hFb (p + 1)
      refine g_icmp_neN (pc := 42) (tgt := 55) dX3_path_42 rfl (by omega) (by omega) (fun z2 => ?_) (fun z2 => ?_)
      · refine g_aload_n (pc := 55) dX3_path_55 rfl rfl ?_
        refine t_get (pc := 56) (v := .ref (tAd _ 42)) 42 dX3_path_56 hR rfl q1841 (Nat.le_of_ble_eq_true rfl) rfl rfl ?_
        refine g_iload (pc := 59) dX3_path_59 rfl ?_
        refine t_iald (pc := 61) dX3_path_61 hR rfl (by decide) rfl (by decide) (by show _ < 20; omega) ?_
        refine g_if_neN (pc := 62) (tgt := 69) dX3_path_62 rfl (by omega) (fun z3 => ?_) (fun z3 => ?_)
        · refine g_iconst (pc := 69) (v := nI 0) dX3_path_69 rfl ?_
          exact num u y2 0 (by rw [if_pos z2, if_neg (by omega)]) h hR
        · refine g_iconst (pc := 65) (v := nI 1) dX3_path_65 rfl ?_
          refine g_goto (pc := 66) (tgt := 70) dX3_path_66 rfl ?_
          exact num u y2 1 (by rw [if_pos z2, if_pos z3]) h hR
      · refine g_aload_n (pc := 45) dX3_path_45 rfl rfl ?_
        refine t_get (pc := 46) (v := .ref (tAd _ 42)) 42 dX3_path_46 hR rfl q1841 (Nat.le_of_ble_eq_true rfl) rfl rfl ?_
        refine g_iload (pc := 49) dX3_path_49 rfl ?_
        refine t_iald (pc := 51) dX3_path_51 hR rfl (by decide) rfl (by decide) (by show _ < 20; omega) ?_
        refine g_goto (pc := 52) (tgt := 70) dX3_path_52 rfl ?_
        exact num u y2 _ (by rw [if_neg (fun y => y z2)]) h hR
theorem quF_all {f : Nat → Nat} {e : Nat} : ∀ (n k : Nat), k ≤ quF f e n k
  | 0, k => Nat.le_refl _
  | n + 1, k => by
    unfold quF
    split
    · exact Nat.le_trans (Nat.le_succ k) (quF_all n (k + 1))
    · exact Nat.le_refl _
theorem dgF_all {f : Nat → Nat} {e : Nat} : ∀ (n k : Nat), k ≤ dgF f e n k ∧ dgF f e n k ≤ k + n ∧ ∀ i, k ≤ i → i < dgF f e n k → isD (f i) = true
  | 0, k => ⟨Nat.le_refl _, Nat.le_refl _, fun i h1 h2 => by unfold dgF at h2; omega⟩
  | n + 1, k => by
    unfold dgF
    split
    · rename_i h
      obtain ⟨a, b, c⟩ := dgF_all (f := f) (e := e) n (k + 1)
      refine ⟨by omega, by omega, fun i h1 h2 => ?_⟩
      by_cases z : i = k
      · rw [z]
        have := cA_lt (isD_pos h)
        rw [cA_eq this] at h; exact h
      · exact c i (by omega) h2
    · exact ⟨Nat.le_refl _, by omega, fun i h1 h2 => by omega⟩
theorem dcN_lt : ∀ (n : Nat) (f : Nat → Nat) (p : Nat), (∀ i, i < n → isD (f (p + i)) = true) → dcN (sgF f p n) < 10 ^ n
  | 0, f, p, _ => by simp [sgF, dcN]
  | n + 1, f, p, h => by
    rw [sgF_snoc, dcN_snoc, Nat.pow_succ]
    have h1 := dcN_lt n f p (fun i hi => h i (by omega))
    have h2 := isD_iff.mp (h n (by omega))
    omega
theorem tc_operand (d r p e : Nat) (Tm : Nat → Option aT) (D : aD) (t n : Nat) (f : Nat → Nat) (g : Nat) (T : tTb) (U : List aU) (C : List aV) (hB : evB Tm D t n f g T U C τ) (F : Nat → Nat) (hFe : τ.2.2.1 14 = F) (hr : r < 3) (he : e ≤ 1000) (hp : p < e) (hep : e ≤ p + 300) (h128 : ∀ i, p ≤ i → i < e → F i < 128) (hv : operE F e p = some e) : tC Z mX3_operand (d + 4) o [.ref o, .int (nI r), .int (nI p), .int (nI e)] τ (fun u τ' => u = none ∧ τ'.1 = τ.1 ∧ vK (fun i => i = r) τ τ' ∧ vR D τ' r (evO D C (lpU T U) (opO F e p))) := by
  refine tC.of rfl rfl (Nat.le_of_ble_eq_true rfl) rfl (fun X hin h hR => ?_)
  have hB0 := hB
  obtain ⟨⟨q1, q2, q3, q4, q5⟩, ⟨q6, q7, q8⟩, ⟨q9, q10, q11⟩, q12, q13, q14⟩ := hB
  have hFb : ∀ i, F i < 65536 := by rw [← hFe]; exact q14
  have hfp := hFb p
  unfold operE at hv
  rw [cA_eq hp] at hv
  unfold opO
  generalize hQ : (fun (u : Option Value) (τ' : tT) => u = none ∧ τ'.1 = τ.1 ∧ vK (fun i => i = r) τ τ' ∧ vR D τ' r (evO D C (lpU T U) (if F p = 34 then .inr (.inl (some (.inr (.inl (sgF F (p + 1) (e - p - 2)))))) else if isD (F p) then .inr (.inl (some (.inl (nI (dcN (sgF F p (e - p))))))) else pathO F e p))) = Q
  refine g_aload_n (pc := 0) dX3_operand_0 rfl rfl ?_
  refine t_get (pc := 1) (v := .ref (tAd _ 14)) 14 dX3_operand_1 hR rfl q1813 (Nat.le_of_ble_eq_true rfl) rfl rfl ?_
  refine g_iload_n (pc := 4) dX3_operand_4 rfl rfl ?_
  refine t_cald (pc := 5) dX3_operand_5 hR rfl (by decide) rfl (by decide) (by show _ < 1000; omega) ?_
  rw [hFe]
  refine g_bipush (pc := 6) (v := nI 34) dX3_operand_6 rfl ?_
  refine g_icmp_neN (pc := 8) (tgt := 76) dX3_operand_8 rfl (by omega) (by omega) (fun z => ?_) (fun z => ?_)
  · rw [if_neg z] at hv
    refine g_aload_n (pc := 76) dX3_operand_76 rfl rfl ?_
    refine g_aload_n (pc := 77) dX3_operand_77 rfl rfl ?_
    refine t_get (pc := 78) (v := .ref (tAd _ 14)) 14 dX3_operand_78 hR rfl q1813 (Nat.le_of_ble_eq_true rfl) rfl rfl ?_
    refine g_iload_n (pc := 81) dX3_operand_81 rfl rfl ?_
    refine t_cald (pc := 82) dX3_operand_82 hR rfl (by decide) rfl (by decide) (by show _ < 1000; omega) ?_
    rw [hFe]
    refine t_invE (pc := 83) dX3_operand_83 hR (tc_digit _ _ hfp) meX3_digit q2061 q2063 qs32 rfl rfl (Nat.le_of_ble_eq_true rfl) (fun h hR => ?_)
    refine g_if_eqB (pc := 86) (tgt := 135) dX3_operand_86 rfl (fun z2 => ?_) (fun z2 => ?_)
    · rw [if_neg (by rw [z2]; decide)] at hv
      refine g_aload_n (pc := 135) dX3_operand_135 rfl rfl ?_
      refine g_iload_n (pc := 136) dX3_operand_136 rfl rfl ?_
      refine g_iload_n (pc := 137) dX3_operand_137 rfl rfl ?_
      refine g_iload_n (pc := 138) dX3_operand_138 rfl rfl ?_
      refine t_inv (pc := 139) dX3_operand_139 hR (tc_path _ r p e Tm D t n f g T U C hB0 F hFe hr he hp hv) meX3_path q2156 q2158 qs51 rfl rfl (Nat.le_of_ble_eq_true rfl) (fun u τ1 h hp1 hR => ?_)
      obtain ⟨rfl, g1, g2, g3⟩ := hp1
      subst hQ
      exact t_vret (pc := 142) dX3_operand_142 hR rfl (⟨rfl, g1, g2, by rw [if_neg z, if_neg (by rw [z2]; decide)]; exact g3⟩)
    · rw [if_pos z2] at hv
      have hv := Option.some.inj hv
      obtain ⟨a1, a2, a3⟩ := dgF_all (f := F) (e := e) 5 p
      rw [hv] at a1 a2 a3
      refine g_iconst (pc := 89) (v := nI 0) dX3_operand_89 rfl ?_
      refine g_istore (pc := 90) (ls' := [(0, _), (1, _), (2, _), (3, _), (4, _)]) dX3_operand_90 (Nat.le_of_ble_eq_true rfl) rfl ?_
      refine g_iload_n (pc := 92) dX3_operand_92 rfl rfl ?_
      refine g_istore (pc := 93) (ls' := [(0, _), (1, _), (2, _), (3, _), (4, _), (5, _)]) dX3_operand_93 (Nat.le_of_ble_eq_true rfl) rfl ?_
      have loop : ∀ (j k : Nat), k + j = e - p → ∀ h, tH o τ hin h → hG Z X mX3_operand (d + 4) tS hin (tK o hin Q) 95 [(0, .ref o), (1, .int (nI r)), (2, .int (nI p)), (3, .int (nI e)), (4, .int (nI (dcN (sgF F p k)))), (5, .int (nI (p + k)))] [] h := by
        intro j
        induction j with
        | zero =>
          intro k hk h hR
          have e1 : k = e - p := by omega
          subst e1
          refine g_iload (pc := 95) dX3_operand_95 rfl ?_
          refine g_iload_n (pc := 97) dX3_operand_97 rfl rfl ?_
          refine g_icmp_geN (pc := 98) (tgt := 125) dX3_operand_98 rfl (by omega) (by omega) (fun z3 => ?_) (fun z3 => ?_)
          · refine g_aload_n (pc := 125) dX3_operand_125 rfl rfl ?_
            refine g_iload_n (pc := 126) dX3_operand_126 rfl rfl ?_
            refine g_iload (pc := 127) dX3_operand_127 rfl ?_
            refine t_invE (pc := 129) dX3_operand_129 hR (tc_setNumber _ r _ (by omega)) meX3_setNumber q2152 q2154 qs50 rfl rfl (Nat.le_of_ble_eq_true rfl) (fun h hR => ?_)
            refine g_goto (pc := 132) (tgt := 142) dX3_operand_132 rfl ?_
            subst hQ
            refine t_vret (pc := 142) dX3_operand_142 hR rfl ⟨rfl, rfl, ((vK.refl (fun i => i = r) τ).ai (vKp_r (Or.inl rfl) rfl)).ai (vKp_r (Or.inr (Or.inl rfl)) rfl), ?_⟩
            rw [if_neg z, if_pos z2]
            refine ⟨?_, rAI_s⟩
            rw [rAI_k (by decide)]; exact rAI_s
          · exact absurd z3 (by omega)
        | succ j ih =>
          intro k hk h hR
          have hd := isD_iff.mp (a3 (p + k) (by omega) (by omega))
          refine g_iload (pc := 95) dX3_operand_95 rfl ?_
          refine g_iload_n (pc := 97) dX3_operand_97 rfl rfl ?_
          refine g_icmp_geN (pc := 98) (tgt := 125) dX3_operand_98 rfl (by omega) (by omega) (fun z3 => ?_) (fun z3 => ?_)
          · exact absurd z3 (by omega)
          · refine g_iload (pc := 101) dX3_operand_101 rfl ?_
            refine g_bipush (pc := 103) (v := nI 10) dX3_operand_103 rfl ?_
            first | refine g_imulN (pc := 105) dX3_operand_105 ?_ | refine g_imul (pc := 105) dX3_operand_105 ?_
            refine g_aload_n (pc := 106) dX3_operand_106 rfl rfl ?_
            refine t_get (pc := 107) (v := .ref (tAd _ 14)) 14 dX3_operand_107 hR rfl q1813 (Nat.le_of_ble_eq_true rfl) rfl rfl ?_
            refine g_iload (pc := 110) dX3_operand_110 rfl ?_
            refine t_cald (pc := 112) dX3_operand_112 hR rfl (by decide) rfl (by decide) (by show _ < 1000; omega) ?_
            rw [hFe]
            first | refine g_iaddN (pc := 113) dX3_operand_113 ?_ | refine g_iadd (pc := 113) dX3_operand_113 ?_
            refine g_bipush (pc := 114) (v := nI 48) dX3_operand_114 rfl ?_
            first | refine g_isubN (pc := 116) dX3_operand_116 (by omega) ?_ | refine g_isub (pc := 116) dX3_operand_116 ?_
            refine g_istore (pc := 117) (ls' := [(0, _), (1, _), (2, _), (3, _), (4, _), (5, _)]) dX3_operand_117 (Nat.le_of_ble_eq_true rfl) rfl ?_
            refine g_iincN (pc := 119) (k0 := 1) (ls' := [(0, _), (1, _), (2, _), (3, _), (4, _), (5, _)]) dX3_operand_119 rfl (Nat.le_of_ble_eq_true rfl) rfl ?_
            refine g_goto (pc := 122) (tgt := 95) dX3_operand_122 rfl ?_
            have e1 : dcN (sgF F p k) * 10 + F (p + k) - 48 = dcN (sgF F p (k + 1)) := by
              rw [sgF_snoc, dcN_snoc]; omega
            rw [e1]
            exact ih (k + 1) (by omega) h hR
      exact loop (e - p) 0 (by omega) h hR
  · rw [if_pos z] at hv
    dsimp only at hv
    generalize hK : quF F e e (p + 1) = K at hv
    have hK1 : p + 1 ≤ K := by rw [← hK]; exact quF_all _ _
    split at hv
    · have hv := Option.some.inj hv
      refine g_aload_n (pc := 11) dX3_operand_11 rfl rfl ?_
      refine t_get (pc := 12) (v := .ref (tAd _ 26)) 26 dX3_operand_12 hR rfl q1825 (Nat.le_of_ble_eq_true rfl) rfl rfl ?_
      refine g_iload_n (pc := 15) dX3_operand_15 rfl rfl ?_
      refine g_iconst (pc := 16) (v := nI 1) dX3_operand_16 rfl ?_
      refine t_iastI (pc := 17) dX3_operand_17 hR rfl (by decide) rfl (by decide) (by show _ < 18; omega) (fun h hR => ?_)
      refine g_aload_n (pc := 18) dX3_operand_18 rfl rfl ?_
      refine t_get (pc := 19) (v := .ref (tAd _ 28)) 28 dX3_operand_19 hR rfl q1827 (Nat.le_of_ble_eq_true rfl) rfl rfl ?_
      refine g_iload_n (pc := 22) dX3_operand_22 rfl rfl ?_
      refine g_iload_n (pc := 23) dX3_operand_23 rfl rfl ?_
      refine g_iload_n (pc := 24) dX3_operand_24 rfl rfl ?_
      first | refine g_isubN (pc := 25) dX3_operand_25 (by omega) ?_ | refine g_isub (pc := 25) dX3_operand_25 ?_
      refine g_iconst (pc := 26) (v := nI 2) dX3_operand_26 rfl ?_
      first | refine g_isubN (pc := 27) dX3_operand_27 (by omega) ?_ | refine g_isub (pc := 27) dX3_operand_27 ?_
      have hlen : e - p - 2 ≤ 400 := by omega
      generalize hm : e - p - 2 = m
      rw [hm] at hlen
      refine t_iast (pc := 28) dX3_operand_28 hR rfl (by decide) rfl (by decide) (by show _ < 18; omega) (fun h hR => ?_)
      refine g_iconst (pc := 29) (v := nI 0) dX3_operand_29 rfl ?_
      refine g_istore (pc := 30) (ls' := [(0, _), (1, _), (2, _), (3, _), (4, _)]) dX3_operand_30 (Nat.le_of_ble_eq_true rfl) rfl ?_
      have loop : ∀ (j k : Nat) (τc : tT), k + j = m → τc.1 = τ.1 → vK (fun i => i = r) τ τc → τc.2.2.2.1 26 r = nI 1 → τc.2.2.1 28 r = m → (∀ i, i < k → τc.2.2.1 29 (400 * r + i) = F (p + 1 + i)) → ∀ h, tH o τc hin h → hG Z X mX3_operand (d + 4) tS hin (tK o hin Q) 32 [(0, .ref o), (1, .int (nI r)), (2, .int (nI p)), (3, .int (nI e)), (4, .int (nI k))] [] h := by
        intro j
        induction j with
        | zero =>
          intro k τc hk c1 c2 c3 c4 c5 h hR
          refine g_iload (pc := 32) dX3_operand_32 rfl ?_
          refine g_aload_n (pc := 34) dX3_operand_34 rfl rfl ?_
          refine t_get (pc := 35) (v := .ref (tAd _ 28)) 28 dX3_operand_35 hR rfl q1827 (Nat.le_of_ble_eq_true rfl) rfl rfl ?_
          refine g_iload_n (pc := 38) dX3_operand_38 rfl rfl ?_
          refine t_iald (pc := 39) dX3_operand_39 hR rfl (by decide) rfl (by decide) (by show _ < 18; omega) ?_
          rw [c4]
          refine g_icmp_geN (pc := 40) (tgt := 73) dX3_operand_40 rfl (by omega) (by omega) (fun z3 => ?_) (fun z3 => ?_)
          · refine g_goto (pc := 73) (tgt := 142) dX3_operand_73 rfl ?_
            subst hQ
            refine t_vret (pc := 142) dX3_operand_142 hR rfl ⟨rfl, c1, c2, ?_⟩
            rw [if_pos z, hm]
            refine ⟨c3, by rw [c4, sgF_len], by rw [sgF_len]; exact hlen, sgF_mem (P := fun c => c < 128) (fun i hi => h128 _ (by omega) (by omega)), fun i hi => ?_⟩
            rw [sgF_len] at hi
            rw [sgF_get hi]
            exact c5 i (by omega)
          · exact absurd z3 (by omega)
        | succ j ih =>
          intro k τc hk c1 c2 c3 c4 c5 h hR
          have hc := hFb (p + 1 + k)
          refine g_iload (pc := 32) dX3_operand_32 rfl ?_
          refine g_aload_n (pc := 34) dX3_operand_34 rfl rfl ?_
          refine t_get (pc := 35) (v := .ref (tAd _ 28)) 28 dX3_operand_35 hR rfl q1827 (Nat.le_of_ble_eq_true rfl) rfl rfl ?_
          refine g_iload_n (pc := 38) dX3_operand_38 rfl rfl ?_
          refine t_iald (pc := 39) dX3_operand_39 hR rfl (by decide) rfl (by decide) (by show _ < 18; omega) ?_
          rw [c4]
          refine g_icmp_geN (pc := 40) (tgt := 73) dX3_operand_40 rfl (by omega) (by omega) (fun z3 => ?_) (fun z3 => ?_)
          · exact absurd z3 (by omega)
          · refine g_aload_n (pc := 43) dX3_operand_43 rfl rfl ?_
            refine t_get (pc := 44) (v := .ref (tAd _ 29)) 29 dX3_operand_44 hR rfl q1828 (Nat.le_of_ble_eq_true rfl) rfl rfl ?_
            refine g_iload_n (pc := 47) dX3_operand_47 rfl rfl ?_
            refine g_sipush (pc := 48) (v := nI 400) dX3_operand_48 rfl ?_
            first | refine g_imulN (pc := 51) dX3_operand_51 ?_ | refine g_imul (pc := 51) dX3_operand_51 ?_
            refine g_iload (pc := 52) dX3_operand_52 rfl ?_
            first | refine g_iaddN (pc := 54) dX3_operand_54 ?_ | refine g_iadd (pc := 54) dX3_operand_54 ?_
            refine g_aload_n (pc := 55) dX3_operand_55 rfl rfl ?_
            refine t_get (pc := 56) (v := .ref (tAd _ 14)) 14 dX3_operand_56 hR rfl q1813 (Nat.le_of_ble_eq_true rfl) rfl rfl ?_
            refine g_iload_n (pc := 59) dX3_operand_59 rfl rfl ?_
            refine g_iconst (pc := 60) (v := nI 1) dX3_operand_60 rfl ?_
            first | refine g_iaddN (pc := 61) dX3_operand_61 ?_ | refine g_iadd (pc := 61) dX3_operand_61 ?_
            refine g_iload (pc := 62) dX3_operand_62 rfl ?_
            first | refine g_iaddN (pc := 64) dX3_operand_64 ?_ | refine g_iadd (pc := 64) dX3_operand_64 ?_
            refine t_cald (pc := 65) dX3_operand_65 hR rfl (by decide) rfl (by decide) (by show _ < 1000; omega) ?_
            rw [c2.tx, hFe, Nat.mul_comm r 400]
            refine t_cast (pc := 66) dX3_operand_66 hR rfl (by decide) rfl (by decide) (by show _ < 7200; omega) (by omega) (fun h hR => ?_)
            refine g_iincN (pc := 67) (k0 := 1) (ls' := [(0, _), (1, _), (2, _), (3, _), (4, _)]) dX3_operand_67 rfl (Nat.le_of_ble_eq_true rfl) rfl ?_
            refine g_goto (pc := 70) (tgt := 32) dX3_operand_70 rfl ?_
            refine ih (k + 1) (tAN τc 29 (400 * r + k) (F (p + 1 + k))) (by omega) c1 (c2.an (vKp_w (show (400 * r + k) / 400 = r by omega))) c3 c4 (fun i hi => ?_) h hR
            by_cases e1 : i = k
            · rw [e1]; exact rAN_s
            · rw [rAN_i (by omega)]; exact c5 i (by omega)
      refine loop m 0 (tAN (tAI τ 26 r (nI 1)) 28 r m) (by omega) rfl (((vK.refl (fun i => i = r) τ).ai (vKp_r (Or.inl rfl) rfl)).an (vKp_r (Or.inr (Or.inr rfl)) rfl)) ?_ rAN_s (fun i hi => absurd hi (Nat.not_lt_zero _)) h hR
      exact rAI_s
    · cases hv
end TW19
