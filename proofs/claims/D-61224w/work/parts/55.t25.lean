/-! TWIN 25: block, ends, partial -/
set_option maxRecDepth 100000
theorem rnR.mk {Tm : Nat → Option aT} {D : aD} {k : Nat} {τ0 τ : tT} {t p : Nat} {U : List aU} {C : List aV} {out : List Nat} {seen n : Nat} {f : Nat → Nat} {g : Nat} {T : tTb} (hm : tmR Tm τ) (hT : Tm t = some (n, f, g, T)) (hU : uR Tm D τ t U ∧ τ.1 37 = U.length ∧ U.length ≤ 20) (hC : vC D τ C ∧ τ.1 36 = C.length ∧ C.length ≤ 14) (hD : tD τ D) (ha : acy D) (hp : p ≤ n) (hb : botU t U = k) (ho : outL τ out) (h5 : τ.1 5 = seen) (h6 : seen ≤ 600) (h38 : τ.1 38 = 0) (hg : gK τ0 τ) : rnR Tm D k τ0 (t, p, U, C, out, seen) τ :=
  ⟨n, f, g, T, evB.of hm hT hU hC hD ha, hp, hb, ho, h5, h6, h38, hg, hm⟩
theorem rnR.kp {Tm : Nat → Option aT} {D : aD} {k : Nat} {τ0 a b : tT} {c : aM} {R : Nat → Prop} (h : vK R a b) (hr : ∀ r, 3 ≤ r → ¬ R r) (h38 : b.1 38 = 0) (q : rnR Tm D k τ0 c a) : rnR Tm D k τ0 c b := by
  obtain ⟨n, f, g, T, q1, q2, q3, q4, q5, q6, q7, q8, q9⟩ := q
  exact ⟨n, f, g, T, q1.keep h hr, q2, q3, q4.kp h, (h.1 5 (by decide) (by decide) (by decide)).trans q5, q6, h38, q8.trans h.gK, q9.gK h.gK⟩
theorem vR.isNeg {D : aD} {τ : tT} {r : Nat} : ∀ {v : aV}, vR D τ r v → (τ.2.2.2.1 26 r < 0 ↔ v.isSome = false) ∧ (τ.2.2.2.1 26 r ≤ nI 1 ↔ ∀ x, v ≠ some (.inr (.inr x)))
  | none, h => by
    have h : τ.2.2.2.1 26 r = -1 := h
    rw [h]
    exact ⟨⟨fun _ => rfl, fun _ => by decide⟩, ⟨(fun _ x z => by cases z), fun _ => by decide⟩⟩
  | some (.inl v), h => by
    rw [h.1]
    exact ⟨⟨fun z => absurd z (by decide), fun z => by cases z⟩, ⟨(fun _ x z => by cases z), fun _ => by decide⟩⟩
  | some (.inr (.inl l)), h => by
    rw [h.1]
    exact ⟨⟨fun z => absurd z (by decide), fun z => by cases z⟩, ⟨(fun _ x z => by cases z), fun _ => by decide⟩⟩
  | some (.inr (.inr x)), ⟨x1, x2, m, ps, x3, x4⟩ => by
    rw [x4]
    exact ⟨⟨fun z => absurd z (by cases m <;> decide), fun z => by cases z⟩, ⟨fun z => absurd z (by cases m <;> decide), fun z => absurd rfl (z x)⟩⟩
section TW25
variable {Z : hE} {o : Nat} {τ : tT}
theorem tc_block (d j p k : Nat) (Tm : Nat → Option aT) (D : aD) (t n : Nat) (f : Nat → Nat) (g : Nat) (T : tTb) (U : List aU) (C : List aV) (out : List Nat) (seen : Nat) (τ0 : tT) (hT : Tm t = some (n, f, g, T)) (hr : rnR Tm D k τ0 (t, p, U, C, out, seen) τ) (hj : j < g) (hs3 : 2 < (T.1 j).2.2.2.2) (hs6 : (T.1 j).2.2.2.2 < 6) (x : aZ) (hx : x = match evE D C (lpU T U) (exO f (T.1 j).2.2.1 ((T.1 j).2.1 + (if (T.1 j).2.2.2.2 = 3 then 4 else 6))) with | none => .inr (.inl 4) | some v => mBlk D T t j U C out seen v) (hnx : x ≠ .inr (.inl 0)) : tC Z mX3_block (d + 7) o [.ref o, .int (nI (50 * t + j))] τ (mRs Tm D k τ0 x) := by
  refine tC.of rfl rfl (Nat.le_of_ble_eq_true rfl) rfl (fun X hin h hR => ?_)
  have hr0 := hr
  obtain ⟨n', f', g', T', hB, hpn, hbot, hout, h5, h600, h38, hgk, hm⟩ := hr
  dsimp only at hB hpn hbot hout h5 h600
  have hTe := hB.1.2.1
  rw [hT] at hTe
  cases hTe
  obtain ⟨⟨q1, q2, q3, q4, q5⟩, ⟨q6, q7, q8⟩, ⟨q9, q10, q11⟩, q12, q13, q14⟩ := hB
  obtain ⟨hTp, hok⟩ := hm.2.2.1 t n f g T hT
  obtain ⟨tg, tsp, tm1, tm2⟩ := hok.tag hj
  have hn180 : n ≤ 180 := hok.1
  unfold tgOK at tg
  obtain ⟨_, sp2, sp3, _⟩ := tsp _ rfl
  obtain ⟨r1, r2, r3, r4, r5, r6, r7⟩ := q3 j hj
  generalize hs : (T.1 j).2.2.2.2 = s at hs3 hs6 sp2 sp3
  generalize hoff : (if s = 3 then 4 else 6) = off
  have hoff6 : off ≤ 6 := by rw [← hoff]; split <;> omega
  have hex : isEx f (T.1 j).2.2.1 ((T.1 j).2.1 + off) = true := by
    rcases (show s = 3 ∨ s = 4 ∨ s = 5 by omega) with z | z | z
    · rw [← hoff, if_pos z]; exact sp2 z
    · rw [← hoff, if_neg (by omega)]; exact sp3 (Or.inl z)
    · rw [← hoff, if_neg (by omega)]; exact sp3 (Or.inr z)
  have hexl := isEx_lt hex
  rw [hs, hoff] at hx
  generalize hX0 : (T.1 j).2.1 = X0 at tg r2 hex hexl hx
  generalize hQ0 : (T.1 j).2.2.1 = Q0 at tg r3 hex hexl hx
  generalize hE0 : (T.1 j).2.2.2.1 = E0 at tg r4
  -- behind the test
  have after : ∀ (v : aV) (b : Bool) (τ2 : tT), b = mFst D s v → x = mBlk D T t j U C out seen v → rnR Tm D k τ0 (t, p, U, C, out, seen) τ2 → vR D τ2 2 v → ∀ h, tH o τ2 hin h → hG Z X mX3_block (d + 7) tS hin (tK o hin (mRs Tm D k τ0 x)) 116 [(0, .ref o), (1, .int (nI (50 * t + j))), (2, .int (nI s))] [.int (nI b.toNat)] h := by
    intro v b τ2 hb hx hr2 hv2 h hR
    obtain ⟨n', f', g', T', hB2, hpn2, hbot2, hout2, h52, h6002, h382, hgk2, hm2⟩ := hr2
    dsimp only at hB2 hpn2 hbot2 hout2 h52 h6002
    have hTe := hB2.1.2.1
    rw [hT] at hTe
    cases hTe
    obtain ⟨⟨_, _, p3, _, _⟩, ⟨p6, p7, p8⟩, ⟨p9, p10, p11⟩, p12, p13, p14⟩ := hB2
    obtain ⟨t1, t2, t3, t4, t5, t6, t7⟩ := p3 j hj
    rw [hE0] at t4
    unfold mBlk at hx
    rw [hs] at hx
    refine g_istore_n (pc := 116) (ls' := [(0, _), (1, _), (2, _), (3, _)]) dX3_block_116 rfl (Nat.le_of_ble_eq_true rfl) rfl ?_
    refine g_iload_n (pc := 117) dX3_block_117 rfl rfl ?_
    cases b with
    | true =>
      rw [if_pos hb.symm] at hx
      split at hx
      · exact absurd hx hnx
      · rename_i hroom
        refine g_if_ne (pc := 118) (tgt := 142) dX3_block_118 rfl (fun _ => ?_) (fun q_ => absurd q_ (by decide))
        refine g_aload_n (pc := 142) dX3_block_142 rfl rfl ?_
        refine g_iload_n (pc := 143) dX3_block_143 rfl rfl ?_
        refine g_bipush (pc := 144) (v := nI 50) dX3_block_144 rfl ?_
        refine g_idivN (pc := 146) dX3_block_146 (by omega) (by omega) (by omega) ?_
        rw [show (50 * t + j) / 50 = t by omega]
        refine g_iload_n (pc := 147) dX3_block_147 rfl rfl ?_
        refine g_iconst (pc := 148) (v := nI 0) dX3_block_148 rfl ?_
        refine g_iload_n (pc := 149) dX3_block_149 rfl rfl ?_
        refine g_if_ne (pc := 150) (tgt := 157) dX3_block_150 rfl (fun _ => ?_) (fun q_ => absurd q_ (by decide))
        refine g_iconst (pc := 157) (v := nI 0) dX3_block_157 rfl ?_
        refine t_inv (pc := 158) dX3_block_158 hR (tc_push _ t (50 * t + j) 0 0 (by rw [p7]; omega) (by decide) (by decide)) meX3_push q2219 q2221 qs66 rfl rfl (Nat.le_of_ble_eq_true rfl) (fun u τ3 h hp hR => ?_)
        obtain ⟨rfl, e3⟩ := hp
        have g3 : gK τ0 τ3 := by rw [e3]; exact hgk2.pp
        have k3 : ∀ k i, k < 30 → τ3.2.2.1 k i = τ2.2.2.1 k i ∧ τ3.2.2.2.1 k i = τ2.2.2.2.1 k i := fun k i hk => by rw [e3]; exact ⟨by rw [(pU_k (by omega)).1], by rw [(pU_k (by omega)).2]⟩
        have s3 : ∀ k i, i ≠ U.length → τ3.2.2.1 k i = τ2.2.2.1 k i ∧ τ3.2.2.2.1 k i = τ2.2.2.2.1 k i := fun k i hi => by rw [e3]; exact pU_o p7 hi
        have f3 : ∀ k, k ≠ 37 → τ3.1 k = τ2.1 k := fun k hk => by rw [e3]; exact pU_f hk
        have h373 : τ3.1 37 = U.length + 1 := by rw [e3]; exact (pU_r p7).2.2.2.2.2
        have m3 : tmR Tm τ3 := by rw [e3]; exact hm2.gK ((gK.refl _).pp)
        have d3 : tD τ3 D := by rw [e3]; exact p12.gK ((gK.refl _).pp)
        have o3 : outL τ3 out := hout2.same (f3 34 (by decide)) (fun i => by rw [e3, (pU_k (by decide)).1])
        have v3 : vR D τ3 2 v := hv2.same k3
        have c3 : vC D τ3 C := p9.same k3
        obtain ⟨_, _, _, w4, _, _, _⟩ := (m3.2.2.1 t n f g T hT).1.2.2.2.2 j hj
        rw [hE0] at w4
        refine g_iload_n (pc := 161) dX3_block_161 rfl rfl ?_
        refine g_if_ne (pc := 162) (tgt := 177) dX3_block_162 rfl (fun _ => ?_) (fun q_ => absurd q_ (by decide))
        refine g_iload_n (pc := 177) dX3_block_177 rfl rfl ?_
        refine g_iconst (pc := 178) (v := nI 3) dX3_block_178 rfl ?_
        by_cases hz3 : s = 3
        · rw [if_pos hz3] at hx
          subst hx
          refine g_icmp_neN (pc := 179) (tgt := 189) dX3_block_179 rfl (by omega) (by omega) (fun q_ => absurd q_ (fun y => y hz3)) (fun _ => ?_)
          refine g_aload_n (pc := 182) dX3_block_182 rfl rfl ?_
          refine t_get (pc := 183) (v := .ref (tAd _ 19)) 19 dX3_block_183 hR rfl q1818 (Nat.le_of_ble_eq_true rfl) rfl rfl ?_
          refine g_iload_n (pc := 186) dX3_block_186 rfl rfl ?_
          refine t_iald (pc := 187) dX3_block_187 hR rfl (by decide) rfl (by decide) (by show _ < 250; omega) ?_
          rw [w4]
          refine t_iret (pc := 188) dX3_block_188 hR rfl ⟨by rw [hE0], rnR.mk m3 hT ⟨?_, h373, by simp; omega⟩ ⟨c3, (f3 36 (by decide)).trans p10, p11⟩ d3 p13 (by rw [hE0]; omega) hbot2 o3 ((f3 5 (by decide)).trans h52) h6002 ((f3 38 (by decide)).trans h382) g3⟩
          rw [e3]
          exact pU_uR (ot := false) p6 p7 hT hj (fun z => by rw [hs] at z; omega)
        · rw [if_neg hz3] at hx
          refine g_icmp_neN (pc := 179) (tgt := 189) dX3_block_179 rfl (by omega) (by omega) (fun _ => ?_) (fun q_ => absurd q_ (by omega))
          refine g_aload_n (pc := 189) dX3_block_189 rfl rfl ?_
          refine g_dup (pc := 190) dX3_block_190 rfl ?_
          refine t_get (pc := 191) (v := .int (nI _)) 36 dX3_block_191 hR rfl q1835 (Nat.le_of_ble_eq_true rfl) rfl rfl ?_
          rw [f3 36 (by decide), p10]
          refine g_iconst (pc := 194) (v := nI 1) dX3_block_194 rfl ?_
          first | refine g_iaddN (pc := 195) dX3_block_195 ?_ | refine g_iadd (pc := 195) dX3_block_195 ?_
          refine t_put (pc := 196) 36 dX3_block_196 hR rfl q1835 (Nat.le_of_ble_eq_true rfl) rfl rfl (by decide) rfl rfl (fun h hR => ?_)
          refine g_iload_n (pc := 199) dX3_block_199 rfl rfl ?_
          refine g_iconst (pc := 200) (v := nI 5) dX3_block_200 rfl ?_
          by_cases hz5 : s = 5
          · rw [if_pos hz5] at hx
            subst hx
            refine g_icmp_neN (pc := 201) (tgt := 218) dX3_block_201 rfl (by omega) (by omega) (fun q_ => absurd q_ (fun y => y hz5)) (fun _ => ?_)
            refine g_aload_n (pc := 204) dX3_block_204 rfl rfl ?_
            refine g_iconst (pc := 205) (v := nI 2) dX3_block_205 rfl ?_
            refine g_aload_n (pc := 206) dX3_block_206 rfl rfl ?_
            refine t_get (pc := 207) (v := .int (nI _)) 36 dX3_block_207 hR rfl q1835 (Nat.le_of_ble_eq_true rfl) rfl rfl ?_
            rw [rFN_s]
            first | refine g_iaddN (pc := 210) dX3_block_210 ?_ | refine g_iadd (pc := 210) dX3_block_210 ?_
            refine g_iconst (pc := 211) (v := nI 2) dX3_block_211 rfl ?_
            refine t_inv (pc := 212) dX3_block_212 hR (tc_copy _ (2 + (C.length + 1)) 2 D v (by omega) (by decide) (by omega) (v3.same (fun _ _ _ => ⟨rfl, rfl⟩))) meX3_copy q2168 q2170 qs54 rfl rfl (Nat.le_of_ble_eq_true rfl) (fun u τ4 h hp hR => ?_)
            obtain ⟨rfl, a1, a2, a3⟩ := hp
            have w4' : τ4.2.2.1 19 (50 * t + j) = 200 * t + E0 := by rw [(a2.2.2.2 19 _ (Or.inl (Or.inl (by decide)))).1]; exact w4
            refine g_goto (pc := 215) (tgt := 246) dX3_block_215 rfl ?_
            refine g_aload_n (pc := 246) dX3_block_246 rfl rfl ?_
            refine t_get (pc := 247) (v := .ref (tAd _ 19)) 19 dX3_block_247 hR rfl q1818 (Nat.le_of_ble_eq_true rfl) rfl rfl ?_
            refine g_iload_n (pc := 250) dX3_block_250 rfl rfl ?_
            refine t_iald (pc := 251) dX3_block_251 hR rfl (by decide) rfl (by decide) (by show _ < 250; omega) ?_
            rw [w4']
            refine t_iret (pc := 252) dX3_block_252 hR rfl ⟨by rw [hE0], rnR.mk ((m3.gK ((gK.refl _).fn (by decide))).gK a2.gK) hT ⟨?_, ?_, by simp; omega⟩ ⟨⟨?_, ?_⟩, ?_, by simp; omega⟩ ((d3.gK ((gK.refl _).fn (by decide))).gK a2.gK) p13 (by rw [hE0]; omega) hbot2 ((o3.same (rFN_n (by decide)) (fun i => by rfl)).kp a2) ?_ h6002 ?_ ((g3.fn (by decide)).trans a2.gK)⟩
            · refine uR.keep a2 (uR.same (a := τ3) (fun i hi => by exact ⟨rfl, rfl, rfl, rfl, rfl, rfl⟩) ?_)
              rw [e3]
              exact pU_uR (ot := false) p6 p7 hT hj (fun z => by rw [hs] at z; omega)
            · rw [a1, rFN_n (by decide), h373]; rfl
            · rw [show 3 + C.length = 2 + (C.length + 1) by omega]; exact a3
            · exact vC.keep a2 (fun r h1 h2 => by omega) (vC.same (a := τ3) (fun _ _ _ => by exact ⟨rfl, rfl⟩) c3)
            · rw [a1, rFN_s]; rfl
            · rw [a1, rFN_n (by decide), f3 5 (by decide)]; exact h52
            · rw [a1, rFN_n (by decide), f3 38 (by decide)]; exact h382
          · rw [if_neg hz5] at hx
            have hz4 : s = 4 := by omega
            unfold mFst at hb
            rw [if_neg hz3, if_neg hz5] at hb
            rcases v with _ | v | l | y
            · have hb : true = false := hb
              cases hb
            · have hb : true = false := hb
              cases hb
            · have hb : true = false := hb
              cases hb
            · have hb : true = decide (0 < (aPs (D.2 y)).length) := hb
              have hlen : 0 < (aPs (D.2 y)).length := by simpa using hb.symm
              obtain ⟨y1, y2, m, ps, y3, y4⟩ := v3
              have hx : x = .inl (t, (T.1 j).2.2.2.1, .inr (j, false, 0, y) :: U, elX D y 0 :: C, out, seen) := hx
              have h8 : 2 ≤ τ3.2.2.1 8 y := by
                have := (d3.2.2 y y1).1
                rw [y3] at this
                rw [this.1]; cases m <;> decide
              subst hx
              refine g_icmp_neN (pc := 201) (tgt := 218) dX3_block_201 rfl (by omega) (by omega) (fun _ => ?_) (fun q_ => absurd q_ (by omega))
              refine g_aload_n (pc := 218) dX3_block_218 rfl rfl ?_
              refine t_get (pc := 219) (v := .ref (tAd _ 43)) 43 dX3_block_219 hR rfl q1842 (Nat.le_of_ble_eq_true rfl) rfl rfl ?_
              refine g_aload_n (pc := 222) dX3_block_222 rfl rfl ?_
              refine t_get (pc := 223) (v := .int (nI _)) 37 dX3_block_223 hR rfl q1836 (Nat.le_of_ble_eq_true rfl) rfl rfl ?_
              rw [rFN_n (by decide), h373]
              refine g_iconst (pc := 226) (v := nI 1) dX3_block_226 rfl ?_
              first | refine g_isubN (pc := 227) dX3_block_227 (by omega) ?_ | refine g_isub (pc := 227) dX3_block_227 ?_
              rw [Nat.add_sub_cancel]
              refine g_aload_n (pc := 228) dX3_block_228 rfl rfl ?_
              refine t_get (pc := 229) (v := .ref (tAd _ 27)) 27 dX3_block_229 hR rfl q1826 (Nat.le_of_ble_eq_true rfl) rfl rfl ?_
              refine g_iconst (pc := 232) (v := nI 2) dX3_block_232 rfl ?_
              refine t_ialdI (pc := 233) dX3_block_233 hR rfl (by decide) rfl (by decide) (by show _ < 18; omega) ?_
              rw [show (tFN τ3 36 (C.length + 1)).2.2.2.1 27 2 = nI y from y2]
              refine t_iastI (pc := 234) dX3_block_234 hR rfl (by decide) rfl (by decide) (by show _ < 20; omega) (fun h hR => ?_)
              refine g_aload_n (pc := 235) dX3_block_235 rfl rfl ?_
              refine g_aload_n (pc := 236) dX3_block_236 rfl rfl ?_
              refine t_get (pc := 237) (v := .int (nI _)) 37 dX3_block_237 hR rfl q1836 (Nat.le_of_ble_eq_true rfl) rfl rfl ?_
              rw [show (tAI (tFN τ3 36 (C.length + 1)) 43 U.length (nI y)).1 37 = U.length + 1 from (show (tFN τ3 36 (C.length + 1)).1 37 = _ from (rFN_n (by decide)).trans h373)]
              refine g_iconst (pc := 240) (v := nI 1) dX3_block_240 rfl ?_
              first | refine g_isubN (pc := 241) dX3_block_241 (by omega) ?_ | refine g_isub (pc := 241) dX3_block_241 ?_
              rw [Nat.add_sub_cancel]
              have hu43 : uR Tm D (tAI (tFN τ3 36 (C.length + 1)) 43 U.length (nI y)) t (.inr (j, false, 0, y) :: U) := by
                obtain ⟨z1, z2, z3, z4, z5, z6⟩ := pU_r (t := t) (g := 50 * t + j) (pa := 0) (ot := 0) p7
                rw [← e3] at z1 z2 z3 z4 z5 z6
                refine ⟨z3, z4, z5, z2, by decide, ⟨n, f, g, T, hT, hj, fun _ _ => ⟨⟨y1, hlen⟩, rAI_s⟩⟩, p6.same (fun i hi => ?_)⟩
                have hne : i ≠ U.length := by omega
                exact ⟨(s3 47 i hne).1, (s3 40 i hne).1, (s3 41 i hne).1, (s3 42 i hne).1, (s3 46 i hne).1, (rAI_i (τ := tFN τ3 36 (C.length + 1)) hne).trans (s3 43 i hne).2⟩
              have gk4 : gK τ3 (tAI (tFN τ3 36 (C.length + 1)) 43 U.length (nI y)) := ((gK.refl _).fn (by decide)).ai (by unfold gKp; omega)
              have f4 : ∀ k, k ≠ 36 → (tAI (tFN τ3 36 (C.length + 1)) 43 U.length (nI y)).1 k = τ3.1 k := fun k hk => (show (tFN τ3 36 (C.length + 1)).1 k = τ3.1 k from rFN_n hk)
              have f36 : (tAI (tFN τ3 36 (C.length + 1)) 43 U.length (nI y)).1 36 = C.length + 1 := (show (tFN τ3 36 (C.length + 1)).1 36 = _ from rFN_s)
              have k4 : ∀ k i, k < 30 → (tAI (tFN τ3 36 (C.length + 1)) 43 U.length (nI y)).2.2.1 k i = τ3.2.2.1 k i ∧ (tAI (tFN τ3 36 (C.length + 1)) 43 U.length (nI y)).2.2.2.1 k i = τ3.2.2.2.1 k i := fun k i hk => ⟨rfl, congrFun (rAI_k (τ := tFN τ3 36 (C.length + 1)) (by omega)) i⟩
              have h43 : (tAI (tFN τ3 36 (C.length + 1)) 43 U.length (nI y)).2.2.2.1 43 U.length = nI y := rAI_s
              have o4 : ∀ i, (tAI (tFN τ3 36 (C.length + 1)) 43 U.length (nI y)).2.2.1 31 i = τ3.2.2.1 31 i := fun i => rfl
              generalize hτ4 : tAI (tFN τ3 36 (C.length + 1)) 43 U.length (nI y) = τ4 at hR hu43 gk4 f4 f36 k4 h43 o4
              have d4 : tD τ4 D := d3.gK gk4
              refine t_inv (pc := 242) dX3_block_242 hR (tc_nextTurn _ U.length y 0 (C.length + 1) D d4 (by omega) y1 h43 hu43.2.2.1 (by decide) (Or.inr (by rw [(k4 8 y (by decide)).1]; exact h8)) (by rw [(k4 8 y (by decide)).1]; exact h8) f36 (by omega)) meX3_nextTurn q2136 q2138 qs46 rfl rfl (Nat.le_of_ble_eq_true rfl) (fun u τ5 h hp hR => ?_)
              rcases hp with ⟨_, rfl, a1, a2, a3⟩ | ⟨a0, _⟩
              · have w4' : τ5.2.2.1 19 (50 * t + j) = 200 * t + E0 := by rw [(a2.2.2.2 19 _ (Or.inl (Or.inl (by decide)))).1, (k4 19 _ (by decide)).1]; exact w4
                refine g_pop (pc := 245) dX3_block_245 rfl ?_
                refine g_aload_n (pc := 246) dX3_block_246 rfl rfl ?_
                refine t_get (pc := 247) (v := .ref (tAd _ 19)) 19 dX3_block_247 hR rfl q1818 (Nat.le_of_ble_eq_true rfl) rfl rfl ?_
                refine g_iload_n (pc := 250) dX3_block_250 rfl rfl ?_
                refine t_iald (pc := 251) dX3_block_251 hR rfl (by decide) rfl (by decide) (by show _ < 250; omega) ?_
                rw [w4']
                refine t_iret (pc := 252) dX3_block_252 hR rfl ⟨by rw [hE0], rnR.mk ((m3.gK gk4).gK a2.gK) hT ⟨hu43.keep a2, ?_, by simp; omega⟩ ⟨⟨?_, ?_⟩, ?_, by simp; omega⟩ (d4.gK a2.gK) p13 (by rw [hE0]; omega) hbot2 ((o3.same (f4 34 (by decide)) o4).kp a2) ?_ h6002 ?_ ((g3.trans gk4).trans a2.gK)⟩
                · rw [a1, f4 37 (by decide), h373]; rfl
                · rw [show 3 + C.length = 2 + (C.length + 1) by omega]; exact a3
                · exact vC.keep a2 (fun r h1 h2 => by omega) (c3.same k4)
                · rw [a1, f36]; rfl
                · rw [a1, f4 5 (by decide), f3 5 (by decide)]; exact h52
                · rw [a1, f4 38 (by decide), f3 38 (by decide)]; exact h382
              · omega
    | false =>
      rw [if_neg (by rw [← hb]; decide)] at hx
      refine g_if_ne (pc := 118) (tgt := 142) dX3_block_118 rfl (fun q_ => absurd q_ (by decide)) (fun _ => ?_)
      refine g_aload_n (pc := 121) dX3_block_121 rfl rfl ?_
      refine t_get (pc := 122) (v := .ref (tAd _ 23)) 23 dX3_block_122 hR rfl q1822 (Nat.le_of_ble_eq_true rfl) rfl rfl ?_
      refine g_iload_n (pc := 125) dX3_block_125 rfl rfl ?_
      refine t_ialdI (pc := 126) dX3_block_126 hR rfl (by decide) rfl (by decide) (by show _ < 250; omega) ?_
      rw [t6]
      cases h21 : T.2.1 j with
      | none =>
        rw [h21] at hx
        cases h22 : T.2.2 j with
        | none => rw [h22] at hx; exact absurd hx hnx
        | some m =>
          rw [h22] at hx t7
          have hmg := tm2 m h22
          obtain ⟨_, _, _, w4, _, _, _⟩ := p3 m hmg
          have tgm := (hok.tag hmg).1
          unfold tgOK at tgm
          subst hx
          refine g_if_ge (pc := 127) (tgt := 142) dX3_block_127 rfl (fun z => absurd z (show ¬ (0 : Int32) ≤ -1 by decide)) (fun _ => ?_)
          refine g_aload_n (pc := 130) dX3_block_130 rfl rfl ?_
          refine t_get (pc := 131) (v := .ref (tAd _ 19)) 19 dX3_block_131 hR rfl q1818 (Nat.le_of_ble_eq_true rfl) rfl rfl ?_
          refine g_aload_n (pc := 134) dX3_block_134 rfl rfl ?_
          refine t_get (pc := 135) (v := .ref (tAd _ 24)) 24 dX3_block_135 hR rfl q1823 (Nat.le_of_ble_eq_true rfl) rfl rfl ?_
          refine g_iload_n (pc := 138) dX3_block_138 rfl rfl ?_
          refine t_ialdI (pc := 139) dX3_block_139 hR rfl (by decide) rfl (by decide) (by show _ < 250; omega) ?_
          rw [t7]
          refine t_iald (pc := 140) (k := 19) dX3_block_140 hR rfl (by decide) rfl (by decide) (by show _ < 250; omega) ?_
          rw [w4]
          refine t_iret (pc := 141) dX3_block_141 hR rfl ⟨rfl, rnR.mk hm2 hT ⟨p6, p7, p8⟩ ⟨p9, p10, p11⟩ p12 p13 (by omega) hbot2 hout2 h52 h6002 h382 hgk2⟩
      | some m =>
        rw [h21] at hx t6
        have hmg := tm1 m h21
        have tgm := (hok.tag hmg).1
        unfold tgOK at tgm
        have hx : x = (if 18 < U.length then .inr (.inl 0) else .inl (t, (T.1 m).2.2.2.1, .inr (j, true, 0, 0) :: U, C, out, seen)) := by
          rw [hx]
        split at hx
        · exact absurd hx hnx
        · rename_i h18
          subst hx
          refine g_if_geN (pc := 127) (tgt := 142) dX3_block_127 rfl (by omega) ?_
          refine g_aload_n (pc := 142) dX3_block_142 rfl rfl ?_
          refine g_iload_n (pc := 143) dX3_block_143 rfl rfl ?_
          refine g_bipush (pc := 144) (v := nI 50) dX3_block_144 rfl ?_
          refine g_idivN (pc := 146) dX3_block_146 (by omega) (by omega) (by omega) ?_
          rw [show (50 * t + j) / 50 = t by omega]
          refine g_iload_n (pc := 147) dX3_block_147 rfl rfl ?_
          refine g_iconst (pc := 148) (v := nI 0) dX3_block_148 rfl ?_
          refine g_iload_n (pc := 149) dX3_block_149 rfl rfl ?_
          refine g_if_ne (pc := 150) (tgt := 157) dX3_block_150 rfl (fun q_ => absurd q_ (by decide)) (fun _ => ?_)
          refine g_iconst (pc := 153) (v := nI 1) dX3_block_153 rfl ?_
          refine g_goto (pc := 154) (tgt := 158) dX3_block_154 rfl ?_
          refine t_inv (pc := 158) dX3_block_158 hR (tc_push _ t (50 * t + j) 0 1 (by rw [p7]; omega) (by decide) (by decide)) meX3_push q2219 q2221 qs66 rfl rfl (Nat.le_of_ble_eq_true rfl) (fun u τ3 h hp hR => ?_)
          obtain ⟨rfl, e3⟩ := hp
          have g3 : gK τ0 τ3 := by rw [e3]; exact hgk2.pp
          have k3 : ∀ k i, k < 30 → τ3.2.2.1 k i = τ2.2.2.1 k i ∧ τ3.2.2.2.1 k i = τ2.2.2.2.1 k i := fun k i hk => by rw [e3]; exact ⟨by rw [(pU_k (by omega)).1], by rw [(pU_k (by omega)).2]⟩
          have f3 : ∀ k, k ≠ 37 → τ3.1 k = τ2.1 k := fun k hk => by rw [e3]; exact pU_f hk
          have h373 : τ3.1 37 = U.length + 1 := by rw [e3]; exact (pU_r p7).2.2.2.2.2
          have m3 : tmR Tm τ3 := by rw [e3]; exact hm2.gK ((gK.refl _).pp)
          have d3 : tD τ3 D := by rw [e3]; exact p12.gK ((gK.refl _).pp)
          have o3 : outL τ3 out := hout2.same (f3 34 (by decide)) (fun i => by rw [e3, (pU_k (by decide)).1])
          have c3 : vC D τ3 C := p9.same k3
          obtain ⟨_, _, _, w4, _, _, _⟩ := (m3.2.2.1 t n f g T hT).1.2.2.2.2 m hmg
          refine g_iload_n (pc := 161) dX3_block_161 rfl rfl ?_
          refine g_if_ne (pc := 162) (tgt := 177) dX3_block_162 rfl (fun q_ => absurd q_ (by decide)) (fun _ => ?_)
          refine g_aload_n (pc := 165) dX3_block_165 rfl rfl ?_
          refine t_get (pc := 166) (v := .ref (tAd _ 19)) 19 dX3_block_166 hR rfl q1818 (Nat.le_of_ble_eq_true rfl) rfl rfl ?_
          refine g_aload_n (pc := 169) dX3_block_169 rfl rfl ?_
          refine t_get (pc := 170) (v := .ref (tAd _ 23)) 23 dX3_block_170 hR rfl q1822 (Nat.le_of_ble_eq_true rfl) rfl rfl ?_
          refine g_iload_n (pc := 173) dX3_block_173 rfl rfl ?_
          refine t_ialdI (pc := 174) dX3_block_174 hR rfl (by decide) rfl (by decide) (by show _ < 250; omega) ?_
          rw [(k3 23 _ (by decide)).2, t6]
          refine t_iald (pc := 175) (k := 19) dX3_block_175 hR rfl (by decide) rfl (by decide) (by show _ < 250; omega) ?_
          rw [w4]
          refine t_iret (pc := 176) dX3_block_176 hR rfl ⟨rfl, rnR.mk m3 hT ⟨?_, h373, by simp; omega⟩ ⟨c3, (f3 36 (by decide)).trans p10, p11⟩ d3 p13 (by omega) hbot2 o3 ((f3 5 (by decide)).trans h52) h6002 ((f3 38 (by decide)).trans h382) g3⟩
          rw [e3]
          exact pU_uR (ot := true) p6 p7 hT hj (fun _ => rfl)
  -- the expression
  have ex : ∀ h, tH o τ hin h → hG Z X mX3_block (d + 7) tS hin (tK o hin (mRs Tm D k τ0 x)) 25 [(0, .ref o), (1, .int (nI (50 * t + j))), (2, .int (nI s))] [.int (nI off), .int (nI (200 * t + X0)), .ref o] h := by
    intro h hR
    have hFH : ∀ i, i < Q0 → τ.2.2.1 14 (200 * t + i) = f i := fun i hi => hTp.2.2.2.1 i (by omega)
    have hFx : isEx (τ.2.2.1 14) (200 * t + Q0) (200 * t + (X0 + off)) = true := by rw [isEx_sh hFH]; exact hex
    first | refine g_iaddN (pc := 25) dX3_block_25 ?_ | refine g_iadd (pc := 25) dX3_block_25 ?_
    rw [Nat.add_assoc]
    refine g_aload_n (pc := 26) dX3_block_26 rfl rfl ?_
    refine t_get (pc := 27) (v := .ref (tAd _ 21)) 21 dX3_block_27 hR rfl q1820 (Nat.le_of_ble_eq_true rfl) rfl rfl ?_
    refine g_iload_n (pc := 30) dX3_block_30 rfl rfl ?_
    refine t_iald (pc := 31) dX3_block_31 hR rfl (by decide) rfl (by decide) (by show _ < 250; omega) ?_
    rw [r3]
    refine t_inv (pc := 32) dX3_block_32 hR (tc_expr _ (200 * t + (X0 + off)) (200 * t + Q0) Tm D t n f g T U C ⟨⟨q1, q2, q3, q4, q5⟩, ⟨q6, q7, q8⟩, ⟨q9, q10, q11⟩, q12, q13, q14⟩ (τ.2.2.1 14) rfl (by omega) (by omega) (fun i h1 h2 => by have e := hFH (i - 200 * t) (by omega); rw [show 200 * t + (i - 200 * t) = i by omega] at e; rw [e]; exact hok.2.1 _ (by show _ < n; omega)) hFx h38) meX3_expr q2144 q2146 qs48 rfl rfl (Nat.le_of_ble_eq_true rfl) (fun u τ1 h hp hR => ?_)
    obtain ⟨rfl, k1, hres⟩ := hp
    rw [exO_sh hFH hex] at hres
    cases hev : evE D C (lpU T U) (exO f Q0 (X0 + off)) with
    | none =>
      rw [hev] at hres hx
      have hres : τ1.1 38 = 4 := hres
      subst hx
      refine g_aload_n (pc := 35) dX3_block_35 rfl rfl ?_
      refine t_get (pc := 36) (v := .int (nI _)) 38 dX3_block_36 hR rfl q1837 (Nat.le_of_ble_eq_true rfl) rfl rfl ?_
      rw [hres]
      refine g_if_eqN (pc := 39) (tgt := 44) dX3_block_39 rfl (by omega) (fun q_ => absurd q_ (by omega)) (fun _ => ?_)
      refine g_iconst (pc := 42) (v := nI 0) dX3_block_42 rfl ?_
      exact t_iret (pc := 43) dX3_block_43 hR rfl (⟨⟨_, rfl⟩, hres, hgk.trans k1.gK⟩)
    | some v =>
      rw [hev] at hres hx
      obtain ⟨hr38, hrv⟩ : τ1.1 38 = 0 ∧ vR D τ1 2 v := hres
      have hx : x = mBlk D T t j U C out seen v := hx
      have hr1 : rnR Tm D k τ0 (t, p, U, C, out, seen) τ1 := hr0.kp k1 (fun r hr => r3_k hr) hr38
      have hd1 : tD τ1 D := q12.keep k1
      refine g_aload_n (pc := 35) dX3_block_35 rfl rfl ?_
      refine t_get (pc := 36) (v := .int (nI _)) 38 dX3_block_36 hR rfl q1837 (Nat.le_of_ble_eq_true rfl) rfl rfl ?_
      rw [hr38]
      refine g_if_eqN (pc := 39) (tgt := 44) dX3_block_39 rfl (by omega) (fun _ => ?_) (fun q_ => absurd q_ (by omega))
      refine g_iload_n (pc := 44) dX3_block_44 rfl rfl ?_
      refine g_iconst (pc := 45) (v := nI 3) dX3_block_45 rfl ?_
      by_cases z3 : s = 3
      · refine g_icmp_neN (pc := 46) (tgt := 65) dX3_block_46 rfl (by omega) (by omega) (fun q_ => absurd q_ (fun y => y z3)) (fun _ => ?_)
        refine g_aload_n (pc := 49) dX3_block_49 rfl rfl ?_
        refine g_iconst (pc := 50) (v := nI 2) dX3_block_50 rfl ?_
        refine t_inv (pc := 51) dX3_block_51 hR (tc_isFalse _ 2 D v (by decide) hd1 q13 hrv) meX3_isFalse q2211 q2213 qs64 rfl rfl (Nat.le_of_ble_eq_true rfl) (fun u τ2 h hp hR => ?_)
        obtain ⟨rfl, a1, a2⟩ := hp
        have hr2 : rnR Tm D k τ0 (t, p, U, C, out, seen) τ2 := hr1.kp a1 (fun r hr z => z) (by rw [a2]; exact hr38)
        have hv2 : vR D τ2 2 v := vR.keep a1 (fun z => z) hrv
        have hf : mFst D s v = !(flV D v) := by unfold mFst; rw [if_pos z3]
        refine g_if_neB (pc := 54) (tgt := 61) dX3_block_54 rfl (fun z => ?_) (fun z => ?_)
        · refine g_iconst (pc := 61) (v := nI 0) dX3_block_61 rfl ?_
          refine g_goto (pc := 62) (tgt := 116) dX3_block_62 rfl ?_
          exact after v false τ2 (by rw [hf, z]; rfl) hx hr2 hv2 h hR
        · refine g_iconst (pc := 57) (v := nI 1) dX3_block_57 rfl ?_
          refine g_goto (pc := 58) (tgt := 116) dX3_block_58 rfl ?_
          exact after v true τ2 (by rw [hf, z]; rfl) hx hr2 hv2 h hR
      · refine g_icmp_neN (pc := 46) (tgt := 65) dX3_block_46 rfl (by omega) (by omega) (fun _ => ?_) (fun q_ => absurd q_ (by omega))
        refine g_iload_n (pc := 65) dX3_block_65 rfl rfl ?_
        refine g_iconst (pc := 66) (v := nI 5) dX3_block_66 rfl ?_
        by_cases z5 : s = 5
        · have hf : mFst D s v = v.isSome := by unfold mFst; rw [if_neg z3, if_pos z5]
          refine g_icmp_neN (pc := 67) (tgt := 87) dX3_block_67 rfl (by omega) (by omega) (fun q_ => absurd q_ (fun y => y z5)) (fun _ => ?_)
          refine g_aload_n (pc := 70) dX3_block_70 rfl rfl ?_
          refine t_get (pc := 71) (v := .ref (tAd _ 26)) 26 dX3_block_71 hR rfl q1825 (Nat.le_of_ble_eq_true rfl) rfl rfl ?_
          refine g_iconst (pc := 74) (v := nI 2) dX3_block_74 rfl ?_
          refine t_ialdI (pc := 75) dX3_block_75 hR rfl (by decide) rfl (by decide) (by show _ < 18; omega) ?_
          refine g_if_lt (pc := 76) (tgt := 83) dX3_block_76 rfl (fun z => ?_) (fun z => ?_)
          · refine g_iconst (pc := 83) (v := nI 0) dX3_block_83 rfl ?_
            refine g_goto (pc := 84) (tgt := 116) dX3_block_84 rfl ?_
            exact after v false τ1 (by rw [hf, hrv.isNeg.1.mp z]) hx hr1 hrv h hR
          · refine g_iconst (pc := 79) (v := nI 1) dX3_block_79 rfl ?_
            refine g_goto (pc := 80) (tgt := 116) dX3_block_80 rfl ?_
            refine after v true τ1 ?_ hx hr1 hrv h hR
            rw [hf]
            cases hz : v.isSome with
            | true => rfl
            | false => exact absurd (hrv.isNeg.1.mpr hz) z
        · have hf : mFst D s v = (if s = 3 then !(flV D v) else if s = 5 then v.isSome else mFst D 4 v) := by unfold mFst; rw [if_neg z3, if_neg z5, if_neg z3, if_neg z5]; rfl
          rw [if_neg z3, if_neg z5] at hf
          refine g_icmp_neN (pc := 67) (tgt := 87) dX3_block_67 rfl (by omega) (by omega) (fun _ => ?_) (fun q_ => absurd q_ (by omega))
          refine g_aload_n (pc := 87) dX3_block_87 rfl rfl ?_
          refine t_get (pc := 88) (v := .ref (tAd _ 26)) 26 dX3_block_88 hR rfl q1825 (Nat.le_of_ble_eq_true rfl) rfl rfl ?_
          refine g_iconst (pc := 91) (v := nI 2) dX3_block_91 rfl ?_
          refine t_ialdI (pc := 92) dX3_block_92 hR rfl (by decide) rfl (by decide) (by show _ < 18; omega) ?_
          refine g_iconst (pc := 93) (v := nI 1) dX3_block_93 rfl ?_
          refine g_icmp_le (pc := 94) (tgt := 115) dX3_block_94 rfl (fun z => ?_) (fun z => ?_)
          · refine g_iconst (pc := 115) (v := nI 0) dX3_block_115 rfl ?_
            have hno := hrv.isNeg.2.mp z
            refine after v false τ1 ?_ hx hr1 hrv h hR
            rw [hf]
            rcases v with _ | v | l | y
            · rfl
            · rfl
            · rfl
            · exact absurd rfl (hno y)
          · have hyes : ∃ y, v = some (.inr (.inr y)) := Classical.byContradiction (fun w => z (hrv.isNeg.2.mpr (fun y e => w ⟨y, e⟩)))
            obtain ⟨y, rfl⟩ := hyes
            have hrv0 := hrv
            obtain ⟨y1, y2, m, ps, y3, y4⟩ := hrv
            have hy60 := hd1.2.1
            have hit := (hd1.2.2 y y1).1
            have h9 := hit.kind.2.2.1 (by rw [y3] at hit; rw [hit.1]; cases m <;> decide)
            refine g_aload_n (pc := 97) dX3_block_97 rfl rfl ?_
            refine t_get (pc := 98) (v := .ref (tAd _ 9)) 9 dX3_block_98 hR rfl q1808 (Nat.le_of_ble_eq_true rfl) rfl rfl ?_
            refine g_aload_n (pc := 101) dX3_block_101 rfl rfl ?_
            refine t_get (pc := 102) (v := .ref (tAd _ 27)) 27 dX3_block_102 hR rfl q1826 (Nat.le_of_ble_eq_true rfl) rfl rfl ?_
            refine g_iconst (pc := 105) (v := nI 2) dX3_block_105 rfl ?_
            refine t_ialdI (pc := 106) dX3_block_106 hR rfl (by decide) rfl (by decide) (by show _ < 18; omega) ?_
            rw [y2]
            refine t_ialdI (pc := 107) dX3_block_107 hR rfl (by decide) rfl (by decide) (by show _ < 60; omega) ?_
            rw [h9.1]
            refine g_if_leN (pc := 108) (tgt := 115) dX3_block_108 rfl (by omega) (fun z6 => ?_) (fun z6 => ?_)
            · refine g_iconst (pc := 115) (v := nI 0) dX3_block_115 rfl ?_
              refine after _ false τ1 ?_ hx hr1 hrv0 h hR
              rw [hf]
              show _ = decide (0 < (aPs (D.2 y)).length)
              rw [z6]; rfl
            · refine g_iconst (pc := 111) (v := nI 1) dX3_block_111 rfl ?_
              refine g_goto (pc := 112) (tgt := 116) dX3_block_112 rfl ?_
              refine after _ true τ1 ?_ hx hr1 hrv0 h hR
              rw [hf]
              show _ = decide (0 < (aPs (D.2 y)).length)
              simpa using z6
  refine g_aload_n (pc := 0) dX3_block_0 rfl rfl ?_
  refine t_get (pc := 1) (v := .ref (tAd _ 22)) 22 dX3_block_1 hR rfl q1821 (Nat.le_of_ble_eq_true rfl) rfl rfl ?_
  refine g_iload_n (pc := 4) dX3_block_4 rfl rfl ?_
  refine t_ialdI (pc := 5) dX3_block_5 hR rfl (by decide) rfl (by decide) (by show _ < 250; omega) ?_
  rw [r5, hs]
  refine g_istore_n (pc := 6) (ls' := [(0, _), (1, _), (2, _)]) dX3_block_6 rfl (Nat.le_of_ble_eq_true rfl) rfl ?_
  refine g_aload_n (pc := 7) dX3_block_7 rfl rfl ?_
  refine g_aload_n (pc := 8) dX3_block_8 rfl rfl ?_
  refine t_get (pc := 9) (v := .ref (tAd _ 20)) 20 dX3_block_9 hR rfl q1819 (Nat.le_of_ble_eq_true rfl) rfl rfl ?_
  refine g_iload_n (pc := 12) dX3_block_12 rfl rfl ?_
  refine t_iald (pc := 13) dX3_block_13 hR rfl (by decide) rfl (by decide) (by show _ < 250; omega) ?_
  rw [r2]
  refine g_iload_n (pc := 14) dX3_block_14 rfl rfl ?_
  refine g_iconst (pc := 15) (v := nI 3) dX3_block_15 rfl ?_
  by_cases z3 : s = 3
  · refine g_icmp_neN (pc := 16) (tgt := 23) dX3_block_16 rfl (by omega) (by omega) (fun q_ => absurd q_ (fun y => y z3)) (fun _ => ?_)
    refine g_iconst (pc := 19) (v := nI 4) dX3_block_19 rfl ?_
    refine g_goto (pc := 20) (tgt := 25) dX3_block_20 rfl ?_
    rw [show (4 : Nat) = off by rw [← hoff, if_pos z3]]
    exact ex h hR
  · refine g_icmp_neN (pc := 16) (tgt := 23) dX3_block_16 rfl (by omega) (by omega) (fun _ => ?_) (fun q_ => absurd q_ (by omega))
    refine g_bipush (pc := 23) (v := nI 6) dX3_block_23 rfl ?_
    rw [show nI 6 = nI off by rw [← hoff, if_neg z3]]
    exact ex h hR
theorem tc_ends (d gg p k : Nat) (Tm : Nat → Option aT) (D : aD) (t n : Nat) (f : Nat → Nat) (g : Nat) (T : tTb) (U : List aU) (C : List aV) (out : List Nat) (seen : Nat) (τ0 : tT) (hT : Tm t = some (n, f, g, T)) (hr : rnR Tm D k τ0 (t, p, U, C, out, seen) τ) (x : aZ) (hx : x = mEnd D T t U C out seen) (hnx : x ≠ .inr (.inl 0)) : tC Z mX3_ends (d + 3) o [.ref o, .int (nI gg)] τ (mRs Tm D k τ0 x) := by
  refine tC.of rfl rfl (Nat.le_of_ble_eq_true rfl) rfl (fun X hin h hR => ?_)
  have hr0 := hr
  obtain ⟨n', f', g', T', hB, hpn, hbot, hout, h5, h600, h38, hgk, hm⟩ := hr
  dsimp only at hB hpn hbot hout h5 h600
  have hTe := hB.1.2.1
  rw [hT] at hTe
  cases hTe
  obtain ⟨⟨q1, q2, q3, q4, q5⟩, ⟨q6, q7, q8⟩, ⟨q9, q10, q11⟩, q12, q13, q14⟩ := hB
  obtain ⟨hTp, hok⟩ := hm.2.2.1 t n f g T hT
  have hn180 : n ≤ 180 := hok.1
  have hD60 := q12.2.1
  cases U with
  | nil => exact absurd hx hnx
  | cons fr U' =>
    rcases fr with a | ⟨b, ot, kk, y⟩
    · exact absurd hx hnx
    · have hx : x = (if ot = false ∧ (T.1 b).2.2.2.2 ≠ 3 ∧ C = [] then .inr (.inl 0)
          else if ot = false ∧ (T.1 b).2.2.2.2 = 4 ∧ kk + 1 < (aPs (D.2 y)).length then .inl (t, (T.1 b).2.2.2.1, .inr (b, false, kk + 1, y) :: U', elX D y (kk + 1) :: C.tail, out, seen)
          else (match T.2.2 b with | none => .inr (.inl 0) | some m => .inl (t, (T.1 m).2.2.2.1, U', (if ot = false ∧ (T.1 b).2.2.2.2 ≠ 3 then C.tail else C), out, seen))) := hx
      split at hx
      · exact absurd hx hnx
      · rename_i hc0
        have q6' := q6
        obtain ⟨u1, u2, u3, u4, u5, ⟨n', f', g', T', u6, u7, u8⟩, u9⟩ := q6'
        rw [hT] at u6
        cases u6
        have hUl : U'.length < 20 := by have : U'.length + 1 ≤ 20 := q8; omega
        have hbg : b < 50 := by omega
        obtain ⟨r1, r2, r3, r4, r5, r6, r7⟩ := q3 b u7
        have tgb := (hok.tag u7).1
        unfold tgOK at tgb
        have hs10 := q5 b
        generalize hs : (T.1 b).2.2.2.2 = s at *
        have hxo : ¬ (ot = false ∧ s = 4 ∧ kk + 1 < (aPs (D.2 y)).length) → (match T.2.2 b with | none => (.inr (.inl 0) : aZ) | some m => .inl (t, (T.1 m).2.2.2.1, U', (if ot = false ∧ s ≠ 3 then C.tail else C), out, seen)) = x := fun z => by rw [hx, if_neg z]
        -- the frame is over
        have over : ∀ (τ2 : tT), (match T.2.2 b with | none => (.inr (.inl 0) : aZ) | some m => .inl (t, (T.1 m).2.2.2.1, U', (if ot = false ∧ s ≠ 3 then C.tail else C), out, seen)) = x → (∀ i, i < U'.length → τ2.2.2.1 47 i = τ.2.2.1 47 i ∧ τ2.2.2.1 40 i = τ.2.2.1 40 i ∧ τ2.2.2.1 41 i = τ.2.2.1 41 i ∧ τ2.2.2.1 42 i = τ.2.2.1 42 i ∧ τ2.2.2.1 46 i = τ.2.2.1 46 i ∧ τ2.2.2.2.1 43 i = τ.2.2.2.1 43 i) → τ2.1 = τ.1 → (∀ k i, k < 32 → τ2.2.2.1 k i = τ.2.2.1 k i ∧ τ2.2.2.2.1 k i = τ.2.2.2.1 k i) → gK τ τ2 → ∀ h, tH o τ2 hin h → hG Z X mX3_ends (d + 3) tS hin (tK o hin (mRs Tm D k τ0 x)) 62 [(0, .ref o), (1, .int (nI gg)), (2, .int (nI U'.length)), (3, .int (nI (50 * t + b))), (4, .int (nI ot.toNat))] [] h := by
          intro τ2 hxx hu2 hf2 hk2 hg2 h hR
          cases h22 : T.2.2 b with
          | none => rw [h22] at hxx; exact absurd hxx.symm hnx
          | some m =>
            rw [h22] at hxx
            have hmg := (hok.tag u7).2.2.2 m h22
            have tgm := (hok.tag hmg).1
            unfold tgOK at tgm
            have m2 : tmR Tm τ2 := hm.gK hg2
            have d2 : tD τ2 D := q12.gK hg2
            have c2 : vC D τ2 C := q9.same (fun k i hk => hk2 k i (by omega))
            have o2 : outL τ2 out := hout.same (by rw [hf2]) (fun i => (hk2 31 i (by decide)).1)
            have ua : uR Tm D τ2 t U' := u9.same hu2
            obtain ⟨_, _, _, _, w5, _, w7⟩ := (m2.2.2.1 t n f g T hT).1.2.2.2.2 b u7
            obtain ⟨_, _, _, w4, _, _, _⟩ := (m2.2.2.1 t n f g T hT).1.2.2.2.2 m hmg
            rw [h22] at w7
            -- the last rows
            have fin : ∀ (τ3 : tT) (C' : List aV), C' = (if ot = false ∧ s ≠ 3 then C.tail else C) → (τ3 = τ2 ∧ C' = C ∨ τ3 = tFN τ2 36 C'.length ∧ C'.length ≤ C.length ∧ vC D τ2 C') → ∀ h, tH o τ3 hin h → hG Z X mX3_ends (d + 3) tS hin (tK o hin (mRs Tm D k τ0 x)) 87 [(0, .ref o), (1, .int (nI gg)), (2, .int (nI U'.length)), (3, .int (nI (50 * t + b))), (4, .int (nI ot.toNat))] [] h := by
              intro τ3 C' hC' hτ3 h hR
              have g3 : gK τ2 τ3 := by
                rcases hτ3 with ⟨e, _⟩ | ⟨e, _⟩
                · rw [e]; exact gK.refl _
                · rw [e]; exact (gK.refl _).fn (by decide)
              have f3 : ∀ k, k ≠ 36 → τ3.1 k = τ.1 k := fun k hk => by
                rcases hτ3 with ⟨e, _⟩ | ⟨e, _⟩
                · rw [e, hf2]
                · rw [e, rFN_n hk, hf2]
              have a3 : τ3.2.2 = τ2.2.2 := by
                rcases hτ3 with ⟨e, _⟩ | ⟨e, _⟩ <;> rw [e]
                rfl
              have h36 : τ3.1 36 = C'.length := by
                rcases hτ3 with ⟨e, e2⟩ | ⟨e, _⟩
                · rw [e, hf2, e2]; exact q10
                · rw [e, rFN_s]
              have hC14 : C'.length ≤ 14 ∧ vC D τ2 C' := by
                rcases hτ3 with ⟨_, e2⟩ | ⟨_, e2, e3⟩
                · rw [e2]; exact ⟨q11, c2⟩
                · exact ⟨by omega, e3⟩
              have h37 : τ3.1 37 = U'.length + 1 := by rw [f3 37 (by decide), q7]; rfl
              refine g_aload_n (pc := 87) dX3_ends_87 rfl rfl ?_
              refine g_dup (pc := 88) dX3_ends_88 rfl ?_
              refine t_get (pc := 89) (v := .int (nI _)) 37 dX3_ends_89 hR rfl q1836 (Nat.le_of_ble_eq_true rfl) rfl rfl ?_
              rw [h37]
              refine g_iconst (pc := 92) (v := nI 1) dX3_ends_92 rfl ?_
              first | refine g_isubN (pc := 93) dX3_ends_93 (by omega) ?_ | refine g_isub (pc := 93) dX3_ends_93 ?_
              rw [Nat.add_sub_cancel]
              refine t_put (pc := 94) 37 dX3_ends_94 hR rfl q1836 (Nat.le_of_ble_eq_true rfl) rfl rfl (by decide) rfl rfl (fun h hR => ?_)
              refine g_aload_n (pc := 97) dX3_ends_97 rfl rfl ?_
              refine t_get (pc := 98) (v := .ref (tAd _ 19)) 19 dX3_ends_98 hR rfl q1818 (Nat.le_of_ble_eq_true rfl) rfl rfl ?_
              refine g_aload_n (pc := 101) dX3_ends_101 rfl rfl ?_
              refine t_get (pc := 102) (v := .ref (tAd _ 24)) 24 dX3_ends_102 hR rfl q1823 (Nat.le_of_ble_eq_true rfl) rfl rfl ?_
              refine g_iload_n (pc := 105) dX3_ends_105 rfl rfl ?_
              refine t_ialdI (pc := 106) dX3_ends_106 hR rfl (by decide) rfl (by decide) (by show _ < 250; omega) ?_
              rw [show (tFN τ3 37 U'.length).2.2.2.1 24 (50 * t + b) = nI (50 * t + m) by show τ3.2.2.2.1 24 _ = _; rw [a3]; exact w7]
              refine t_iald (pc := 107) (k := 19) dX3_ends_107 hR rfl (by decide) rfl (by decide) (by show _ < 250; omega) ?_
              rw [show (tFN τ3 37 U'.length).2.2.1 19 (50 * t + m) = 200 * t + (T.1 m).2.2.2.1 by show τ3.2.2.1 19 _ = _; rw [a3]; exact w4]
              rw [← hC'] at hxx
              subst hxx
              have g4 : gK τ2 (tFN τ3 37 U'.length) := g3.fn (by decide)
              refine t_iret (pc := 108) dX3_ends_108 hR rfl ⟨rfl, rnR.mk (m2.gK g4) hT ⟨?_, rFN_s, by omega⟩ ⟨?_, (rFN_n (by decide)).trans h36, hC14.1⟩ (d2.gK g4) q13 (by omega) hbot (o2.same ?_ (fun i => by show τ3.2.2.1 31 i = _; rw [a3])) ?_ h600 ?_ ((hgk.trans hg2).trans g4)⟩
              · refine ua.same (fun i _ => ?_)
                show τ3.2.2.1 47 i = _ ∧ τ3.2.2.1 40 i = _ ∧ τ3.2.2.1 41 i = _ ∧ τ3.2.2.1 42 i = _ ∧ τ3.2.2.1 46 i = _ ∧ τ3.2.2.2.1 43 i = _
                rw [a3]; exact ⟨rfl, rfl, rfl, rfl, rfl, rfl⟩
              · refine hC14.2.same (fun k i _ => ?_)
                show τ3.2.2.1 k i = _ ∧ τ3.2.2.2.1 k i = _
                rw [a3]; exact ⟨rfl, rfl⟩
              · rw [rFN_n (by decide), f3 34 (by decide), hf2]
              · rw [rFN_n (by decide), f3 5 (by decide)]; exact h5
              · rw [rFN_n (by decide), f3 38 (by decide)]; exact h38
            refine g_iload (pc := 62) dX3_ends_62 rfl ?_
            cases ot with
            | true =>
              refine g_if_ne (pc := 64) (tgt := 87) dX3_ends_64 rfl (fun _ => ?_) (fun q_ => absurd q_ (by decide))
              exact fin τ2 C (by simp) (Or.inl ⟨rfl, rfl⟩) h hR
            | false =>
              refine g_if_ne (pc := 64) (tgt := 87) dX3_ends_64 rfl (fun q_ => absurd q_ (by decide)) (fun _ => ?_)
              refine g_aload_n (pc := 67) dX3_ends_67 rfl rfl ?_
              refine t_get (pc := 68) (v := .ref (tAd _ 22)) 22 dX3_ends_68 hR rfl q1821 (Nat.le_of_ble_eq_true rfl) rfl rfl ?_
              refine g_iload_n (pc := 71) dX3_ends_71 rfl rfl ?_
              refine t_ialdI (pc := 72) dX3_ends_72 hR rfl (by decide) rfl (by decide) (by show _ < 250; omega) ?_
              rw [w5, hs]
              refine g_iconst (pc := 73) (v := nI 3) dX3_ends_73 rfl ?_
              by_cases z3 : s = 3
              · refine g_icmp_eqN (pc := 74) (tgt := 87) dX3_ends_74 rfl (by omega) (by omega) (fun _ => ?_) (fun q_ => absurd q_ (fun y => y z3))
                exact fin τ2 C (by simp [z3]) (Or.inl ⟨rfl, rfl⟩) h hR
              · refine g_icmp_eqN (pc := 74) (tgt := 87) dX3_ends_74 rfl (by omega) (by omega) (fun q_ => absurd q_ (by omega)) (fun _ => ?_)
                cases hCC : C with
                | nil => exact absurd ⟨rfl, z3, hCC⟩ hc0
                | cons c0 C1 =>
                  rw [hCC] at q10 c2 fin
                  refine g_aload_n (pc := 77) dX3_ends_77 rfl rfl ?_
                  refine g_dup (pc := 78) dX3_ends_78 rfl ?_
                  refine t_get (pc := 79) (v := .int (nI _)) 36 dX3_ends_79 hR rfl q1835 (Nat.le_of_ble_eq_true rfl) rfl rfl ?_
                  rw [hf2, q10]
                  rw [show (c0 :: C1).length = C1.length + 1 from rfl]
                  refine g_iconst (pc := 82) (v := nI 1) dX3_ends_82 rfl ?_
                  first | refine g_isubN (pc := 83) dX3_ends_83 (by omega) ?_ | refine g_isub (pc := 83) dX3_ends_83 ?_
                  rw [Nat.add_sub_cancel]
                  refine t_put (pc := 84) 36 dX3_ends_84 hR rfl q1835 (Nat.le_of_ble_eq_true rfl) rfl rfl (by decide) rfl rfl (fun h hR => ?_)
                  exact fin (tFN τ2 36 C1.length) C1 (by simp [z3]) (Or.inr ⟨rfl, by simp, c2.2⟩) h hR
        refine g_aload_n (pc := 0) dX3_ends_0 rfl rfl ?_
        refine t_get (pc := 1) (v := .int (nI _)) 37 dX3_ends_1 hR rfl q1836 (Nat.le_of_ble_eq_true rfl) rfl rfl ?_
        rw [q7, show (Sum.inr (b, ot, kk, y) :: U' : List aU).length = U'.length + 1 from rfl]
        refine g_iconst (pc := 4) (v := nI 1) dX3_ends_4 rfl ?_
        first | refine g_isubN (pc := 5) dX3_ends_5 (by omega) ?_ | refine g_isub (pc := 5) dX3_ends_5 ?_
        rw [Nat.add_sub_cancel]
        refine g_istore_n (pc := 6) (ls' := [(0, _), (1, _), (2, _)]) dX3_ends_6 rfl (Nat.le_of_ble_eq_true rfl) rfl ?_
        refine g_aload_n (pc := 7) dX3_ends_7 rfl rfl ?_
        refine t_get (pc := 8) (v := .ref (tAd _ 41)) 41 dX3_ends_8 hR rfl q1840 (Nat.le_of_ble_eq_true rfl) rfl rfl ?_
        refine g_iload_n (pc := 11) dX3_ends_11 rfl rfl ?_
        refine t_iald (pc := 12) dX3_ends_12 hR rfl (by decide) rfl (by decide) (by show _ < 20; omega) ?_
        rw [u4]
        refine g_istore_n (pc := 13) (ls' := [(0, _), (1, _), (2, _), (3, _)]) dX3_ends_13 rfl (Nat.le_of_ble_eq_true rfl) rfl ?_
        refine g_aload_n (pc := 14) dX3_ends_14 rfl rfl ?_
        refine t_get (pc := 15) (v := .ref (tAd _ 46)) 46 dX3_ends_15 hR rfl q1845 (Nat.le_of_ble_eq_true rfl) rfl rfl ?_
        refine g_iload_n (pc := 18) dX3_ends_18 rfl rfl ?_
        refine t_zald (pc := 19) dX3_ends_19 hR rfl (by decide) rfl (by decide) (by show _ < 20; omega) ?_
        rw [u2]
        refine g_istore (pc := 20) (ls' := [(0, _), (1, _), (2, _), (3, _), (4, _)]) dX3_ends_20 (Nat.le_of_ble_eq_true rfl) rfl ?_
        refine g_iload (pc := 22) dX3_ends_22 rfl ?_
        cases ot with
        | true =>
          refine g_if_ne (pc := 24) (tgt := 62) dX3_ends_24 rfl (fun _ => ?_) (fun q_ => absurd q_ (by decide))
          exact over τ (hxo (by simp)) (fun i _ => ⟨rfl, rfl, rfl, rfl, rfl, rfl⟩) rfl (fun _ _ _ => ⟨rfl, rfl⟩) (gK.refl τ) h hR
        | false =>
          refine g_if_ne (pc := 24) (tgt := 62) dX3_ends_24 rfl (fun q_ => absurd q_ (by decide)) (fun _ => ?_)
          refine g_aload_n (pc := 27) dX3_ends_27 rfl rfl ?_
          refine t_get (pc := 28) (v := .ref (tAd _ 22)) 22 dX3_ends_28 hR rfl q1821 (Nat.le_of_ble_eq_true rfl) rfl rfl ?_
          refine g_iload_n (pc := 31) dX3_ends_31 rfl rfl ?_
          refine t_ialdI (pc := 32) dX3_ends_32 hR rfl (by decide) rfl (by decide) (by show _ < 250; omega) ?_
          rw [r5]
          refine g_iconst (pc := 33) (v := nI 4) dX3_ends_33 rfl ?_
          by_cases z4 : s = 4
          · refine g_icmp_neN (pc := 34) (tgt := 62) dX3_ends_34 rfl (by omega) (by omega) (fun q_ => absurd q_ (fun y => y z4)) (fun _ => ?_)
            obtain ⟨⟨y1, ylen⟩, y2⟩ := u8 z4 rfl
            have hit := (q12.2.2 y y1).1
            cases hCC : C with
            | nil => exact absurd ⟨rfl, by omega, hCC⟩ hc0
            | cons c0 C1 =>
              refine g_aload_n (pc := 37) dX3_ends_37 rfl rfl ?_
              refine t_get (pc := 38) (v := .ref (tAd _ 42)) 42 dX3_ends_38 hR rfl q1841 (Nat.le_of_ble_eq_true rfl) rfl rfl ?_
              refine g_iload_n (pc := 41) dX3_ends_41 rfl rfl ?_
              refine g_dup2 (pc := 42) dX3_ends_42 rfl rfl ?_
              refine t_iald (pc := 43) dX3_ends_43 hR rfl (by decide) rfl (by decide) (by show _ < 20; omega) ?_
              rw [u3]
              refine g_iconst (pc := 44) (v := nI 1) dX3_ends_44 rfl ?_
              first | refine g_iaddN (pc := 45) dX3_ends_45 ?_ | refine g_iadd (pc := 45) dX3_ends_45 ?_
              refine t_iast (pc := 46) dX3_ends_46 hR rfl (by decide) rfl (by decide) (by show _ < 20; omega) (fun h hR => ?_)
              refine g_aload_n (pc := 47) dX3_ends_47 rfl rfl ?_
              refine g_iload_n (pc := 48) dX3_ends_48 rfl rfl ?_
              have g2 : gK τ (tAN τ 42 U'.length (kk + 1)) := (gK.refl τ).an (by unfold gKp; omega)
              have k2 : ∀ k i, k < 32 → (tAN τ 42 U'.length (kk + 1)).2.2.1 k i = τ.2.2.1 k i ∧ (tAN τ 42 U'.length (kk + 1)).2.2.2.1 k i = τ.2.2.2.1 k i := fun k i hk => ⟨congrFun (rAN_k (τ := τ) (by omega)) i, rfl⟩
              have s2 : ∀ i, i < U'.length → (tAN τ 42 U'.length (kk + 1)).2.2.1 47 i = τ.2.2.1 47 i ∧ (tAN τ 42 U'.length (kk + 1)).2.2.1 40 i = τ.2.2.1 40 i ∧ (tAN τ 42 U'.length (kk + 1)).2.2.1 41 i = τ.2.2.1 41 i ∧ (tAN τ 42 U'.length (kk + 1)).2.2.1 42 i = τ.2.2.1 42 i ∧ (tAN τ 42 U'.length (kk + 1)).2.2.1 46 i = τ.2.2.1 46 i ∧ (tAN τ 42 U'.length (kk + 1)).2.2.2.1 43 i = τ.2.2.2.1 43 i := fun i hi => ⟨congrFun (rAN_k (τ := τ) (by decide)) i, congrFun (rAN_k (τ := τ) (by decide)) i, congrFun (rAN_k (τ := τ) (by decide)) i, rAN_i (by omega), congrFun (rAN_k (τ := τ) (by decide)) i, rfl⟩
              have t2 : (tAN τ 42 U'.length (kk + 1)).2.2.1 42 U'.length = kk + 1 := rAN_s
              have z2 : (tAN τ 42 U'.length (kk + 1)).2.2.2.1 43 U'.length = nI y := y2
              have e47 : ∀ i, (tAN τ 42 U'.length (kk + 1)).2.2.1 47 i = τ.2.2.1 47 i := fun i => congrFun (rAN_k (τ := τ) (by decide)) i
              have e46 : ∀ i, (tAN τ 42 U'.length (kk + 1)).2.2.1 46 i = τ.2.2.1 46 i := fun i => congrFun (rAN_k (τ := τ) (by decide)) i
              have e41 : ∀ i, (tAN τ 42 U'.length (kk + 1)).2.2.1 41 i = τ.2.2.1 41 i := fun i => congrFun (rAN_k (τ := τ) (by decide)) i
              have ef : (tAN τ 42 U'.length (kk + 1)).1 = τ.1 := rfl
              generalize tAN τ 42 U'.length (kk + 1) = τ2 at hR g2 k2 s2 t2 z2 e47 e46 e41 ef
              have d2 : tD τ2 D := q12.gK g2
              have h8 : 2 ≤ τ2.2.2.1 8 y := by
                rcases Nat.lt_or_ge (τ2.2.2.1 8 y) 2 with w | w
                · rw [(d2.2.2 y y1).1.kind.2.1 w] at ylen; exact absurd ylen (Nat.lt_irrefl _)
                · exact w
              have hl10 := ((d2.2.2 y y1).1.kind.2.2.1 h8).2.1
              rw [hCC] at hx hxo over q9 q10 q11 hc0
              have hl14 : C1.length + 1 ≤ 14 := q11
              refine t_inv (pc := 49) dX3_ends_49 hR (tc_nextTurn _ U'.length y (kk + 1) (C1.length + 1) D d2 hUl y1 z2 t2 (by omega) (Or.inr h8) h8 (by rw [ef]; exact q10) (by omega)) meX3_nextTurn q2136 q2138 qs46 rfl rfl (Nat.le_of_ble_eq_true rfl) (fun u τ3 h hp hR => ?_)
              rcases hp with ⟨a0, rfl, a1, a2, a3⟩ | ⟨a0, rfl, e3⟩
              · refine g_if_eq (pc := 52) (tgt := 62) dX3_ends_52 rfl (fun q_ => absurd q_ (by decide)) (fun _ => ?_)
                have hx2 : x = .inl (t, (T.1 b).2.2.2.1, .inr (b, false, kk + 1, y) :: U', elX D y (kk + 1) :: C1, out, seen) := by
                  rw [hx, if_pos ⟨rfl, z4, a0⟩]; rfl
                subst hx2
                have w4 : τ3.2.2.1 19 (50 * t + b) = 200 * t + (T.1 b).2.2.2.1 := by rw [(a2.2.2.2 19 _ (Or.inl (Or.inl (by decide)))).1, (k2 19 _ (by decide)).1]; exact r4
                refine g_aload_n (pc := 55) dX3_ends_55 rfl rfl ?_
                refine t_get (pc := 56) (v := .ref (tAd _ 19)) 19 dX3_ends_56 hR rfl q1818 (Nat.le_of_ble_eq_true rfl) rfl rfl ?_
                refine g_iload_n (pc := 59) dX3_ends_59 rfl rfl ?_
                refine t_iald (pc := 60) dX3_ends_60 hR rfl (by decide) rfl (by decide) (by show _ < 250; omega) ?_
                rw [w4]
                refine t_iret (pc := 61) dX3_ends_61 hR rfl ⟨rfl, rnR.mk ((hm.gK g2).gK a2.gK) hT ⟨uR.keep a2 ?_, ?_, q8⟩ ⟨⟨?_, ?_⟩, ?_, hl14⟩ (d2.gK a2.gK) q13 (by omega) hbot ((hout.same (by rw [ef]) (fun i => (k2 31 i (by decide)).1)).kp a2) ?_ h600 ?_ ((hgk.trans g2).trans a2.gK)⟩
                · exact ⟨(e47 _).trans u1, (e46 _).trans u2, t2, (e41 _).trans u4, by omega, ⟨n, f, g, T, hT, u7, fun _ _ => ⟨⟨y1, ylen⟩, z2⟩⟩, u9.same s2⟩
                · rw [a1, ef, q7]; rfl
                · rw [show 3 + C1.length = 2 + (C1.length + 1) by omega]; exact a3
                · exact vC.keep a2 (fun r h1 h2 => by omega) (q9.2.same (fun k i hk => k2 k i (by omega)))
                · rw [a1, ef, q10]; rfl
                · rw [a1, ef]; exact h5
                · rw [a1, ef]; exact h38
              · rw [e3] at hR
                refine g_if_eq (pc := 52) (tgt := 62) dX3_ends_52 rfl (fun _ => ?_) (fun q_ => absurd q_ (by decide))
                exact over τ2 (hxo (fun w => by omega)) s2 ef k2 g2 h hR
          · refine g_icmp_neN (pc := 34) (tgt := 62) dX3_ends_34 rfl (by omega) (by omega) (fun _ => ?_) (fun q_ => absurd q_ (by omega))
            exact over τ (hxo (fun w => z4 w.2.1)) (fun i _ => ⟨rfl, rfl, rfl, rfl, rfl, rfl⟩) rfl (fun _ _ _ => ⟨rfl, rfl⟩) (gK.refl τ) h hR
end TW25
