/-! TWIN 5: sorts and tags -/
set_option maxRecDepth 100000
section TW5
variable {Z : hE} {o : Nat} {τ : tT}
theorem tc_sortOf (d p e : Nat) (three : Bool) (hpe : p ≤ e) (he : e ≤ 1000) (hf : ∀ i, τ.2.2.1 14 i < 65536) : tC Z mX3_sortOf (d + 5) o [.ref o, .int (nI p), .int (nI e), .int (nI three.toNat)] τ (fun r τ' => r = some (.int (oI (sortN (τ.2.2.1 14) e p three))) ∧ τ' = τ) := by
  refine tC.of rfl rfl (Nat.le_of_ble_eq_true rfl) rfl (fun X hin h hR => ?_)
  obtain ⟨n, rfl⟩ : ∃ n, e = p + n := ⟨e - p, by omega⟩
  have hcb := cA_bd (e := p + n) (k := p) hf
  have hf1 := hf (p + 1)
  have hf2 := hf (p + 2)
  refine g_iload_n (pc := 0) dX3_sortOf_0 rfl rfl ?_
  refine g_if_eqB (pc := 1) (tgt := 19) dX3_sortOf_1 rfl (fun c1 => ?_) (fun c1 => ?_)
  · refine g_aload_n (pc := 19) dX3_sortOf_19 rfl rfl ?_
    refine g_iload_n (pc := 20) dX3_sortOf_20 rfl rfl ?_
    refine g_iload_n (pc := 21) dX3_sortOf_21 rfl rfl ?_
    refine t_invE (pc := 22) dX3_sortOf_22 hR (tc_at0 _ p (p + n) (by omega) he) meX3_at0 q2032 q2034 qs27 rfl rfl (Nat.le_of_ble_eq_true rfl) (fun h hR => ?_)
    refine g_bipush (pc := 25) (v := nI 33) dX3_sortOf_25 rfl ?_
    refine g_icmp_neN (pc := 27) (tgt := 32) dX3_sortOf_27 rfl (by omega) (by omega) (fun c27 => ?_) (fun c27 => ?_)
    · refine g_aload_n (pc := 32) dX3_sortOf_32 rfl rfl ?_
      refine g_iload_n (pc := 33) dX3_sortOf_33 rfl rfl ?_
      refine g_iload_n (pc := 34) dX3_sortOf_34 rfl rfl ?_
      refine g_ldc2 (pc := 35) dX3_sortOf_35 q2081 ?_
      refine t_invE (pc := 38) dX3_sortOf_38 hR (tc_stands _ p (p + n) _ _ spells_594109984 (by omega) he hf) meX3_stands q2027 q2029 qs26 rfl rfl (Nat.le_of_ble_eq_true rfl) (fun h hR => ?_)
      refine g_if_eqB (pc := 41) (tgt := 61) dX3_sortOf_41 rfl (fun c41 => ?_) (fun c41 => ?_)
      · refine g_aload_n (pc := 61) dX3_sortOf_61 rfl rfl ?_
        refine g_iload_n (pc := 62) dX3_sortOf_62 rfl rfl ?_
        refine g_iload_n (pc := 63) dX3_sortOf_63 rfl rfl ?_
        refine g_ldc2 (pc := 64) dX3_sortOf_64 q2082 ?_
        refine t_invE (pc := 67) dX3_sortOf_67 hR (tc_stands _ p (p + n) _ _ spells_2550551843551838208 (by omega) he hf) meX3_stands q2027 q2029 qs26 rfl rfl (Nat.le_of_ble_eq_true rfl) (fun h hR => ?_)
        refine g_if_eqB (pc := 70) (tgt := 91) dX3_sortOf_70 rfl (fun c70 => ?_) (fun c70 => ?_)
        · refine g_aload_n (pc := 91) dX3_sortOf_91 rfl rfl ?_
          refine g_iload_n (pc := 92) dX3_sortOf_92 rfl rfl ?_
          refine g_iload_n (pc := 93) dX3_sortOf_93 rfl rfl ?_
          refine g_ldc2 (pc := 94) dX3_sortOf_94 q2083 ?_
          refine t_invE (pc := 97) dX3_sortOf_97 hR (tc_stands _ p (p + n) _ _ spells_2555627262240096256 (by omega) he hf) meX3_stands q2027 q2029 qs26 rfl rfl (Nat.le_of_ble_eq_true rfl) (fun h hR => ?_)
          refine g_if_eqB (pc := 100) (tgt := 121) dX3_sortOf_100 rfl (fun c100 => ?_) (fun c100 => ?_)
          · refine g_iload_n (pc := 121) dX3_sortOf_121 rfl rfl ?_
            refine g_iload_n (pc := 122) dX3_sortOf_122 rfl rfl ?_
            first | refine g_isubN (pc := 123) dX3_sortOf_123 (by omega) ?_ | refine g_isub (pc := 123) dX3_sortOf_123 ?_
            refine g_iconst (pc := 124) (v := nI 4) dX3_sortOf_124 rfl ?_
            refine g_icmp_neN (pc := 125) (tgt := 143) dX3_sortOf_125 rfl (by omega) (by omega) (fun c125 => ?_) (fun c125 => ?_)
            · refine g_iload_n (pc := 143) dX3_sortOf_143 rfl rfl ?_
              refine g_iload_n (pc := 144) dX3_sortOf_144 rfl rfl ?_
              first | refine g_isubN (pc := 145) dX3_sortOf_145 (by omega) ?_ | refine g_isub (pc := 145) dX3_sortOf_145 ?_
              refine g_iconst (pc := 146) (v := nI 3) dX3_sortOf_146 rfl ?_
              refine g_icmp_neN (pc := 147) (tgt := 165) dX3_sortOf_147 rfl (by omega) (by omega) (fun c147 => ?_) (fun c147 => ?_)
              · refine g_iload_n (pc := 165) dX3_sortOf_165 rfl rfl ?_
                refine g_iload_n (pc := 166) dX3_sortOf_166 rfl rfl ?_
                first | refine g_isubN (pc := 167) dX3_sortOf_167 (by omega) ?_ | refine g_isub (pc := 167) dX3_sortOf_167 ?_
                refine g_iconst (pc := 168) (v := nI 5) dX3_sortOf_168 rfl ?_
                refine g_icmp_neN (pc := 169) (tgt := 187) dX3_sortOf_169 rfl (by omega) (by omega) (fun c169 => ?_) (fun c169 => ?_)
                · refine g_iload_n (pc := 187) dX3_sortOf_187 rfl rfl ?_
                  refine g_iload_n (pc := 188) dX3_sortOf_188 rfl rfl ?_
                  first | refine g_isubN (pc := 189) dX3_sortOf_189 (by omega) ?_ | refine g_isub (pc := 189) dX3_sortOf_189 ?_
                  refine g_iconst (pc := 190) (v := nI 5) dX3_sortOf_190 rfl ?_
                  refine g_icmp_neN (pc := 191) (tgt := 209) dX3_sortOf_191 rfl (by omega) (by omega) (fun c191 => ?_) (fun c191 => ?_)
                  · refine g_aload_n (pc := 209) dX3_sortOf_209 rfl rfl ?_
                    refine g_iload_n (pc := 210) dX3_sortOf_210 rfl rfl ?_
                    refine g_iload_n (pc := 211) dX3_sortOf_211 rfl rfl ?_
                    refine t_invE (pc := 212) dX3_sortOf_212 hR (tc_at0 _ p (p + n) (by omega) he) meX3_at0 q2032 q2034 qs27 rfl rfl (Nat.le_of_ble_eq_true rfl) (fun h hR => ?_)
                    refine g_bipush (pc := 215) (v := nI 62) dX3_sortOf_215 rfl ?_
                    refine g_icmp_neN (pc := 217) (tgt := 273) dX3_sortOf_217 rfl (by omega) (by omega) (fun c217 => ?_) (fun c217 => ?_)
                    · refine g_aload_n (pc := 273) dX3_sortOf_273 rfl rfl ?_
                      refine g_iload_n (pc := 274) dX3_sortOf_274 rfl rfl ?_
                      refine g_iload_n (pc := 275) dX3_sortOf_275 rfl rfl ?_
                      refine t_invE (pc := 276) dX3_sortOf_276 hR (tc_isExpr _ _ (p + n) (by omega) he hf) meX3_isExpr q2043 q2045 qs29 rfl rfl (Nat.le_of_ble_eq_true rfl) (fun h hR => ?_)
                      refine g_if_eqB (pc := 279) (tgt := 286) dX3_sortOf_279 rfl (fun c279 => ?_) (fun c279 => ?_)
                      · refine g_iconst (pc := 286) (v := (-1)) dX3_sortOf_286 rfl ?_
                        exact t_iret (pc := 287) dX3_sortOf_287 hR rfl (⟨by first | (simp [sortN, *]; done) | (simp [sortN, *]; rfl) | (simp_all [sortN]; done) | (simp_all [sortN]; rfl) | (simp_all [sortN]; rw [if_neg (by omega)]; rfl) | (simp_all [sortN]; omega), rfl⟩)
                      · refine g_iconst (pc := 282) (v := nI 0) dX3_sortOf_282 rfl ?_
                        refine g_goto (pc := 283) (tgt := 287) dX3_sortOf_283 rfl ?_
                        exact t_iret (pc := 287) dX3_sortOf_287 hR rfl (⟨by first | (simp [sortN, *]; done) | (simp [sortN, *]; rfl) | (simp_all [sortN]; done) | (simp_all [sortN]; rfl) | (simp_all [sortN]; rw [if_neg (by omega)]; rfl) | (simp_all [sortN]; omega), rfl⟩)
                    · refine g_iload_n (pc := 220) dX3_sortOf_220 rfl rfl ?_
                      refine g_iload_n (pc := 221) dX3_sortOf_221 rfl rfl ?_
                      first | refine g_isubN (pc := 222) dX3_sortOf_222 (by omega) ?_ | refine g_isub (pc := 222) dX3_sortOf_222 ?_
                      refine g_iconst (pc := 223) (v := nI 3) dX3_sortOf_223 rfl ?_
                      refine g_icmp_neN (pc := 224) (tgt := 271) dX3_sortOf_224 rfl (by omega) (by omega) (fun c224 => ?_) (fun c224 => ?_)
                      · refine g_iconst (pc := 271) (v := (-1)) dX3_sortOf_271 rfl ?_
                        exact t_iret (pc := 272) dX3_sortOf_272 hR rfl (⟨by first | (simp [sortN, *]; done) | (simp [sortN, *]; rfl) | (simp_all [sortN]; done) | (simp_all [sortN]; rfl) | (simp_all [sortN]; rw [if_neg (by omega)]; rfl) | (simp_all [sortN]; omega), rfl⟩)
                      · refine g_aload_n (pc := 227) dX3_sortOf_227 rfl rfl ?_
                        refine t_get (pc := 228) (v := .ref (tAd _ 14)) 14 dX3_sortOf_228 hR rfl q1813 (Nat.le_of_ble_eq_true rfl) rfl rfl ?_
                        refine g_iload_n (pc := 231) dX3_sortOf_231 rfl rfl ?_
                        refine g_iconst (pc := 232) (v := nI 1) dX3_sortOf_232 rfl ?_
                        first | refine g_iaddN (pc := 233) dX3_sortOf_233 ?_ | refine g_iadd (pc := 233) dX3_sortOf_233 ?_
                        refine t_cald (pc := 234) dX3_sortOf_234 hR rfl (by decide) rfl (by decide) (by show _ < 1000; omega) ?_
                        refine g_bipush (pc := 235) (v := nI 32) dX3_sortOf_235 rfl ?_
                        refine g_icmp_neN (pc := 237) (tgt := 271) dX3_sortOf_237 rfl (by omega) (by omega) (fun c237 => ?_) (fun c237 => ?_)
                        · refine g_iconst (pc := 271) (v := (-1)) dX3_sortOf_271 rfl ?_
                          exact t_iret (pc := 272) dX3_sortOf_272 hR rfl (⟨by first | (simp [sortN, *]; done) | (simp [sortN, *]; rfl) | (simp_all [sortN]; done) | (simp_all [sortN]; rfl) | (simp_all [sortN]; rw [if_neg (by omega)]; rfl) | (simp_all [sortN]; omega), rfl⟩)
                        · refine g_aload_n (pc := 240) dX3_sortOf_240 rfl rfl ?_
                          refine t_get (pc := 241) (v := .ref (tAd _ 14)) 14 dX3_sortOf_241 hR rfl q1813 (Nat.le_of_ble_eq_true rfl) rfl rfl ?_
                          refine g_iload_n (pc := 244) dX3_sortOf_244 rfl rfl ?_
                          refine g_iconst (pc := 245) (v := nI 2) dX3_sortOf_245 rfl ?_
                          first | refine g_iaddN (pc := 246) dX3_sortOf_246 ?_ | refine g_iadd (pc := 246) dX3_sortOf_246 ?_
                          refine t_cald (pc := 247) dX3_sortOf_247 hR rfl (by decide) rfl (by decide) (by show _ < 1000; omega) ?_
                          refine g_bipush (pc := 248) (v := nI 97) dX3_sortOf_248 rfl ?_
                          refine g_icmp_ltN (pc := 250) (tgt := 271) dX3_sortOf_250 rfl (by omega) (by omega) (fun c250 => ?_) (fun c250 => ?_)
                          · refine g_iconst (pc := 271) (v := (-1)) dX3_sortOf_271 rfl ?_
                            exact t_iret (pc := 272) dX3_sortOf_272 hR rfl (⟨by first | (simp [sortN, *]; done) | (simp [sortN, *]; rfl) | (simp_all [sortN]; done) | (simp_all [sortN]; rfl) | (simp_all [sortN]; rw [if_neg (by omega)]; rfl) | (simp_all [sortN]; omega), rfl⟩)
                          · refine g_aload_n (pc := 253) dX3_sortOf_253 rfl rfl ?_
                            refine t_get (pc := 254) (v := .ref (tAd _ 14)) 14 dX3_sortOf_254 hR rfl q1813 (Nat.le_of_ble_eq_true rfl) rfl rfl ?_
                            refine g_iload_n (pc := 257) dX3_sortOf_257 rfl rfl ?_
                            refine g_iconst (pc := 258) (v := nI 2) dX3_sortOf_258 rfl ?_
                            first | refine g_iaddN (pc := 259) dX3_sortOf_259 ?_ | refine g_iadd (pc := 259) dX3_sortOf_259 ?_
                            refine t_cald (pc := 260) dX3_sortOf_260 hR rfl (by decide) rfl (by decide) (by show _ < 1000; omega) ?_
                            refine g_bipush (pc := 261) (v := nI 100) dX3_sortOf_261 rfl ?_
                            refine g_icmp_gtN (pc := 263) (tgt := 271) dX3_sortOf_263 rfl (by omega) (by omega) (fun c263 => ?_) (fun c263 => ?_)
                            · refine g_iconst (pc := 271) (v := (-1)) dX3_sortOf_271 rfl ?_
                              exact t_iret (pc := 272) dX3_sortOf_272 hR rfl (⟨by first | (simp [sortN, *]; done) | (simp [sortN, *]; rfl) | (simp_all [sortN]; done) | (simp_all [sortN]; rfl) | (simp_all [sortN]; rw [if_neg (by omega)]; rfl) | (simp_all [sortN]; omega), rfl⟩)
                            · refine g_bipush (pc := 266) (v := nI 10) dX3_sortOf_266 rfl ?_
                              refine g_goto (pc := 268) (tgt := 272) dX3_sortOf_268 rfl ?_
                              exact t_iret (pc := 272) dX3_sortOf_272 hR rfl (⟨by first | (simp [sortN, *]; done) | (simp [sortN, *]; rfl) | (simp_all [sortN]; done) | (simp_all [sortN]; rfl) | (simp_all [sortN]; rw [if_neg (by omega)]; rfl) | (simp_all [sortN]; omega), rfl⟩)
                  · refine g_aload_n (pc := 194) dX3_sortOf_194 rfl rfl ?_
                    refine g_iload_n (pc := 195) dX3_sortOf_195 rfl rfl ?_
                    refine g_iload_n (pc := 196) dX3_sortOf_196 rfl rfl ?_
                    refine g_ldc2 (pc := 197) dX3_sortOf_197 q2087 ?_
                    refine t_invE (pc := 200) dX3_sortOf_200 hR (tc_stands _ p (p + n) _ _ spells_203866862696 (by omega) he hf) meX3_stands q2027 q2029 qs26 rfl rfl (Nat.le_of_ble_eq_true rfl) (fun h hR => ?_)
                    refine g_if_eqB (pc := 203) (tgt := 209) dX3_sortOf_203 rfl (fun c203 => ?_) (fun c203 => ?_)
                    · refine g_aload_n (pc := 209) dX3_sortOf_209 rfl rfl ?_
                      refine g_iload_n (pc := 210) dX3_sortOf_210 rfl rfl ?_
                      refine g_iload_n (pc := 211) dX3_sortOf_211 rfl rfl ?_
                      refine t_invE (pc := 212) dX3_sortOf_212 hR (tc_at0 _ p (p + n) (by omega) he) meX3_at0 q2032 q2034 qs27 rfl rfl (Nat.le_of_ble_eq_true rfl) (fun h hR => ?_)
                      refine g_bipush (pc := 215) (v := nI 62) dX3_sortOf_215 rfl ?_
                      refine g_icmp_neN (pc := 217) (tgt := 273) dX3_sortOf_217 rfl (by omega) (by omega) (fun c217 => ?_) (fun c217 => ?_)
                      · refine g_aload_n (pc := 273) dX3_sortOf_273 rfl rfl ?_
                        refine g_iload_n (pc := 274) dX3_sortOf_274 rfl rfl ?_
                        refine g_iload_n (pc := 275) dX3_sortOf_275 rfl rfl ?_
                        refine t_invE (pc := 276) dX3_sortOf_276 hR (tc_isExpr _ _ (p + n) (by omega) he hf) meX3_isExpr q2043 q2045 qs29 rfl rfl (Nat.le_of_ble_eq_true rfl) (fun h hR => ?_)
                        refine g_if_eqB (pc := 279) (tgt := 286) dX3_sortOf_279 rfl (fun c279 => ?_) (fun c279 => ?_)
                        · refine g_iconst (pc := 286) (v := (-1)) dX3_sortOf_286 rfl ?_
                          exact t_iret (pc := 287) dX3_sortOf_287 hR rfl (⟨by first | (simp [sortN, *]; done) | (simp [sortN, *]; rfl) | (simp_all [sortN]; done) | (simp_all [sortN]; rfl) | (simp_all [sortN]; rw [if_neg (by omega)]; rfl) | (simp_all [sortN]; omega), rfl⟩)
                        · refine g_iconst (pc := 282) (v := nI 0) dX3_sortOf_282 rfl ?_
                          refine g_goto (pc := 283) (tgt := 287) dX3_sortOf_283 rfl ?_
                          exact t_iret (pc := 287) dX3_sortOf_287 hR rfl (⟨by first | (simp [sortN, *]; done) | (simp [sortN, *]; rfl) | (simp_all [sortN]; done) | (simp_all [sortN]; rfl) | (simp_all [sortN]; rw [if_neg (by omega)]; rfl) | (simp_all [sortN]; omega), rfl⟩)
                      · refine g_iload_n (pc := 220) dX3_sortOf_220 rfl rfl ?_
                        refine g_iload_n (pc := 221) dX3_sortOf_221 rfl rfl ?_
                        first | refine g_isubN (pc := 222) dX3_sortOf_222 (by omega) ?_ | refine g_isub (pc := 222) dX3_sortOf_222 ?_
                        refine g_iconst (pc := 223) (v := nI 3) dX3_sortOf_223 rfl ?_
                        refine g_icmp_neN (pc := 224) (tgt := 271) dX3_sortOf_224 rfl (by omega) (by omega) (fun c224 => ?_) (fun c224 => ?_)
                        · refine g_iconst (pc := 271) (v := (-1)) dX3_sortOf_271 rfl ?_
                          exact t_iret (pc := 272) dX3_sortOf_272 hR rfl (⟨by first | (simp [sortN, *]; done) | (simp [sortN, *]; rfl) | (simp_all [sortN]; done) | (simp_all [sortN]; rfl) | (simp_all [sortN]; rw [if_neg (by omega)]; rfl) | (simp_all [sortN]; omega), rfl⟩)
                        · refine g_aload_n (pc := 227) dX3_sortOf_227 rfl rfl ?_
                          refine t_get (pc := 228) (v := .ref (tAd _ 14)) 14 dX3_sortOf_228 hR rfl q1813 (Nat.le_of_ble_eq_true rfl) rfl rfl ?_
                          refine g_iload_n (pc := 231) dX3_sortOf_231 rfl rfl ?_
                          refine g_iconst (pc := 232) (v := nI 1) dX3_sortOf_232 rfl ?_
                          first | refine g_iaddN (pc := 233) dX3_sortOf_233 ?_ | refine g_iadd (pc := 233) dX3_sortOf_233 ?_
                          refine t_cald (pc := 234) dX3_sortOf_234 hR rfl (by decide) rfl (by decide) (by show _ < 1000; omega) ?_
                          refine g_bipush (pc := 235) (v := nI 32) dX3_sortOf_235 rfl ?_
                          refine g_icmp_neN (pc := 237) (tgt := 271) dX3_sortOf_237 rfl (by omega) (by omega) (fun c237 => ?_) (fun c237 => ?_)
                          · refine g_iconst (pc := 271) (v := (-1)) dX3_sortOf_271 rfl ?_
                            exact t_iret (pc := 272) dX3_sortOf_272 hR rfl (⟨by first | (simp [sortN, *]; done) | (simp [sortN, *]; rfl) | (simp_all [sortN]; done) | (simp_all [sortN]; rfl) | (simp_all [sortN]; rw [if_neg (by omega)]; rfl) | (simp_all [sortN]; omega), rfl⟩)
                          · refine g_aload_n (pc := 240) dX3_sortOf_240 rfl rfl ?_
                            refine t_get (pc := 241) (v := .ref (tAd _ 14)) 14 dX3_sortOf_241 hR rfl q1813 (Nat.le_of_ble_eq_true rfl) rfl rfl ?_
                            refine g_iload_n (pc := 244) dX3_sortOf_244 rfl rfl ?_
                            refine g_iconst (pc := 245) (v := nI 2) dX3_sortOf_245 rfl ?_
                            first | refine g_iaddN (pc := 246) dX3_sortOf_246 ?_ | refine g_iadd (pc := 246) dX3_sortOf_246 ?_
                            refine t_cald (pc := 247) dX3_sortOf_247 hR rfl (by decide) rfl (by decide) (by show _ < 1000; omega) ?_
                            refine g_bipush (pc := 248) (v := nI 97) dX3_sortOf_248 rfl ?_
                            refine g_icmp_ltN (pc := 250) (tgt := 271) dX3_sortOf_250 rfl (by omega) (by omega) (fun c250 => ?_) (fun c250 => ?_)
                            · refine g_iconst (pc := 271) (v := (-1)) dX3_sortOf_271 rfl ?_
                              exact t_iret (pc := 272) dX3_sortOf_272 hR rfl (⟨by first | (simp [sortN, *]; done) | (simp [sortN, *]; rfl) | (simp_all [sortN]; done) | (simp_all [sortN]; rfl) | (simp_all [sortN]; rw [if_neg (by omega)]; rfl) | (simp_all [sortN]; omega), rfl⟩)
                            · refine g_aload_n (pc := 253) dX3_sortOf_253 rfl rfl ?_
                              refine t_get (pc := 254) (v := .ref (tAd _ 14)) 14 dX3_sortOf_254 hR rfl q1813 (Nat.le_of_ble_eq_true rfl) rfl rfl ?_
                              refine g_iload_n (pc := 257) dX3_sortOf_257 rfl rfl ?_
                              refine g_iconst (pc := 258) (v := nI 2) dX3_sortOf_258 rfl ?_
                              first | refine g_iaddN (pc := 259) dX3_sortOf_259 ?_ | refine g_iadd (pc := 259) dX3_sortOf_259 ?_
                              refine t_cald (pc := 260) dX3_sortOf_260 hR rfl (by decide) rfl (by decide) (by show _ < 1000; omega) ?_
                              refine g_bipush (pc := 261) (v := nI 100) dX3_sortOf_261 rfl ?_
                              refine g_icmp_gtN (pc := 263) (tgt := 271) dX3_sortOf_263 rfl (by omega) (by omega) (fun c263 => ?_) (fun c263 => ?_)
                              · refine g_iconst (pc := 271) (v := (-1)) dX3_sortOf_271 rfl ?_
                                exact t_iret (pc := 272) dX3_sortOf_272 hR rfl (⟨by first | (simp [sortN, *]; done) | (simp [sortN, *]; rfl) | (simp_all [sortN]; done) | (simp_all [sortN]; rfl) | (simp_all [sortN]; rw [if_neg (by omega)]; rfl) | (simp_all [sortN]; omega), rfl⟩)
                              · refine g_bipush (pc := 266) (v := nI 10) dX3_sortOf_266 rfl ?_
                                refine g_goto (pc := 268) (tgt := 272) dX3_sortOf_268 rfl ?_
                                exact t_iret (pc := 272) dX3_sortOf_272 hR rfl (⟨by first | (simp [sortN, *]; done) | (simp [sortN, *]; rfl) | (simp_all [sortN]; done) | (simp_all [sortN]; rfl) | (simp_all [sortN]; rw [if_neg (by omega)]; rfl) | (simp_all [sortN]; omega), rfl⟩)
                    · refine g_bipush (pc := 206) (v := nI 9) dX3_sortOf_206 rfl ?_
                      exact t_iret (pc := 208) dX3_sortOf_208 hR rfl (⟨by first | (simp [sortN, *]; done) | (simp [sortN, *]; rfl) | (simp_all [sortN]; done) | (simp_all [sortN]; rfl) | (simp_all [sortN]; rw [if_neg (by omega)]; rfl) | (simp_all [sortN]; omega), rfl⟩)
                · refine g_aload_n (pc := 172) dX3_sortOf_172 rfl rfl ?_
                  refine g_iload_n (pc := 173) dX3_sortOf_173 rfl rfl ?_
                  refine g_iload_n (pc := 174) dX3_sortOf_174 rfl rfl ?_
                  refine g_ldc2 (pc := 175) dX3_sortOf_175 q2086 ?_
                  refine t_invE (pc := 178) dX3_sortOf_178 hR (tc_stands _ p (p + n) _ _ spells_203564344168 (by omega) he hf) meX3_stands q2027 q2029 qs26 rfl rfl (Nat.le_of_ble_eq_true rfl) (fun h hR => ?_)
                  refine g_if_eqB (pc := 181) (tgt := 187) dX3_sortOf_181 rfl (fun c181 => ?_) (fun c181 => ?_)
                  · refine g_iload_n (pc := 187) dX3_sortOf_187 rfl rfl ?_
                    refine g_iload_n (pc := 188) dX3_sortOf_188 rfl rfl ?_
                    first | refine g_isubN (pc := 189) dX3_sortOf_189 (by omega) ?_ | refine g_isub (pc := 189) dX3_sortOf_189 ?_
                    refine g_iconst (pc := 190) (v := nI 5) dX3_sortOf_190 rfl ?_
                    refine g_icmp_neN (pc := 191) (tgt := 209) dX3_sortOf_191 rfl (by omega) (by omega) (fun c191 => ?_) (fun c191 => ?_)
                    · refine g_aload_n (pc := 209) dX3_sortOf_209 rfl rfl ?_
                      refine g_iload_n (pc := 210) dX3_sortOf_210 rfl rfl ?_
                      refine g_iload_n (pc := 211) dX3_sortOf_211 rfl rfl ?_
                      refine t_invE (pc := 212) dX3_sortOf_212 hR (tc_at0 _ p (p + n) (by omega) he) meX3_at0 q2032 q2034 qs27 rfl rfl (Nat.le_of_ble_eq_true rfl) (fun h hR => ?_)
                      refine g_bipush (pc := 215) (v := nI 62) dX3_sortOf_215 rfl ?_
                      refine g_icmp_neN (pc := 217) (tgt := 273) dX3_sortOf_217 rfl (by omega) (by omega) (fun c217 => ?_) (fun c217 => ?_)
                      · refine g_aload_n (pc := 273) dX3_sortOf_273 rfl rfl ?_
                        refine g_iload_n (pc := 274) dX3_sortOf_274 rfl rfl ?_
                        refine g_iload_n (pc := 275) dX3_sortOf_275 rfl rfl ?_
                        refine t_invE (pc := 276) dX3_sortOf_276 hR (tc_isExpr _ _ (p + n) (by omega) he hf) meX3_isExpr q2043 q2045 qs29 rfl rfl (Nat.le_of_ble_eq_true rfl) (fun h hR => ?_)
                        refine g_if_eqB (pc := 279) (tgt := 286) dX3_sortOf_279 rfl (fun c279 => ?_) (fun c279 => ?_)
                        · refine g_iconst (pc := 286) (v := (-1)) dX3_sortOf_286 rfl ?_
                          exact t_iret (pc := 287) dX3_sortOf_287 hR rfl (⟨by first | (simp [sortN, *]; done) | (simp [sortN, *]; rfl) | (simp_all [sortN]; done) | (simp_all [sortN]; rfl) | (simp_all [sortN]; rw [if_neg (by omega)]; rfl) | (simp_all [sortN]; omega), rfl⟩)
                        · refine g_iconst (pc := 282) (v := nI 0) dX3_sortOf_282 rfl ?_
                          refine g_goto (pc := 283) (tgt := 287) dX3_sortOf_283 rfl ?_
                          exact t_iret (pc := 287) dX3_sortOf_287 hR rfl (⟨by first | (simp [sortN, *]; done) | (simp [sortN, *]; rfl) | (simp_all [sortN]; done) | (simp_all [sortN]; rfl) | (simp_all [sortN]; rw [if_neg (by omega)]; rfl) | (simp_all [sortN]; omega), rfl⟩)
                      · refine g_iload_n (pc := 220) dX3_sortOf_220 rfl rfl ?_
                        refine g_iload_n (pc := 221) dX3_sortOf_221 rfl rfl ?_
                        first | refine g_isubN (pc := 222) dX3_sortOf_222 (by omega) ?_ | refine g_isub (pc := 222) dX3_sortOf_222 ?_
                        refine g_iconst (pc := 223) (v := nI 3) dX3_sortOf_223 rfl ?_
                        refine g_icmp_neN (pc := 224) (tgt := 271) dX3_sortOf_224 rfl (by omega) (by omega) (fun c224 => ?_) (fun c224 => ?_)
                        · refine g_iconst (pc := 271) (v := (-1)) dX3_sortOf_271 rfl ?_
                          exact t_iret (pc := 272) dX3_sortOf_272 hR rfl (⟨by first | (simp [sortN, *]; done) | (simp [sortN, *]; rfl) | (simp_all [sortN]; done) | (simp_all [sortN]; rfl) | (simp_all [sortN]; rw [if_neg (by omega)]; rfl) | (simp_all [sortN]; omega), rfl⟩)
                        · refine g_aload_n (pc := 227) dX3_sortOf_227 rfl rfl ?_
                          refine t_get (pc := 228) (v := .ref (tAd _ 14)) 14 dX3_sortOf_228 hR rfl q1813 (Nat.le_of_ble_eq_true rfl) rfl rfl ?_
                          refine g_iload_n (pc := 231) dX3_sortOf_231 rfl rfl ?_
                          refine g_iconst (pc := 232) (v := nI 1) dX3_sortOf_232 rfl ?_
                          first | refine g_iaddN (pc := 233) dX3_sortOf_233 ?_ | refine g_iadd (pc := 233) dX3_sortOf_233 ?_
                          refine t_cald (pc := 234) dX3_sortOf_234 hR rfl (by decide) rfl (by decide) (by show _ < 1000; omega) ?_
                          refine g_bipush (pc := 235) (v := nI 32) dX3_sortOf_235 rfl ?_
                          refine g_icmp_neN (pc := 237) (tgt := 271) dX3_sortOf_237 rfl (by omega) (by omega) (fun c237 => ?_) (fun c237 => ?_)
                          · refine g_iconst (pc := 271) (v := (-1)) dX3_sortOf_271 rfl ?_
                            exact t_iret (pc := 272) dX3_sortOf_272 hR rfl (⟨by first | (simp [sortN, *]; done) | (simp [sortN, *]; rfl) | (simp_all [sortN]; done) | (simp_all [sortN]; rfl) | (simp_all [sortN]; rw [if_neg (by omega)]; rfl) | (simp_all [sortN]; omega), rfl⟩)
                          · refine g_aload_n (pc := 240) dX3_sortOf_240 rfl rfl ?_
                            refine t_get (pc := 241) (v := .ref (tAd _ 14)) 14 dX3_sortOf_241 hR rfl q1813 (Nat.le_of_ble_eq_true rfl) rfl rfl ?_
                            refine g_iload_n (pc := 244) dX3_sortOf_244 rfl rfl ?_
                            refine g_iconst (pc := 245) (v := nI 2) dX3_sortOf_245 rfl ?_
                            first | refine g_iaddN (pc := 246) dX3_sortOf_246 ?_ | refine g_iadd (pc := 246) dX3_sortOf_246 ?_
                            refine t_cald (pc := 247) dX3_sortOf_247 hR rfl (by decide) rfl (by decide) (by show _ < 1000; omega) ?_
                            refine g_bipush (pc := 248) (v := nI 97) dX3_sortOf_248 rfl ?_
                            refine g_icmp_ltN (pc := 250) (tgt := 271) dX3_sortOf_250 rfl (by omega) (by omega) (fun c250 => ?_) (fun c250 => ?_)
                            · refine g_iconst (pc := 271) (v := (-1)) dX3_sortOf_271 rfl ?_
                              exact t_iret (pc := 272) dX3_sortOf_272 hR rfl (⟨by first | (simp [sortN, *]; done) | (simp [sortN, *]; rfl) | (simp_all [sortN]; done) | (simp_all [sortN]; rfl) | (simp_all [sortN]; rw [if_neg (by omega)]; rfl) | (simp_all [sortN]; omega), rfl⟩)
                            · refine g_aload_n (pc := 253) dX3_sortOf_253 rfl rfl ?_
                              refine t_get (pc := 254) (v := .ref (tAd _ 14)) 14 dX3_sortOf_254 hR rfl q1813 (Nat.le_of_ble_eq_true rfl) rfl rfl ?_
                              refine g_iload_n (pc := 257) dX3_sortOf_257 rfl rfl ?_
                              refine g_iconst (pc := 258) (v := nI 2) dX3_sortOf_258 rfl ?_
                              first | refine g_iaddN (pc := 259) dX3_sortOf_259 ?_ | refine g_iadd (pc := 259) dX3_sortOf_259 ?_
                              refine t_cald (pc := 260) dX3_sortOf_260 hR rfl (by decide) rfl (by decide) (by show _ < 1000; omega) ?_
                              refine g_bipush (pc := 261) (v := nI 100) dX3_sortOf_261 rfl ?_
                              refine g_icmp_gtN (pc := 263) (tgt := 271) dX3_sortOf_263 rfl (by omega) (by omega) (fun c263 => ?_) (fun c263 => ?_)
                              · refine g_iconst (pc := 271) (v := (-1)) dX3_sortOf_271 rfl ?_
                                exact t_iret (pc := 272) dX3_sortOf_272 hR rfl (⟨by first | (simp [sortN, *]; done) | (simp [sortN, *]; rfl) | (simp_all [sortN]; done) | (simp_all [sortN]; rfl) | (simp_all [sortN]; rw [if_neg (by omega)]; rfl) | (simp_all [sortN]; omega), rfl⟩)
                              · refine g_bipush (pc := 266) (v := nI 10) dX3_sortOf_266 rfl ?_
                                refine g_goto (pc := 268) (tgt := 272) dX3_sortOf_268 rfl ?_
                                exact t_iret (pc := 272) dX3_sortOf_272 hR rfl (⟨by first | (simp [sortN, *]; done) | (simp [sortN, *]; rfl) | (simp_all [sortN]; done) | (simp_all [sortN]; rfl) | (simp_all [sortN]; rw [if_neg (by omega)]; rfl) | (simp_all [sortN]; omega), rfl⟩)
                    · refine g_aload_n (pc := 194) dX3_sortOf_194 rfl rfl ?_
                      refine g_iload_n (pc := 195) dX3_sortOf_195 rfl rfl ?_
                      refine g_iload_n (pc := 196) dX3_sortOf_196 rfl rfl ?_
                      refine g_ldc2 (pc := 197) dX3_sortOf_197 q2087 ?_
                      refine t_invE (pc := 200) dX3_sortOf_200 hR (tc_stands _ p (p + n) _ _ spells_203866862696 (by omega) he hf) meX3_stands q2027 q2029 qs26 rfl rfl (Nat.le_of_ble_eq_true rfl) (fun h hR => ?_)
                      refine g_if_eqB (pc := 203) (tgt := 209) dX3_sortOf_203 rfl (fun c203 => ?_) (fun c203 => ?_)
                      · refine g_aload_n (pc := 209) dX3_sortOf_209 rfl rfl ?_
                        refine g_iload_n (pc := 210) dX3_sortOf_210 rfl rfl ?_
                        refine g_iload_n (pc := 211) dX3_sortOf_211 rfl rfl ?_
                        refine t_invE (pc := 212) dX3_sortOf_212 hR (tc_at0 _ p (p + n) (by omega) he) meX3_at0 q2032 q2034 qs27 rfl rfl (Nat.le_of_ble_eq_true rfl) (fun h hR => ?_)
                        refine g_bipush (pc := 215) (v := nI 62) dX3_sortOf_215 rfl ?_
                        refine g_icmp_neN (pc := 217) (tgt := 273) dX3_sortOf_217 rfl (by omega) (by omega) (fun c217 => ?_) (fun c217 => ?_)
                        · refine g_aload_n (pc := 273) dX3_sortOf_273 rfl rfl ?_
                          refine g_iload_n (pc := 274) dX3_sortOf_274 rfl rfl ?_
                          refine g_iload_n (pc := 275) dX3_sortOf_275 rfl rfl ?_
                          refine t_invE (pc := 276) dX3_sortOf_276 hR (tc_isExpr _ _ (p + n) (by omega) he hf) meX3_isExpr q2043 q2045 qs29 rfl rfl (Nat.le_of_ble_eq_true rfl) (fun h hR => ?_)
                          refine g_if_eqB (pc := 279) (tgt := 286) dX3_sortOf_279 rfl (fun c279 => ?_) (fun c279 => ?_)
                          · refine g_iconst (pc := 286) (v := (-1)) dX3_sortOf_286 rfl ?_
                            exact t_iret (pc := 287) dX3_sortOf_287 hR rfl (⟨by first | (simp [sortN, *]; done) | (simp [sortN, *]; rfl) | (simp_all [sortN]; done) | (simp_all [sortN]; rfl) | (simp_all [sortN]; rw [if_neg (by omega)]; rfl) | (simp_all [sortN]; omega), rfl⟩)
                          · refine g_iconst (pc := 282) (v := nI 0) dX3_sortOf_282 rfl ?_
                            refine g_goto (pc := 283) (tgt := 287) dX3_sortOf_283 rfl ?_
                            exact t_iret (pc := 287) dX3_sortOf_287 hR rfl (⟨by first | (simp [sortN, *]; done) | (simp [sortN, *]; rfl) | (simp_all [sortN]; done) | (simp_all [sortN]; rfl) | (simp_all [sortN]; rw [if_neg (by omega)]; rfl) | (simp_all [sortN]; omega), rfl⟩)
                        · refine g_iload_n (pc := 220) dX3_sortOf_220 rfl rfl ?_
                          refine g_iload_n (pc := 221) dX3_sortOf_221 rfl rfl ?_
                          first | refine g_isubN (pc := 222) dX3_sortOf_222 (by omega) ?_ | refine g_isub (pc := 222) dX3_sortOf_222 ?_
                          refine g_iconst (pc := 223) (v := nI 3) dX3_sortOf_223 rfl ?_
                          refine g_icmp_neN (pc := 224) (tgt := 271) dX3_sortOf_224 rfl (by omega) (by omega) (fun c224 => ?_) (fun c224 => ?_)
                          · refine g_iconst (pc := 271) (v := (-1)) dX3_sortOf_271 rfl ?_
                            exact t_iret (pc := 272) dX3_sortOf_272 hR rfl (⟨by first | (simp [sortN, *]; done) | (simp [sortN, *]; rfl) | (simp_all [sortN]; done) | (simp_all [sortN]; rfl) | (simp_all [sortN]; rw [if_neg (by omega)]; rfl) | (simp_all [sortN]; omega), rfl⟩)
                          · refine g_aload_n (pc := 227) dX3_sortOf_227 rfl rfl ?_
                            refine t_get (pc := 228) (v := .ref (tAd _ 14)) 14 dX3_sortOf_228 hR rfl q1813 (Nat.le_of_ble_eq_true rfl) rfl rfl ?_
                            refine g_iload_n (pc := 231) dX3_sortOf_231 rfl rfl ?_
                            refine g_iconst (pc := 232) (v := nI 1) dX3_sortOf_232 rfl ?_
                            first | refine g_iaddN (pc := 233) dX3_sortOf_233 ?_ | refine g_iadd (pc := 233) dX3_sortOf_233 ?_
                            refine t_cald (pc := 234) dX3_sortOf_234 hR rfl (by decide) rfl (by decide) (by show _ < 1000; omega) ?_
                            refine g_bipush (pc := 235) (v := nI 32) dX3_sortOf_235 rfl ?_
                            refine g_icmp_neN (pc := 237) (tgt := 271) dX3_sortOf_237 rfl (by omega) (by omega) (fun c237 => ?_) (fun c237 => ?_)
                            · refine g_iconst (pc := 271) (v := (-1)) dX3_sortOf_271 rfl ?_
                              exact t_iret (pc := 272) dX3_sortOf_272 hR rfl (⟨by first | (simp [sortN, *]; done) | (simp [sortN, *]; rfl) | (simp_all [sortN]; done) | (simp_all [sortN]; rfl) | (simp_all [sortN]; rw [if_neg (by omega)]; rfl) | (simp_all [sortN]; omega), rfl⟩)
                            · refine g_aload_n (pc := 240) dX3_sortOf_240 rfl rfl ?_
                              refine t_get (pc := 241) (v := .ref (tAd _ 14)) 14 dX3_sortOf_241 hR rfl q1813 (Nat.le_of_ble_eq_true rfl) rfl rfl ?_
                              refine g_iload_n (pc := 244) dX3_sortOf_244 rfl rfl ?_
                              refine g_iconst (pc := 245) (v := nI 2) dX3_sortOf_245 rfl ?_
                              first | refine g_iaddN (pc := 246) dX3_sortOf_246 ?_ | refine g_iadd (pc := 246) dX3_sortOf_246 ?_
                              refine t_cald (pc := 247) dX3_sortOf_247 hR rfl (by decide) rfl (by decide) (by show _ < 1000; omega) ?_
                              refine g_bipush (pc := 248) (v := nI 97) dX3_sortOf_248 rfl ?_
                              refine g_icmp_ltN (pc := 250) (tgt := 271) dX3_sortOf_250 rfl (by omega) (by omega) (fun c250 => ?_) (fun c250 => ?_)
                              · refine g_iconst (pc := 271) (v := (-1)) dX3_sortOf_271 rfl ?_
                                exact t_iret (pc := 272) dX3_sortOf_272 hR rfl (⟨by first | (simp [sortN, *]; done) | (simp [sortN, *]; rfl) | (simp_all [sortN]; done) | (simp_all [sortN]; rfl) | (simp_all [sortN]; rw [if_neg (by omega)]; rfl) | (simp_all [sortN]; omega), rfl⟩)
                              · refine g_aload_n (pc := 253) dX3_sortOf_253 rfl rfl ?_
                                refine t_get (pc := 254) (v := .ref (tAd _ 14)) 14 dX3_sortOf_254 hR rfl q1813 (Nat.le_of_ble_eq_true rfl) rfl rfl ?_
                                refine g_iload_n (pc := 257) dX3_sortOf_257 rfl rfl ?_
                                refine g_iconst (pc := 258) (v := nI 2) dX3_sortOf_258 rfl ?_
                                first | refine g_iaddN (pc := 259) dX3_sortOf_259 ?_ | refine g_iadd (pc := 259) dX3_sortOf_259 ?_
                                refine t_cald (pc := 260) dX3_sortOf_260 hR rfl (by decide) rfl (by decide) (by show _ < 1000; omega) ?_
                                refine g_bipush (pc := 261) (v := nI 100) dX3_sortOf_261 rfl ?_
                                refine g_icmp_gtN (pc := 263) (tgt := 271) dX3_sortOf_263 rfl (by omega) (by omega) (fun c263 => ?_) (fun c263 => ?_)
                                · refine g_iconst (pc := 271) (v := (-1)) dX3_sortOf_271 rfl ?_
                                  exact t_iret (pc := 272) dX3_sortOf_272 hR rfl (⟨by first | (simp [sortN, *]; done) | (simp [sortN, *]; rfl) | (simp_all [sortN]; done) | (simp_all [sortN]; rfl) | (simp_all [sortN]; rw [if_neg (by omega)]; rfl) | (simp_all [sortN]; omega), rfl⟩)
                                · refine g_bipush (pc := 266) (v := nI 10) dX3_sortOf_266 rfl ?_
                                  refine g_goto (pc := 268) (tgt := 272) dX3_sortOf_268 rfl ?_
                                  exact t_iret (pc := 272) dX3_sortOf_272 hR rfl (⟨by first | (simp [sortN, *]; done) | (simp [sortN, *]; rfl) | (simp_all [sortN]; done) | (simp_all [sortN]; rfl) | (simp_all [sortN]; rw [if_neg (by omega)]; rfl) | (simp_all [sortN]; omega), rfl⟩)
                      · refine g_bipush (pc := 206) (v := nI 9) dX3_sortOf_206 rfl ?_
                        exact t_iret (pc := 208) dX3_sortOf_208 hR rfl (⟨by first | (simp [sortN, *]; done) | (simp [sortN, *]; rfl) | (simp_all [sortN]; done) | (simp_all [sortN]; rfl) | (simp_all [sortN]; rw [if_neg (by omega)]; rfl) | (simp_all [sortN]; omega), rfl⟩)
                  · refine g_bipush (pc := 184) (v := nI 8) dX3_sortOf_184 rfl ?_
                    exact t_iret (pc := 186) dX3_sortOf_186 hR rfl (⟨by first | (simp [sortN, *]; done) | (simp [sortN, *]; rfl) | (simp_all [sortN]; done) | (simp_all [sortN]; rfl) | (simp_all [sortN]; rw [if_neg (by omega)]; rfl) | (simp_all [sortN]; omega), rfl⟩)
              · refine g_aload_n (pc := 150) dX3_sortOf_150 rfl rfl ?_
                refine g_iload_n (pc := 151) dX3_sortOf_151 rfl rfl ?_
                refine g_iload_n (pc := 152) dX3_sortOf_152 rfl rfl ?_
                refine g_ldc2 (pc := 153) dX3_sortOf_153 q2085 ?_
                refine t_invE (pc := 156) dX3_sortOf_156 hR (tc_stands _ p (p + n) _ _ spells_3107174 (by omega) he hf) meX3_stands q2027 q2029 qs26 rfl rfl (Nat.le_of_ble_eq_true rfl) (fun h hR => ?_)
                refine g_if_eqB (pc := 159) (tgt := 165) dX3_sortOf_159 rfl (fun c159 => ?_) (fun c159 => ?_)
                · refine g_iload_n (pc := 165) dX3_sortOf_165 rfl rfl ?_
                  refine g_iload_n (pc := 166) dX3_sortOf_166 rfl rfl ?_
                  first | refine g_isubN (pc := 167) dX3_sortOf_167 (by omega) ?_ | refine g_isub (pc := 167) dX3_sortOf_167 ?_
                  refine g_iconst (pc := 168) (v := nI 5) dX3_sortOf_168 rfl ?_
                  refine g_icmp_neN (pc := 169) (tgt := 187) dX3_sortOf_169 rfl (by omega) (by omega) (fun c169 => ?_) (fun c169 => ?_)
                  · refine g_iload_n (pc := 187) dX3_sortOf_187 rfl rfl ?_
                    refine g_iload_n (pc := 188) dX3_sortOf_188 rfl rfl ?_
                    first | refine g_isubN (pc := 189) dX3_sortOf_189 (by omega) ?_ | refine g_isub (pc := 189) dX3_sortOf_189 ?_
                    refine g_iconst (pc := 190) (v := nI 5) dX3_sortOf_190 rfl ?_
                    refine g_icmp_neN (pc := 191) (tgt := 209) dX3_sortOf_191 rfl (by omega) (by omega) (fun c191 => ?_) (fun c191 => ?_)
                    · refine g_aload_n (pc := 209) dX3_sortOf_209 rfl rfl ?_
                      refine g_iload_n (pc := 210) dX3_sortOf_210 rfl rfl ?_
                      refine g_iload_n (pc := 211) dX3_sortOf_211 rfl rfl ?_
                      refine t_invE (pc := 212) dX3_sortOf_212 hR (tc_at0 _ p (p + n) (by omega) he) meX3_at0 q2032 q2034 qs27 rfl rfl (Nat.le_of_ble_eq_true rfl) (fun h hR => ?_)
                      refine g_bipush (pc := 215) (v := nI 62) dX3_sortOf_215 rfl ?_
                      refine g_icmp_neN (pc := 217) (tgt := 273) dX3_sortOf_217 rfl (by omega) (by omega) (fun c217 => ?_) (fun c217 => ?_)
                      · refine g_aload_n (pc := 273) dX3_sortOf_273 rfl rfl ?_
                        refine g_iload_n (pc := 274) dX3_sortOf_274 rfl rfl ?_
                        refine g_iload_n (pc := 275) dX3_sortOf_275 rfl rfl ?_
                        refine t_invE (pc := 276) dX3_sortOf_276 hR (tc_isExpr _ _ (p + n) (by omega) he hf) meX3_isExpr q2043 q2045 qs29 rfl rfl (Nat.le_of_ble_eq_true rfl) (fun h hR => ?_)
                        refine g_if_eqB (pc := 279) (tgt := 286) dX3_sortOf_279 rfl (fun c279 => ?_) (fun c279 => ?_)
                        · refine g_iconst (pc := 286) (v := (-1)) dX3_sortOf_286 rfl ?_
                          exact t_iret (pc := 287) dX3_sortOf_287 hR rfl (⟨by first | (simp [sortN, *]; done) | (simp [sortN, *]; rfl) | (simp_all [sortN]; done) | (simp_all [sortN]; rfl) | (simp_all [sortN]; rw [if_neg (by omega)]; rfl) | (simp_all [sortN]; omega), rfl⟩)
                        · refine g_iconst (pc := 282) (v := nI 0) dX3_sortOf_282 rfl ?_
                          refine g_goto (pc := 283) (tgt := 287) dX3_sortOf_283 rfl ?_
                          exact t_iret (pc := 287) dX3_sortOf_287 hR rfl (⟨by first | (simp [sortN, *]; done) | (simp [sortN, *]; rfl) | (simp_all [sortN]; done) | (simp_all [sortN]; rfl) | (simp_all [sortN]; rw [if_neg (by omega)]; rfl) | (simp_all [sortN]; omega), rfl⟩)
                      · refine g_iload_n (pc := 220) dX3_sortOf_220 rfl rfl ?_
                        refine g_iload_n (pc := 221) dX3_sortOf_221 rfl rfl ?_
                        first | refine g_isubN (pc := 222) dX3_sortOf_222 (by omega) ?_ | refine g_isub (pc := 222) dX3_sortOf_222 ?_
                        refine g_iconst (pc := 223) (v := nI 3) dX3_sortOf_223 rfl ?_
                        refine g_icmp_neN (pc := 224) (tgt := 271) dX3_sortOf_224 rfl (by omega) (by omega) (fun c224 => ?_) (fun c224 => ?_)
                        · refine g_iconst (pc := 271) (v := (-1)) dX3_sortOf_271 rfl ?_
                          exact t_iret (pc := 272) dX3_sortOf_272 hR rfl (⟨by first | (simp [sortN, *]; done) | (simp [sortN, *]; rfl) | (simp_all [sortN]; done) | (simp_all [sortN]; rfl) | (simp_all [sortN]; rw [if_neg (by omega)]; rfl) | (simp_all [sortN]; omega), rfl⟩)
                        · refine g_aload_n (pc := 227) dX3_sortOf_227 rfl rfl ?_
                          refine t_get (pc := 228) (v := .ref (tAd _ 14)) 14 dX3_sortOf_228 hR rfl q1813 (Nat.le_of_ble_eq_true rfl) rfl rfl ?_
                          refine g_iload_n (pc := 231) dX3_sortOf_231 rfl rfl ?_
                          refine g_iconst (pc := 232) (v := nI 1) dX3_sortOf_232 rfl ?_
                          first | refine g_iaddN (pc := 233) dX3_sortOf_233 ?_ | refine g_iadd (pc := 233) dX3_sortOf_233 ?_
                          refine t_cald (pc := 234) dX3_sortOf_234 hR rfl (by decide) rfl (by decide) (by show _ < 1000; omega) ?_
                          refine g_bipush (pc := 235) (v := nI 32) dX3_sortOf_235 rfl ?_
                          refine g_icmp_neN (pc := 237) (tgt := 271) dX3_sortOf_237 rfl (by omega) (by omega) (fun c237 => ?_) (fun c237 => ?_)
                          · refine g_iconst (pc := 271) (v := (-1)) dX3_sortOf_271 rfl ?_
                            exact t_iret (pc := 272) dX3_sortOf_272 hR rfl (⟨by first | (simp [sortN, *]; done) | (simp [sortN, *]; rfl) | (simp_all [sortN]; done) | (simp_all [sortN]; rfl) | (simp_all [sortN]; rw [if_neg (by omega)]; rfl) | (simp_all [sortN]; omega), rfl⟩)
                          · refine g_aload_n (pc := 240) dX3_sortOf_240 rfl rfl ?_
                            refine t_get (pc := 241) (v := .ref (tAd _ 14)) 14 dX3_sortOf_241 hR rfl q1813 (Nat.le_of_ble_eq_true rfl) rfl rfl ?_
                            refine g_iload_n (pc := 244) dX3_sortOf_244 rfl rfl ?_
                            refine g_iconst (pc := 245) (v := nI 2) dX3_sortOf_245 rfl ?_
                            first | refine g_iaddN (pc := 246) dX3_sortOf_246 ?_ | refine g_iadd (pc := 246) dX3_sortOf_246 ?_
                            refine t_cald (pc := 247) dX3_sortOf_247 hR rfl (by decide) rfl (by decide) (by show _ < 1000; omega) ?_
                            refine g_bipush (pc := 248) (v := nI 97) dX3_sortOf_248 rfl ?_
                            refine g_icmp_ltN (pc := 250) (tgt := 271) dX3_sortOf_250 rfl (by omega) (by omega) (fun c250 => ?_) (fun c250 => ?_)
                            · refine g_iconst (pc := 271) (v := (-1)) dX3_sortOf_271 rfl ?_
                              exact t_iret (pc := 272) dX3_sortOf_272 hR rfl (⟨by first | (simp [sortN, *]; done) | (simp [sortN, *]; rfl) | (simp_all [sortN]; done) | (simp_all [sortN]; rfl) | (simp_all [sortN]; rw [if_neg (by omega)]; rfl) | (simp_all [sortN]; omega), rfl⟩)
                            · refine g_aload_n (pc := 253) dX3_sortOf_253 rfl rfl ?_
                              refine t_get (pc := 254) (v := .ref (tAd _ 14)) 14 dX3_sortOf_254 hR rfl q1813 (Nat.le_of_ble_eq_true rfl) rfl rfl ?_
                              refine g_iload_n (pc := 257) dX3_sortOf_257 rfl rfl ?_
                              refine g_iconst (pc := 258) (v := nI 2) dX3_sortOf_258 rfl ?_
                              first | refine g_iaddN (pc := 259) dX3_sortOf_259 ?_ | refine g_iadd (pc := 259) dX3_sortOf_259 ?_
                              refine t_cald (pc := 260) dX3_sortOf_260 hR rfl (by decide) rfl (by decide) (by show _ < 1000; omega) ?_
                              refine g_bipush (pc := 261) (v := nI 100) dX3_sortOf_261 rfl ?_
                              refine g_icmp_gtN (pc := 263) (tgt := 271) dX3_sortOf_263 rfl (by omega) (by omega) (fun c263 => ?_) (fun c263 => ?_)
                              · refine g_iconst (pc := 271) (v := (-1)) dX3_sortOf_271 rfl ?_
                                exact t_iret (pc := 272) dX3_sortOf_272 hR rfl (⟨by first | (simp [sortN, *]; done) | (simp [sortN, *]; rfl) | (simp_all [sortN]; done) | (simp_all [sortN]; rfl) | (simp_all [sortN]; rw [if_neg (by omega)]; rfl) | (simp_all [sortN]; omega), rfl⟩)
                              · refine g_bipush (pc := 266) (v := nI 10) dX3_sortOf_266 rfl ?_
                                refine g_goto (pc := 268) (tgt := 272) dX3_sortOf_268 rfl ?_
                                exact t_iret (pc := 272) dX3_sortOf_272 hR rfl (⟨by first | (simp [sortN, *]; done) | (simp [sortN, *]; rfl) | (simp_all [sortN]; done) | (simp_all [sortN]; rfl) | (simp_all [sortN]; rw [if_neg (by omega)]; rfl) | (simp_all [sortN]; omega), rfl⟩)
                    · refine g_aload_n (pc := 194) dX3_sortOf_194 rfl rfl ?_
                      refine g_iload_n (pc := 195) dX3_sortOf_195 rfl rfl ?_
                      refine g_iload_n (pc := 196) dX3_sortOf_196 rfl rfl ?_
                      refine g_ldc2 (pc := 197) dX3_sortOf_197 q2087 ?_
                      refine t_invE (pc := 200) dX3_sortOf_200 hR (tc_stands _ p (p + n) _ _ spells_203866862696 (by omega) he hf) meX3_stands q2027 q2029 qs26 rfl rfl (Nat.le_of_ble_eq_true rfl) (fun h hR => ?_)
                      refine g_if_eqB (pc := 203) (tgt := 209) dX3_sortOf_203 rfl (fun c203 => ?_) (fun c203 => ?_)
                      · refine g_aload_n (pc := 209) dX3_sortOf_209 rfl rfl ?_
                        refine g_iload_n (pc := 210) dX3_sortOf_210 rfl rfl ?_
                        refine g_iload_n (pc := 211) dX3_sortOf_211 rfl rfl ?_
                        refine t_invE (pc := 212) dX3_sortOf_212 hR (tc_at0 _ p (p + n) (by omega) he) meX3_at0 q2032 q2034 qs27 rfl rfl (Nat.le_of_ble_eq_true rfl) (fun h hR => ?_)
                        refine g_bipush (pc := 215) (v := nI 62) dX3_sortOf_215 rfl ?_
                        refine g_icmp_neN (pc := 217) (tgt := 273) dX3_sortOf_217 rfl (by omega) (by omega) (fun c217 => ?_) (fun c217 => ?_)
                        · refine g_aload_n (pc := 273) dX3_sortOf_273 rfl rfl ?_
                          refine g_iload_n (pc := 274) dX3_sortOf_274 rfl rfl ?_
                          refine g_iload_n (pc := 275) dX3_sortOf_275 rfl rfl ?_
                          refine t_invE (pc := 276) dX3_sortOf_276 hR (tc_isExpr _ _ (p + n) (by omega) he hf) meX3_isExpr q2043 q2045 qs29 rfl rfl (Nat.le_of_ble_eq_true rfl) (fun h hR => ?_)
                          refine g_if_eqB (pc := 279) (tgt := 286) dX3_sortOf_279 rfl (fun c279 => ?_) (fun c279 => ?_)
                          · refine g_iconst (pc := 286) (v := (-1)) dX3_sortOf_286 rfl ?_
                            exact t_iret (pc := 287) dX3_sortOf_287 hR rfl (⟨by first | (simp [sortN, *]; done) | (simp [sortN, *]; rfl) | (simp_all [sortN]; done) | (simp_all [sortN]; rfl) | (simp_all [sortN]; rw [if_neg (by omega)]; rfl) | (simp_all [sortN]; omega), rfl⟩)
                          · refine g_iconst (pc := 282) (v := nI 0) dX3_sortOf_282 rfl ?_
                            refine g_goto (pc := 283) (tgt := 287) dX3_sortOf_283 rfl ?_
                            exact t_iret (pc := 287) dX3_sortOf_287 hR rfl (⟨by first | (simp [sortN, *]; done) | (simp [sortN, *]; rfl) | (simp_all [sortN]; done) | (simp_all [sortN]; rfl) | (simp_all [sortN]; rw [if_neg (by omega)]; rfl) | (simp_all [sortN]; omega), rfl⟩)
                        · refine g_iload_n (pc := 220) dX3_sortOf_220 rfl rfl ?_
                          refine g_iload_n (pc := 221) dX3_sortOf_221 rfl rfl ?_
                          first | refine g_isubN (pc := 222) dX3_sortOf_222 (by omega) ?_ | refine g_isub (pc := 222) dX3_sortOf_222 ?_
                          refine g_iconst (pc := 223) (v := nI 3) dX3_sortOf_223 rfl ?_
                          refine g_icmp_neN (pc := 224) (tgt := 271) dX3_sortOf_224 rfl (by omega) (by omega) (fun c224 => ?_) (fun c224 => ?_)
                          · refine g_iconst (pc := 271) (v := (-1)) dX3_sortOf_271 rfl ?_
                            exact t_iret (pc := 272) dX3_sortOf_272 hR rfl (⟨by first | (simp [sortN, *]; done) | (simp [sortN, *]; rfl) | (simp_all [sortN]; done) | (simp_all [sortN]; rfl) | (simp_all [sortN]; rw [if_neg (by omega)]; rfl) | (simp_all [sortN]; omega), rfl⟩)
                          · refine g_aload_n (pc := 227) dX3_sortOf_227 rfl rfl ?_
                            refine t_get (pc := 228) (v := .ref (tAd _ 14)) 14 dX3_sortOf_228 hR rfl q1813 (Nat.le_of_ble_eq_true rfl) rfl rfl ?_
                            refine g_iload_n (pc := 231) dX3_sortOf_231 rfl rfl ?_
                            refine g_iconst (pc := 232) (v := nI 1) dX3_sortOf_232 rfl ?_
                            first | refine g_iaddN (pc := 233) dX3_sortOf_233 ?_ | refine g_iadd (pc := 233) dX3_sortOf_233 ?_
                            refine t_cald (pc := 234) dX3_sortOf_234 hR rfl (by decide) rfl (by decide) (by show _ < 1000; omega) ?_
                            refine g_bipush (pc := 235) (v := nI 32) dX3_sortOf_235 rfl ?_
                            refine g_icmp_neN (pc := 237) (tgt := 271) dX3_sortOf_237 rfl (by omega) (by omega) (fun c237 => ?_) (fun c237 => ?_)
                            · refine g_iconst (pc := 271) (v := (-1)) dX3_sortOf_271 rfl ?_
                              exact t_iret (pc := 272) dX3_sortOf_272 hR rfl (⟨by first | (simp [sortN, *]; done) | (simp [sortN, *]; rfl) | (simp_all [sortN]; done) | (simp_all [sortN]; rfl) | (simp_all [sortN]; rw [if_neg (by omega)]; rfl) | (simp_all [sortN]; omega), rfl⟩)
                            · refine g_aload_n (pc := 240) dX3_sortOf_240 rfl rfl ?_
                              refine t_get (pc := 241) (v := .ref (tAd _ 14)) 14 dX3_sortOf_241 hR rfl q1813 (Nat.le_of_ble_eq_true rfl) rfl rfl ?_
                              refine g_iload_n (pc := 244) dX3_sortOf_244 rfl rfl ?_
                              refine g_iconst (pc := 245) (v := nI 2) dX3_sortOf_245 rfl ?_
                              first | refine g_iaddN (pc := 246) dX3_sortOf_246 ?_ | refine g_iadd (pc := 246) dX3_sortOf_246 ?_
                              refine t_cald (pc := 247) dX3_sortOf_247 hR rfl (by decide) rfl (by decide) (by show _ < 1000; omega) ?_
                              refine g_bipush (pc := 248) (v := nI 97) dX3_sortOf_248 rfl ?_
                              refine g_icmp_ltN (pc := 250) (tgt := 271) dX3_sortOf_250 rfl (by omega) (by omega) (fun c250 => ?_) (fun c250 => ?_)
                              · refine g_iconst (pc := 271) (v := (-1)) dX3_sortOf_271 rfl ?_
                                exact t_iret (pc := 272) dX3_sortOf_272 hR rfl (⟨by first | (simp [sortN, *]; done) | (simp [sortN, *]; rfl) | (simp_all [sortN]; done) | (simp_all [sortN]; rfl) | (simp_all [sortN]; rw [if_neg (by omega)]; rfl) | (simp_all [sortN]; omega), rfl⟩)
                              · refine g_aload_n (pc := 253) dX3_sortOf_253 rfl rfl ?_
                                refine t_get (pc := 254) (v := .ref (tAd _ 14)) 14 dX3_sortOf_254 hR rfl q1813 (Nat.le_of_ble_eq_true rfl) rfl rfl ?_
                                refine g_iload_n (pc := 257) dX3_sortOf_257 rfl rfl ?_
                                refine g_iconst (pc := 258) (v := nI 2) dX3_sortOf_258 rfl ?_
                                first | refine g_iaddN (pc := 259) dX3_sortOf_259 ?_ | refine g_iadd (pc := 259) dX3_sortOf_259 ?_
                                refine t_cald (pc := 260) dX3_sortOf_260 hR rfl (by decide) rfl (by decide) (by show _ < 1000; omega) ?_
                                refine g_bipush (pc := 261) (v := nI 100) dX3_sortOf_261 rfl ?_
                                refine g_icmp_gtN (pc := 263) (tgt := 271) dX3_sortOf_263 rfl (by omega) (by omega) (fun c263 => ?_) (fun c263 => ?_)
                                · refine g_iconst (pc := 271) (v := (-1)) dX3_sortOf_271 rfl ?_
                                  exact t_iret (pc := 272) dX3_sortOf_272 hR rfl (⟨by first | (simp [sortN, *]; done) | (simp [sortN, *]; rfl) | (simp_all [sortN]; done) | (simp_all [sortN]; rfl) | (simp_all [sortN]; rw [if_neg (by omega)]; rfl) | (simp_all [sortN]; omega), rfl⟩)
                                · refine g_bipush (pc := 266) (v := nI 10) dX3_sortOf_266 rfl ?_
                                  refine g_goto (pc := 268) (tgt := 272) dX3_sortOf_268 rfl ?_
                                  exact t_iret (pc := 272) dX3_sortOf_272 hR rfl (⟨by first | (simp [sortN, *]; done) | (simp [sortN, *]; rfl) | (simp_all [sortN]; done) | (simp_all [sortN]; rfl) | (simp_all [sortN]; rw [if_neg (by omega)]; rfl) | (simp_all [sortN]; omega), rfl⟩)
                      · refine g_bipush (pc := 206) (v := nI 9) dX3_sortOf_206 rfl ?_
                        exact t_iret (pc := 208) dX3_sortOf_208 hR rfl (⟨by first | (simp [sortN, *]; done) | (simp [sortN, *]; rfl) | (simp_all [sortN]; done) | (simp_all [sortN]; rfl) | (simp_all [sortN]; rw [if_neg (by omega)]; rfl) | (simp_all [sortN]; omega), rfl⟩)
                  · refine g_aload_n (pc := 172) dX3_sortOf_172 rfl rfl ?_
                    refine g_iload_n (pc := 173) dX3_sortOf_173 rfl rfl ?_
                    refine g_iload_n (pc := 174) dX3_sortOf_174 rfl rfl ?_
                    refine g_ldc2 (pc := 175) dX3_sortOf_175 q2086 ?_
                    refine t_invE (pc := 178) dX3_sortOf_178 hR (tc_stands _ p (p + n) _ _ spells_203564344168 (by omega) he hf) meX3_stands q2027 q2029 qs26 rfl rfl (Nat.le_of_ble_eq_true rfl) (fun h hR => ?_)
                    refine g_if_eqB (pc := 181) (tgt := 187) dX3_sortOf_181 rfl (fun c181 => ?_) (fun c181 => ?_)
                    · refine g_iload_n (pc := 187) dX3_sortOf_187 rfl rfl ?_
                      refine g_iload_n (pc := 188) dX3_sortOf_188 rfl rfl ?_
                      first | refine g_isubN (pc := 189) dX3_sortOf_189 (by omega) ?_ | refine g_isub (pc := 189) dX3_sortOf_189 ?_
                      refine g_iconst (pc := 190) (v := nI 5) dX3_sortOf_190 rfl ?_
                      refine g_icmp_neN (pc := 191) (tgt := 209) dX3_sortOf_191 rfl (by omega) (by omega) (fun c191 => ?_) (fun c191 => ?_)
                      · refine g_aload_n (pc := 209) dX3_sortOf_209 rfl rfl ?_
                        refine g_iload_n (pc := 210) dX3_sortOf_210 rfl rfl ?_
                        refine g_iload_n (pc := 211) dX3_sortOf_211 rfl rfl ?_
                        refine t_invE (pc := 212) dX3_sortOf_212 hR (tc_at0 _ p (p + n) (by omega) he) meX3_at0 q2032 q2034 qs27 rfl rfl (Nat.le_of_ble_eq_true rfl) (fun h hR => ?_)
                        refine g_bipush (pc := 215) (v := nI 62) dX3_sortOf_215 rfl ?_
                        refine g_icmp_neN (pc := 217) (tgt := 273) dX3_sortOf_217 rfl (by omega) (by omega) (fun c217 => ?_) (fun c217 => ?_)
                        · refine g_aload_n (pc := 273) dX3_sortOf_273 rfl rfl ?_
                          refine g_iload_n (pc := 274) dX3_sortOf_274 rfl rfl ?_
                          refine g_iload_n (pc := 275) dX3_sortOf_275 rfl rfl ?_
                          refine t_invE (pc := 276) dX3_sortOf_276 hR (tc_isExpr _ _ (p + n) (by omega) he hf) meX3_isExpr q2043 q2045 qs29 rfl rfl (Nat.le_of_ble_eq_true rfl) (fun h hR => ?_)
                          refine g_if_eqB (pc := 279) (tgt := 286) dX3_sortOf_279 rfl (fun c279 => ?_) (fun c279 => ?_)
                          · refine g_iconst (pc := 286) (v := (-1)) dX3_sortOf_286 rfl ?_
                            exact t_iret (pc := 287) dX3_sortOf_287 hR rfl (⟨by first | (simp [sortN, *]; done) | (simp [sortN, *]; rfl) | (simp_all [sortN]; done) | (simp_all [sortN]; rfl) | (simp_all [sortN]; rw [if_neg (by omega)]; rfl) | (simp_all [sortN]; omega), rfl⟩)
                          · refine g_iconst (pc := 282) (v := nI 0) dX3_sortOf_282 rfl ?_
                            refine g_goto (pc := 283) (tgt := 287) dX3_sortOf_283 rfl ?_
                            exact t_iret (pc := 287) dX3_sortOf_287 hR rfl (⟨by first | (simp [sortN, *]; done) | (simp [sortN, *]; rfl) | (simp_all [sortN]; done) | (simp_all [sortN]; rfl) | (simp_all [sortN]; rw [if_neg (by omega)]; rfl) | (simp_all [sortN]; omega), rfl⟩)
                        · refine g_iload_n (pc := 220) dX3_sortOf_220 rfl rfl ?_
                          refine g_iload_n (pc := 221) dX3_sortOf_221 rfl rfl ?_
                          first | refine g_isubN (pc := 222) dX3_sortOf_222 (by omega) ?_ | refine g_isub (pc := 222) dX3_sortOf_222 ?_
                          refine g_iconst (pc := 223) (v := nI 3) dX3_sortOf_223 rfl ?_
                          refine g_icmp_neN (pc := 224) (tgt := 271) dX3_sortOf_224 rfl (by omega) (by omega) (fun c224 => ?_) (fun c224 => ?_)
                          · refine g_iconst (pc := 271) (v := (-1)) dX3_sortOf_271 rfl ?_
                            exact t_iret (pc := 272) dX3_sortOf_272 hR rfl (⟨by first | (simp [sortN, *]; done) | (simp [sortN, *]; rfl) | (simp_all [sortN]; done) | (simp_all [sortN]; rfl) | (simp_all [sortN]; rw [if_neg (by omega)]; rfl) | (simp_all [sortN]; omega), rfl⟩)
                          · refine g_aload_n (pc := 227) dX3_sortOf_227 rfl rfl ?_
                            refine t_get (pc := 228) (v := .ref (tAd _ 14)) 14 dX3_sortOf_228 hR rfl q1813 (Nat.le_of_ble_eq_true rfl) rfl rfl ?_
                            refine g_iload_n (pc := 231) dX3_sortOf_231 rfl rfl ?_
                            refine g_iconst (pc := 232) (v := nI 1) dX3_sortOf_232 rfl ?_
                            first | refine g_iaddN (pc := 233) dX3_sortOf_233 ?_ | refine g_iadd (pc := 233) dX3_sortOf_233 ?_
                            refine t_cald (pc := 234) dX3_sortOf_234 hR rfl (by decide) rfl (by decide) (by show _ < 1000; omega) ?_
                            refine g_bipush (pc := 235) (v := nI 32) dX3_sortOf_235 rfl ?_
                            refine g_icmp_neN (pc := 237) (tgt := 271) dX3_sortOf_237 rfl (by omega) (by omega) (fun c237 => ?_) (fun c237 => ?_)
                            · refine g_iconst (pc := 271) (v := (-1)) dX3_sortOf_271 rfl ?_
                              exact t_iret (pc := 272) dX3_sortOf_272 hR rfl (⟨by first | (simp [sortN, *]; done) | (simp [sortN, *]; rfl) | (simp_all [sortN]; done) | (simp_all [sortN]; rfl) | (simp_all [sortN]; rw [if_neg (by omega)]; rfl) | (simp_all [sortN]; omega), rfl⟩)
                            · refine g_aload_n (pc := 240) dX3_sortOf_240 rfl rfl ?_
                              refine t_get (pc := 241) (v := .ref (tAd _ 14)) 14 dX3_sortOf_241 hR rfl q1813 (Nat.le_of_ble_eq_true rfl) rfl rfl ?_
                              refine g_iload_n (pc := 244) dX3_sortOf_244 rfl rfl ?_
                              refine g_iconst (pc := 245) (v := nI 2) dX3_sortOf_245 rfl ?_
                              first | refine g_iaddN (pc := 246) dX3_sortOf_246 ?_ | refine g_iadd (pc := 246) dX3_sortOf_246 ?_
                              refine t_cald (pc := 247) dX3_sortOf_247 hR rfl (by decide) rfl (by decide) (by show _ < 1000; omega) ?_
                              refine g_bipush (pc := 248) (v := nI 97) dX3_sortOf_248 rfl ?_
                              refine g_icmp_ltN (pc := 250) (tgt := 271) dX3_sortOf_250 rfl (by omega) (by omega) (fun c250 => ?_) (fun c250 => ?_)
                              · refine g_iconst (pc := 271) (v := (-1)) dX3_sortOf_271 rfl ?_
                                exact t_iret (pc := 272) dX3_sortOf_272 hR rfl (⟨by first | (simp [sortN, *]; done) | (simp [sortN, *]; rfl) | (simp_all [sortN]; done) | (simp_all [sortN]; rfl) | (simp_all [sortN]; rw [if_neg (by omega)]; rfl) | (simp_all [sortN]; omega), rfl⟩)
                              · refine g_aload_n (pc := 253) dX3_sortOf_253 rfl rfl ?_
                                refine t_get (pc := 254) (v := .ref (tAd _ 14)) 14 dX3_sortOf_254 hR rfl q1813 (Nat.le_of_ble_eq_true rfl) rfl rfl ?_
                                refine g_iload_n (pc := 257) dX3_sortOf_257 rfl rfl ?_
                                refine g_iconst (pc := 258) (v := nI 2) dX3_sortOf_258 rfl ?_
                                first | refine g_iaddN (pc := 259) dX3_sortOf_259 ?_ | refine g_iadd (pc := 259) dX3_sortOf_259 ?_
                                refine t_cald (pc := 260) dX3_sortOf_260 hR rfl (by decide) rfl (by decide) (by show _ < 1000; omega) ?_
                                refine g_bipush (pc := 261) (v := nI 100) dX3_sortOf_261 rfl ?_
                                refine g_icmp_gtN (pc := 263) (tgt := 271) dX3_sortOf_263 rfl (by omega) (by omega) (fun c263 => ?_) (fun c263 => ?_)
                                · refine g_iconst (pc := 271) (v := (-1)) dX3_sortOf_271 rfl ?_
                                  exact t_iret (pc := 272) dX3_sortOf_272 hR rfl (⟨by first | (simp [sortN, *]; done) | (simp [sortN, *]; rfl) | (simp_all [sortN]; done) | (simp_all [sortN]; rfl) | (simp_all [sortN]; rw [if_neg (by omega)]; rfl) | (simp_all [sortN]; omega), rfl⟩)
                                · refine g_bipush (pc := 266) (v := nI 10) dX3_sortOf_266 rfl ?_
                                  refine g_goto (pc := 268) (tgt := 272) dX3_sortOf_268 rfl ?_
                                  exact t_iret (pc := 272) dX3_sortOf_272 hR rfl (⟨by first | (simp [sortN, *]; done) | (simp [sortN, *]; rfl) | (simp_all [sortN]; done) | (simp_all [sortN]; rfl) | (simp_all [sortN]; rw [if_neg (by omega)]; rfl) | (simp_all [sortN]; omega), rfl⟩)
                      · refine g_aload_n (pc := 194) dX3_sortOf_194 rfl rfl ?_
                        refine g_iload_n (pc := 195) dX3_sortOf_195 rfl rfl ?_
                        refine g_iload_n (pc := 196) dX3_sortOf_196 rfl rfl ?_
                        refine g_ldc2 (pc := 197) dX3_sortOf_197 q2087 ?_
                        refine t_invE (pc := 200) dX3_sortOf_200 hR (tc_stands _ p (p + n) _ _ spells_203866862696 (by omega) he hf) meX3_stands q2027 q2029 qs26 rfl rfl (Nat.le_of_ble_eq_true rfl) (fun h hR => ?_)
                        refine g_if_eqB (pc := 203) (tgt := 209) dX3_sortOf_203 rfl (fun c203 => ?_) (fun c203 => ?_)
                        · refine g_aload_n (pc := 209) dX3_sortOf_209 rfl rfl ?_
                          refine g_iload_n (pc := 210) dX3_sortOf_210 rfl rfl ?_
                          refine g_iload_n (pc := 211) dX3_sortOf_211 rfl rfl ?_
                          refine t_invE (pc := 212) dX3_sortOf_212 hR (tc_at0 _ p (p + n) (by omega) he) meX3_at0 q2032 q2034 qs27 rfl rfl (Nat.le_of_ble_eq_true rfl) (fun h hR => ?_)
                          refine g_bipush (pc := 215) (v := nI 62) dX3_sortOf_215 rfl ?_
                          refine g_icmp_neN (pc := 217) (tgt := 273) dX3_sortOf_217 rfl (by omega) (by omega) (fun c217 => ?_) (fun c217 => ?_)
                          · refine g_aload_n (pc := 273) dX3_sortOf_273 rfl rfl ?_
                            refine g_iload_n (pc := 274) dX3_sortOf_274 rfl rfl ?_
                            refine g_iload_n (pc := 275) dX3_sortOf_275 rfl rfl ?_
                            refine t_invE (pc := 276) dX3_sortOf_276 hR (tc_isExpr _ _ (p + n) (by omega) he hf) meX3_isExpr q2043 q2045 qs29 rfl rfl (Nat.le_of_ble_eq_true rfl) (fun h hR => ?_)
                            refine g_if_eqB (pc := 279) (tgt := 286) dX3_sortOf_279 rfl (fun c279 => ?_) (fun c279 => ?_)
                            · refine g_iconst (pc := 286) (v := (-1)) dX3_sortOf_286 rfl ?_
                              exact t_iret (pc := 287) dX3_sortOf_287 hR rfl (⟨by first | (simp [sortN, *]; done) | (simp [sortN, *]; rfl) | (simp_all [sortN]; done) | (simp_all [sortN]; rfl) | (simp_all [sortN]; rw [if_neg (by omega)]; rfl) | (simp_all [sortN]; omega), rfl⟩)
                            · refine g_iconst (pc := 282) (v := nI 0) dX3_sortOf_282 rfl ?_
                              refine g_goto (pc := 283) (tgt := 287) dX3_sortOf_283 rfl ?_
                              exact t_iret (pc := 287) dX3_sortOf_287 hR rfl (⟨by first | (simp [sortN, *]; done) | (simp [sortN, *]; rfl) | (simp_all [sortN]; done) | (simp_all [sortN]; rfl) | (simp_all [sortN]; rw [if_neg (by omega)]; rfl) | (simp_all [sortN]; omega), rfl⟩)
                          · refine g_iload_n (pc := 220) dX3_sortOf_220 rfl rfl ?_
                            refine g_iload_n (pc := 221) dX3_sortOf_221 rfl rfl ?_
                            first | refine g_isubN (pc := 222) dX3_sortOf_222 (by omega) ?_ | refine g_isub (pc := 222) dX3_sortOf_222 ?_
                            refine g_iconst (pc := 223) (v := nI 3) dX3_sortOf_223 rfl ?_
                            refine g_icmp_neN (pc := 224) (tgt := 271) dX3_sortOf_224 rfl (by omega) (by omega) (fun c224 => ?_) (fun c224 => ?_)
                            · refine g_iconst (pc := 271) (v := (-1)) dX3_sortOf_271 rfl ?_
                              exact t_iret (pc := 272) dX3_sortOf_272 hR rfl (⟨by first | (simp [sortN, *]; done) | (simp [sortN, *]; rfl) | (simp_all [sortN]; done) | (simp_all [sortN]; rfl) | (simp_all [sortN]; rw [if_neg (by omega)]; rfl) | (simp_all [sortN]; omega), rfl⟩)
                            · refine g_aload_n (pc := 227) dX3_sortOf_227 rfl rfl ?_
                              refine t_get (pc := 228) (v := .ref (tAd _ 14)) 14 dX3_sortOf_228 hR rfl q1813 (Nat.le_of_ble_eq_true rfl) rfl rfl ?_
                              refine g_iload_n (pc := 231) dX3_sortOf_231 rfl rfl ?_
                              refine g_iconst (pc := 232) (v := nI 1) dX3_sortOf_232 rfl ?_
                              first | refine g_iaddN (pc := 233) dX3_sortOf_233 ?_ | refine g_iadd (pc := 233) dX3_sortOf_233 ?_
                              refine t_cald (pc := 234) dX3_sortOf_234 hR rfl (by decide) rfl (by decide) (by show _ < 1000; omega) ?_
                              refine g_bipush (pc := 235) (v := nI 32) dX3_sortOf_235 rfl ?_
                              refine g_icmp_neN (pc := 237) (tgt := 271) dX3_sortOf_237 rfl (by omega) (by omega) (fun c237 => ?_) (fun c237 => ?_)
                              · refine g_iconst (pc := 271) (v := (-1)) dX3_sortOf_271 rfl ?_
                                exact t_iret (pc := 272) dX3_sortOf_272 hR rfl (⟨by first | (simp [sortN, *]; done) | (simp [sortN, *]; rfl) | (simp_all [sortN]; done) | (simp_all [sortN]; rfl) | (simp_all [sortN]; rw [if_neg (by omega)]; rfl) | (simp_all [sortN]; omega), rfl⟩)
                              · refine g_aload_n (pc := 240) dX3_sortOf_240 rfl rfl ?_
                                refine t_get (pc := 241) (v := .ref (tAd _ 14)) 14 dX3_sortOf_241 hR rfl q1813 (Nat.le_of_ble_eq_true rfl) rfl rfl ?_
                                refine g_iload_n (pc := 244) dX3_sortOf_244 rfl rfl ?_
                                refine g_iconst (pc := 245) (v := nI 2) dX3_sortOf_245 rfl ?_
                                first | refine g_iaddN (pc := 246) dX3_sortOf_246 ?_ | refine g_iadd (pc := 246) dX3_sortOf_246 ?_
                                refine t_cald (pc := 247) dX3_sortOf_247 hR rfl (by decide) rfl (by decide) (by show _ < 1000; omega) ?_
                                refine g_bipush (pc := 248) (v := nI 97) dX3_sortOf_248 rfl ?_
                                refine g_icmp_ltN (pc := 250) (tgt := 271) dX3_sortOf_250 rfl (by omega) (by omega) (fun c250 => ?_) (fun c250 => ?_)
                                · refine g_iconst (pc := 271) (v := (-1)) dX3_sortOf_271 rfl ?_
                                  exact t_iret (pc := 272) dX3_sortOf_272 hR rfl (⟨by first | (simp [sortN, *]; done) | (simp [sortN, *]; rfl) | (simp_all [sortN]; done) | (simp_all [sortN]; rfl) | (simp_all [sortN]; rw [if_neg (by omega)]; rfl) | (simp_all [sortN]; omega), rfl⟩)
                                · refine g_aload_n (pc := 253) dX3_sortOf_253 rfl rfl ?_
                                  refine t_get (pc := 254) (v := .ref (tAd _ 14)) 14 dX3_sortOf_254 hR rfl q1813 (Nat.le_of_ble_eq_true rfl) rfl rfl ?_
                                  refine g_iload_n (pc := 257) dX3_sortOf_257 rfl rfl ?_
                                  refine g_iconst (pc := 258) (v := nI 2) dX3_sortOf_258 rfl ?_
                                  first | refine g_iaddN (pc := 259) dX3_sortOf_259 ?_ | refine g_iadd (pc := 259) dX3_sortOf_259 ?_
                                  refine t_cald (pc := 260) dX3_sortOf_260 hR rfl (by decide) rfl (by decide) (by show _ < 1000; omega) ?_
                                  refine g_bipush (pc := 261) (v := nI 100) dX3_sortOf_261 rfl ?_
                                  refine g_icmp_gtN (pc := 263) (tgt := 271) dX3_sortOf_263 rfl (by omega) (by omega) (fun c263 => ?_) (fun c263 => ?_)
                                  · refine g_iconst (pc := 271) (v := (-1)) dX3_sortOf_271 rfl ?_
                                    exact t_iret (pc := 272) dX3_sortOf_272 hR rfl (⟨by first | (simp [sortN, *]; done) | (simp [sortN, *]; rfl) | (simp_all [sortN]; done) | (simp_all [sortN]; rfl) | (simp_all [sortN]; rw [if_neg (by omega)]; rfl) | (simp_all [sortN]; omega), rfl⟩)
                                  · refine g_bipush (pc := 266) (v := nI 10) dX3_sortOf_266 rfl ?_
                                    refine g_goto (pc := 268) (tgt := 272) dX3_sortOf_268 rfl ?_
                                    exact t_iret (pc := 272) dX3_sortOf_272 hR rfl (⟨by first | (simp [sortN, *]; done) | (simp [sortN, *]; rfl) | (simp_all [sortN]; done) | (simp_all [sortN]; rfl) | (simp_all [sortN]; rw [if_neg (by omega)]; rfl) | (simp_all [sortN]; omega), rfl⟩)
                        · refine g_bipush (pc := 206) (v := nI 9) dX3_sortOf_206 rfl ?_
                          exact t_iret (pc := 208) dX3_sortOf_208 hR rfl (⟨by first | (simp [sortN, *]; done) | (simp [sortN, *]; rfl) | (simp_all [sortN]; done) | (simp_all [sortN]; rfl) | (simp_all [sortN]; rw [if_neg (by omega)]; rfl) | (simp_all [sortN]; omega), rfl⟩)
                    · refine g_bipush (pc := 184) (v := nI 8) dX3_sortOf_184 rfl ?_
                      exact t_iret (pc := 186) dX3_sortOf_186 hR rfl (⟨by first | (simp [sortN, *]; done) | (simp [sortN, *]; rfl) | (simp_all [sortN]; done) | (simp_all [sortN]; rfl) | (simp_all [sortN]; rw [if_neg (by omega)]; rfl) | (simp_all [sortN]; omega), rfl⟩)
                · refine g_bipush (pc := 162) (v := nI 7) dX3_sortOf_162 rfl ?_
                  exact t_iret (pc := 164) dX3_sortOf_164 hR rfl (⟨by first | (simp [sortN, *]; done) | (simp [sortN, *]; rfl) | (simp_all [sortN]; done) | (simp_all [sortN]; rfl) | (simp_all [sortN]; rw [if_neg (by omega)]; rfl) | (simp_all [sortN]; omega), rfl⟩)
            · refine g_aload_n (pc := 128) dX3_sortOf_128 rfl rfl ?_
              refine g_iload_n (pc := 129) dX3_sortOf_129 rfl rfl ?_
              refine g_iload_n (pc := 130) dX3_sortOf_130 rfl rfl ?_
              refine g_ldc2 (pc := 131) dX3_sortOf_131 q2084 ?_
              refine t_invE (pc := 134) dX3_sortOf_134 hR (tc_stands _ p (p + n) _ _ spells_1701606245 (by omega) he hf) meX3_stands q2027 q2029 qs26 rfl rfl (Nat.le_of_ble_eq_true rfl) (fun h hR => ?_)
              refine g_if_eqB (pc := 137) (tgt := 143) dX3_sortOf_137 rfl (fun c137 => ?_) (fun c137 => ?_)
              · refine g_iload_n (pc := 143) dX3_sortOf_143 rfl rfl ?_
                refine g_iload_n (pc := 144) dX3_sortOf_144 rfl rfl ?_
                first | refine g_isubN (pc := 145) dX3_sortOf_145 (by omega) ?_ | refine g_isub (pc := 145) dX3_sortOf_145 ?_
                refine g_iconst (pc := 146) (v := nI 3) dX3_sortOf_146 rfl ?_
                refine g_icmp_neN (pc := 147) (tgt := 165) dX3_sortOf_147 rfl (by omega) (by omega) (fun c147 => ?_) (fun c147 => ?_)
                · refine g_iload_n (pc := 165) dX3_sortOf_165 rfl rfl ?_
                  refine g_iload_n (pc := 166) dX3_sortOf_166 rfl rfl ?_
                  first | refine g_isubN (pc := 167) dX3_sortOf_167 (by omega) ?_ | refine g_isub (pc := 167) dX3_sortOf_167 ?_
                  refine g_iconst (pc := 168) (v := nI 5) dX3_sortOf_168 rfl ?_
                  refine g_icmp_neN (pc := 169) (tgt := 187) dX3_sortOf_169 rfl (by omega) (by omega) (fun c169 => ?_) (fun c169 => ?_)
                  · refine g_iload_n (pc := 187) dX3_sortOf_187 rfl rfl ?_
                    refine g_iload_n (pc := 188) dX3_sortOf_188 rfl rfl ?_
                    first | refine g_isubN (pc := 189) dX3_sortOf_189 (by omega) ?_ | refine g_isub (pc := 189) dX3_sortOf_189 ?_
                    refine g_iconst (pc := 190) (v := nI 5) dX3_sortOf_190 rfl ?_
                    refine g_icmp_neN (pc := 191) (tgt := 209) dX3_sortOf_191 rfl (by omega) (by omega) (fun c191 => ?_) (fun c191 => ?_)
                    · refine g_aload_n (pc := 209) dX3_sortOf_209 rfl rfl ?_
                      refine g_iload_n (pc := 210) dX3_sortOf_210 rfl rfl ?_
                      refine g_iload_n (pc := 211) dX3_sortOf_211 rfl rfl ?_
                      refine t_invE (pc := 212) dX3_sortOf_212 hR (tc_at0 _ p (p + n) (by omega) he) meX3_at0 q2032 q2034 qs27 rfl rfl (Nat.le_of_ble_eq_true rfl) (fun h hR => ?_)
                      refine g_bipush (pc := 215) (v := nI 62) dX3_sortOf_215 rfl ?_
                      refine g_icmp_neN (pc := 217) (tgt := 273) dX3_sortOf_217 rfl (by omega) (by omega) (fun c217 => ?_) (fun c217 => ?_)
                      · refine g_aload_n (pc := 273) dX3_sortOf_273 rfl rfl ?_
                        refine g_iload_n (pc := 274) dX3_sortOf_274 rfl rfl ?_
                        refine g_iload_n (pc := 275) dX3_sortOf_275 rfl rfl ?_
                        refine t_invE (pc := 276) dX3_sortOf_276 hR (tc_isExpr _ _ (p + n) (by omega) he hf) meX3_isExpr q2043 q2045 qs29 rfl rfl (Nat.le_of_ble_eq_true rfl) (fun h hR => ?_)
                        refine g_if_eqB (pc := 279) (tgt := 286) dX3_sortOf_279 rfl (fun c279 => ?_) (fun c279 => ?_)
                        · refine g_iconst (pc := 286) (v := (-1)) dX3_sortOf_286 rfl ?_
                          exact t_iret (pc := 287) dX3_sortOf_287 hR rfl (⟨by first | (simp [sortN, *]; done) | (simp [sortN, *]; rfl) | (simp_all [sortN]; done) | (simp_all [sortN]; rfl) | (simp_all [sortN]; rw [if_neg (by omega)]; rfl) | (simp_all [sortN]; omega), rfl⟩)
                        · refine g_iconst (pc := 282) (v := nI 0) dX3_sortOf_282 rfl ?_
                          refine g_goto (pc := 283) (tgt := 287) dX3_sortOf_283 rfl ?_
                          exact t_iret (pc := 287) dX3_sortOf_287 hR rfl (⟨by first | (simp [sortN, *]; done) | (simp [sortN, *]; rfl) | (simp_all [sortN]; done) | (simp_all [sortN]; rfl) | (simp_all [sortN]; rw [if_neg (by omega)]; rfl) | (simp_all [sortN]; omega), rfl⟩)
                      · refine g_iload_n (pc := 220) dX3_sortOf_220 rfl rfl ?_
                        refine g_iload_n (pc := 221) dX3_sortOf_221 rfl rfl ?_
                        first | refine g_isubN (pc := 222) dX3_sortOf_222 (by omega) ?_ | refine g_isub (pc := 222) dX3_sortOf_222 ?_
                        refine g_iconst (pc := 223) (v := nI 3) dX3_sortOf_223 rfl ?_
                        refine g_icmp_neN (pc := 224) (tgt := 271) dX3_sortOf_224 rfl (by omega) (by omega) (fun c224 => ?_) (fun c224 => ?_)
                        · refine g_iconst (pc := 271) (v := (-1)) dX3_sortOf_271 rfl ?_
                          exact t_iret (pc := 272) dX3_sortOf_272 hR rfl (⟨by first | (simp [sortN, *]; done) | (simp [sortN, *]; rfl) | (simp_all [sortN]; done) | (simp_all [sortN]; rfl) | (simp_all [sortN]; rw [if_neg (by omega)]; rfl) | (simp_all [sortN]; omega), rfl⟩)
                        · refine g_aload_n (pc := 227) dX3_sortOf_227 rfl rfl ?_
                          refine t_get (pc := 228) (v := .ref (tAd _ 14)) 14 dX3_sortOf_228 hR rfl q1813 (Nat.le_of_ble_eq_true rfl) rfl rfl ?_
                          refine g_iload_n (pc := 231) dX3_sortOf_231 rfl rfl ?_
                          refine g_iconst (pc := 232) (v := nI 1) dX3_sortOf_232 rfl ?_
                          first | refine g_iaddN (pc := 233) dX3_sortOf_233 ?_ | refine g_iadd (pc := 233) dX3_sortOf_233 ?_
                          refine t_cald (pc := 234) dX3_sortOf_234 hR rfl (by decide) rfl (by decide) (by show _ < 1000; omega) ?_
                          refine g_bipush (pc := 235) (v := nI 32) dX3_sortOf_235 rfl ?_
                          refine g_icmp_neN (pc := 237) (tgt := 271) dX3_sortOf_237 rfl (by omega) (by omega) (fun c237 => ?_) (fun c237 => ?_)
                          · refine g_iconst (pc := 271) (v := (-1)) dX3_sortOf_271 rfl ?_
                            exact t_iret (pc := 272) dX3_sortOf_272 hR rfl (⟨by first | (simp [sortN, *]; done) | (simp [sortN, *]; rfl) | (simp_all [sortN]; done) | (simp_all [sortN]; rfl) | (simp_all [sortN]; rw [if_neg (by omega)]; rfl) | (simp_all [sortN]; omega), rfl⟩)
                          · refine g_aload_n (pc := 240) dX3_sortOf_240 rfl rfl ?_
                            refine t_get (pc := 241) (v := .ref (tAd _ 14)) 14 dX3_sortOf_241 hR rfl q1813 (Nat.le_of_ble_eq_true rfl) rfl rfl ?_
                            refine g_iload_n (pc := 244) dX3_sortOf_244 rfl rfl ?_
                            refine g_iconst (pc := 245) (v := nI 2) dX3_sortOf_245 rfl ?_
                            first | refine g_iaddN (pc := 246) dX3_sortOf_246 ?_ | refine g_iadd (pc := 246) dX3_sortOf_246 ?_
                            refine t_cald (pc := 247) dX3_sortOf_247 hR rfl (by decide) rfl (by decide) (by show _ < 1000; omega) ?_
                            refine g_bipush (pc := 248) (v := nI 97) dX3_sortOf_248 rfl ?_
                            refine g_icmp_ltN (pc := 250) (tgt := 271) dX3_sortOf_250 rfl (by omega) (by omega) (fun c250 => ?_) (fun c250 => ?_)
                            · refine g_iconst (pc := 271) (v := (-1)) dX3_sortOf_271 rfl ?_
                              exact t_iret (pc := 272) dX3_sortOf_272 hR rfl (⟨by first | (simp [sortN, *]; done) | (simp [sortN, *]; rfl) | (simp_all [sortN]; done) | (simp_all [sortN]; rfl) | (simp_all [sortN]; rw [if_neg (by omega)]; rfl) | (simp_all [sortN]; omega), rfl⟩)
                            · refine g_aload_n (pc := 253) dX3_sortOf_253 rfl rfl ?_
                              refine t_get (pc := 254) (v := .ref (tAd _ 14)) 14 dX3_sortOf_254 hR rfl q1813 (Nat.le_of_ble_eq_true rfl) rfl rfl ?_
                              refine g_iload_n (pc := 257) dX3_sortOf_257 rfl rfl ?_
                              refine g_iconst (pc := 258) (v := nI 2) dX3_sortOf_258 rfl ?_
                              first | refine g_iaddN (pc := 259) dX3_sortOf_259 ?_ | refine g_iadd (pc := 259) dX3_sortOf_259 ?_
                              refine t_cald (pc := 260) dX3_sortOf_260 hR rfl (by decide) rfl (by decide) (by show _ < 1000; omega) ?_
                              refine g_bipush (pc := 261) (v := nI 100) dX3_sortOf_261 rfl ?_
                              refine g_icmp_gtN (pc := 263) (tgt := 271) dX3_sortOf_263 rfl (by omega) (by omega) (fun c263 => ?_) (fun c263 => ?_)
                              · refine g_iconst (pc := 271) (v := (-1)) dX3_sortOf_271 rfl ?_
                                exact t_iret (pc := 272) dX3_sortOf_272 hR rfl (⟨by first | (simp [sortN, *]; done) | (simp [sortN, *]; rfl) | (simp_all [sortN]; done) | (simp_all [sortN]; rfl) | (simp_all [sortN]; rw [if_neg (by omega)]; rfl) | (simp_all [sortN]; omega), rfl⟩)
                              · refine g_bipush (pc := 266) (v := nI 10) dX3_sortOf_266 rfl ?_
                                refine g_goto (pc := 268) (tgt := 272) dX3_sortOf_268 rfl ?_
                                exact t_iret (pc := 272) dX3_sortOf_272 hR rfl (⟨by first | (simp [sortN, *]; done) | (simp [sortN, *]; rfl) | (simp_all [sortN]; done) | (simp_all [sortN]; rfl) | (simp_all [sortN]; rw [if_neg (by omega)]; rfl) | (simp_all [sortN]; omega), rfl⟩)
                    · refine g_aload_n (pc := 194) dX3_sortOf_194 rfl rfl ?_
                      refine g_iload_n (pc := 195) dX3_sortOf_195 rfl rfl ?_
                      refine g_iload_n (pc := 196) dX3_sortOf_196 rfl rfl ?_
                      refine g_ldc2 (pc := 197) dX3_sortOf_197 q2087 ?_
                      refine t_invE (pc := 200) dX3_sortOf_200 hR (tc_stands _ p (p + n) _ _ spells_203866862696 (by omega) he hf) meX3_stands q2027 q2029 qs26 rfl rfl (Nat.le_of_ble_eq_true rfl) (fun h hR => ?_)
                      refine g_if_eqB (pc := 203) (tgt := 209) dX3_sortOf_203 rfl (fun c203 => ?_) (fun c203 => ?_)
                      · refine g_aload_n (pc := 209) dX3_sortOf_209 rfl rfl ?_
                        refine g_iload_n (pc := 210) dX3_sortOf_210 rfl rfl ?_
                        refine g_iload_n (pc := 211) dX3_sortOf_211 rfl rfl ?_
                        refine t_invE (pc := 212) dX3_sortOf_212 hR (tc_at0 _ p (p + n) (by omega) he) meX3_at0 q2032 q2034 qs27 rfl rfl (Nat.le_of_ble_eq_true rfl) (fun h hR => ?_)
                        refine g_bipush (pc := 215) (v := nI 62) dX3_sortOf_215 rfl ?_
                        refine g_icmp_neN (pc := 217) (tgt := 273) dX3_sortOf_217 rfl (by omega) (by omega) (fun c217 => ?_) (fun c217 => ?_)
                        · refine g_aload_n (pc := 273) dX3_sortOf_273 rfl rfl ?_
                          refine g_iload_n (pc := 274) dX3_sortOf_274 rfl rfl ?_
                          refine g_iload_n (pc := 275) dX3_sortOf_275 rfl rfl ?_
                          refine t_invE (pc := 276) dX3_sortOf_276 hR (tc_isExpr _ _ (p + n) (by omega) he hf) meX3_isExpr q2043 q2045 qs29 rfl rfl (Nat.le_of_ble_eq_true rfl) (fun h hR => ?_)
                          refine g_if_eqB (pc := 279) (tgt := 286) dX3_sortOf_279 rfl (fun c279 => ?_) (fun c279 => ?_)
                          · refine g_iconst (pc := 286) (v := (-1)) dX3_sortOf_286 rfl ?_
                            exact t_iret (pc := 287) dX3_sortOf_287 hR rfl (⟨by first | (simp [sortN, *]; done) | (simp [sortN, *]; rfl) | (simp_all [sortN]; done) | (simp_all [sortN]; rfl) | (simp_all [sortN]; rw [if_neg (by omega)]; rfl) | (simp_all [sortN]; omega), rfl⟩)
                          · refine g_iconst (pc := 282) (v := nI 0) dX3_sortOf_282 rfl ?_
                            refine g_goto (pc := 283) (tgt := 287) dX3_sortOf_283 rfl ?_
                            exact t_iret (pc := 287) dX3_sortOf_287 hR rfl (⟨by first | (simp [sortN, *]; done) | (simp [sortN, *]; rfl) | (simp_all [sortN]; done) | (simp_all [sortN]; rfl) | (simp_all [sortN]; rw [if_neg (by omega)]; rfl) | (simp_all [sortN]; omega), rfl⟩)
                        · refine g_iload_n (pc := 220) dX3_sortOf_220 rfl rfl ?_
                          refine g_iload_n (pc := 221) dX3_sortOf_221 rfl rfl ?_
                          first | refine g_isubN (pc := 222) dX3_sortOf_222 (by omega) ?_ | refine g_isub (pc := 222) dX3_sortOf_222 ?_
                          refine g_iconst (pc := 223) (v := nI 3) dX3_sortOf_223 rfl ?_
                          refine g_icmp_neN (pc := 224) (tgt := 271) dX3_sortOf_224 rfl (by omega) (by omega) (fun c224 => ?_) (fun c224 => ?_)
                          · refine g_iconst (pc := 271) (v := (-1)) dX3_sortOf_271 rfl ?_
                            exact t_iret (pc := 272) dX3_sortOf_272 hR rfl (⟨by first | (simp [sortN, *]; done) | (simp [sortN, *]; rfl) | (simp_all [sortN]; done) | (simp_all [sortN]; rfl) | (simp_all [sortN]; rw [if_neg (by omega)]; rfl) | (simp_all [sortN]; omega), rfl⟩)
                          · refine g_aload_n (pc := 227) dX3_sortOf_227 rfl rfl ?_
                            refine t_get (pc := 228) (v := .ref (tAd _ 14)) 14 dX3_sortOf_228 hR rfl q1813 (Nat.le_of_ble_eq_true rfl) rfl rfl ?_
                            refine g_iload_n (pc := 231) dX3_sortOf_231 rfl rfl ?_
                            refine g_iconst (pc := 232) (v := nI 1) dX3_sortOf_232 rfl ?_
                            first | refine g_iaddN (pc := 233) dX3_sortOf_233 ?_ | refine g_iadd (pc := 233) dX3_sortOf_233 ?_
                            refine t_cald (pc := 234) dX3_sortOf_234 hR rfl (by decide) rfl (by decide) (by show _ < 1000; omega) ?_
                            refine g_bipush (pc := 235) (v := nI 32) dX3_sortOf_235 rfl ?_
                            refine g_icmp_neN (pc := 237) (tgt := 271) dX3_sortOf_237 rfl (by omega) (by omega) (fun c237 => ?_) (fun c237 => ?_)
                            · refine g_iconst (pc := 271) (v := (-1)) dX3_sortOf_271 rfl ?_
                              exact t_iret (pc := 272) dX3_sortOf_272 hR rfl (⟨by first | (simp [sortN, *]; done) | (simp [sortN, *]; rfl) | (simp_all [sortN]; done) | (simp_all [sortN]; rfl) | (simp_all [sortN]; rw [if_neg (by omega)]; rfl) | (simp_all [sortN]; omega), rfl⟩)
                            · refine g_aload_n (pc := 240) dX3_sortOf_240 rfl rfl ?_
                              refine t_get (pc := 241) (v := .ref (tAd _ 14)) 14 dX3_sortOf_241 hR rfl q1813 (Nat.le_of_ble_eq_true rfl) rfl rfl ?_
                              refine g_iload_n (pc := 244) dX3_sortOf_244 rfl rfl ?_
                              refine g_iconst (pc := 245) (v := nI 2) dX3_sortOf_245 rfl ?_
                              first | refine g_iaddN (pc := 246) dX3_sortOf_246 ?_ | refine g_iadd (pc := 246) dX3_sortOf_246 ?_
                              refine t_cald (pc := 247) dX3_sortOf_247 hR rfl (by decide) rfl (by decide) (by show _ < 1000; omega) ?_
                              refine g_bipush (pc := 248) (v := nI 97) dX3_sortOf_248 rfl ?_
                              refine g_icmp_ltN (pc := 250) (tgt := 271) dX3_sortOf_250 rfl (by omega) (by omega) (fun c250 => ?_) (fun c250 => ?_)
                              · refine g_iconst (pc := 271) (v := (-1)) dX3_sortOf_271 rfl ?_
                                exact t_iret (pc := 272) dX3_sortOf_272 hR rfl (⟨by first | (simp [sortN, *]; done) | (simp [sortN, *]; rfl) | (simp_all [sortN]; done) | (simp_all [sortN]; rfl) | (simp_all [sortN]; rw [if_neg (by omega)]; rfl) | (simp_all [sortN]; omega), rfl⟩)
                              · refine g_aload_n (pc := 253) dX3_sortOf_253 rfl rfl ?_
                                refine t_get (pc := 254) (v := .ref (tAd _ 14)) 14 dX3_sortOf_254 hR rfl q1813 (Nat.le_of_ble_eq_true rfl) rfl rfl ?_
                                refine g_iload_n (pc := 257) dX3_sortOf_257 rfl rfl ?_
                                refine g_iconst (pc := 258) (v := nI 2) dX3_sortOf_258 rfl ?_
                                first | refine g_iaddN (pc := 259) dX3_sortOf_259 ?_ | refine g_iadd (pc := 259) dX3_sortOf_259 ?_
                                refine t_cald (pc := 260) dX3_sortOf_260 hR rfl (by decide) rfl (by decide) (by show _ < 1000; omega) ?_
                                refine g_bipush (pc := 261) (v := nI 100) dX3_sortOf_261 rfl ?_
                                refine g_icmp_gtN (pc := 263) (tgt := 271) dX3_sortOf_263 rfl (by omega) (by omega) (fun c263 => ?_) (fun c263 => ?_)
                                · refine g_iconst (pc := 271) (v := (-1)) dX3_sortOf_271 rfl ?_
                                  exact t_iret (pc := 272) dX3_sortOf_272 hR rfl (⟨by first | (simp [sortN, *]; done) | (simp [sortN, *]; rfl) | (simp_all [sortN]; done) | (simp_all [sortN]; rfl) | (simp_all [sortN]; rw [if_neg (by omega)]; rfl) | (simp_all [sortN]; omega), rfl⟩)
                                · refine g_bipush (pc := 266) (v := nI 10) dX3_sortOf_266 rfl ?_
                                  refine g_goto (pc := 268) (tgt := 272) dX3_sortOf_268 rfl ?_
                                  exact t_iret (pc := 272) dX3_sortOf_272 hR rfl (⟨by first | (simp [sortN, *]; done) | (simp [sortN, *]; rfl) | (simp_all [sortN]; done) | (simp_all [sortN]; rfl) | (simp_all [sortN]; rw [if_neg (by omega)]; rfl) | (simp_all [sortN]; omega), rfl⟩)
                      · refine g_bipush (pc := 206) (v := nI 9) dX3_sortOf_206 rfl ?_
                        exact t_iret (pc := 208) dX3_sortOf_208 hR rfl (⟨by first | (simp [sortN, *]; done) | (simp [sortN, *]; rfl) | (simp_all [sortN]; done) | (simp_all [sortN]; rfl) | (simp_all [sortN]; rw [if_neg (by omega)]; rfl) | (simp_all [sortN]; omega), rfl⟩)
                  · refine g_aload_n (pc := 172) dX3_sortOf_172 rfl rfl ?_
                    refine g_iload_n (pc := 173) dX3_sortOf_173 rfl rfl ?_
                    refine g_iload_n (pc := 174) dX3_sortOf_174 rfl rfl ?_
                    refine g_ldc2 (pc := 175) dX3_sortOf_175 q2086 ?_
                    refine t_invE (pc := 178) dX3_sortOf_178 hR (tc_stands _ p (p + n) _ _ spells_203564344168 (by omega) he hf) meX3_stands q2027 q2029 qs26 rfl rfl (Nat.le_of_ble_eq_true rfl) (fun h hR => ?_)
                    refine g_if_eqB (pc := 181) (tgt := 187) dX3_sortOf_181 rfl (fun c181 => ?_) (fun c181 => ?_)
                    · refine g_iload_n (pc := 187) dX3_sortOf_187 rfl rfl ?_
                      refine g_iload_n (pc := 188) dX3_sortOf_188 rfl rfl ?_
                      first | refine g_isubN (pc := 189) dX3_sortOf_189 (by omega) ?_ | refine g_isub (pc := 189) dX3_sortOf_189 ?_
                      refine g_iconst (pc := 190) (v := nI 5) dX3_sortOf_190 rfl ?_
                      refine g_icmp_neN (pc := 191) (tgt := 209) dX3_sortOf_191 rfl (by omega) (by omega) (fun c191 => ?_) (fun c191 => ?_)
                      · refine g_aload_n (pc := 209) dX3_sortOf_209 rfl rfl ?_
                        refine g_iload_n (pc := 210) dX3_sortOf_210 rfl rfl ?_
                        refine g_iload_n (pc := 211) dX3_sortOf_211 rfl rfl ?_
                        refine t_invE (pc := 212) dX3_sortOf_212 hR (tc_at0 _ p (p + n) (by omega) he) meX3_at0 q2032 q2034 qs27 rfl rfl (Nat.le_of_ble_eq_true rfl) (fun h hR => ?_)
                        refine g_bipush (pc := 215) (v := nI 62) dX3_sortOf_215 rfl ?_
                        refine g_icmp_neN (pc := 217) (tgt := 273) dX3_sortOf_217 rfl (by omega) (by omega) (fun c217 => ?_) (fun c217 => ?_)
                        · refine g_aload_n (pc := 273) dX3_sortOf_273 rfl rfl ?_
                          refine g_iload_n (pc := 274) dX3_sortOf_274 rfl rfl ?_
                          refine g_iload_n (pc := 275) dX3_sortOf_275 rfl rfl ?_
                          refine t_invE (pc := 276) dX3_sortOf_276 hR (tc_isExpr _ _ (p + n) (by omega) he hf) meX3_isExpr q2043 q2045 qs29 rfl rfl (Nat.le_of_ble_eq_true rfl) (fun h hR => ?_)
                          refine g_if_eqB (pc := 279) (tgt := 286) dX3_sortOf_279 rfl (fun c279 => ?_) (fun c279 => ?_)
                          · refine g_iconst (pc := 286) (v := (-1)) dX3_sortOf_286 rfl ?_
                            exact t_iret (pc := 287) dX3_sortOf_287 hR rfl (⟨by first | (simp [sortN, *]; done) | (simp [sortN, *]; rfl) | (simp_all [sortN]; done) | (simp_all [sortN]; rfl) | (simp_all [sortN]; rw [if_neg (by omega)]; rfl) | (simp_all [sortN]; omega), rfl⟩)
                          · refine g_iconst (pc := 282) (v := nI 0) dX3_sortOf_282 rfl ?_
                            refine g_goto (pc := 283) (tgt := 287) dX3_sortOf_283 rfl ?_
                            exact t_iret (pc := 287) dX3_sortOf_287 hR rfl (⟨by first | (simp [sortN, *]; done) | (simp [sortN, *]; rfl) | (simp_all [sortN]; done) | (simp_all [sortN]; rfl) | (simp_all [sortN]; rw [if_neg (by omega)]; rfl) | (simp_all [sortN]; omega), rfl⟩)
                        · refine g_iload_n (pc := 220) dX3_sortOf_220 rfl rfl ?_
                          refine g_iload_n (pc := 221) dX3_sortOf_221 rfl rfl ?_
                          first | refine g_isubN (pc := 222) dX3_sortOf_222 (by omega) ?_ | refine g_isub (pc := 222) dX3_sortOf_222 ?_
                          refine g_iconst (pc := 223) (v := nI 3) dX3_sortOf_223 rfl ?_
                          refine g_icmp_neN (pc := 224) (tgt := 271) dX3_sortOf_224 rfl (by omega) (by omega) (fun c224 => ?_) (fun c224 => ?_)
                          · refine g_iconst (pc := 271) (v := (-1)) dX3_sortOf_271 rfl ?_
                            exact t_iret (pc := 272) dX3_sortOf_272 hR rfl (⟨by first | (simp [sortN, *]; done) | (simp [sortN, *]; rfl) | (simp_all [sortN]; done) | (simp_all [sortN]; rfl) | (simp_all [sortN]; rw [if_neg (by omega)]; rfl) | (simp_all [sortN]; omega), rfl⟩)
                          · refine g_aload_n (pc := 227) dX3_sortOf_227 rfl rfl ?_
                            refine t_get (pc := 228) (v := .ref (tAd _ 14)) 14 dX3_sortOf_228 hR rfl q1813 (Nat.le_of_ble_eq_true rfl) rfl rfl ?_
                            refine g_iload_n (pc := 231) dX3_sortOf_231 rfl rfl ?_
                            refine g_iconst (pc := 232) (v := nI 1) dX3_sortOf_232 rfl ?_
                            first | refine g_iaddN (pc := 233) dX3_sortOf_233 ?_ | refine g_iadd (pc := 233) dX3_sortOf_233 ?_
                            refine t_cald (pc := 234) dX3_sortOf_234 hR rfl (by decide) rfl (by decide) (by show _ < 1000; omega) ?_
                            refine g_bipush (pc := 235) (v := nI 32) dX3_sortOf_235 rfl ?_
                            refine g_icmp_neN (pc := 237) (tgt := 271) dX3_sortOf_237 rfl (by omega) (by omega) (fun c237 => ?_) (fun c237 => ?_)
                            · refine g_iconst (pc := 271) (v := (-1)) dX3_sortOf_271 rfl ?_
                              exact t_iret (pc := 272) dX3_sortOf_272 hR rfl (⟨by first | (simp [sortN, *]; done) | (simp [sortN, *]; rfl) | (simp_all [sortN]; done) | (simp_all [sortN]; rfl) | (simp_all [sortN]; rw [if_neg (by omega)]; rfl) | (simp_all [sortN]; omega), rfl⟩)
                            · refine g_aload_n (pc := 240) dX3_sortOf_240 rfl rfl ?_
                              refine t_get (pc := 241) (v := .ref (tAd _ 14)) 14 dX3_sortOf_241 hR rfl q1813 (Nat.le_of_ble_eq_true rfl) rfl rfl ?_
                              refine g_iload_n (pc := 244) dX3_sortOf_244 rfl rfl ?_
                              refine g_iconst (pc := 245) (v := nI 2) dX3_sortOf_245 rfl ?_
                              first | refine g_iaddN (pc := 246) dX3_sortOf_246 ?_ | refine g_iadd (pc := 246) dX3_sortOf_246 ?_
                              refine t_cald (pc := 247) dX3_sortOf_247 hR rfl (by decide) rfl (by decide) (by show _ < 1000; omega) ?_
                              refine g_bipush (pc := 248) (v := nI 97) dX3_sortOf_248 rfl ?_
                              refine g_icmp_ltN (pc := 250) (tgt := 271) dX3_sortOf_250 rfl (by omega) (by omega) (fun c250 => ?_) (fun c250 => ?_)
                              · refine g_iconst (pc := 271) (v := (-1)) dX3_sortOf_271 rfl ?_
                                exact t_iret (pc := 272) dX3_sortOf_272 hR rfl (⟨by first | (simp [sortN, *]; done) | (simp [sortN, *]; rfl) | (simp_all [sortN]; done) | (simp_all [sortN]; rfl) | (simp_all [sortN]; rw [if_neg (by omega)]; rfl) | (simp_all [sortN]; omega), rfl⟩)
                              · refine g_aload_n (pc := 253) dX3_sortOf_253 rfl rfl ?_
                                refine t_get (pc := 254) (v := .ref (tAd _ 14)) 14 dX3_sortOf_254 hR rfl q1813 (Nat.le_of_ble_eq_true rfl) rfl rfl ?_
                                refine g_iload_n (pc := 257) dX3_sortOf_257 rfl rfl ?_
                                refine g_iconst (pc := 258) (v := nI 2) dX3_sortOf_258 rfl ?_
                                first | refine g_iaddN (pc := 259) dX3_sortOf_259 ?_ | refine g_iadd (pc := 259) dX3_sortOf_259 ?_
                                refine t_cald (pc := 260) dX3_sortOf_260 hR rfl (by decide) rfl (by decide) (by show _ < 1000; omega) ?_
                                refine g_bipush (pc := 261) (v := nI 100) dX3_sortOf_261 rfl ?_
                                refine g_icmp_gtN (pc := 263) (tgt := 271) dX3_sortOf_263 rfl (by omega) (by omega) (fun c263 => ?_) (fun c263 => ?_)
                                · refine g_iconst (pc := 271) (v := (-1)) dX3_sortOf_271 rfl ?_
                                  exact t_iret (pc := 272) dX3_sortOf_272 hR rfl (⟨by first | (simp [sortN, *]; done) | (simp [sortN, *]; rfl) | (simp_all [sortN]; done) | (simp_all [sortN]; rfl) | (simp_all [sortN]; rw [if_neg (by omega)]; rfl) | (simp_all [sortN]; omega), rfl⟩)
                                · refine g_bipush (pc := 266) (v := nI 10) dX3_sortOf_266 rfl ?_
                                  refine g_goto (pc := 268) (tgt := 272) dX3_sortOf_268 rfl ?_
                                  exact t_iret (pc := 272) dX3_sortOf_272 hR rfl (⟨by first | (simp [sortN, *]; done) | (simp [sortN, *]; rfl) | (simp_all [sortN]; done) | (simp_all [sortN]; rfl) | (simp_all [sortN]; rw [if_neg (by omega)]; rfl) | (simp_all [sortN]; omega), rfl⟩)
                      · refine g_aload_n (pc := 194) dX3_sortOf_194 rfl rfl ?_
                        refine g_iload_n (pc := 195) dX3_sortOf_195 rfl rfl ?_
                        refine g_iload_n (pc := 196) dX3_sortOf_196 rfl rfl ?_
                        refine g_ldc2 (pc := 197) dX3_sortOf_197 q2087 ?_
                        refine t_invE (pc := 200) dX3_sortOf_200 hR (tc_stands _ p (p + n) _ _ spells_203866862696 (by omega) he hf) meX3_stands q2027 q2029 qs26 rfl rfl (Nat.le_of_ble_eq_true rfl) (fun h hR => ?_)
                        refine g_if_eqB (pc := 203) (tgt := 209) dX3_sortOf_203 rfl (fun c203 => ?_) (fun c203 => ?_)
                        · refine g_aload_n (pc := 209) dX3_sortOf_209 rfl rfl ?_
                          refine g_iload_n (pc := 210) dX3_sortOf_210 rfl rfl ?_
                          refine g_iload_n (pc := 211) dX3_sortOf_211 rfl rfl ?_
                          refine t_invE (pc := 212) dX3_sortOf_212 hR (tc_at0 _ p (p + n) (by omega) he) meX3_at0 q2032 q2034 qs27 rfl rfl (Nat.le_of_ble_eq_true rfl) (fun h hR => ?_)
                          refine g_bipush (pc := 215) (v := nI 62) dX3_sortOf_215 rfl ?_
                          refine g_icmp_neN (pc := 217) (tgt := 273) dX3_sortOf_217 rfl (by omega) (by omega) (fun c217 => ?_) (fun c217 => ?_)
                          · refine g_aload_n (pc := 273) dX3_sortOf_273 rfl rfl ?_
                            refine g_iload_n (pc := 274) dX3_sortOf_274 rfl rfl ?_
                            refine g_iload_n (pc := 275) dX3_sortOf_275 rfl rfl ?_
                            refine t_invE (pc := 276) dX3_sortOf_276 hR (tc_isExpr _ _ (p + n) (by omega) he hf) meX3_isExpr q2043 q2045 qs29 rfl rfl (Nat.le_of_ble_eq_true rfl) (fun h hR => ?_)
                            refine g_if_eqB (pc := 279) (tgt := 286) dX3_sortOf_279 rfl (fun c279 => ?_) (fun c279 => ?_)
                            · refine g_iconst (pc := 286) (v := (-1)) dX3_sortOf_286 rfl ?_
                              exact t_iret (pc := 287) dX3_sortOf_287 hR rfl (⟨by first | (simp [sortN, *]; done) | (simp [sortN, *]; rfl) | (simp_all [sortN]; done) | (simp_all [sortN]; rfl) | (simp_all [sortN]; rw [if_neg (by omega)]; rfl) | (simp_all [sortN]; omega), rfl⟩)
                            · refine g_iconst (pc := 282) (v := nI 0) dX3_sortOf_282 rfl ?_
                              refine g_goto (pc := 283) (tgt := 287) dX3_sortOf_283 rfl ?_
                              exact t_iret (pc := 287) dX3_sortOf_287 hR rfl (⟨by first | (simp [sortN, *]; done) | (simp [sortN, *]; rfl) | (simp_all [sortN]; done) | (simp_all [sortN]; rfl) | (simp_all [sortN]; rw [if_neg (by omega)]; rfl) | (simp_all [sortN]; omega), rfl⟩)
                          · refine g_iload_n (pc := 220) dX3_sortOf_220 rfl rfl ?_
                            refine g_iload_n (pc := 221) dX3_sortOf_221 rfl rfl ?_
                            first | refine g_isubN (pc := 222) dX3_sortOf_222 (by omega) ?_ | refine g_isub (pc := 222) dX3_sortOf_222 ?_
                            refine g_iconst (pc := 223) (v := nI 3) dX3_sortOf_223 rfl ?_
                            refine g_icmp_neN (pc := 224) (tgt := 271) dX3_sortOf_224 rfl (by omega) (by omega) (fun c224 => ?_) (fun c224 => ?_)
                            · refine g_iconst (pc := 271) (v := (-1)) dX3_sortOf_271 rfl ?_
                              exact t_iret (pc := 272) dX3_sortOf_272 hR rfl (⟨by first | (simp [sortN, *]; done) | (simp [sortN, *]; rfl) | (simp_all [sortN]; done) | (simp_all [sortN]; rfl) | (simp_all [sortN]; rw [if_neg (by omega)]; rfl) | (simp_all [sortN]; omega), rfl⟩)
                            · refine g_aload_n (pc := 227) dX3_sortOf_227 rfl rfl ?_
                              refine t_get (pc := 228) (v := .ref (tAd _ 14)) 14 dX3_sortOf_228 hR rfl q1813 (Nat.le_of_ble_eq_true rfl) rfl rfl ?_
                              refine g_iload_n (pc := 231) dX3_sortOf_231 rfl rfl ?_
                              refine g_iconst (pc := 232) (v := nI 1) dX3_sortOf_232 rfl ?_
                              first | refine g_iaddN (pc := 233) dX3_sortOf_233 ?_ | refine g_iadd (pc := 233) dX3_sortOf_233 ?_
                              refine t_cald (pc := 234) dX3_sortOf_234 hR rfl (by decide) rfl (by decide) (by show _ < 1000; omega) ?_
                              refine g_bipush (pc := 235) (v := nI 32) dX3_sortOf_235 rfl ?_
                              refine g_icmp_neN (pc := 237) (tgt := 271) dX3_sortOf_237 rfl (by omega) (by omega) (fun c237 => ?_) (fun c237 => ?_)
                              · refine g_iconst (pc := 271) (v := (-1)) dX3_sortOf_271 rfl ?_
                                exact t_iret (pc := 272) dX3_sortOf_272 hR rfl (⟨by first | (simp [sortN, *]; done) | (simp [sortN, *]; rfl) | (simp_all [sortN]; done) | (simp_all [sortN]; rfl) | (simp_all [sortN]; rw [if_neg (by omega)]; rfl) | (simp_all [sortN]; omega), rfl⟩)
                              · refine g_aload_n (pc := 240) dX3_sortOf_240 rfl rfl ?_
                                refine t_get (pc := 241) (v := .ref (tAd _ 14)) 14 dX3_sortOf_241 hR rfl q1813 (Nat.le_of_ble_eq_true rfl) rfl rfl ?_
                                refine g_iload_n (pc := 244) dX3_sortOf_244 rfl rfl ?_
                                refine g_iconst (pc := 245) (v := nI 2) dX3_sortOf_245 rfl ?_
                                first | refine g_iaddN (pc := 246) dX3_sortOf_246 ?_ | refine g_iadd (pc := 246) dX3_sortOf_246 ?_
                                refine t_cald (pc := 247) dX3_sortOf_247 hR rfl (by decide) rfl (by decide) (by show _ < 1000; omega) ?_
                                refine g_bipush (pc := 248) (v := nI 97) dX3_sortOf_248 rfl ?_
                                refine g_icmp_ltN (pc := 250) (tgt := 271) dX3_sortOf_250 rfl (by omega) (by omega) (fun c250 => ?_) (fun c250 => ?_)
                                · refine g_iconst (pc := 271) (v := (-1)) dX3_sortOf_271 rfl ?_
                                  exact t_iret (pc := 272) dX3_sortOf_272 hR rfl (⟨by first | (simp [sortN, *]; done) | (simp [sortN, *]; rfl) | (simp_all [sortN]; done) | (simp_all [sortN]; rfl) | (simp_all [sortN]; rw [if_neg (by omega)]; rfl) | (simp_all [sortN]; omega), rfl⟩)
                                · refine g_aload_n (pc := 253) dX3_sortOf_253 rfl rfl ?_
                                  refine t_get (pc := 254) (v := .ref (tAd _ 14)) 14 dX3_sortOf_254 hR rfl q1813 (Nat.le_of_ble_eq_true rfl) rfl rfl ?_
                                  refine g_iload_n (pc := 257) dX3_sortOf_257 rfl rfl ?_
                                  refine g_iconst (pc := 258) (v := nI 2) dX3_sortOf_258 rfl ?_
                                  first | refine g_iaddN (pc := 259) dX3_sortOf_259 ?_ | refine g_iadd (pc := 259) dX3_sortOf_259 ?_
                                  refine t_cald (pc := 260) dX3_sortOf_260 hR rfl (by decide) rfl (by decide) (by show _ < 1000; omega) ?_
                                  refine g_bipush (pc := 261) (v := nI 100) dX3_sortOf_261 rfl ?_
                                  refine g_icmp_gtN (pc := 263) (tgt := 271) dX3_sortOf_263 rfl (by omega) (by omega) (fun c263 => ?_) (fun c263 => ?_)
                                  · refine g_iconst (pc := 271) (v := (-1)) dX3_sortOf_271 rfl ?_
                                    exact t_iret (pc := 272) dX3_sortOf_272 hR rfl (⟨by first | (simp [sortN, *]; done) | (simp [sortN, *]; rfl) | (simp_all [sortN]; done) | (simp_all [sortN]; rfl) | (simp_all [sortN]; rw [if_neg (by omega)]; rfl) | (simp_all [sortN]; omega), rfl⟩)
                                  · refine g_bipush (pc := 266) (v := nI 10) dX3_sortOf_266 rfl ?_
                                    refine g_goto (pc := 268) (tgt := 272) dX3_sortOf_268 rfl ?_
                                    exact t_iret (pc := 272) dX3_sortOf_272 hR rfl (⟨by first | (simp [sortN, *]; done) | (simp [sortN, *]; rfl) | (simp_all [sortN]; done) | (simp_all [sortN]; rfl) | (simp_all [sortN]; rw [if_neg (by omega)]; rfl) | (simp_all [sortN]; omega), rfl⟩)
                        · refine g_bipush (pc := 206) (v := nI 9) dX3_sortOf_206 rfl ?_
                          exact t_iret (pc := 208) dX3_sortOf_208 hR rfl (⟨by first | (simp [sortN, *]; done) | (simp [sortN, *]; rfl) | (simp_all [sortN]; done) | (simp_all [sortN]; rfl) | (simp_all [sortN]; rw [if_neg (by omega)]; rfl) | (simp_all [sortN]; omega), rfl⟩)
                    · refine g_bipush (pc := 184) (v := nI 8) dX3_sortOf_184 rfl ?_
                      exact t_iret (pc := 186) dX3_sortOf_186 hR rfl (⟨by first | (simp [sortN, *]; done) | (simp [sortN, *]; rfl) | (simp_all [sortN]; done) | (simp_all [sortN]; rfl) | (simp_all [sortN]; rw [if_neg (by omega)]; rfl) | (simp_all [sortN]; omega), rfl⟩)
                · refine g_aload_n (pc := 150) dX3_sortOf_150 rfl rfl ?_
                  refine g_iload_n (pc := 151) dX3_sortOf_151 rfl rfl ?_
                  refine g_iload_n (pc := 152) dX3_sortOf_152 rfl rfl ?_
                  refine g_ldc2 (pc := 153) dX3_sortOf_153 q2085 ?_
                  refine t_invE (pc := 156) dX3_sortOf_156 hR (tc_stands _ p (p + n) _ _ spells_3107174 (by omega) he hf) meX3_stands q2027 q2029 qs26 rfl rfl (Nat.le_of_ble_eq_true rfl) (fun h hR => ?_)
                  refine g_if_eqB (pc := 159) (tgt := 165) dX3_sortOf_159 rfl (fun c159 => ?_) (fun c159 => ?_)
                  · refine g_iload_n (pc := 165) dX3_sortOf_165 rfl rfl ?_
                    refine g_iload_n (pc := 166) dX3_sortOf_166 rfl rfl ?_
                    first | refine g_isubN (pc := 167) dX3_sortOf_167 (by omega) ?_ | refine g_isub (pc := 167) dX3_sortOf_167 ?_
                    refine g_iconst (pc := 168) (v := nI 5) dX3_sortOf_168 rfl ?_
                    refine g_icmp_neN (pc := 169) (tgt := 187) dX3_sortOf_169 rfl (by omega) (by omega) (fun c169 => ?_) (fun c169 => ?_)
                    · refine g_iload_n (pc := 187) dX3_sortOf_187 rfl rfl ?_
                      refine g_iload_n (pc := 188) dX3_sortOf_188 rfl rfl ?_
                      first | refine g_isubN (pc := 189) dX3_sortOf_189 (by omega) ?_ | refine g_isub (pc := 189) dX3_sortOf_189 ?_
                      refine g_iconst (pc := 190) (v := nI 5) dX3_sortOf_190 rfl ?_
                      refine g_icmp_neN (pc := 191) (tgt := 209) dX3_sortOf_191 rfl (by omega) (by omega) (fun c191 => ?_) (fun c191 => ?_)
                      · refine g_aload_n (pc := 209) dX3_sortOf_209 rfl rfl ?_
                        refine g_iload_n (pc := 210) dX3_sortOf_210 rfl rfl ?_
                        refine g_iload_n (pc := 211) dX3_sortOf_211 rfl rfl ?_
                        refine t_invE (pc := 212) dX3_sortOf_212 hR (tc_at0 _ p (p + n) (by omega) he) meX3_at0 q2032 q2034 qs27 rfl rfl (Nat.le_of_ble_eq_true rfl) (fun h hR => ?_)
                        refine g_bipush (pc := 215) (v := nI 62) dX3_sortOf_215 rfl ?_
                        refine g_icmp_neN (pc := 217) (tgt := 273) dX3_sortOf_217 rfl (by omega) (by omega) (fun c217 => ?_) (fun c217 => ?_)
                        · refine g_aload_n (pc := 273) dX3_sortOf_273 rfl rfl ?_
                          refine g_iload_n (pc := 274) dX3_sortOf_274 rfl rfl ?_
                          refine g_iload_n (pc := 275) dX3_sortOf_275 rfl rfl ?_
                          refine t_invE (pc := 276) dX3_sortOf_276 hR (tc_isExpr _ _ (p + n) (by omega) he hf) meX3_isExpr q2043 q2045 qs29 rfl rfl (Nat.le_of_ble_eq_true rfl) (fun h hR => ?_)
                          refine g_if_eqB (pc := 279) (tgt := 286) dX3_sortOf_279 rfl (fun c279 => ?_) (fun c279 => ?_)
                          · refine g_iconst (pc := 286) (v := (-1)) dX3_sortOf_286 rfl ?_
                            exact t_iret (pc := 287) dX3_sortOf_287 hR rfl (⟨by first | (simp [sortN, *]; done) | (simp [sortN, *]; rfl) | (simp_all [sortN]; done) | (simp_all [sortN]; rfl) | (simp_all [sortN]; rw [if_neg (by omega)]; rfl) | (simp_all [sortN]; omega), rfl⟩)
                          · refine g_iconst (pc := 282) (v := nI 0) dX3_sortOf_282 rfl ?_
                            refine g_goto (pc := 283) (tgt := 287) dX3_sortOf_283 rfl ?_
                            exact t_iret (pc := 287) dX3_sortOf_287 hR rfl (⟨by first | (simp [sortN, *]; done) | (simp [sortN, *]; rfl) | (simp_all [sortN]; done) | (simp_all [sortN]; rfl) | (simp_all [sortN]; rw [if_neg (by omega)]; rfl) | (simp_all [sortN]; omega), rfl⟩)
                        · refine g_iload_n (pc := 220) dX3_sortOf_220 rfl rfl ?_
                          refine g_iload_n (pc := 221) dX3_sortOf_221 rfl rfl ?_
                          first | refine g_isubN (pc := 222) dX3_sortOf_222 (by omega) ?_ | refine g_isub (pc := 222) dX3_sortOf_222 ?_
                          refine g_iconst (pc := 223) (v := nI 3) dX3_sortOf_223 rfl ?_
                          refine g_icmp_neN (pc := 224) (tgt := 271) dX3_sortOf_224 rfl (by omega) (by omega) (fun c224 => ?_) (fun c224 => ?_)
                          · refine g_iconst (pc := 271) (v := (-1)) dX3_sortOf_271 rfl ?_
                            exact t_iret (pc := 272) dX3_sortOf_272 hR rfl (⟨by first | (simp [sortN, *]; done) | (simp [sortN, *]; rfl) | (simp_all [sortN]; done) | (simp_all [sortN]; rfl) | (simp_all [sortN]; rw [if_neg (by omega)]; rfl) | (simp_all [sortN]; omega), rfl⟩)
                          · refine g_aload_n (pc := 227) dX3_sortOf_227 rfl rfl ?_
                            refine t_get (pc := 228) (v := .ref (tAd _ 14)) 14 dX3_sortOf_228 hR rfl q1813 (Nat.le_of_ble_eq_true rfl) rfl rfl ?_
                            refine g_iload_n (pc := 231) dX3_sortOf_231 rfl rfl ?_
                            refine g_iconst (pc := 232) (v := nI 1) dX3_sortOf_232 rfl ?_
                            first | refine g_iaddN (pc := 233) dX3_sortOf_233 ?_ | refine g_iadd (pc := 233) dX3_sortOf_233 ?_
                            refine t_cald (pc := 234) dX3_sortOf_234 hR rfl (by decide) rfl (by decide) (by show _ < 1000; omega) ?_
                            refine g_bipush (pc := 235) (v := nI 32) dX3_sortOf_235 rfl ?_
                            refine g_icmp_neN (pc := 237) (tgt := 271) dX3_sortOf_237 rfl (by omega) (by omega) (fun c237 => ?_) (fun c237 => ?_)
                            · refine g_iconst (pc := 271) (v := (-1)) dX3_sortOf_271 rfl ?_
                              exact t_iret (pc := 272) dX3_sortOf_272 hR rfl (⟨by first | (simp [sortN, *]; done) | (simp [sortN, *]; rfl) | (simp_all [sortN]; done) | (simp_all [sortN]; rfl) | (simp_all [sortN]; rw [if_neg (by omega)]; rfl) | (simp_all [sortN]; omega), rfl⟩)
                            · refine g_aload_n (pc := 240) dX3_sortOf_240 rfl rfl ?_
                              refine t_get (pc := 241) (v := .ref (tAd _ 14)) 14 dX3_sortOf_241 hR rfl q1813 (Nat.le_of_ble_eq_true rfl) rfl rfl ?_
                              refine g_iload_n (pc := 244) dX3_sortOf_244 rfl rfl ?_
                              refine g_iconst (pc := 245) (v := nI 2) dX3_sortOf_245 rfl ?_
                              first | refine g_iaddN (pc := 246) dX3_sortOf_246 ?_ | refine g_iadd (pc := 246) dX3_sortOf_246 ?_
                              refine t_cald (pc := 247) dX3_sortOf_247 hR rfl (by decide) rfl (by decide) (by show _ < 1000; omega) ?_
                              refine g_bipush (pc := 248) (v := nI 97) dX3_sortOf_248 rfl ?_
                              refine g_icmp_ltN (pc := 250) (tgt := 271) dX3_sortOf_250 rfl (by omega) (by omega) (fun c250 => ?_) (fun c250 => ?_)
                              · refine g_iconst (pc := 271) (v := (-1)) dX3_sortOf_271 rfl ?_
                                exact t_iret (pc := 272) dX3_sortOf_272 hR rfl (⟨by first | (simp [sortN, *]; done) | (simp [sortN, *]; rfl) | (simp_all [sortN]; done) | (simp_all [sortN]; rfl) | (simp_all [sortN]; rw [if_neg (by omega)]; rfl) | (simp_all [sortN]; omega), rfl⟩)
                              · refine g_aload_n (pc := 253) dX3_sortOf_253 rfl rfl ?_
                                refine t_get (pc := 254) (v := .ref (tAd _ 14)) 14 dX3_sortOf_254 hR rfl q1813 (Nat.le_of_ble_eq_true rfl) rfl rfl ?_
                                refine g_iload_n (pc := 257) dX3_sortOf_257 rfl rfl ?_
                                refine g_iconst (pc := 258) (v := nI 2) dX3_sortOf_258 rfl ?_
                                first | refine g_iaddN (pc := 259) dX3_sortOf_259 ?_ | refine g_iadd (pc := 259) dX3_sortOf_259 ?_
                                refine t_cald (pc := 260) dX3_sortOf_260 hR rfl (by decide) rfl (by decide) (by show _ < 1000; omega) ?_
                                refine g_bipush (pc := 261) (v := nI 100) dX3_sortOf_261 rfl ?_
                                refine g_icmp_gtN (pc := 263) (tgt := 271) dX3_sortOf_263 rfl (by omega) (by omega) (fun c263 => ?_) (fun c263 => ?_)
                                · refine g_iconst (pc := 271) (v := (-1)) dX3_sortOf_271 rfl ?_
                                  exact t_iret (pc := 272) dX3_sortOf_272 hR rfl (⟨by first | (simp [sortN, *]; done) | (simp [sortN, *]; rfl) | (simp_all [sortN]; done) | (simp_all [sortN]; rfl) | (simp_all [sortN]; rw [if_neg (by omega)]; rfl) | (simp_all [sortN]; omega), rfl⟩)
                                · refine g_bipush (pc := 266) (v := nI 10) dX3_sortOf_266 rfl ?_
                                  refine g_goto (pc := 268) (tgt := 272) dX3_sortOf_268 rfl ?_
                                  exact t_iret (pc := 272) dX3_sortOf_272 hR rfl (⟨by first | (simp [sortN, *]; done) | (simp [sortN, *]; rfl) | (simp_all [sortN]; done) | (simp_all [sortN]; rfl) | (simp_all [sortN]; rw [if_neg (by omega)]; rfl) | (simp_all [sortN]; omega), rfl⟩)
                      · refine g_aload_n (pc := 194) dX3_sortOf_194 rfl rfl ?_
                        refine g_iload_n (pc := 195) dX3_sortOf_195 rfl rfl ?_
                        refine g_iload_n (pc := 196) dX3_sortOf_196 rfl rfl ?_
                        refine g_ldc2 (pc := 197) dX3_sortOf_197 q2087 ?_
                        refine t_invE (pc := 200) dX3_sortOf_200 hR (tc_stands _ p (p + n) _ _ spells_203866862696 (by omega) he hf) meX3_stands q2027 q2029 qs26 rfl rfl (Nat.le_of_ble_eq_true rfl) (fun h hR => ?_)
                        refine g_if_eqB (pc := 203) (tgt := 209) dX3_sortOf_203 rfl (fun c203 => ?_) (fun c203 => ?_)
                        · refine g_aload_n (pc := 209) dX3_sortOf_209 rfl rfl ?_
                          refine g_iload_n (pc := 210) dX3_sortOf_210 rfl rfl ?_
                          refine g_iload_n (pc := 211) dX3_sortOf_211 rfl rfl ?_
                          refine t_invE (pc := 212) dX3_sortOf_212 hR (tc_at0 _ p (p + n) (by omega) he) meX3_at0 q2032 q2034 qs27 rfl rfl (Nat.le_of_ble_eq_true rfl) (fun h hR => ?_)
                          refine g_bipush (pc := 215) (v := nI 62) dX3_sortOf_215 rfl ?_
                          refine g_icmp_neN (pc := 217) (tgt := 273) dX3_sortOf_217 rfl (by omega) (by omega) (fun c217 => ?_) (fun c217 => ?_)
                          · refine g_aload_n (pc := 273) dX3_sortOf_273 rfl rfl ?_
                            refine g_iload_n (pc := 274) dX3_sortOf_274 rfl rfl ?_
                            refine g_iload_n (pc := 275) dX3_sortOf_275 rfl rfl ?_
                            refine t_invE (pc := 276) dX3_sortOf_276 hR (tc_isExpr _ _ (p + n) (by omega) he hf) meX3_isExpr q2043 q2045 qs29 rfl rfl (Nat.le_of_ble_eq_true rfl) (fun h hR => ?_)
                            refine g_if_eqB (pc := 279) (tgt := 286) dX3_sortOf_279 rfl (fun c279 => ?_) (fun c279 => ?_)
                            · refine g_iconst (pc := 286) (v := (-1)) dX3_sortOf_286 rfl ?_
                              exact t_iret (pc := 287) dX3_sortOf_287 hR rfl (⟨by first | (simp [sortN, *]; done) | (simp [sortN, *]; rfl) | (simp_all [sortN]; done) | (simp_all [sortN]; rfl) | (simp_all [sortN]; rw [if_neg (by omega)]; rfl) | (simp_all [sortN]; omega), rfl⟩)
                            · refine g_iconst (pc := 282) (v := nI 0) dX3_sortOf_282 rfl ?_
                              refine g_goto (pc := 283) (tgt := 287) dX3_sortOf_283 rfl ?_
                              exact t_iret (pc := 287) dX3_sortOf_287 hR rfl (⟨by first | (simp [sortN, *]; done) | (simp [sortN, *]; rfl) | (simp_all [sortN]; done) | (simp_all [sortN]; rfl) | (simp_all [sortN]; rw [if_neg (by omega)]; rfl) | (simp_all [sortN]; omega), rfl⟩)
                          · refine g_iload_n (pc := 220) dX3_sortOf_220 rfl rfl ?_
                            refine g_iload_n (pc := 221) dX3_sortOf_221 rfl rfl ?_
                            first | refine g_isubN (pc := 222) dX3_sortOf_222 (by omega) ?_ | refine g_isub (pc := 222) dX3_sortOf_222 ?_
                            refine g_iconst (pc := 223) (v := nI 3) dX3_sortOf_223 rfl ?_
                            refine g_icmp_neN (pc := 224) (tgt := 271) dX3_sortOf_224 rfl (by omega) (by omega) (fun c224 => ?_) (fun c224 => ?_)
                            · refine g_iconst (pc := 271) (v := (-1)) dX3_sortOf_271 rfl ?_
                              exact t_iret (pc := 272) dX3_sortOf_272 hR rfl (⟨by first | (simp [sortN, *]; done) | (simp [sortN, *]; rfl) | (simp_all [sortN]; done) | (simp_all [sortN]; rfl) | (simp_all [sortN]; rw [if_neg (by omega)]; rfl) | (simp_all [sortN]; omega), rfl⟩)
                            · refine g_aload_n (pc := 227) dX3_sortOf_227 rfl rfl ?_
                              refine t_get (pc := 228) (v := .ref (tAd _ 14)) 14 dX3_sortOf_228 hR rfl q1813 (Nat.le_of_ble_eq_true rfl) rfl rfl ?_
                              refine g_iload_n (pc := 231) dX3_sortOf_231 rfl rfl ?_
                              refine g_iconst (pc := 232) (v := nI 1) dX3_sortOf_232 rfl ?_
                              first | refine g_iaddN (pc := 233) dX3_sortOf_233 ?_ | refine g_iadd (pc := 233) dX3_sortOf_233 ?_
                              refine t_cald (pc := 234) dX3_sortOf_234 hR rfl (by decide) rfl (by decide) (by show _ < 1000; omega) ?_
                              refine g_bipush (pc := 235) (v := nI 32) dX3_sortOf_235 rfl ?_
                              refine g_icmp_neN (pc := 237) (tgt := 271) dX3_sortOf_237 rfl (by omega) (by omega) (fun c237 => ?_) (fun c237 => ?_)
                              · refine g_iconst (pc := 271) (v := (-1)) dX3_sortOf_271 rfl ?_
                                exact t_iret (pc := 272) dX3_sortOf_272 hR rfl (⟨by first | (simp [sortN, *]; done) | (simp [sortN, *]; rfl) | (simp_all [sortN]; done) | (simp_all [sortN]; rfl) | (simp_all [sortN]; rw [if_neg (by omega)]; rfl) | (simp_all [sortN]; omega), rfl⟩)
                              · refine g_aload_n (pc := 240) dX3_sortOf_240 rfl rfl ?_
                                refine t_get (pc := 241) (v := .ref (tAd _ 14)) 14 dX3_sortOf_241 hR rfl q1813 (Nat.le_of_ble_eq_true rfl) rfl rfl ?_
                                refine g_iload_n (pc := 244) dX3_sortOf_244 rfl rfl ?_
                                refine g_iconst (pc := 245) (v := nI 2) dX3_sortOf_245 rfl ?_
                                first | refine g_iaddN (pc := 246) dX3_sortOf_246 ?_ | refine g_iadd (pc := 246) dX3_sortOf_246 ?_
                                refine t_cald (pc := 247) dX3_sortOf_247 hR rfl (by decide) rfl (by decide) (by show _ < 1000; omega) ?_
                                refine g_bipush (pc := 248) (v := nI 97) dX3_sortOf_248 rfl ?_
                                refine g_icmp_ltN (pc := 250) (tgt := 271) dX3_sortOf_250 rfl (by omega) (by omega) (fun c250 => ?_) (fun c250 => ?_)
                                · refine g_iconst (pc := 271) (v := (-1)) dX3_sortOf_271 rfl ?_
                                  exact t_iret (pc := 272) dX3_sortOf_272 hR rfl (⟨by first | (simp [sortN, *]; done) | (simp [sortN, *]; rfl) | (simp_all [sortN]; done) | (simp_all [sortN]; rfl) | (simp_all [sortN]; rw [if_neg (by omega)]; rfl) | (simp_all [sortN]; omega), rfl⟩)
                                · refine g_aload_n (pc := 253) dX3_sortOf_253 rfl rfl ?_
                                  refine t_get (pc := 254) (v := .ref (tAd _ 14)) 14 dX3_sortOf_254 hR rfl q1813 (Nat.le_of_ble_eq_true rfl) rfl rfl ?_
                                  refine g_iload_n (pc := 257) dX3_sortOf_257 rfl rfl ?_
                                  refine g_iconst (pc := 258) (v := nI 2) dX3_sortOf_258 rfl ?_
                                  first | refine g_iaddN (pc := 259) dX3_sortOf_259 ?_ | refine g_iadd (pc := 259) dX3_sortOf_259 ?_
                                  refine t_cald (pc := 260) dX3_sortOf_260 hR rfl (by decide) rfl (by decide) (by show _ < 1000; omega) ?_
                                  refine g_bipush (pc := 261) (v := nI 100) dX3_sortOf_261 rfl ?_
                                  refine g_icmp_gtN (pc := 263) (tgt := 271) dX3_sortOf_263 rfl (by omega) (by omega) (fun c263 => ?_) (fun c263 => ?_)
                                  · refine g_iconst (pc := 271) (v := (-1)) dX3_sortOf_271 rfl ?_
                                    exact t_iret (pc := 272) dX3_sortOf_272 hR rfl (⟨by first | (simp [sortN, *]; done) | (simp [sortN, *]; rfl) | (simp_all [sortN]; done) | (simp_all [sortN]; rfl) | (simp_all [sortN]; rw [if_neg (by omega)]; rfl) | (simp_all [sortN]; omega), rfl⟩)
                                  · refine g_bipush (pc := 266) (v := nI 10) dX3_sortOf_266 rfl ?_
                                    refine g_goto (pc := 268) (tgt := 272) dX3_sortOf_268 rfl ?_
                                    exact t_iret (pc := 272) dX3_sortOf_272 hR rfl (⟨by first | (simp [sortN, *]; done) | (simp [sortN, *]; rfl) | (simp_all [sortN]; done) | (simp_all [sortN]; rfl) | (simp_all [sortN]; rw [if_neg (by omega)]; rfl) | (simp_all [sortN]; omega), rfl⟩)
                        · refine g_bipush (pc := 206) (v := nI 9) dX3_sortOf_206 rfl ?_
                          exact t_iret (pc := 208) dX3_sortOf_208 hR rfl (⟨by first | (simp [sortN, *]; done) | (simp [sortN, *]; rfl) | (simp_all [sortN]; done) | (simp_all [sortN]; rfl) | (simp_all [sortN]; rw [if_neg (by omega)]; rfl) | (simp_all [sortN]; omega), rfl⟩)
                    · refine g_aload_n (pc := 172) dX3_sortOf_172 rfl rfl ?_
                      refine g_iload_n (pc := 173) dX3_sortOf_173 rfl rfl ?_
                      refine g_iload_n (pc := 174) dX3_sortOf_174 rfl rfl ?_
                      refine g_ldc2 (pc := 175) dX3_sortOf_175 q2086 ?_
                      refine t_invE (pc := 178) dX3_sortOf_178 hR (tc_stands _ p (p + n) _ _ spells_203564344168 (by omega) he hf) meX3_stands q2027 q2029 qs26 rfl rfl (Nat.le_of_ble_eq_true rfl) (fun h hR => ?_)
                      refine g_if_eqB (pc := 181) (tgt := 187) dX3_sortOf_181 rfl (fun c181 => ?_) (fun c181 => ?_)
                      · refine g_iload_n (pc := 187) dX3_sortOf_187 rfl rfl ?_
                        refine g_iload_n (pc := 188) dX3_sortOf_188 rfl rfl ?_
                        first | refine g_isubN (pc := 189) dX3_sortOf_189 (by omega) ?_ | refine g_isub (pc := 189) dX3_sortOf_189 ?_
                        refine g_iconst (pc := 190) (v := nI 5) dX3_sortOf_190 rfl ?_
                        refine g_icmp_neN (pc := 191) (tgt := 209) dX3_sortOf_191 rfl (by omega) (by omega) (fun c191 => ?_) (fun c191 => ?_)
                        · refine g_aload_n (pc := 209) dX3_sortOf_209 rfl rfl ?_
                          refine g_iload_n (pc := 210) dX3_sortOf_210 rfl rfl ?_
                          refine g_iload_n (pc := 211) dX3_sortOf_211 rfl rfl ?_
                          refine t_invE (pc := 212) dX3_sortOf_212 hR (tc_at0 _ p (p + n) (by omega) he) meX3_at0 q2032 q2034 qs27 rfl rfl (Nat.le_of_ble_eq_true rfl) (fun h hR => ?_)
                          refine g_bipush (pc := 215) (v := nI 62) dX3_sortOf_215 rfl ?_
                          refine g_icmp_neN (pc := 217) (tgt := 273) dX3_sortOf_217 rfl (by omega) (by omega) (fun c217 => ?_) (fun c217 => ?_)
                          · refine g_aload_n (pc := 273) dX3_sortOf_273 rfl rfl ?_
                            refine g_iload_n (pc := 274) dX3_sortOf_274 rfl rfl ?_
                            refine g_iload_n (pc := 275) dX3_sortOf_275 rfl rfl ?_
                            refine t_invE (pc := 276) dX3_sortOf_276 hR (tc_isExpr _ _ (p + n) (by omega) he hf) meX3_isExpr q2043 q2045 qs29 rfl rfl (Nat.le_of_ble_eq_true rfl) (fun h hR => ?_)
                            refine g_if_eqB (pc := 279) (tgt := 286) dX3_sortOf_279 rfl (fun c279 => ?_) (fun c279 => ?_)
                            · refine g_iconst (pc := 286) (v := (-1)) dX3_sortOf_286 rfl ?_
                              exact t_iret (pc := 287) dX3_sortOf_287 hR rfl (⟨by first | (simp [sortN, *]; done) | (simp [sortN, *]; rfl) | (simp_all [sortN]; done) | (simp_all [sortN]; rfl) | (simp_all [sortN]; rw [if_neg (by omega)]; rfl) | (simp_all [sortN]; omega), rfl⟩)
                            · refine g_iconst (pc := 282) (v := nI 0) dX3_sortOf_282 rfl ?_
                              refine g_goto (pc := 283) (tgt := 287) dX3_sortOf_283 rfl ?_
                              exact t_iret (pc := 287) dX3_sortOf_287 hR rfl (⟨by first | (simp [sortN, *]; done) | (simp [sortN, *]; rfl) | (simp_all [sortN]; done) | (simp_all [sortN]; rfl) | (simp_all [sortN]; rw [if_neg (by omega)]; rfl) | (simp_all [sortN]; omega), rfl⟩)
                          · refine g_iload_n (pc := 220) dX3_sortOf_220 rfl rfl ?_
                            refine g_iload_n (pc := 221) dX3_sortOf_221 rfl rfl ?_
                            first | refine g_isubN (pc := 222) dX3_sortOf_222 (by omega) ?_ | refine g_isub (pc := 222) dX3_sortOf_222 ?_
                            refine g_iconst (pc := 223) (v := nI 3) dX3_sortOf_223 rfl ?_
                            refine g_icmp_neN (pc := 224) (tgt := 271) dX3_sortOf_224 rfl (by omega) (by omega) (fun c224 => ?_) (fun c224 => ?_)
                            · refine g_iconst (pc := 271) (v := (-1)) dX3_sortOf_271 rfl ?_
                              exact t_iret (pc := 272) dX3_sortOf_272 hR rfl (⟨by first | (simp [sortN, *]; done) | (simp [sortN, *]; rfl) | (simp_all [sortN]; done) | (simp_all [sortN]; rfl) | (simp_all [sortN]; rw [if_neg (by omega)]; rfl) | (simp_all [sortN]; omega), rfl⟩)
                            · refine g_aload_n (pc := 227) dX3_sortOf_227 rfl rfl ?_
                              refine t_get (pc := 228) (v := .ref (tAd _ 14)) 14 dX3_sortOf_228 hR rfl q1813 (Nat.le_of_ble_eq_true rfl) rfl rfl ?_
                              refine g_iload_n (pc := 231) dX3_sortOf_231 rfl rfl ?_
                              refine g_iconst (pc := 232) (v := nI 1) dX3_sortOf_232 rfl ?_
                              first | refine g_iaddN (pc := 233) dX3_sortOf_233 ?_ | refine g_iadd (pc := 233) dX3_sortOf_233 ?_
                              refine t_cald (pc := 234) dX3_sortOf_234 hR rfl (by decide) rfl (by decide) (by show _ < 1000; omega) ?_
                              refine g_bipush (pc := 235) (v := nI 32) dX3_sortOf_235 rfl ?_
                              refine g_icmp_neN (pc := 237) (tgt := 271) dX3_sortOf_237 rfl (by omega) (by omega) (fun c237 => ?_) (fun c237 => ?_)
                              · refine g_iconst (pc := 271) (v := (-1)) dX3_sortOf_271 rfl ?_
                                exact t_iret (pc := 272) dX3_sortOf_272 hR rfl (⟨by first | (simp [sortN, *]; done) | (simp [sortN, *]; rfl) | (simp_all [sortN]; done) | (simp_all [sortN]; rfl) | (simp_all [sortN]; rw [if_neg (by omega)]; rfl) | (simp_all [sortN]; omega), rfl⟩)
                              · refine g_aload_n (pc := 240) dX3_sortOf_240 rfl rfl ?_
                                refine t_get (pc := 241) (v := .ref (tAd _ 14)) 14 dX3_sortOf_241 hR rfl q1813 (Nat.le_of_ble_eq_true rfl) rfl rfl ?_
                                refine g_iload_n (pc := 244) dX3_sortOf_244 rfl rfl ?_
                                refine g_iconst (pc := 245) (v := nI 2) dX3_sortOf_245 rfl ?_
                                first | refine g_iaddN (pc := 246) dX3_sortOf_246 ?_ | refine g_iadd (pc := 246) dX3_sortOf_246 ?_
                                refine t_cald (pc := 247) dX3_sortOf_247 hR rfl (by decide) rfl (by decide) (by show _ < 1000; omega) ?_
                                refine g_bipush (pc := 248) (v := nI 97) dX3_sortOf_248 rfl ?_
                                refine g_icmp_ltN (pc := 250) (tgt := 271) dX3_sortOf_250 rfl (by omega) (by omega) (fun c250 => ?_) (fun c250 => ?_)
                                · refine g_iconst (pc := 271) (v := (-1)) dX3_sortOf_271 rfl ?_
                                  exact t_iret (pc := 272) dX3_sortOf_272 hR rfl (⟨by first | (simp [sortN, *]; done) | (simp [sortN, *]; rfl) | (simp_all [sortN]; done) | (simp_all [sortN]; rfl) | (simp_all [sortN]; rw [if_neg (by omega)]; rfl) | (simp_all [sortN]; omega), rfl⟩)
                                · refine g_aload_n (pc := 253) dX3_sortOf_253 rfl rfl ?_
                                  refine t_get (pc := 254) (v := .ref (tAd _ 14)) 14 dX3_sortOf_254 hR rfl q1813 (Nat.le_of_ble_eq_true rfl) rfl rfl ?_
                                  refine g_iload_n (pc := 257) dX3_sortOf_257 rfl rfl ?_
                                  refine g_iconst (pc := 258) (v := nI 2) dX3_sortOf_258 rfl ?_
                                  first | refine g_iaddN (pc := 259) dX3_sortOf_259 ?_ | refine g_iadd (pc := 259) dX3_sortOf_259 ?_
                                  refine t_cald (pc := 260) dX3_sortOf_260 hR rfl (by decide) rfl (by decide) (by show _ < 1000; omega) ?_
                                  refine g_bipush (pc := 261) (v := nI 100) dX3_sortOf_261 rfl ?_
                                  refine g_icmp_gtN (pc := 263) (tgt := 271) dX3_sortOf_263 rfl (by omega) (by omega) (fun c263 => ?_) (fun c263 => ?_)
                                  · refine g_iconst (pc := 271) (v := (-1)) dX3_sortOf_271 rfl ?_
                                    exact t_iret (pc := 272) dX3_sortOf_272 hR rfl (⟨by first | (simp [sortN, *]; done) | (simp [sortN, *]; rfl) | (simp_all [sortN]; done) | (simp_all [sortN]; rfl) | (simp_all [sortN]; rw [if_neg (by omega)]; rfl) | (simp_all [sortN]; omega), rfl⟩)
                                  · refine g_bipush (pc := 266) (v := nI 10) dX3_sortOf_266 rfl ?_
                                    refine g_goto (pc := 268) (tgt := 272) dX3_sortOf_268 rfl ?_
                                    exact t_iret (pc := 272) dX3_sortOf_272 hR rfl (⟨by first | (simp [sortN, *]; done) | (simp [sortN, *]; rfl) | (simp_all [sortN]; done) | (simp_all [sortN]; rfl) | (simp_all [sortN]; rw [if_neg (by omega)]; rfl) | (simp_all [sortN]; omega), rfl⟩)
                        · refine g_aload_n (pc := 194) dX3_sortOf_194 rfl rfl ?_
                          refine g_iload_n (pc := 195) dX3_sortOf_195 rfl rfl ?_
                          refine g_iload_n (pc := 196) dX3_sortOf_196 rfl rfl ?_
                          refine g_ldc2 (pc := 197) dX3_sortOf_197 q2087 ?_
                          refine t_invE (pc := 200) dX3_sortOf_200 hR (tc_stands _ p (p + n) _ _ spells_203866862696 (by omega) he hf) meX3_stands q2027 q2029 qs26 rfl rfl (Nat.le_of_ble_eq_true rfl) (fun h hR => ?_)
                          refine g_if_eqB (pc := 203) (tgt := 209) dX3_sortOf_203 rfl (fun c203 => ?_) (fun c203 => ?_)
                          · refine g_aload_n (pc := 209) dX3_sortOf_209 rfl rfl ?_
                            refine g_iload_n (pc := 210) dX3_sortOf_210 rfl rfl ?_
                            refine g_iload_n (pc := 211) dX3_sortOf_211 rfl rfl ?_
                            refine t_invE (pc := 212) dX3_sortOf_212 hR (tc_at0 _ p (p + n) (by omega) he) meX3_at0 q2032 q2034 qs27 rfl rfl (Nat.le_of_ble_eq_true rfl) (fun h hR => ?_)
                            refine g_bipush (pc := 215) (v := nI 62) dX3_sortOf_215 rfl ?_
                            refine g_icmp_neN (pc := 217) (tgt := 273) dX3_sortOf_217 rfl (by omega) (by omega) (fun c217 => ?_) (fun c217 => ?_)
                            · refine g_aload_n (pc := 273) dX3_sortOf_273 rfl rfl ?_
                              refine g_iload_n (pc := 274) dX3_sortOf_274 rfl rfl ?_
                              refine g_iload_n (pc := 275) dX3_sortOf_275 rfl rfl ?_
                              refine t_invE (pc := 276) dX3_sortOf_276 hR (tc_isExpr _ _ (p + n) (by omega) he hf) meX3_isExpr q2043 q2045 qs29 rfl rfl (Nat.le_of_ble_eq_true rfl) (fun h hR => ?_)
                              refine g_if_eqB (pc := 279) (tgt := 286) dX3_sortOf_279 rfl (fun c279 => ?_) (fun c279 => ?_)
                              · refine g_iconst (pc := 286) (v := (-1)) dX3_sortOf_286 rfl ?_
                                exact t_iret (pc := 287) dX3_sortOf_287 hR rfl (⟨by first | (simp [sortN, *]; done) | (simp [sortN, *]; rfl) | (simp_all [sortN]; done) | (simp_all [sortN]; rfl) | (simp_all [sortN]; rw [if_neg (by omega)]; rfl) | (simp_all [sortN]; omega), rfl⟩)
                              · refine g_iconst (pc := 282) (v := nI 0) dX3_sortOf_282 rfl ?_
                                refine g_goto (pc := 283) (tgt := 287) dX3_sortOf_283 rfl ?_
                                exact t_iret (pc := 287) dX3_sortOf_287 hR rfl (⟨by first | (simp [sortN, *]; done) | (simp [sortN, *]; rfl) | (simp_all [sortN]; done) | (simp_all [sortN]; rfl) | (simp_all [sortN]; rw [if_neg (by omega)]; rfl) | (simp_all [sortN]; omega), rfl⟩)
                            · refine g_iload_n (pc := 220) dX3_sortOf_220 rfl rfl ?_
                              refine g_iload_n (pc := 221) dX3_sortOf_221 rfl rfl ?_
                              first | refine g_isubN (pc := 222) dX3_sortOf_222 (by omega) ?_ | refine g_isub (pc := 222) dX3_sortOf_222 ?_
                              refine g_iconst (pc := 223) (v := nI 3) dX3_sortOf_223 rfl ?_
                              refine g_icmp_neN (pc := 224) (tgt := 271) dX3_sortOf_224 rfl (by omega) (by omega) (fun c224 => ?_) (fun c224 => ?_)
                              · refine g_iconst (pc := 271) (v := (-1)) dX3_sortOf_271 rfl ?_
                                exact t_iret (pc := 272) dX3_sortOf_272 hR rfl (⟨by first | (simp [sortN, *]; done) | (simp [sortN, *]; rfl) | (simp_all [sortN]; done) | (simp_all [sortN]; rfl) | (simp_all [sortN]; rw [if_neg (by omega)]; rfl) | (simp_all [sortN]; omega), rfl⟩)
                              · refine g_aload_n (pc := 227) dX3_sortOf_227 rfl rfl ?_
                                refine t_get (pc := 228) (v := .ref (tAd _ 14)) 14 dX3_sortOf_228 hR rfl q1813 (Nat.le_of_ble_eq_true rfl) rfl rfl ?_
                                refine g_iload_n (pc := 231) dX3_sortOf_231 rfl rfl ?_
                                refine g_iconst (pc := 232) (v := nI 1) dX3_sortOf_232 rfl ?_
                                first | refine g_iaddN (pc := 233) dX3_sortOf_233 ?_ | refine g_iadd (pc := 233) dX3_sortOf_233 ?_
                                refine t_cald (pc := 234) dX3_sortOf_234 hR rfl (by decide) rfl (by decide) (by show _ < 1000; omega) ?_
                                refine g_bipush (pc := 235) (v := nI 32) dX3_sortOf_235 rfl ?_
                                refine g_icmp_neN (pc := 237) (tgt := 271) dX3_sortOf_237 rfl (by omega) (by omega) (fun c237 => ?_) (fun c237 => ?_)
                                · refine g_iconst (pc := 271) (v := (-1)) dX3_sortOf_271 rfl ?_
                                  exact t_iret (pc := 272) dX3_sortOf_272 hR rfl (⟨by first | (simp [sortN, *]; done) | (simp [sortN, *]; rfl) | (simp_all [sortN]; done) | (simp_all [sortN]; rfl) | (simp_all [sortN]; rw [if_neg (by omega)]; rfl) | (simp_all [sortN]; omega), rfl⟩)
                                · refine g_aload_n (pc := 240) dX3_sortOf_240 rfl rfl ?_
                                  refine t_get (pc := 241) (v := .ref (tAd _ 14)) 14 dX3_sortOf_241 hR rfl q1813 (Nat.le_of_ble_eq_true rfl) rfl rfl ?_
                                  refine g_iload_n (pc := 244) dX3_sortOf_244 rfl rfl ?_
                                  refine g_iconst (pc := 245) (v := nI 2) dX3_sortOf_245 rfl ?_
                                  first | refine g_iaddN (pc := 246) dX3_sortOf_246 ?_ | refine g_iadd (pc := 246) dX3_sortOf_246 ?_
                                  refine t_cald (pc := 247) dX3_sortOf_247 hR rfl (by decide) rfl (by decide) (by show _ < 1000; omega) ?_
                                  refine g_bipush (pc := 248) (v := nI 97) dX3_sortOf_248 rfl ?_
                                  refine g_icmp_ltN (pc := 250) (tgt := 271) dX3_sortOf_250 rfl (by omega) (by omega) (fun c250 => ?_) (fun c250 => ?_)
                                  · refine g_iconst (pc := 271) (v := (-1)) dX3_sortOf_271 rfl ?_
                                    exact t_iret (pc := 272) dX3_sortOf_272 hR rfl (⟨by first | (simp [sortN, *]; done) | (simp [sortN, *]; rfl) | (simp_all [sortN]; done) | (simp_all [sortN]; rfl) | (simp_all [sortN]; rw [if_neg (by omega)]; rfl) | (simp_all [sortN]; omega), rfl⟩)
                                  · refine g_aload_n (pc := 253) dX3_sortOf_253 rfl rfl ?_
                                    refine t_get (pc := 254) (v := .ref (tAd _ 14)) 14 dX3_sortOf_254 hR rfl q1813 (Nat.le_of_ble_eq_true rfl) rfl rfl ?_
                                    refine g_iload_n (pc := 257) dX3_sortOf_257 rfl rfl ?_
                                    refine g_iconst (pc := 258) (v := nI 2) dX3_sortOf_258 rfl ?_
                                    first | refine g_iaddN (pc := 259) dX3_sortOf_259 ?_ | refine g_iadd (pc := 259) dX3_sortOf_259 ?_
                                    refine t_cald (pc := 260) dX3_sortOf_260 hR rfl (by decide) rfl (by decide) (by show _ < 1000; omega) ?_
                                    refine g_bipush (pc := 261) (v := nI 100) dX3_sortOf_261 rfl ?_
                                    refine g_icmp_gtN (pc := 263) (tgt := 271) dX3_sortOf_263 rfl (by omega) (by omega) (fun c263 => ?_) (fun c263 => ?_)
                                    · refine g_iconst (pc := 271) (v := (-1)) dX3_sortOf_271 rfl ?_
                                      exact t_iret (pc := 272) dX3_sortOf_272 hR rfl (⟨by first | (simp [sortN, *]; done) | (simp [sortN, *]; rfl) | (simp_all [sortN]; done) | (simp_all [sortN]; rfl) | (simp_all [sortN]; rw [if_neg (by omega)]; rfl) | (simp_all [sortN]; omega), rfl⟩)
                                    · refine g_bipush (pc := 266) (v := nI 10) dX3_sortOf_266 rfl ?_
                                      refine g_goto (pc := 268) (tgt := 272) dX3_sortOf_268 rfl ?_
                                      exact t_iret (pc := 272) dX3_sortOf_272 hR rfl (⟨by first | (simp [sortN, *]; done) | (simp [sortN, *]; rfl) | (simp_all [sortN]; done) | (simp_all [sortN]; rfl) | (simp_all [sortN]; rw [if_neg (by omega)]; rfl) | (simp_all [sortN]; omega), rfl⟩)
                          · refine g_bipush (pc := 206) (v := nI 9) dX3_sortOf_206 rfl ?_
                            exact t_iret (pc := 208) dX3_sortOf_208 hR rfl (⟨by first | (simp [sortN, *]; done) | (simp [sortN, *]; rfl) | (simp_all [sortN]; done) | (simp_all [sortN]; rfl) | (simp_all [sortN]; rw [if_neg (by omega)]; rfl) | (simp_all [sortN]; omega), rfl⟩)
                      · refine g_bipush (pc := 184) (v := nI 8) dX3_sortOf_184 rfl ?_
                        exact t_iret (pc := 186) dX3_sortOf_186 hR rfl (⟨by first | (simp [sortN, *]; done) | (simp [sortN, *]; rfl) | (simp_all [sortN]; done) | (simp_all [sortN]; rfl) | (simp_all [sortN]; rw [if_neg (by omega)]; rfl) | (simp_all [sortN]; omega), rfl⟩)
                  · refine g_bipush (pc := 162) (v := nI 7) dX3_sortOf_162 rfl ?_
                    exact t_iret (pc := 164) dX3_sortOf_164 hR rfl (⟨by first | (simp [sortN, *]; done) | (simp [sortN, *]; rfl) | (simp_all [sortN]; done) | (simp_all [sortN]; rfl) | (simp_all [sortN]; rw [if_neg (by omega)]; rfl) | (simp_all [sortN]; omega), rfl⟩)
              · refine g_bipush (pc := 140) (v := nI 6) dX3_sortOf_140 rfl ?_
                exact t_iret (pc := 142) dX3_sortOf_142 hR rfl (⟨by first | (simp [sortN, *]; done) | (simp [sortN, *]; rfl) | (simp_all [sortN]; done) | (simp_all [sortN]; rfl) | (simp_all [sortN]; rw [if_neg (by omega)]; rfl) | (simp_all [sortN]; omega), rfl⟩)
          · refine g_aload_n (pc := 103) dX3_sortOf_103 rfl rfl ?_
            refine g_iload_n (pc := 104) dX3_sortOf_104 rfl rfl ?_
            refine g_bipush (pc := 105) (v := nI 6) dX3_sortOf_105 rfl ?_
            first | refine g_iaddN (pc := 107) dX3_sortOf_107 ?_ | refine g_iadd (pc := 107) dX3_sortOf_107 ?_
            refine g_iload_n (pc := 108) dX3_sortOf_108 rfl rfl ?_
            refine t_invE (pc := 109) dX3_sortOf_109 hR (tc_isExpr _ _ (p + n) (by omega) he hf) meX3_isExpr q2043 q2045 qs29 rfl rfl (Nat.le_of_ble_eq_true rfl) (fun h hR => ?_)
            refine g_if_eqB (pc := 112) (tgt := 119) dX3_sortOf_112 rfl (fun c112 => ?_) (fun c112 => ?_)
            · refine g_iconst (pc := 119) (v := (-1)) dX3_sortOf_119 rfl ?_
              exact t_iret (pc := 120) dX3_sortOf_120 hR rfl (⟨by first | (simp [sortN, *]; done) | (simp [sortN, *]; rfl) | (simp_all [sortN]; done) | (simp_all [sortN]; rfl) | (simp_all [sortN]; rw [if_neg (by omega)]; rfl) | (simp_all [sortN]; omega), rfl⟩)
            · refine g_iconst (pc := 115) (v := nI 5) dX3_sortOf_115 rfl ?_
              refine g_goto (pc := 116) (tgt := 120) dX3_sortOf_116 rfl ?_
              exact t_iret (pc := 120) dX3_sortOf_120 hR rfl (⟨by first | (simp [sortN, *]; done) | (simp [sortN, *]; rfl) | (simp_all [sortN]; done) | (simp_all [sortN]; rfl) | (simp_all [sortN]; rw [if_neg (by omega)]; rfl) | (simp_all [sortN]; omega), rfl⟩)
        · refine g_aload_n (pc := 73) dX3_sortOf_73 rfl rfl ?_
          refine g_iload_n (pc := 74) dX3_sortOf_74 rfl rfl ?_
          refine g_bipush (pc := 75) (v := nI 6) dX3_sortOf_75 rfl ?_
          first | refine g_iaddN (pc := 77) dX3_sortOf_77 ?_ | refine g_iadd (pc := 77) dX3_sortOf_77 ?_
          refine g_iload_n (pc := 78) dX3_sortOf_78 rfl rfl ?_
          refine t_invE (pc := 79) dX3_sortOf_79 hR (tc_isExpr _ _ (p + n) (by omega) he hf) meX3_isExpr q2043 q2045 qs29 rfl rfl (Nat.le_of_ble_eq_true rfl) (fun h hR => ?_)
          refine g_if_eqB (pc := 82) (tgt := 89) dX3_sortOf_82 rfl (fun c82 => ?_) (fun c82 => ?_)
          · refine g_iconst (pc := 89) (v := (-1)) dX3_sortOf_89 rfl ?_
            exact t_iret (pc := 90) dX3_sortOf_90 hR rfl (⟨by first | (simp [sortN, *]; done) | (simp [sortN, *]; rfl) | (simp_all [sortN]; done) | (simp_all [sortN]; rfl) | (simp_all [sortN]; rw [if_neg (by omega)]; rfl) | (simp_all [sortN]; omega), rfl⟩)
          · refine g_iconst (pc := 85) (v := nI 4) dX3_sortOf_85 rfl ?_
            refine g_goto (pc := 86) (tgt := 90) dX3_sortOf_86 rfl ?_
            exact t_iret (pc := 90) dX3_sortOf_90 hR rfl (⟨by first | (simp [sortN, *]; done) | (simp [sortN, *]; rfl) | (simp_all [sortN]; done) | (simp_all [sortN]; rfl) | (simp_all [sortN]; rw [if_neg (by omega)]; rfl) | (simp_all [sortN]; omega), rfl⟩)
      · refine g_aload_n (pc := 44) dX3_sortOf_44 rfl rfl ?_
        refine g_iload_n (pc := 45) dX3_sortOf_45 rfl rfl ?_
        refine g_iconst (pc := 46) (v := nI 4) dX3_sortOf_46 rfl ?_
        first | refine g_iaddN (pc := 47) dX3_sortOf_47 ?_ | refine g_iadd (pc := 47) dX3_sortOf_47 ?_
        refine g_iload_n (pc := 48) dX3_sortOf_48 rfl rfl ?_
        refine t_invE (pc := 49) dX3_sortOf_49 hR (tc_isExpr _ _ (p + n) (by omega) he hf) meX3_isExpr q2043 q2045 qs29 rfl rfl (Nat.le_of_ble_eq_true rfl) (fun h hR => ?_)
        refine g_if_eqB (pc := 52) (tgt := 59) dX3_sortOf_52 rfl (fun c52 => ?_) (fun c52 => ?_)
        · refine g_iconst (pc := 59) (v := (-1)) dX3_sortOf_59 rfl ?_
          exact t_iret (pc := 60) dX3_sortOf_60 hR rfl (⟨by first | (simp [sortN, *]; done) | (simp [sortN, *]; rfl) | (simp_all [sortN]; done) | (simp_all [sortN]; rfl) | (simp_all [sortN]; rw [if_neg (by omega)]; rfl) | (simp_all [sortN]; omega), rfl⟩)
        · refine g_iconst (pc := 55) (v := nI 3) dX3_sortOf_55 rfl ?_
          refine g_goto (pc := 56) (tgt := 60) dX3_sortOf_56 rfl ?_
          exact t_iret (pc := 60) dX3_sortOf_60 hR rfl (⟨by first | (simp [sortN, *]; done) | (simp [sortN, *]; rfl) | (simp_all [sortN]; done) | (simp_all [sortN]; rfl) | (simp_all [sortN]; rw [if_neg (by omega)]; rfl) | (simp_all [sortN]; omega), rfl⟩)
    · refine g_iconst (pc := 30) (v := nI 2) dX3_sortOf_30 rfl ?_
      exact t_iret (pc := 31) dX3_sortOf_31 hR rfl (⟨by first | (simp [sortN, *]; done) | (simp [sortN, *]; rfl) | (simp_all [sortN]; done) | (simp_all [sortN]; rfl) | (simp_all [sortN]; rw [if_neg (by omega)]; rfl) | (simp_all [sortN]; omega), rfl⟩)
  · refine g_aload_n (pc := 4) dX3_sortOf_4 rfl rfl ?_
    refine g_iload_n (pc := 5) dX3_sortOf_5 rfl rfl ?_
    refine g_iload_n (pc := 6) dX3_sortOf_6 rfl rfl ?_
    refine t_invE (pc := 7) dX3_sortOf_7 hR (tc_isExpr _ _ (p + n) (by omega) he hf) meX3_isExpr q2043 q2045 qs29 rfl rfl (Nat.le_of_ble_eq_true rfl) (fun h hR => ?_)
    refine g_if_eqB (pc := 10) (tgt := 17) dX3_sortOf_10 rfl (fun c10 => ?_) (fun c10 => ?_)
    · refine g_iconst (pc := 17) (v := (-1)) dX3_sortOf_17 rfl ?_
      exact t_iret (pc := 18) dX3_sortOf_18 hR rfl (⟨by first | (simp [sortN, *]; done) | (simp [sortN, *]; rfl) | (simp_all [sortN]; done) | (simp_all [sortN]; rfl) | (simp_all [sortN]; rw [if_neg (by omega)]; rfl) | (simp_all [sortN]; omega), rfl⟩)
    · refine g_iconst (pc := 13) (v := nI 1) dX3_sortOf_13 rfl ?_
      refine g_goto (pc := 14) (tgt := 18) dX3_sortOf_14 rfl ?_
      exact t_iret (pc := 18) dX3_sortOf_18 hR rfl (⟨by first | (simp [sortN, *]; done) | (simp [sortN, *]; rfl) | (simp_all [sortN]; done) | (simp_all [sortN]; rfl) | (simp_all [sortN]; rw [if_neg (by omega)]; rfl) | (simp_all [sortN]; omega), rfl⟩)
end TW5
