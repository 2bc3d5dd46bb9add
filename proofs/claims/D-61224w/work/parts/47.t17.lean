/-! TWIN 17: showRaw, lengthOf, isFalse, element, member -/
set_option maxRecDepth 100000
theorem jn_f {l : List (List Nat)} : jn false l = match l with | [] => [] | a :: r => 44 :: a ++ jn false r := by cases l <;> rfl
/-- what is still to come of a list from place i on -/
def jnR (D : aD) (n : Nat) (ps : List (List Nat × Nat)) (i : Nat) : List Nat := jn (decide (i = 0)) ((ps.drop i).map (fun q => shX D n q.2))
theorem jnR_end {D : aD} {n : Nat} {ps : List (List Nat × Nat)} {i : Nat} (h : ps.length ≤ i) : jnR D n ps i = [] := by
  unfold jnR
  rw [List.drop_eq_nil_of_le h]
  cases decide (i = 0) <;> rfl
theorem jnR_step {D : aD} {n : Nat} {ps : List (List Nat × Nat)} {i : Nat} (h : i < ps.length) : jnR D n ps i = (if i = 0 then [] else [44]) ++ shX D n (ps.getD i ([], 0)).2 ++ jnR D n ps (i + 1) := by
  unfold jnR
  rw [List.drop_eq_getElem_cons h, List.map_cons]
  have e : ps.getD i ([], 0) = ps[i] := by rw [List.getD_eq_getElem?_getD, List.getElem?_eq_getElem h]; rfl
  rw [e]
  by_cases z : i = 0
  · subst z; simp [jn]
  · simp [z, jn]
theorem shX_nl {D : aD} {n x : Nat} (h : ¬ isLs (D.2 x) = true) : shX D (n + 1) x = shX D 1 x := by
  rw [shX_s, shX_s]
  generalize D.2 x = y at h
  rcases y with v | l | ⟨m, ps⟩
  · rfl
  · rfl
  · cases m
    · exact absurd rfl h
    · rfl
section TW17
variable {Z : hE} {o : Nat} {τ : tT}
theorem tc_showRaw (d r : Nat) (D : aD) (v : aV) (hr : r < 18) (hD : tD τ D) (ha : acy D) (hv : vR D τ r v) : tC Z mX3_showRaw (d + 3) o [.ref o, .int (nI r)] τ (fun u τ' => u = none ∧ rawL τ' (shw D v) ∧ vK (fun _ => False) τ τ' ∧ τ'.1 38 = if 400 < (shw D v).length then 4 else τ.1 38) := by
  refine tC.of rfl rfl (Nat.le_of_ble_eq_true rfl) rfl (fun X hin h hR => ?_)
  have hD2 := hD.2.1
  generalize hF : shw D v = F
  generalize hQ : (fun (u : Option Value) (τ' : tT) => u = none ∧ rawL τ' F ∧ vK (fun _ => False) τ τ' ∧ τ'.1 38 = if 400 < F.length then 4 else τ.1 38) = Q
  have fin : ∀ (τc : tT), rawL τc F → vK (fun _ => False) τ τc → τc.1 38 = τ.1 38 → ∀ h, tH o τc hin h → hG Z X mX3_showRaw (d + 3) tS hin (tK o hin Q) 196 [(0, .ref o), (1, .int (nI r))] [] h := by
    intro τc c1 c2 c3 h hR
    refine g_aload_n (pc := 196) dX3_showRaw_196 rfl rfl ?_
    refine t_get (pc := 197) (v := .int (nI _)) 33 dX3_showRaw_197 hR rfl q1832 (Nat.le_of_ble_eq_true rfl) rfl rfl ?_
    refine g_sipush (pc := 200) (v := nI 400) dX3_showRaw_200 rfl ?_
    rw [c1.1]
    refine g_icmp_leN (pc := 203) (tgt := 211) dX3_showRaw_203 rfl (by omega) (by omega) (fun q => ?_) (fun q => ?_)
    · subst hQ
      exact t_vret (pc := 211) dX3_showRaw_211 hR rfl (⟨rfl, c1, c2, by rw [if_neg (by omega)]; exact c3⟩)
    · refine g_aload_n (pc := 206) dX3_showRaw_206 rfl rfl ?_
      refine g_iconst (pc := 207) (v := nI 4) dX3_showRaw_207 rfl ?_
      refine t_put (pc := 208) 38 dX3_showRaw_208 hR rfl q1837 (Nat.le_of_ble_eq_true rfl) rfl rfl (by decide) rfl rfl (fun h hR => ?_)
      subst hQ
      exact t_vret (pc := 211) dX3_showRaw_211 hR rfl (⟨rfl, c1.same (rFN_n (by decide)) rfl, c2.fn (Or.inr (Or.inl rfl)), by rw [if_pos (by omega)]; exact rFN_s⟩)
  -- a list x, of height n, is worked off
  have main : ∀ (n x : Nat), hgt D n x → x < D.1 → isLs (D.2 x) = true → ∀ (l : List Nat) (S : List (Nat × Nat)) (R : List Nat), F = l ++ shX D n x ++ R → S.length + n ≤ 60 →
      (∀ τc, shI D τ S (l ++ shX D n x) τc → ∀ h, tH o τc hin h → hG Z X mX3_showRaw (d + 3) tS hin (tK o hin Q) 93 [(0, .ref o), (1, .int (nI r))] [] h) →
      ∀ τc, shI D τ ((x, 0) :: S) l τc → ∀ h, tH o τc hin h → hG Z X mX3_showRaw (d + 3) tS hin (tK o hin Q) 93 [(0, .ref o), (1, .int (nI r))] [] h := by
    intro n
    induction n with
    | zero => intro x hg; exact hg.elim
    | succ n ihn =>
      intro x hg hx hls l S R hF2 hS kk
      rw [shX_ls hls] at hF2 kk
      generalize hps : aPs (D.2 x) = ps at hF2 kk
      have hfull : jn true (ps.map (fun q => shX D n q.2)) = jnR D n ps 0 := by simp [jnR]
      rw [hfull] at hF2 kk
      have elems : ∀ (j i : Nat) (l' : List Nat), i + j = ps.length → l' ++ jnR D n ps i = l ++ jnR D n ps 0 → ∀ τc, shI D τ ((x, i) :: S) l' τc → ∀ h, tH o τc hin h → hG Z X mX3_showRaw (d + 3) tS hin (tK o hin Q) 93 [(0, .ref o), (1, .int (nI r))] [] h := by
        intro j
        induction j with
        | zero =>
          intro i l' hi hl' τc c h hR
          obtain ⟨c1, c2, c3, c4, c5⟩ := c
          have hDc : tD τc D := hD.keep c4
          have hkd := (hDc.2.2 x hx).1.kind
          have h9 := hkd.2.2.1 (by rw [hkd.2.2.2.1.mpr hls]; decide)
          rw [hps] at h9
          rw [jnR_end (by omega), List.append_nil] at hl'
          have h39 : τc.1 39 = S.length + 1 := c2
          refine g_aload_n (pc := 93) dX3_showRaw_93 rfl rfl ?_
          refine t_get (pc := 94) (v := .int (nI _)) 39 dX3_showRaw_94 hR rfl q1838 (Nat.le_of_ble_eq_true rfl) rfl rfl ?_
          rw [h39]
          refine g_if_leN (pc := 97) (tgt := 196) dX3_showRaw_97 rfl (by omega) (fun q => ?_) (fun q => ?_)
          · exact absurd q (by omega)
          · refine g_aload_n (pc := 100) dX3_showRaw_100 rfl rfl ?_
            refine t_get (pc := 101) (v := .int (nI _)) 33 dX3_showRaw_101 hR rfl q1832 (Nat.le_of_ble_eq_true rfl) rfl rfl ?_
            refine g_sipush (pc := 104) (v := nI 401) dX3_showRaw_104 rfl ?_
            rw [c1.1]
            refine g_icmp_geN (pc := 107) (tgt := 196) dX3_showRaw_107 rfl (by omega) (by omega) (fun q1 => ?_) (fun q1 => ?_)
            · refine fin τc ?_ c4 c5 h hR
              rw [hF2, ← hl']; exact c1.more (by omega)
            · refine g_aload_n (pc := 110) dX3_showRaw_110 rfl rfl ?_
              refine t_get (pc := 111) (v := .int (nI _)) 39 dX3_showRaw_111 hR rfl q1838 (Nat.le_of_ble_eq_true rfl) rfl rfl ?_
              refine g_iconst (pc := 114) (v := nI 1) dX3_showRaw_114 rfl ?_
              first | refine g_isubN (pc := 115) dX3_showRaw_115 (by omega) ?_ | refine g_isub (pc := 115) dX3_showRaw_115 ?_
              rw [h39, Nat.add_sub_cancel]
              refine g_istore_n (pc := 116) (ls' := [(0, _), (1, _), (2, _)]) dX3_showRaw_116 rfl (Nat.le_of_ble_eq_true rfl) rfl ?_
              refine g_aload_n (pc := 117) dX3_showRaw_117 rfl rfl ?_
              refine t_get (pc := 118) (v := .ref (tAd _ 44)) 44 dX3_showRaw_118 hR rfl q1843 (Nat.le_of_ble_eq_true rfl) rfl rfl ?_
              refine g_iload_n (pc := 121) dX3_showRaw_121 rfl rfl ?_
              refine t_iald (pc := 122) dX3_showRaw_122 hR rfl (by decide) rfl (by decide) (by show _ < 60; omega) ?_
              rw [c3.1]
              refine g_istore_n (pc := 123) (ls' := [(0, _), (1, _), (2, _), (3, _)]) dX3_showRaw_123 rfl (Nat.le_of_ble_eq_true rfl) rfl ?_
              refine g_aload_n (pc := 124) dX3_showRaw_124 rfl rfl ?_
              refine t_get (pc := 125) (v := .ref (tAd _ 45)) 45 dX3_showRaw_125 hR rfl q1844 (Nat.le_of_ble_eq_true rfl) rfl rfl ?_
              refine g_iload_n (pc := 128) dX3_showRaw_128 rfl rfl ?_
              refine t_iald (pc := 129) dX3_showRaw_129 hR rfl (by decide) rfl (by decide) (by show _ < 60; omega) ?_
              rw [c3.2.1]
              refine g_istore (pc := 130) (ls' := [(0, _), (1, _), (2, _), (3, _), (4, _)]) dX3_showRaw_130 (Nat.le_of_ble_eq_true rfl) rfl ?_
              refine g_iload (pc := 132) dX3_showRaw_132 rfl ?_
              refine g_aload_n (pc := 134) dX3_showRaw_134 rfl rfl ?_
              refine t_get (pc := 135) (v := .ref (tAd _ 9)) 9 dX3_showRaw_135 hR rfl q1808 (Nat.le_of_ble_eq_true rfl) rfl rfl ?_
              refine g_iload_n (pc := 138) dX3_showRaw_138 rfl rfl ?_
              refine t_ialdI (pc := 139) dX3_showRaw_139 hR rfl (by decide) rfl (by decide) (by show _ < 60; omega) ?_
              rw [h9.1]
              refine g_icmp_neN (pc := 140) (tgt := 156) dX3_showRaw_140 rfl (by omega) (by omega) (fun q2 => ?_) (fun q2 => ?_)
              · exact absurd hi q2
              · refine g_aload_n (pc := 143) dX3_showRaw_143 rfl rfl ?_
                refine g_dup (pc := 144) dX3_showRaw_144 rfl ?_
                refine t_get (pc := 145) (v := .int (nI _)) 39 dX3_showRaw_145 hR rfl q1838 (Nat.le_of_ble_eq_true rfl) rfl rfl ?_
                rw [h39]
                refine g_iconst (pc := 148) (v := nI 1) dX3_showRaw_148 rfl ?_
                first | refine g_isubN (pc := 149) dX3_showRaw_149 (by omega) ?_ | refine g_isub (pc := 149) dX3_showRaw_149 ?_
                rw [Nat.add_sub_cancel]
                refine t_put (pc := 150) 39 dX3_showRaw_150 hR rfl q1838 (Nat.le_of_ble_eq_true rfl) rfl rfl (by decide) rfl rfl (fun h hR => ?_)
                refine g_goto (pc := 153) (tgt := 93) dX3_showRaw_153 rfl ?_
                refine g_drop [0, 1] rfl ?_
                rw [hl'] at c1
                exact kk _ ⟨c1.same (rFN_n (by decide)) rfl, rFN_s, c3.2.2.same (fun _ _ => by exact ⟨rfl, rfl⟩), c4.fn (Or.inr (Or.inr rfl)), (rFN_n (by decide)).trans c5⟩ h hR
        | succ j ihj =>
          intro i l' hi hl' τc c h hR
          obtain ⟨c1, c2, c3, c4, c5⟩ := c
          have hDc : tD τc D := hD.keep c4
          have hkd := (hDc.2.2 x hx).1.kind
          have h9 := hkd.2.2.1 (by rw [hkd.2.2.2.1.mpr hls]; decide)
          rw [hps] at h9
          have h39 : τc.1 39 = S.length + 1 := c2
          rw [jnR_step (by omega)] at hl'
          generalize hp : (ps.getD i ([], 0)).2 = p at hl'
          have hq : ps.getD i ([], 0) ∈ aPs (D.2 x) := by rw [hps]; exact getD_mem (by omega)
          have hpD : p < D.1 := by rw [← hp]; exact (hD.2.2 x hx).2 _ hq
          have hpg : hgt D n p := by rw [← hp]; exact hg _ hq
          have hn1 : 1 ≤ n := by
            cases n with
            | zero => exact hpg.elim
            | succ n => omega
          have h11 := h9.2.2 i (by omega)
          rw [hp] at h11
          -- behind the comma
          have sub : ∀ (l2 : List Nat) (τ2 : tT), l2 ++ (shX D n p ++ jnR D n ps (i + 1)) = l ++ jnR D n ps 0 → shI D τ ((x, i) :: S) l2 τ2 → ∀ h, tH o τ2 hin h → hG Z X mX3_showRaw (d + 3) tS hin (tK o hin Q) 167 [(0, .ref o), (1, .int (nI r)), (2, .int (nI S.length)), (3, .int (nI x)), (4, .int (nI i))] [] h := by
            intro l2 τ2 hl2 c h hR
            obtain ⟨c1, c2, c3, c4, c5⟩ := c
            have hDc : tD τ2 D := hD.keep c4
            have hkd := (hDc.2.2 x hx).1.kind
            have h9 := hkd.2.2.1 (by rw [hkd.2.2.2.1.mpr hls]; decide)
            rw [hps] at h9
            have h11 := h9.2.2 i (by omega)
            rw [hp] at h11
            refine g_aload_n (pc := 167) dX3_showRaw_167 rfl rfl ?_
            refine t_get (pc := 168) (v := .ref (tAd _ 45)) 45 dX3_showRaw_168 hR rfl q1844 (Nat.le_of_ble_eq_true rfl) rfl rfl ?_
            refine g_iload_n (pc := 171) dX3_showRaw_171 rfl rfl ?_
            refine g_dup2 (pc := 172) dX3_showRaw_172 rfl rfl ?_
            refine t_iald (pc := 173) dX3_showRaw_173 hR rfl (by decide) rfl (by decide) (by show _ < 60; omega) ?_
            rw [c3.2.1]
            refine g_iconst (pc := 174) (v := nI 1) dX3_showRaw_174 rfl ?_
            first | refine g_iaddN (pc := 175) dX3_showRaw_175 ?_ | refine g_iadd (pc := 175) dX3_showRaw_175 ?_
            refine t_iast (pc := 176) dX3_showRaw_176 hR rfl (by decide) rfl (by decide) (by show _ < 60; omega) (fun h hR => ?_)
            refine g_aload_n (pc := 177) dX3_showRaw_177 rfl rfl ?_
            refine g_aload_n (pc := 178) dX3_showRaw_178 rfl rfl ?_
            refine t_get (pc := 179) (v := .ref (tAd _ 11)) 11 dX3_showRaw_179 hR rfl q1810 (Nat.le_of_ble_eq_true rfl) rfl rfl ?_
            refine g_iload_n (pc := 182) dX3_showRaw_182 rfl rfl ?_
            refine g_bipush (pc := 183) (v := nI 10) dX3_showRaw_183 rfl ?_
            first | refine g_imulN (pc := 185) dX3_showRaw_185 ?_ | refine g_imul (pc := 185) dX3_showRaw_185 ?_
            refine g_iload (pc := 186) dX3_showRaw_186 rfl ?_
            first | refine g_iaddN (pc := 188) dX3_showRaw_188 ?_ | refine g_iadd (pc := 188) dX3_showRaw_188 ?_
            rw [Nat.mul_comm x 10]
            refine t_iald (pc := 189) dX3_showRaw_189 hR rfl (by decide) rfl (by decide) (by show _ < 600; omega) ?_
            rw [show (tAN τ2 45 S.length (i + 1)).2.2.1 11 (10 * x + i) = p from h11]
            have k3 : vK (fun _ => False) τ (tAN τ2 45 S.length (i + 1)) := c4.an (vKp_x (Or.inr (Or.inr rfl)))
            have c1' : rawL (tAN τ2 45 S.length (i + 1)) l2 := c1.same rfl rfl
            have c3' : stR (tAN τ2 45 S.length (i + 1)) ((x, i + 1) :: S) := ⟨c3.1, rAN_s, stR.same (a := τ2) (fun i' hi' => ⟨by rfl, by exact rAN_i (Nat.ne_of_lt hi')⟩) c3.2.2⟩
            have h39' : (tAN τ2 45 S.length (i + 1)).1 39 = S.length + 1 := c2
            generalize hτ3 : tAN τ2 45 S.length (i + 1) = τ3 at hR k3 c1' c3' h39'
            have c5' : τ3.1 38 = τ.1 38 := by rw [← hτ3]; exact c5
            refine t_inv (pc := 190) dX3_showRaw_190 hR (tc_rawData _ p D l2 (hD.keep k3) hpD c1' (by omega)) meX3_rawData q2199 q2201 qs61 rfl rfl (Nat.le_of_ble_eq_true rfl) (fun r τ4 h hp4 hR => ?_)
            obtain ⟨rfl, hp4⟩ := hp4
            unfold rdP at hp4
            refine g_goto (pc := 193) (tgt := 93) dX3_showRaw_193 rfl ?_
            refine g_drop [0, 1] rfl ?_
            by_cases hpl : isLs (D.2 p) = true
            · rw [if_pos hpl] at hp4
              rw [h39'] at hp4
              refine ihn p hpg hpD hpl l2 ((x, i + 1) :: S) (jnR D n ps (i + 1) ++ R) (by rw [hF2, ← hl2]; simp) (by simp; omega) (fun τc cc h hR => ?_) τ4 ?_ h hR
              · exact ihj (i + 1) (l2 ++ shX D n p) (by omega) (by rw [← hl2, List.append_assoc]) τc cc h hR
              · rw [hp4]
                refine ⟨c1'.same (rFN_n (by decide)) rfl, rFN_s, ⟨?_, ?_, ?_⟩, ?_, (rFN_n (by decide)).trans c5'⟩
                · show (tAN (tAN τ3 44 (S.length + 1) p) 45 (S.length + 1) 0).2.2.1 44 (S.length + 1) = p
                  rw [rAN_k (by decide), rAN_s]
                · show (tAN (tAN τ3 44 (S.length + 1) p) 45 (S.length + 1) 0).2.2.1 45 (S.length + 1) = 0
                  rw [rAN_s]
                · refine c3'.same (fun i' hi' => ⟨?_, ?_⟩)
                  · show (tAN (tAN τ3 44 (S.length + 1) p) 45 (S.length + 1) 0).2.2.1 44 i' = _
                    have : i' < S.length + 1 := hi'
                    rw [rAN_k (by decide), rAN_i (by omega)]
                  · show (tAN (tAN τ3 44 (S.length + 1) p) 45 (S.length + 1) 0).2.2.1 45 i' = _
                    have : i' < S.length + 1 := hi'
                    rw [rAN_i (by omega), rAN_k (by decide)]
                · exact ((k3.an (vKp_x (Or.inr (Or.inl rfl)))).an (vKp_x (Or.inr (Or.inr rfl)))).fn (Or.inr (Or.inr rfl))
            · rw [if_neg hpl] at hp4
              have e1 : shX D 1 p = shX D n p := by
                cases n with
                | zero => exact hpg.elim
                | succ n => exact (shX_nl hpl).symm
              rw [e1] at hp4
              exact ihj (i + 1) (l2 ++ shX D n p) (by omega) (by rw [← hl2, List.append_assoc]) τ4 (shI.raw (D := D) ⟨c1', h39', c3', k3, c5'⟩ hp4.1 hp4.2) h hR
          refine g_aload_n (pc := 93) dX3_showRaw_93 rfl rfl ?_
          refine t_get (pc := 94) (v := .int (nI _)) 39 dX3_showRaw_94 hR rfl q1838 (Nat.le_of_ble_eq_true rfl) rfl rfl ?_
          rw [h39]
          refine g_if_leN (pc := 97) (tgt := 196) dX3_showRaw_97 rfl (by omega) (fun q => ?_) (fun q => ?_)
          · exact absurd q (by omega)
          · refine g_aload_n (pc := 100) dX3_showRaw_100 rfl rfl ?_
            refine t_get (pc := 101) (v := .int (nI _)) 33 dX3_showRaw_101 hR rfl q1832 (Nat.le_of_ble_eq_true rfl) rfl rfl ?_
            refine g_sipush (pc := 104) (v := nI 401) dX3_showRaw_104 rfl ?_
            rw [c1.1]
            refine g_icmp_geN (pc := 107) (tgt := 196) dX3_showRaw_107 rfl (by omega) (by omega) (fun q1 => ?_) (fun q1 => ?_)
            · refine fin τc ?_ c4 c5 h hR
              rw [hF2, ← hl', List.append_assoc]; exact c1.more (by omega)
            · refine g_aload_n (pc := 110) dX3_showRaw_110 rfl rfl ?_
              refine t_get (pc := 111) (v := .int (nI _)) 39 dX3_showRaw_111 hR rfl q1838 (Nat.le_of_ble_eq_true rfl) rfl rfl ?_
              refine g_iconst (pc := 114) (v := nI 1) dX3_showRaw_114 rfl ?_
              first | refine g_isubN (pc := 115) dX3_showRaw_115 (by omega) ?_ | refine g_isub (pc := 115) dX3_showRaw_115 ?_
              rw [h39, Nat.add_sub_cancel]
              refine g_istore_n (pc := 116) (ls' := [(0, _), (1, _), (2, _)]) dX3_showRaw_116 rfl (Nat.le_of_ble_eq_true rfl) rfl ?_
              refine g_aload_n (pc := 117) dX3_showRaw_117 rfl rfl ?_
              refine t_get (pc := 118) (v := .ref (tAd _ 44)) 44 dX3_showRaw_118 hR rfl q1843 (Nat.le_of_ble_eq_true rfl) rfl rfl ?_
              refine g_iload_n (pc := 121) dX3_showRaw_121 rfl rfl ?_
              refine t_iald (pc := 122) dX3_showRaw_122 hR rfl (by decide) rfl (by decide) (by show _ < 60; omega) ?_
              rw [c3.1]
              refine g_istore_n (pc := 123) (ls' := [(0, _), (1, _), (2, _), (3, _)]) dX3_showRaw_123 rfl (Nat.le_of_ble_eq_true rfl) rfl ?_
              refine g_aload_n (pc := 124) dX3_showRaw_124 rfl rfl ?_
              refine t_get (pc := 125) (v := .ref (tAd _ 45)) 45 dX3_showRaw_125 hR rfl q1844 (Nat.le_of_ble_eq_true rfl) rfl rfl ?_
              refine g_iload_n (pc := 128) dX3_showRaw_128 rfl rfl ?_
              refine t_iald (pc := 129) dX3_showRaw_129 hR rfl (by decide) rfl (by decide) (by show _ < 60; omega) ?_
              rw [c3.2.1]
              refine g_istore (pc := 130) (ls' := [(0, _), (1, _), (2, _), (3, _), (4, _)]) dX3_showRaw_130 (Nat.le_of_ble_eq_true rfl) rfl ?_
              refine g_iload (pc := 132) dX3_showRaw_132 rfl ?_
              refine g_aload_n (pc := 134) dX3_showRaw_134 rfl rfl ?_
              refine t_get (pc := 135) (v := .ref (tAd _ 9)) 9 dX3_showRaw_135 hR rfl q1808 (Nat.le_of_ble_eq_true rfl) rfl rfl ?_
              refine g_iload_n (pc := 138) dX3_showRaw_138 rfl rfl ?_
              refine t_ialdI (pc := 139) dX3_showRaw_139 hR rfl (by decide) rfl (by decide) (by show _ < 60; omega) ?_
              rw [h9.1]
              refine g_icmp_neN (pc := 140) (tgt := 156) dX3_showRaw_140 rfl (by omega) (by omega) (fun q2 => ?_) (fun q2 => ?_)
              · refine g_iload (pc := 156) dX3_showRaw_156 rfl ?_
                refine g_if_leN (pc := 158) (tgt := 167) dX3_showRaw_158 rfl (by omega) (fun q3 => ?_) (fun q3 => ?_)
                · rw [if_pos q3, List.nil_append] at hl'
                  exact sub l' τc hl' ⟨c1, c2, c3, c4, c5⟩ h hR
                · refine g_aload_n (pc := 161) dX3_showRaw_161 rfl rfl ?_
                  refine g_bipush (pc := 162) (v := nI 44) dX3_showRaw_162 rfl ?_
                  refine t_inv (pc := 164) dX3_showRaw_164 hR (tc_rawPut _ 44 l' (by decide) c1) meX3_rawPut q2192 q2194 qs60 rfl rfl (Nat.le_of_ble_eq_true rfl) (fun u τ1 h hp1 hR => ?_)
                  obtain ⟨rfl, g1, g2⟩ := hp1
                  rw [if_neg (by omega)] at hl'
                  exact sub (l' ++ [44]) τ1 (by rw [List.append_assoc, ← hl']; simp) (shI.raw (D := D) ⟨c1, c2, c3, c4, c5⟩ g2 g1) h hR
              · exact absurd q2 (by omega)
      exact elems ps.length 0 l (by omega) rfl
  have top : ∀ (τc : tT), shI D τ [] F τc → ∀ h, tH o τc hin h → hG Z X mX3_showRaw (d + 3) tS hin (tK o hin Q) 93 [(0, .ref o), (1, .int (nI r))] [] h := by
    intro τc c h hR
    obtain ⟨c1, c2, c3, c4, c5⟩ := c
    refine g_aload_n (pc := 93) dX3_showRaw_93 rfl rfl ?_
    refine t_get (pc := 94) (v := .int (nI _)) 39 dX3_showRaw_94 hR rfl q1838 (Nat.le_of_ble_eq_true rfl) rfl rfl ?_
    rw [show τc.1 39 = 0 from c2]
    refine g_if_leN (pc := 97) (tgt := 196) dX3_showRaw_97 rfl (by omega) (fun q => ?_) (fun q => ?_)
    · exact fin τc c1 c4 c5 h hR
    · exact absurd q (by decide)
  refine g_aload_n (pc := 0) dX3_showRaw_0 rfl rfl ?_
  refine g_iconst (pc := 1) (v := nI 0) dX3_showRaw_1 rfl ?_
  refine t_put (pc := 2) 33 dX3_showRaw_2 hR rfl q1832 (Nat.le_of_ble_eq_true rfl) rfl rfl (by decide) rfl rfl (fun h hR => ?_)
  refine g_aload_n (pc := 5) dX3_showRaw_5 rfl rfl ?_
  refine g_iconst (pc := 6) (v := nI 0) dX3_showRaw_6 rfl ?_
  refine t_put (pc := 7) 39 dX3_showRaw_7 hR rfl q1838 (Nat.le_of_ble_eq_true rfl) rfl rfl (by decide) rfl rfl (fun h hR => ?_)
  have i0 : shI D τ [] [] (tFN (tFN τ 33 0) 39 0) := ⟨⟨(rFN_n (by decide)).trans rFN_s, fun i h1 => absurd h1 (Nat.not_lt_zero _)⟩, rFN_s, trivial, ((vK.refl (fun _ => False) τ).fn (Or.inl rfl)).fn (Or.inr (Or.inr rfl)), (rFN_n (by decide)).trans (rFN_n (by decide))⟩
  have v0 : vR D (tFN (tFN τ 33 0) 39 0) r v := vR.keep i0.2.2.2.1 (fun z => z) hv
  generalize tFN (tFN τ 33 0) 39 0 = τ0 at hR i0 v0
  -- behind a number or none
  have small : ∀ (w : Int32) (τc : tT), τc.2.2.2.1 26 r = w → (w = -1 ∨ w = nI 0) → shI D τ [] F τc → ∀ h, tH o τc hin h → hG Z X mX3_showRaw (d + 3) tS hin (tK o hin Q) 29 [(0, .ref o), (1, .int (nI r))] [] h := by
    intro w τc hw hw2 c h hR
    refine g_aload_n (pc := 29) dX3_showRaw_29 rfl rfl ?_
    refine t_get (pc := 30) (v := .ref (tAd _ 26)) 26 dX3_showRaw_30 hR rfl q1825 (Nat.le_of_ble_eq_true rfl) rfl rfl ?_
    refine g_iload_n (pc := 33) dX3_showRaw_33 rfl rfl ?_
    refine t_ialdI (pc := 34) dX3_showRaw_34 hR rfl (by decide) rfl (by decide) (by show _ < 18; omega) ?_
    rw [hw]
    refine g_iconst (pc := 35) (v := nI 1) dX3_showRaw_35 rfl ?_
    refine g_icmp_ne (pc := 36) (tgt := 73) dX3_showRaw_36 rfl (fun _ => ?_) (fun z => absurd z (by rcases hw2 with q | q <;> rw [q] <;> decide))
    refine g_aload_n (pc := 73) dX3_showRaw_73 rfl rfl ?_
    refine t_get (pc := 74) (v := .ref (tAd _ 26)) 26 dX3_showRaw_74 hR rfl q1825 (Nat.le_of_ble_eq_true rfl) rfl rfl ?_
    refine g_iload_n (pc := 77) dX3_showRaw_77 rfl rfl ?_
    refine t_ialdI (pc := 78) dX3_showRaw_78 hR rfl (by decide) rfl (by decide) (by show _ < 18; omega) ?_
    rw [hw]
    refine g_iconst (pc := 79) (v := nI 1) dX3_showRaw_79 rfl ?_
    refine g_icmp_le (pc := 80) (tgt := 93) dX3_showRaw_80 rfl (fun _ => ?_) (fun z => absurd (by rcases hw2 with q | q <;> rw [q] <;> decide) z)
    exact top τc c h hR
  rcases v with _ | v | l | x
  · have v0 : τ0.2.2.2.1 26 r = -1 := v0
    refine g_aload_n (pc := 10) dX3_showRaw_10 rfl rfl ?_
    refine t_get (pc := 11) (v := .ref (tAd _ 26)) 26 dX3_showRaw_11 hR rfl q1825 (Nat.le_of_ble_eq_true rfl) rfl rfl ?_
    refine g_iload_n (pc := 14) dX3_showRaw_14 rfl rfl ?_
    refine t_ialdI (pc := 15) dX3_showRaw_15 hR rfl (by decide) rfl (by decide) (by show _ < 18; omega) ?_
    rw [v0]
    refine g_if_ne (pc := 16) (tgt := 29) dX3_showRaw_16 rfl (fun _ => ?_) (fun z => absurd z (by decide))
    exact small _ τ0 v0 (Or.inl rfl) (by rw [← hF]; exact i0) h hR
  · refine g_aload_n (pc := 10) dX3_showRaw_10 rfl rfl ?_
    refine t_get (pc := 11) (v := .ref (tAd _ 26)) 26 dX3_showRaw_11 hR rfl q1825 (Nat.le_of_ble_eq_true rfl) rfl rfl ?_
    refine g_iload_n (pc := 14) dX3_showRaw_14 rfl rfl ?_
    refine t_ialdI (pc := 15) dX3_showRaw_15 hR rfl (by decide) rfl (by decide) (by show _ < 18; omega) ?_
    rw [v0.1]
    refine g_if_ne (pc := 16) (tgt := 29) dX3_showRaw_16 rfl (fun z => absurd rfl z) (fun _ => ?_)
    refine g_aload_n (pc := 19) dX3_showRaw_19 rfl rfl ?_
    refine g_aload_n (pc := 20) dX3_showRaw_20 rfl rfl ?_
    refine t_get (pc := 21) (v := .ref (tAd _ 27)) 27 dX3_showRaw_21 hR rfl q1826 (Nat.le_of_ble_eq_true rfl) rfl rfl ?_
    refine g_iload_n (pc := 24) dX3_showRaw_24 rfl rfl ?_
    refine t_ialdI (pc := 25) dX3_showRaw_25 hR rfl (by decide) rfl (by decide) (by show _ < 18; omega) ?_
    rw [v0.2]
    refine t_inv (pc := 26) dX3_showRaw_26 hR (tc_rawNumber _ v [] i0.1) meX3_rawNumber q2188 q2190 qs59 rfl rfl (Nat.le_of_ble_eq_true rfl) (fun u τ1 h hp hR => ?_)
    obtain ⟨rfl, c1, c2⟩ := hp
    exact small _ τ1 (by rw [c2.2.2.1]; exact v0.1) (Or.inr rfl) (by rw [← hF]; exact shI.raw i0 c2 c1) h hR
  · obtain ⟨v1, v2, v3, v4, v5⟩ := v0
    refine g_aload_n (pc := 10) dX3_showRaw_10 rfl rfl ?_
    refine t_get (pc := 11) (v := .ref (tAd _ 26)) 26 dX3_showRaw_11 hR rfl q1825 (Nat.le_of_ble_eq_true rfl) rfl rfl ?_
    refine g_iload_n (pc := 14) dX3_showRaw_14 rfl rfl ?_
    refine t_ialdI (pc := 15) dX3_showRaw_15 hR rfl (by decide) rfl (by decide) (by show _ < 18; omega) ?_
    rw [v1]
    refine g_if_ne (pc := 16) (tgt := 29) dX3_showRaw_16 rfl (fun _ => ?_) (fun z => absurd z (by decide))
    refine g_aload_n (pc := 29) dX3_showRaw_29 rfl rfl ?_
    refine t_get (pc := 30) (v := .ref (tAd _ 26)) 26 dX3_showRaw_30 hR rfl q1825 (Nat.le_of_ble_eq_true rfl) rfl rfl ?_
    refine g_iload_n (pc := 33) dX3_showRaw_33 rfl rfl ?_
    refine t_ialdI (pc := 34) dX3_showRaw_34 hR rfl (by decide) rfl (by decide) (by show _ < 18; omega) ?_
    rw [v1]
    refine g_iconst (pc := 35) (v := nI 1) dX3_showRaw_35 rfl ?_
    refine g_icmp_neN (pc := 36) (tgt := 73) dX3_showRaw_36 rfl (by omega) (by omega) (fun q => ?_) (fun q => ?_)
    · exact absurd rfl q
    · refine g_iconst (pc := 39) (v := nI 0) dX3_showRaw_39 rfl ?_
      refine g_istore_n (pc := 40) (ls' := [(0, _), (1, _), (2, _)]) dX3_showRaw_40 rfl (Nat.le_of_ble_eq_true rfl) rfl ?_
      have hFl : F = l := hF.symm
      have loop : ∀ (j k : Nat) (τc : tT), k + j = l.length → shI D τ [] (l.take k) τc → rK τ0 τc → ∀ h, tH o τc hin h → hG Z X mX3_showRaw (d + 3) tS hin (tK o hin Q) 41 [(0, .ref o), (1, .int (nI r)), (2, .int (nI k))] [] h := by
        intro j
        induction j with
        | zero =>
          intro k τc hk c cr h hR
          have g28 : τc.2.2.1 28 r = l.length := by rw [cr.2.2.2 28 (by decide)]; exact v2
          have g26 : τc.2.2.2.1 26 r = nI 1 := by rw [cr.2.2.1]; exact v1
          refine g_iload_n (pc := 41) dX3_showRaw_41 rfl rfl ?_
          refine g_aload_n (pc := 42) dX3_showRaw_42 rfl rfl ?_
          refine t_get (pc := 43) (v := .ref (tAd _ 28)) 28 dX3_showRaw_43 hR rfl q1827 (Nat.le_of_ble_eq_true rfl) rfl rfl ?_
          refine g_iload_n (pc := 46) dX3_showRaw_46 rfl rfl ?_
          refine t_iald (pc := 47) dX3_showRaw_47 hR rfl (by decide) rfl (by decide) (by show _ < 18; omega) ?_
          rw [g28]
          refine g_icmp_geN (pc := 48) (tgt := 73) dX3_showRaw_48 rfl (by omega) (by omega) (fun q1 => ?_) (fun q1 => ?_)
          · refine g_aload_n (pc := 73) dX3_showRaw_73 rfl rfl ?_
            refine t_get (pc := 74) (v := .ref (tAd _ 26)) 26 dX3_showRaw_74 hR rfl q1825 (Nat.le_of_ble_eq_true rfl) rfl rfl ?_
            refine g_iload_n (pc := 77) dX3_showRaw_77 rfl rfl ?_
            refine t_ialdI (pc := 78) dX3_showRaw_78 hR rfl (by decide) rfl (by decide) (by show _ < 18; omega) ?_
            rw [g26]
            refine g_iconst (pc := 79) (v := nI 1) dX3_showRaw_79 rfl ?_
            refine g_icmp_le (pc := 80) (tgt := 93) dX3_showRaw_80 rfl (fun _ => ?_) (fun z => absurd (by decide) z)
            refine g_drop [0, 1] rfl ?_
            rw [List.take_of_length_le (by omega), ← hFl] at c
            exact top τc c h hR
          · exact absurd q1 (by omega)
        | succ j ih =>
          intro k τc hk c cr h hR
          have g28 : τc.2.2.1 28 r = l.length := by rw [cr.2.2.2 28 (by decide)]; exact v2
          have g29 : τc.2.2.1 29 (400 * r + k) = l.getD k 0 := by rw [cr.2.2.2 29 (by decide)]; exact v5 k (by omega)
          have hc128 : l.getD k 0 < 128 := v4 _ (getD_mem (by omega))
          refine g_iload_n (pc := 41) dX3_showRaw_41 rfl rfl ?_
          refine g_aload_n (pc := 42) dX3_showRaw_42 rfl rfl ?_
          refine t_get (pc := 43) (v := .ref (tAd _ 28)) 28 dX3_showRaw_43 hR rfl q1827 (Nat.le_of_ble_eq_true rfl) rfl rfl ?_
          refine g_iload_n (pc := 46) dX3_showRaw_46 rfl rfl ?_
          refine t_iald (pc := 47) dX3_showRaw_47 hR rfl (by decide) rfl (by decide) (by show _ < 18; omega) ?_
          rw [g28]
          refine g_icmp_geN (pc := 48) (tgt := 73) dX3_showRaw_48 rfl (by omega) (by omega) (fun q1 => ?_) (fun q1 => ?_)
          · exact absurd q1 (by omega)
          · refine g_aload_n (pc := 51) dX3_showRaw_51 rfl rfl ?_
            refine g_aload_n (pc := 52) dX3_showRaw_52 rfl rfl ?_
            refine t_get (pc := 53) (v := .ref (tAd _ 29)) 29 dX3_showRaw_53 hR rfl q1828 (Nat.le_of_ble_eq_true rfl) rfl rfl ?_
            refine g_iload_n (pc := 56) dX3_showRaw_56 rfl rfl ?_
            refine g_sipush (pc := 57) (v := nI 400) dX3_showRaw_57 rfl ?_
            first | refine g_imulN (pc := 60) dX3_showRaw_60 ?_ | refine g_imul (pc := 60) dX3_showRaw_60 ?_
            refine g_iload_n (pc := 61) dX3_showRaw_61 rfl rfl ?_
            first | refine g_iaddN (pc := 62) dX3_showRaw_62 ?_ | refine g_iadd (pc := 62) dX3_showRaw_62 ?_
            rw [Nat.mul_comm r 400]
            refine t_cald (pc := 63) dX3_showRaw_63 hR rfl (by decide) rfl (by decide) (by show _ < 7200; omega) ?_
            rw [g29]
            refine t_inv (pc := 64) dX3_showRaw_64 hR (tc_rawPut _ (l.getD k 0) _ (by omega) c.1) meX3_rawPut q2192 q2194 qs60 rfl rfl (Nat.le_of_ble_eq_true rfl) (fun u τ1 h hp hR => ?_)
            obtain ⟨rfl, c3, c4⟩ := hp
            refine g_iincN (pc := 67) (k0 := 1) (ls' := [(0, _), (1, _), (2, _)]) dX3_showRaw_67 rfl (Nat.le_of_ble_eq_true rfl) rfl ?_
            refine g_goto (pc := 70) (tgt := 41) dX3_showRaw_70 rfl ?_
            refine ih (k + 1) τ1 (by omega) ?_ (cr.trans c4) h hR
            have e : l.take (k + 1) = l.take k ++ [l.getD k 0] := by
              rw [List.getD_eq_getElem?_getD, List.getElem?_eq_getElem (by omega)]
              exact (List.take_append_getElem (by omega)).symm
            rw [e]
            exact shI.raw c c4 c3
      exact loop l.length 0 τ0 (by omega) (by simpa using i0) (rK.refl τ0) h hR
  · obtain ⟨x1, x2, m, ps, x3, x4⟩ := v0
    have hw2 : nI 2 ≤ nI (if m = true then 3 else 2) := by cases m <;> decide
    refine g_aload_n (pc := 10) dX3_showRaw_10 rfl rfl ?_
    refine t_get (pc := 11) (v := .ref (tAd _ 26)) 26 dX3_showRaw_11 hR rfl q1825 (Nat.le_of_ble_eq_true rfl) rfl rfl ?_
    refine g_iload_n (pc := 14) dX3_showRaw_14 rfl rfl ?_
    refine t_ialdI (pc := 15) dX3_showRaw_15 hR rfl (by decide) rfl (by decide) (by show _ < 18; omega) ?_
    rw [x4]
    refine g_if_ne (pc := 16) (tgt := 29) dX3_showRaw_16 rfl (fun _ => ?_) (fun z => absurd z (by cases m <;> decide))
    refine g_aload_n (pc := 29) dX3_showRaw_29 rfl rfl ?_
    refine t_get (pc := 30) (v := .ref (tAd _ 26)) 26 dX3_showRaw_30 hR rfl q1825 (Nat.le_of_ble_eq_true rfl) rfl rfl ?_
    refine g_iload_n (pc := 33) dX3_showRaw_33 rfl rfl ?_
    refine t_ialdI (pc := 34) dX3_showRaw_34 hR rfl (by decide) rfl (by decide) (by show _ < 18; omega) ?_
    rw [x4]
    refine g_iconst (pc := 35) (v := nI 1) dX3_showRaw_35 rfl ?_
    refine g_icmp_ne (pc := 36) (tgt := 73) dX3_showRaw_36 rfl (fun _ => ?_) (fun z => absurd z (by cases m <;> decide))
    refine g_aload_n (pc := 73) dX3_showRaw_73 rfl rfl ?_
    refine t_get (pc := 74) (v := .ref (tAd _ 26)) 26 dX3_showRaw_74 hR rfl q1825 (Nat.le_of_ble_eq_true rfl) rfl rfl ?_
    refine g_iload_n (pc := 77) dX3_showRaw_77 rfl rfl ?_
    refine t_ialdI (pc := 78) dX3_showRaw_78 hR rfl (by decide) rfl (by decide) (by show _ < 18; omega) ?_
    rw [x4]
    refine g_iconst (pc := 79) (v := nI 1) dX3_showRaw_79 rfl ?_
    refine g_icmp_le (pc := 80) (tgt := 93) dX3_showRaw_80 rfl (fun z => absurd z (by cases m <;> decide)) (fun _ => ?_)
    refine g_aload_n (pc := 83) dX3_showRaw_83 rfl rfl ?_
    refine g_aload_n (pc := 84) dX3_showRaw_84 rfl rfl ?_
    refine t_get (pc := 85) (v := .ref (tAd _ 27)) 27 dX3_showRaw_85 hR rfl q1826 (Nat.le_of_ble_eq_true rfl) rfl rfl ?_
    refine g_iload_n (pc := 88) dX3_showRaw_88 rfl rfl ?_
    refine t_ialdI (pc := 89) dX3_showRaw_89 hR rfl (by decide) rfl (by decide) (by show _ < 18; omega) ?_
    rw [x2]
    have h39 : τ0.1 39 = 0 := i0.2.1
    have hgx := ha.hgt x1
    have hFx : F = shX D D.1 x := hF.symm
    refine t_inv (pc := 90) dX3_showRaw_90 hR (tc_rawData _ x D [] (hD.keep i0.2.2.2.1) x1 i0.1 (by omega)) meX3_rawData q2199 q2201 qs61 rfl rfl (Nat.le_of_ble_eq_true rfl) (fun u τ1 h hp hR => ?_)
    obtain ⟨rfl, hp⟩ := hp
    unfold rdP at hp
    by_cases hls : isLs (D.2 x) = true
    · rw [if_pos hls, h39] at hp
      refine main D.1 x hgx x1 hls [] [] [] (by rw [hFx]; simp) (by simpa using hD2) (fun τc cc h hR => ?_) τ1 ?_ h hR
      · rw [List.nil_append, ← hFx] at cc
        exact top τc cc h hR
      · rw [hp]
        refine ⟨i0.1.same (rFN_n (by decide)) rfl, rFN_s, ⟨?_, ?_, trivial⟩, ?_, (rFN_n (by decide)).trans i0.2.2.2.2⟩
        · show (tAN (tAN τ0 44 0 x) 45 0 0).2.2.1 44 0 = x
          rw [rAN_k (by decide), rAN_s]
        · show (tAN (tAN τ0 44 0 x) 45 0 0).2.2.1 45 0 = 0
          rw [rAN_s]
        · exact ((i0.2.2.2.1.an (vKp_x (Or.inr (Or.inl rfl)))).an (vKp_x (Or.inr (Or.inr rfl)))).fn (Or.inr (Or.inr rfl))
    · rw [if_neg hls] at hp
      have e1 : F = shX D 1 x := by
        rw [hFx]
        cases hN : D.1 with
        | zero => omega
        | succ n => exact shX_nl hls
      rw [List.nil_append, ← e1] at hp
      exact top τ1 (shI.raw i0 hp.1 hp.2) h hR
theorem tc_lengthOf (d r : Nat) (D : aD) (v : aV) (hr : r < 18) (hD : tD τ D) (ha : acy D) (hv : vR D τ r v) : tC Z mX3_lengthOf (d + 4) o [.ref o, .int (nI r)] τ (fun u τ' => u = some (.int (nI (lnV D v))) ∧ vK (fun _ => False) τ τ' ∧ τ'.1 38 = τ.1 38) := by
  refine tC.of rfl rfl (Nat.le_of_ble_eq_true rfl) rfl (fun X hin h hR => ?_)
  have hD2 := hD.2.1
  refine g_aload_n (pc := 0) dX3_lengthOf_0 rfl rfl ?_
  refine t_get (pc := 1) (v := .ref (tAd _ 26)) 26 dX3_lengthOf_1 hR rfl q1825 (Nat.le_of_ble_eq_true rfl) rfl rfl ?_
  refine g_iload_n (pc := 4) dX3_lengthOf_4 rfl rfl ?_
  refine t_ialdI (pc := 5) dX3_lengthOf_5 hR rfl (by decide) rfl (by decide) (by show _ < 18; omega) ?_
  have hv0 := hv
  rcases v with _ | v | l | x
  · have hv : τ.2.2.2.1 26 r = -1 := hv
    rw [hv]
    refine g_if_ge (pc := 6) (tgt := 11) dX3_lengthOf_6 rfl (fun z => absurd z (by decide)) (fun _ => ?_)
    refine g_iconst (pc := 9) (v := nI 0) dX3_lengthOf_9 rfl ?_
    exact t_iret (pc := 10) dX3_lengthOf_10 hR rfl (⟨rfl, vK.refl _ τ, rfl⟩)
  · rw [hv.1]
    refine g_if_ge (pc := 6) (tgt := 11) dX3_lengthOf_6 rfl (fun _ => ?_) (fun z => absurd (by decide) z)
    refine g_aload_n (pc := 11) dX3_lengthOf_11 rfl rfl ?_
    refine t_get (pc := 12) (v := .ref (tAd _ 26)) 26 dX3_lengthOf_12 hR rfl q1825 (Nat.le_of_ble_eq_true rfl) rfl rfl ?_
    refine g_iload_n (pc := 15) dX3_lengthOf_15 rfl rfl ?_
    refine t_ialdI (pc := 16) dX3_lengthOf_16 hR rfl (by decide) rfl (by decide) (by show _ < 18; omega) ?_
    rw [hv.1]
    refine g_iconst (pc := 17) (v := nI 1) dX3_lengthOf_17 rfl ?_
    refine g_icmp_neN (pc := 18) (tgt := 28) dX3_lengthOf_18 rfl (by omega) (by omega) (fun q => ?_) (fun q => ?_)
    · refine g_aload_n (pc := 28) dX3_lengthOf_28 rfl rfl ?_
      refine t_get (pc := 29) (v := .ref (tAd _ 26)) 26 dX3_lengthOf_29 hR rfl q1825 (Nat.le_of_ble_eq_true rfl) rfl rfl ?_
      refine g_iload_n (pc := 32) dX3_lengthOf_32 rfl rfl ?_
      refine t_ialdI (pc := 33) dX3_lengthOf_33 hR rfl (by decide) rfl (by decide) (by show _ < 18; omega) ?_
      rw [hv.1]
      refine g_iconst (pc := 34) (v := nI 1) dX3_lengthOf_34 rfl ?_
      refine g_icmp_leN (pc := 35) (tgt := 50) dX3_lengthOf_35 rfl (by omega) (by omega) (fun q => ?_) (fun q => ?_)
      · refine g_aload_n (pc := 50) dX3_lengthOf_50 rfl rfl ?_
        refine g_iload_n (pc := 51) dX3_lengthOf_51 rfl rfl ?_
        refine t_inv (pc := 52) dX3_lengthOf_52 hR (tc_showRaw _ r D _ hr hD ha hv0) meX3_showRaw q2184 q2186 qs58 rfl rfl (Nat.le_of_ble_eq_true rfl) (fun u τ1 h hp hR => ?_)
        obtain ⟨rfl, c1, c2, c3⟩ := hp
        have hl : (shw D (some (.inl v))).length ≤ 11 := decI_len v
        refine g_aload_n (pc := 55) dX3_lengthOf_55 rfl rfl ?_
        refine t_get (pc := 56) (v := .int (nI _)) 33 dX3_lengthOf_56 hR rfl q1832 (Nat.le_of_ble_eq_true rfl) rfl rfl ?_
        rw [c1.1, show min (shw D (some (.inl v))).length 401 = lnV D (some (.inl v)) by show min _ 401 = (decI v).length; have : (shw D (some (.inl v))).length = (decI v).length := rfl; omega]
        exact t_iret (pc := 59) dX3_lengthOf_59 hR rfl (⟨rfl, c2, by rw [c3, if_neg (by omega)]⟩)
      · exact absurd q (by decide)
    · exact absurd q (by decide)
  · rw [hv.1]
    refine g_if_ge (pc := 6) (tgt := 11) dX3_lengthOf_6 rfl (fun _ => ?_) (fun z => absurd (by decide) z)
    refine g_aload_n (pc := 11) dX3_lengthOf_11 rfl rfl ?_
    refine t_get (pc := 12) (v := .ref (tAd _ 26)) 26 dX3_lengthOf_12 hR rfl q1825 (Nat.le_of_ble_eq_true rfl) rfl rfl ?_
    refine g_iload_n (pc := 15) dX3_lengthOf_15 rfl rfl ?_
    refine t_ialdI (pc := 16) dX3_lengthOf_16 hR rfl (by decide) rfl (by decide) (by show _ < 18; omega) ?_
    rw [hv.1]
    refine g_iconst (pc := 17) (v := nI 1) dX3_lengthOf_17 rfl ?_
    refine g_icmp_neN (pc := 18) (tgt := 28) dX3_lengthOf_18 rfl (by omega) (by omega) (fun q => ?_) (fun q => ?_)
    · exact absurd rfl q
    · refine g_aload_n (pc := 21) dX3_lengthOf_21 rfl rfl ?_
      refine t_get (pc := 22) (v := .ref (tAd _ 28)) 28 dX3_lengthOf_22 hR rfl q1827 (Nat.le_of_ble_eq_true rfl) rfl rfl ?_
      refine g_iload_n (pc := 25) dX3_lengthOf_25 rfl rfl ?_
      refine t_iald (pc := 26) dX3_lengthOf_26 hR rfl (by decide) rfl (by decide) (by show _ < 18; omega) ?_
      rw [hv.2.1]
      exact t_iret (pc := 27) dX3_lengthOf_27 hR rfl (⟨rfl, vK.refl _ τ, rfl⟩)
  · obtain ⟨x1, x2, m, ps, x3, x4⟩ := hv
    have hit := (hD.2.2 x x1).1
    have hkd := hit.kind
    have h9 := hkd.2.2.1 (by rw [x3] at hit; rw [hit.1]; cases m <;> decide)
    rw [x4]
    refine g_if_ge (pc := 6) (tgt := 11) dX3_lengthOf_6 rfl (fun _ => ?_) (fun z => absurd (by cases m <;> decide) z)
    refine g_aload_n (pc := 11) dX3_lengthOf_11 rfl rfl ?_
    refine t_get (pc := 12) (v := .ref (tAd _ 26)) 26 dX3_lengthOf_12 hR rfl q1825 (Nat.le_of_ble_eq_true rfl) rfl rfl ?_
    refine g_iload_n (pc := 15) dX3_lengthOf_15 rfl rfl ?_
    refine t_ialdI (pc := 16) dX3_lengthOf_16 hR rfl (by decide) rfl (by decide) (by show _ < 18; omega) ?_
    rw [x4]
    refine g_iconst (pc := 17) (v := nI 1) dX3_lengthOf_17 rfl ?_
    refine g_icmp_ne (pc := 18) (tgt := 28) dX3_lengthOf_18 rfl (fun _ => ?_) (fun z => absurd z (by cases m <;> decide))
    refine g_aload_n (pc := 28) dX3_lengthOf_28 rfl rfl ?_
    refine t_get (pc := 29) (v := .ref (tAd _ 26)) 26 dX3_lengthOf_29 hR rfl q1825 (Nat.le_of_ble_eq_true rfl) rfl rfl ?_
    refine g_iload_n (pc := 32) dX3_lengthOf_32 rfl rfl ?_
    refine t_ialdI (pc := 33) dX3_lengthOf_33 hR rfl (by decide) rfl (by decide) (by show _ < 18; omega) ?_
    rw [x4]
    refine g_iconst (pc := 34) (v := nI 1) dX3_lengthOf_34 rfl ?_
    refine g_icmp_le (pc := 35) (tgt := 50) dX3_lengthOf_35 rfl (fun z => absurd z (by cases m <;> decide)) (fun _ => ?_)
    refine g_aload_n (pc := 38) dX3_lengthOf_38 rfl rfl ?_
    refine t_get (pc := 39) (v := .ref (tAd _ 9)) 9 dX3_lengthOf_39 hR rfl q1808 (Nat.le_of_ble_eq_true rfl) rfl rfl ?_
    refine g_aload_n (pc := 42) dX3_lengthOf_42 rfl rfl ?_
    refine t_get (pc := 43) (v := .ref (tAd _ 27)) 27 dX3_lengthOf_43 hR rfl q1826 (Nat.le_of_ble_eq_true rfl) rfl rfl ?_
    refine g_iload_n (pc := 46) dX3_lengthOf_46 rfl rfl ?_
    refine t_ialdI (pc := 47) dX3_lengthOf_47 hR rfl (by decide) rfl (by decide) (by show _ < 18; omega) ?_
    rw [x2]
    refine t_ialdI (pc := 48) dX3_lengthOf_48 hR rfl (by decide) rfl (by decide) (by show _ < 60; omega) ?_
    rw [h9.1]
    exact t_iret (pc := 49) dX3_lengthOf_49 hR rfl (⟨rfl, vK.refl _ τ, rfl⟩)
theorem tc_isFalse (d r : Nat) (D : aD) (v : aV) (hr : r < 18) (hD : tD τ D) (ha : acy D) (hv : vR D τ r v) : tC Z mX3_isFalse (d + 5) o [.ref o, .int (nI r)] τ (fun u τ' => u = some (.int (nI (flV D v).toNat)) ∧ vK (fun _ => False) τ τ' ∧ τ'.1 38 = τ.1 38) := by
  refine tC.of rfl rfl (Nat.le_of_ble_eq_true rfl) rfl (fun X hin h hR => ?_)
  have hD2 := hD.2.1
  have yes : flV D v = true → ∀ τ', vK (fun _ => False) τ τ' → τ'.1 38 = τ.1 38 → ∀ h, tH o τ' hin h → hG Z X mX3_isFalse (d + 5) tS hin (tK o hin (fun u τ' => u = some (.int (nI (flV D v).toNat)) ∧ vK (fun _ => False) τ τ' ∧ τ'.1 38 = τ.1 38)) 55 [(0, .ref o), (1, .int (nI r))] [] h := by
    intro hf τ' c1 c2 h hR
    refine g_iconst (pc := 55) (v := nI 1) dX3_isFalse_55 rfl ?_
    refine g_goto (pc := 56) (tgt := 60) dX3_isFalse_56 rfl ?_
    exact t_zret (pc := 60) dX3_isFalse_60 hR rfl rfl (⟨by rw [hf]; rfl, c1, c2⟩)
  have nope : flV D v = false → ∀ τ', vK (fun _ => False) τ τ' → τ'.1 38 = τ.1 38 → ∀ h, tH o τ' hin h → hG Z X mX3_isFalse (d + 5) tS hin (tK o hin (fun u τ' => u = some (.int (nI (flV D v).toNat)) ∧ vK (fun _ => False) τ τ' ∧ τ'.1 38 = τ.1 38)) 59 [(0, .ref o), (1, .int (nI r))] [] h := by
    intro hf τ' c1 c2 h hR
    refine g_iconst (pc := 59) (v := nI 0) dX3_isFalse_59 rfl ?_
    exact t_zret (pc := 60) dX3_isFalse_60 hR rfl rfl (⟨by rw [hf]; rfl, c1, c2⟩)
  have len : lnV D v < 2147483648 → (flV D v = (lnV D v == 0)) → ∀ h, tH o τ hin h → hG Z X mX3_isFalse (d + 5) tS hin (tK o hin (fun u τ' => u = some (.int (nI (flV D v).toNat)) ∧ vK (fun _ => False) τ τ' ∧ τ'.1 38 = τ.1 38)) 47 [(0, .ref o), (1, .int (nI r))] [] h := by
    intro hb hf h hR
    refine g_aload_n (pc := 47) dX3_isFalse_47 rfl rfl ?_
    refine g_iload_n (pc := 48) dX3_isFalse_48 rfl rfl ?_
    refine t_inv (pc := 49) dX3_isFalse_49 hR (tc_lengthOf _ r D v hr hD ha hv) meX3_lengthOf q2207 q2209 qs63 rfl rfl (Nat.le_of_ble_eq_true rfl) (fun u τ1 h hp hR => ?_)
    obtain ⟨rfl, c1, c2⟩ := hp
    refine g_if_neN (pc := 52) (tgt := 59) dX3_isFalse_52 rfl hb (fun z => ?_) (fun z => ?_)
    · exact nope (by rw [hf]; simp; omega) τ1 c1 c2 h hR
    · exact yes (by rw [hf, z]; rfl) τ1 c1 c2 h hR
  refine g_aload_n (pc := 0) dX3_isFalse_0 rfl rfl ?_
  refine t_get (pc := 1) (v := .ref (tAd _ 26)) 26 dX3_isFalse_1 hR rfl q1825 (Nat.le_of_ble_eq_true rfl) rfl rfl ?_
  refine g_iload_n (pc := 4) dX3_isFalse_4 rfl rfl ?_
  refine t_ialdI (pc := 5) dX3_isFalse_5 hR rfl (by decide) rfl (by decide) (by show _ < 18; omega) ?_
  rcases v with _ | v | l | x
  · have hv : τ.2.2.2.1 26 r = -1 := hv
    rw [hv]
    refine g_if_lt (pc := 6) (tgt := 55) dX3_isFalse_6 rfl (fun _ => ?_) (fun z => absurd (by decide) z)
    exact yes rfl τ (vK.refl _ τ) rfl h hR
  · rw [hv.1]
    refine g_if_lt (pc := 6) (tgt := 55) dX3_isFalse_6 rfl (fun z => absurd z (by decide)) (fun _ => ?_)
    refine g_aload_n (pc := 9) dX3_isFalse_9 rfl rfl ?_
    refine t_get (pc := 10) (v := .ref (tAd _ 26)) 26 dX3_isFalse_10 hR rfl q1825 (Nat.le_of_ble_eq_true rfl) rfl rfl ?_
    refine g_iload_n (pc := 13) dX3_isFalse_13 rfl rfl ?_
    refine t_ialdI (pc := 14) dX3_isFalse_14 hR rfl (by decide) rfl (by decide) (by show _ < 18; omega) ?_
    rw [hv.1]
    refine g_if_ne (pc := 15) (tgt := 27) dX3_isFalse_15 rfl (fun z => absurd rfl z) (fun _ => ?_)
    refine g_aload_n (pc := 18) dX3_isFalse_18 rfl rfl ?_
    refine t_get (pc := 19) (v := .ref (tAd _ 27)) 27 dX3_isFalse_19 hR rfl q1826 (Nat.le_of_ble_eq_true rfl) rfl rfl ?_
    refine g_iload_n (pc := 22) dX3_isFalse_22 rfl rfl ?_
    refine t_ialdI (pc := 23) dX3_isFalse_23 hR rfl (by decide) rfl (by decide) (by show _ < 18; omega) ?_
    rw [hv.2]
    refine g_if_eq (pc := 24) (tgt := 55) dX3_isFalse_24 rfl (fun q => ?_) (fun q => ?_)
    · exact yes (by simp [flV, q]) τ (vK.refl _ τ) rfl h hR
    · refine g_aload_n (pc := 27) dX3_isFalse_27 rfl rfl ?_
      refine t_get (pc := 28) (v := .ref (tAd _ 26)) 26 dX3_isFalse_28 hR rfl q1825 (Nat.le_of_ble_eq_true rfl) rfl rfl ?_
      refine g_iload_n (pc := 31) dX3_isFalse_31 rfl rfl ?_
      refine t_ialdI (pc := 32) dX3_isFalse_32 hR rfl (by decide) rfl (by decide) (by show _ < 18; omega) ?_
      rw [hv.1]
      refine g_iconst (pc := 33) (v := nI 1) dX3_isFalse_33 rfl ?_
      refine g_icmp_eq (pc := 34) (tgt := 47) dX3_isFalse_34 rfl (fun z => absurd z (by decide)) (fun _ => ?_)
      refine g_aload_n (pc := 37) dX3_isFalse_37 rfl rfl ?_
      refine t_get (pc := 38) (v := .ref (tAd _ 26)) 26 dX3_isFalse_38 hR rfl q1825 (Nat.le_of_ble_eq_true rfl) rfl rfl ?_
      refine g_iload_n (pc := 41) dX3_isFalse_41 rfl rfl ?_
      refine t_ialdI (pc := 42) dX3_isFalse_42 hR rfl (by decide) rfl (by decide) (by show _ < 18; omega) ?_
      rw [hv.1]
      refine g_iconst (pc := 43) (v := nI 2) dX3_isFalse_43 rfl ?_
      refine g_icmp_ne (pc := 44) (tgt := 59) dX3_isFalse_44 rfl (fun _ => ?_) (fun z => absurd z (by decide))
      exact nope (by simp [flV, q]) τ (vK.refl _ τ) rfl h hR
  · rw [hv.1]
    refine g_if_lt (pc := 6) (tgt := 55) dX3_isFalse_6 rfl (fun z => absurd z (by decide)) (fun _ => ?_)
    refine g_aload_n (pc := 9) dX3_isFalse_9 rfl rfl ?_
    refine t_get (pc := 10) (v := .ref (tAd _ 26)) 26 dX3_isFalse_10 hR rfl q1825 (Nat.le_of_ble_eq_true rfl) rfl rfl ?_
    refine g_iload_n (pc := 13) dX3_isFalse_13 rfl rfl ?_
    refine t_ialdI (pc := 14) dX3_isFalse_14 hR rfl (by decide) rfl (by decide) (by show _ < 18; omega) ?_
    rw [hv.1]
    refine g_if_ne (pc := 15) (tgt := 27) dX3_isFalse_15 rfl (fun _ => ?_) (fun z => absurd z (by decide))
    refine g_aload_n (pc := 27) dX3_isFalse_27 rfl rfl ?_
    refine t_get (pc := 28) (v := .ref (tAd _ 26)) 26 dX3_isFalse_28 hR rfl q1825 (Nat.le_of_ble_eq_true rfl) rfl rfl ?_
    refine g_iload_n (pc := 31) dX3_isFalse_31 rfl rfl ?_
    refine t_ialdI (pc := 32) dX3_isFalse_32 hR rfl (by decide) rfl (by decide) (by show _ < 18; omega) ?_
    rw [hv.1]
    refine g_iconst (pc := 33) (v := nI 1) dX3_isFalse_33 rfl ?_
    refine g_icmp_eq (pc := 34) (tgt := 47) dX3_isFalse_34 rfl (fun _ => ?_) (fun z => absurd rfl z)
    exact len (by have := hv.2.2.1; show l.length < _; omega) rfl h hR
  · have hv0 := hv
    obtain ⟨x1, x2, m, ps, x3, x4⟩ := hv
    have hit := (hD.2.2 x x1).1
    rw [x3] at hit
    rw [x4]
    refine g_if_lt (pc := 6) (tgt := 55) dX3_isFalse_6 rfl (fun z => absurd z (by cases m <;> decide)) (fun _ => ?_)
    refine g_aload_n (pc := 9) dX3_isFalse_9 rfl rfl ?_
    refine t_get (pc := 10) (v := .ref (tAd _ 26)) 26 dX3_isFalse_10 hR rfl q1825 (Nat.le_of_ble_eq_true rfl) rfl rfl ?_
    refine g_iload_n (pc := 13) dX3_isFalse_13 rfl rfl ?_
    refine t_ialdI (pc := 14) dX3_isFalse_14 hR rfl (by decide) rfl (by decide) (by show _ < 18; omega) ?_
    rw [x4]
    refine g_if_ne (pc := 15) (tgt := 27) dX3_isFalse_15 rfl (fun _ => ?_) (fun z => absurd z (by cases m <;> decide))
    refine g_aload_n (pc := 27) dX3_isFalse_27 rfl rfl ?_
    refine t_get (pc := 28) (v := .ref (tAd _ 26)) 26 dX3_isFalse_28 hR rfl q1825 (Nat.le_of_ble_eq_true rfl) rfl rfl ?_
    refine g_iload_n (pc := 31) dX3_isFalse_31 rfl rfl ?_
    refine t_ialdI (pc := 32) dX3_isFalse_32 hR rfl (by decide) rfl (by decide) (by show _ < 18; omega) ?_
    rw [x4]
    refine g_iconst (pc := 33) (v := nI 1) dX3_isFalse_33 rfl ?_
    refine g_icmp_eq (pc := 34) (tgt := 47) dX3_isFalse_34 rfl (fun z => absurd z (by cases m <;> decide)) (fun _ => ?_)
    refine g_aload_n (pc := 37) dX3_isFalse_37 rfl rfl ?_
    refine t_get (pc := 38) (v := .ref (tAd _ 26)) 26 dX3_isFalse_38 hR rfl q1825 (Nat.le_of_ble_eq_true rfl) rfl rfl ?_
    refine g_iload_n (pc := 41) dX3_isFalse_41 rfl rfl ?_
    refine t_ialdI (pc := 42) dX3_isFalse_42 hR rfl (by decide) rfl (by decide) (by show _ < 18; omega) ?_
    rw [x4]
    refine g_iconst (pc := 43) (v := nI 2) dX3_isFalse_43 rfl ?_
    cases m with
    | true =>
      refine g_icmp_ne (pc := 44) (tgt := 59) dX3_isFalse_44 rfl (fun _ => ?_) (fun z => absurd z (by decide))
      exact nope (by simp [flV, x3, isLs]) τ (vK.refl _ τ) rfl h hR
    | false =>
      refine g_icmp_ne (pc := 44) (tgt := 59) dX3_isFalse_44 rfl (fun z => absurd rfl z) (fun _ => ?_)
      exact len (by have := hit.2.2.1; show (aPs (D.2 x)).length < _; rw [x3]; show ps.length < _; omega) (by simp [flV, lnV, x3, isLs]) h hR
end TW17
