/-! LAW 6: the law's own code, call by call -/
set_option maxRecDepth 100000
abbrev mL_law : hM := (code, x, 7, ret, [])
noncomputable def h00 (Z : hE) : hP := (Z.2.1.heap.size, 0, hOld Z)
/-- the law's start's script -/
def hScr (Z : hE) (xs : List Int32) : Prop := Z.2.1.IntsAt Z.2.2.2.2 xs ∧ xs.length ≤ 192
theorem and15 (x : Int32) : ∃ k, k < 16 ∧ x &&& nI 15 = nI k := by
  refine ⟨(x.toBitVec &&& 15#32).toNat, ?_, ?_⟩
  · rw [BitVec.toNat_and]
    exact Nat.lt_of_le_of_lt Nat.and_le_right (by decide)
  · apply Int32.toBitVec_inj.mp
    show x.toBitVec &&& 15#32 = BitVec.ofNat 32 _
    rw [BitVec.ofNat_toNat, BitVec.setWidth_eq]
theorem cmp_same (x : Int64) : lg_cmp x x = 0 := by
  unfold lg_cmp
  rw [if_neg (by show ¬ x < x; exact Int64.lt_irrefl), if_pos rfl]
/-- the script's cell -/
theorem scr_cell {Z : hE} {xs : List Int32} (hs : hScr Z xs) : ∃ cell, Z.2.1.heap[Z.2.2.2.2]? = some cell ∧ cell.vm ≠ .unknown ∧ cell.slots.toList = xs.map Value.int ∧ Z.2.1.isArrayOf cell .int := by
  obtain ⟨⟨cell, c1, c2, c3, c4⟩, -⟩ := hs
  refine ⟨cell, ?_, ?_, c2, c3⟩
  · unfold State.arrayAt? at c1
    cases hc : Z.2.1.heap[Z.2.2.2.2]? with
    | none => rw [hc] at c1; cases c1
    | some c0 =>
      rw [hc] at c1
      have c1 : (do let k ← Z.2.1.vm.classes[c0.cls]?; if c0.vm = .unknown ∨ c0.vm.isStatics = true then none else match k.kind with | .array .. => some c0 | _ => none) = some cell := c1
      cases hk : Z.2.1.vm.classes[c0.cls]? with
      | none => rw [hk] at c1; cases c1
      | some k =>
        rw [hk] at c1
        have c1 : (if c0.vm = .unknown ∨ c0.vm.isStatics = true then none else match k.kind with | .array .. => some c0 | _ => none) = some cell := c1
        split at c1
        · cases c1
        · split at c1
          · exact c1
          · cases c1
  · unfold State.arrayAt? at c1
    cases hc : Z.2.1.heap[Z.2.2.2.2]? with
    | none => rw [hc] at c1; cases c1
    | some c0 =>
      rw [hc] at c1
      have c1 : (do let k ← Z.2.1.vm.classes[c0.cls]?; if c0.vm = .unknown ∨ c0.vm.isStatics = true then none else match k.kind with | .array .. => some c0 | _ => none) = some cell := c1
      cases hk : Z.2.1.vm.classes[c0.cls]? with
      | none => rw [hk] at c1; cases c1
      | some k =>
        rw [hk] at c1
        have c1 : (if c0.vm = .unknown ∨ c0.vm.isStatics = true then none else match k.kind with | .array .. => some c0 | _ => none) = some cell := c1
        split at c1
        · cases c1
        · rename_i hq
          split at c1
          · cases c1
            exact fun z => hq (Or.inl z)
          · cases c1
theorem isArr_mv {u U : State} (hvm : u.vm.Alike U.vm) {cell : Cell} {ty : FieldType} (h : u.isArrayOf cell ty) : U.isArrayOf cell ty := by
  obtain ⟨h0, k, h1, comp, h2⟩ := h
  obtain ⟨k', hk', he⟩ := hvm.2.2 _ _ h1
  exact ⟨h0, k', hk', comp, by rw [he]; exact h2⟩
section SC
variable {Z : hE} {X : hX} {M : hM} {d : Nat} {S : Nat → Prop} {hin : hP} {K : hO → hP → Prop} {pc : Nat} {ls : List (Nat × Value)} {st : List Value} {h : hP} {xs : List Int32}
theorem g_slen (hs : hScr Z xs) (hd : decode M.1 pc = .ok (.arraylength, 1)) (k : hG Z X M d S hin K (pc + 1) ls (.int (nI xs.length) :: st) h) : hG Z X M d S hin K pc ls (.ref Z.2.2.2.2 :: st) h := by
  intro O F H locs la a1 a2 a3 a4 a5
  have hk := k O F H locs la a1 a2 a3 a4 a5
  obtain ⟨hZ, hx, hb, hml, hown, hW, -⟩ := O
  obtain ⟨cell, c1, c2, c3, c4⟩ := scr_cell hs
  have hlt : Z.2.2.2.2 < Z.2.1.heap.size := (Array.getElem?_eq_some_iff.mp c1).1
  have hcell : H[Z.2.2.2.2]? = some cell := by rw [a1.2.2.1 _ hlt]; exact c1
  have hsz : cell.slots.size = xs.length := by
    have := congrArg List.length c3
    rw [Array.length_toList, List.length_map] at this
    exact this
  exact W.alen (n := nI xs.length) hx hb hcell (isArr_mv hW.alike c4) (by rw [hsz]; rfl) rfl rfl hd hk
theorem g_sald (hs : hScr Z xs) {i : Int32} (j : Nat) (hd : decode M.1 pc = .ok (.iaload, 1)) (hj : j < xs.length) (hi : i = nI j) (k : hG Z X M d S hin K (pc + 1) ls (.int (xs.getD j 0) :: st) h) : hG Z X M d S hin K pc ls (.int i :: .ref Z.2.2.2.2 :: st) h := by
  intro O F H locs la a1 a2 a3 a4 a5
  have hk := k O F H locs la a1 a2 a3 a4 a5
  obtain ⟨hZ, hx, hb, hml, hown, hW, -⟩ := O
  obtain ⟨cell, c1, c2, c3, c4⟩ := scr_cell hs
  have h192 := hs.2
  have hlt : Z.2.2.2.2 < Z.2.1.heap.size := (Array.getElem?_eq_some_iff.mp c1).1
  have hcell : H[Z.2.2.2.2]? = some cell := by rw [a1.2.2.1 _ hlt]; exact c1
  have hsz : cell.slots.size = xs.length := by
    have := congrArg List.length c3
    rw [Array.length_toList, List.length_map] at this
    exact this
  have hv : cell.slots[j]? = some (.int (xs.getD j 0)) := by
    rw [← Array.getElem?_toList, c3, List.getElem?_map, List.getElem?_eq_getElem hj, List.getD_eq_getElem?_getD, List.getElem?_eq_getElem hj]
    rfl
  subst hi
  exact W.iald (v := .int (xs.getD j 0)) hx hb hcell (isArr_mv hW.alike c4) c2 (by rw [hsz]; exact nI_in hj (by omega)) (by rw [nI_clamp (by omega)]; exact hv) rfl rfl hd hk
end SC
/-- kept by a look of the twin's -/
theorem LI.tw {Z : hE} {E o lo c : Nat} {τ : tT} {h2 h3 : hP} (x : LI Z E o lo c τ h2) (f : hFr tS h2 h3) (t : tH o τ h2 h3) : LI Z E o lo c τ h3 := by
  obtain ⟨D, Tm, l, out, ea, tg, th, ci, ti, hR, ⟨g, hlo⟩, b1, b2, b3, b4, b5⟩ := x
  exact LI.mk ci f ti t hlo b1 b2 b3 b4 b5
theorem LI.up {Z : hE} {E o lo c : Nat} {τ : tT} {h : hP} (x : LI Z E o lo c τ h) : LI Z E o lo (c + 1) τ h := by
  obtain ⟨D, Tm, l, out, ea, tg, th, ci, ti, hR, hlo, b1, b2, b3, b4, b5⟩ := x
  exact ⟨D, Tm, l, out, ea, tg, th, ci.le (by omega), ti, hR, hlo, by omega, by omega, b3, by omega, by omega⟩
section LB
variable {Z : hE} {X : hX} {xs : List Int32} {E o lo c : Nat} {τ : tT} {h : hP}
/-- the law is at pc, with its locals and the stack st -/
abbrev LG (Z : hE) (X : hX) (pc : Nat) (ls : List (Nat × Value)) (st : List Value) (h : hP) : Prop := hG Z X mL_law 2048 (fun κ => κ < 900) (h00 Z) (fun r _ => r = .inl (some (.int 1))) pc ls st h
abbrev lwV (Z : hE) (E o lo c : Nat) : List (Nat × Value) := [(0, .ref Z.2.2.2.2), (1, .ref E), (2, .ref o), (3, .ref lo), (4, .int (nI (3 * c)))]
theorem st_type (hs : hScr Z xs) (hI : LI Z E o lo c τ h) (hc : 3 * c + 3 ≤ xs.length) (k818 : ∀ τ' h', LI Z E o lo (c + 1) τ' h' → LG Z X 818 (lwV Z E o lo c) [] h') : LG Z X 108 (lwV Z E o lo c) [] h := by
  have h192 := hs.2
  refine g_wf (fun hwf => ?_)
  refine g_aload_n (pc := 108) dL_law_108 rfl rfl ?_
  refine g_aload_n (pc := 109) dL_law_109 rfl rfl ?_
  refine g_iload (pc := 110) dL_law_110 rfl ?_
  refine g_iconst (pc := 112) (v := nI 1) dL_law_112 rfl ?_
  first | refine g_iaddN (pc := 113) dL_law_113 ?_ | refine g_iadd (pc := 113) dL_law_113 ?_
  refine g_sald hs (3 * c + 1) dL_law_114 (by omega) rfl ?_
  refine g_aload_n (pc := 115) dL_law_115 rfl rfl ?_
  refine g_invSX (pc := 116) dL_law_116 (jo_type _ hI (by omega)) meX0_type q538 q539 rfl rfl (Nat.le_of_ble_eq_true rfl) (fun κ z => z) (fun v h1 hp fr => ?_) (fun xx h1 hp fr => ?_)
  · obtain ⟨k, y, z, hk4, ⟨g, hlo1, hg⟩, ⟨fs, ho1⟩, ct⟩ := hp
    cases z
    refine g_istore (pc := 119) (ls' := [(0, _), (1, _), (2, _), (3, _), (4, _), (5, _)]) dL_law_119 (Nat.le_of_ble_eq_true rfl) rfl ?_
    refine g_aload_n (pc := 121) dL_law_121 rfl rfl ?_
    refine g_aload_n (pc := 122) dL_law_122 rfl rfl ?_
    refine g_iload (pc := 123) dL_law_123 rfl ?_
    refine g_iconst (pc := 125) (v := nI 1) dL_law_125 rfl ?_
    first | refine g_iaddN (pc := 126) dL_law_126 ?_ | refine g_iadd (pc := 126) dL_law_126 ?_
    refine g_sald hs (3 * c + 1) dL_law_127 (by omega) rfl ?_
    refine g_invV (pc := 128) dL_law_128 ho1 rfl ct meX3_type q1952 q1953 q1954 rfl rfl (Nat.le_of_ble_eq_true rfl) (fun κ z => tS_lt z) (fun v h2 hp2 fr2 => ?_) (fun xx h2 hp2 fr2 => ?_)
    · obtain ⟨b, τ', z, hcd, hb, hI2⟩ := hp2
      cases z
      obtain ⟨-, -, -, -, -, -, -, -, -, hR2, -⟩ := id hI2
      have ho2 := hR2.1
      have hlo2 := (fr2.2.2 _ _ hlo1).1 (by rintro (z | z | z | z | z) <;> cases z)
      refine g_istore (pc := 131) (ls' := [(0, _), (1, _), (2, _), (3, _), (4, _), (5, _), (6, _)]) dL_law_131 (Nat.le_of_ble_eq_true rfl) rfl ?_
      refine g_aload_n (pc := 133) dL_law_133 rfl rfl ?_
      refine g_invV (pc := 134) dL_law_134 ho2 rfl (tc_thrown 2047 h2 hR2) meX3_thrown q1948 q1949 q1950 rfl rfl (Nat.le_of_ble_eq_true rfl) (fun κ z => tS_lt z) (fun v h3 hp3 fr3 => ?_) (fun xx h3 hp3 fr3 => ?_)
      · obtain ⟨v', τ'', z, tr, z1, z2⟩ := hp3
        cases z
        subst z1
        subst z2
        have hI3 := hI2.tw fr3 tr
        have hlo3 := (fr3.2.2 _ _ hlo2).1 (by rintro (z | z | z | z | z) <;> cases z)
        rw [hcd]
        refine g_iload (pc := 137) dL_law_137 rfl ?_
        refine g_icmp_eq (pc := 139) (tgt := 144) dL_law_139 rfl (fun _ => ?_) (fun q_ => absurd rfl q_)
        refine g_iload (pc := 144) dL_law_144 rfl ?_
        refine g_if_neN (pc := 146) (tgt := 161) dL_law_146 rfl (by omega) (fun q_ => ?_) (fun q_ => ?_)
        · refine g_goto (pc := 161) (tgt := 818) dL_law_161 rfl ?_
          exact g_drop [0, 1, 2, 3, 4] rfl (k818 _ _ hI3)
        · have ge := hg q_
          have eb := hb q_
          refine g_aload_n (pc := 149) dL_law_149 rfl rfl ?_
          refine g_iconst (pc := 150) (v := nI 0) dL_law_150 rfl ?_
          refine g_lald (pc := 151) 0 dL_law_151 hlo3 rfl (by decide) rfl ?_
          rw [ge]
          refine g_iload (pc := 152) dL_law_152 rfl ?_
          refine g_i2l (pc := 154) dL_law_154 ?_
          refine g_lcmp (pc := 155) dL_law_155 ?_
          rw [eb, cmp_same]
          refine g_if_eq (pc := 156) (tgt := 161) dL_law_156 rfl (fun _ => ?_) (fun q_ => absurd rfl q_)
          refine g_goto (pc := 161) (tgt := 818) dL_law_161 rfl ?_
          exact g_drop [0, 1, 2, 3, 4] rfl (k818 _ _ hI3)
      · obtain ⟨v', τ'', z, -⟩ := hp3
        cases z
    · obtain ⟨b, τ', z, -⟩ := hp2
      cases z
  · obtain ⟨k, y, z, -⟩ := hp
    cases z
theorem st_number (hs : hScr Z xs) (hI : LI Z E o lo c τ h) (hc : 3 * c + 3 ≤ xs.length) (k818 : ∀ τ' h', LI Z E o lo (c + 1) τ' h' → LG Z X 818 (lwV Z E o lo c) [] h') : LG Z X 164 (lwV Z E o lo c) [] h := by
  have h192 := hs.2
  refine g_wf (fun hwf => ?_)
  refine g_aload_n (pc := 164) dL_law_164 rfl rfl ?_
  refine g_aload_n (pc := 165) dL_law_165 rfl rfl ?_
  refine g_iload (pc := 166) dL_law_166 rfl ?_
  refine g_iconst (pc := 168) (v := nI 1) dL_law_168 rfl ?_
  first | refine g_iaddN (pc := 169) dL_law_169 ?_ | refine g_iadd (pc := 169) dL_law_169 ?_
  refine g_sald hs (3 * c + 1) dL_law_170 (by omega) rfl ?_
  refine g_aload_n (pc := 171) dL_law_171 rfl rfl ?_
  refine g_invSX (pc := 172) dL_law_172 (jo_number _ hI (by omega) hwf) meX0_number q603 q604 rfl rfl (Nat.le_of_ble_eq_true rfl) (fun κ z => z) (fun v h1 hp fr => ?_) (fun xx h1 hp fr => ?_)
  · obtain ⟨k, y, z, hk4, ⟨g, hlo1, hg⟩, ⟨fs, ho1⟩, ct⟩ := hp
    cases z
    refine g_istore (pc := 175) (ls' := [(0, _), (1, _), (2, _), (3, _), (4, _), (5, _)]) dL_law_175 (Nat.le_of_ble_eq_true rfl) rfl ?_
    refine g_aload_n (pc := 177) dL_law_177 rfl rfl ?_
    refine g_aload_n (pc := 178) dL_law_178 rfl rfl ?_
    refine g_iload (pc := 179) dL_law_179 rfl ?_
    refine g_iconst (pc := 181) (v := nI 1) dL_law_181 rfl ?_
    first | refine g_iaddN (pc := 182) dL_law_182 ?_ | refine g_iadd (pc := 182) dL_law_182 ?_
    refine g_sald hs (3 * c + 1) dL_law_183 (by omega) rfl ?_
    refine g_invV (pc := 184) dL_law_184 ho1 rfl ct meX3_number q1964 q1965 q1966 rfl rfl (Nat.le_of_ble_eq_true rfl) (fun κ z => tS_lt z) (fun v h2 hp2 fr2 => ?_) (fun xx h2 hp2 fr2 => ?_)
    · obtain ⟨b, τ', z, hcd, hb, hI2⟩ := hp2
      cases z
      obtain ⟨-, -, -, -, -, -, -, -, -, hR2, -⟩ := id hI2
      have ho2 := hR2.1
      have hlo2 := (fr2.2.2 _ _ hlo1).1 (by rintro (z | z | z | z | z) <;> cases z)
      refine g_istore (pc := 187) (ls' := [(0, _), (1, _), (2, _), (3, _), (4, _), (5, _), (6, _)]) dL_law_187 (Nat.le_of_ble_eq_true rfl) rfl ?_
      refine g_aload_n (pc := 189) dL_law_189 rfl rfl ?_
      refine g_invV (pc := 190) dL_law_190 ho2 rfl (tc_thrown 2047 h2 hR2) meX3_thrown q1948 q1949 q1950 rfl rfl (Nat.le_of_ble_eq_true rfl) (fun κ z => tS_lt z) (fun v h3 hp3 fr3 => ?_) (fun xx h3 hp3 fr3 => ?_)
      · obtain ⟨v', τ'', z, tr, z1, z2⟩ := hp3
        cases z
        subst z1
        subst z2
        have hI3 := hI2.tw fr3 tr
        have hlo3 := (fr3.2.2 _ _ hlo2).1 (by rintro (z | z | z | z | z) <;> cases z)
        rw [hcd]
        refine g_iload (pc := 193) dL_law_193 rfl ?_
        refine g_icmp_eq (pc := 195) (tgt := 200) dL_law_195 rfl (fun _ => ?_) (fun q_ => absurd rfl q_)
        refine g_iload (pc := 200) dL_law_200 rfl ?_
        refine g_if_neN (pc := 202) (tgt := 217) dL_law_202 rfl (by omega) (fun q_ => ?_) (fun q_ => ?_)
        · refine g_goto (pc := 217) (tgt := 818) dL_law_217 rfl ?_
          exact g_drop [0, 1, 2, 3, 4] rfl (k818 _ _ hI3)
        · have ge := hg q_
          have eb := hb q_
          refine g_aload_n (pc := 205) dL_law_205 rfl rfl ?_
          refine g_iconst (pc := 206) (v := nI 0) dL_law_206 rfl ?_
          refine g_lald (pc := 207) 0 dL_law_207 hlo3 rfl (by decide) rfl ?_
          rw [ge]
          refine g_iload (pc := 208) dL_law_208 rfl ?_
          refine g_i2l (pc := 210) dL_law_210 ?_
          refine g_lcmp (pc := 211) dL_law_211 ?_
          rw [eb, cmp_same]
          refine g_if_eq (pc := 212) (tgt := 217) dL_law_212 rfl (fun _ => ?_) (fun q_ => absurd rfl q_)
          refine g_goto (pc := 217) (tgt := 818) dL_law_217 rfl ?_
          exact g_drop [0, 1, 2, 3, 4] rfl (k818 _ _ hI3)
      · obtain ⟨v', τ'', z, -⟩ := hp3
        cases z
    · obtain ⟨b, τ', z, -⟩ := hp2
      cases z
  · obtain ⟨k, y, z, -⟩ := hp
    cases z
theorem st_text (hs : hScr Z xs) (hI : LI Z E o lo c τ h) (hc : 3 * c + 3 ≤ xs.length) (k818 : ∀ τ' h', LI Z E o lo (c + 1) τ' h' → LG Z X 818 (lwV Z E o lo c) [] h') : LG Z X 220 (lwV Z E o lo c) [] h := by
  have h192 := hs.2
  refine g_wf (fun hwf => ?_)
  refine g_aload_n (pc := 220) dL_law_220 rfl rfl ?_
  refine g_aload_n (pc := 221) dL_law_221 rfl rfl ?_
  refine g_invSX (pc := 222) dL_law_222 (jo_text hI (by omega) hwf) meX0_text q694 q695 rfl rfl (Nat.le_of_ble_eq_true rfl) (fun κ z => z) (fun v h1 hp fr => ?_) (fun xx h1 hp fr => ?_)
  · obtain ⟨k, y, z, hk4, ⟨g, hlo1, hg⟩, ⟨fs, ho1⟩, ct⟩ := hp
    cases z
    refine g_istore (pc := 225) (ls' := [(0, _), (1, _), (2, _), (3, _), (4, _), (5, _)]) dL_law_225 (Nat.le_of_ble_eq_true rfl) rfl ?_
    refine g_aload_n (pc := 227) dL_law_227 rfl rfl ?_
    refine g_invV (pc := 228) dL_law_228 ho1 rfl ct meX3_text q1972 q1973 q1974 rfl rfl (Nat.le_of_ble_eq_true rfl) (fun κ z => tS_lt z) (fun v h2 hp2 fr2 => ?_) (fun xx h2 hp2 fr2 => ?_)
    · obtain ⟨b, τ', z, hcd, hb, hI2⟩ := hp2
      cases z
      obtain ⟨-, -, -, -, -, -, -, -, -, hR2, -⟩ := id hI2
      have ho2 := hR2.1
      have hlo2 := (fr2.2.2 _ _ hlo1).1 (by rintro (z | z | z | z | z) <;> cases z)
      refine g_istore (pc := 231) (ls' := [(0, _), (1, _), (2, _), (3, _), (4, _), (5, _), (6, _)]) dL_law_231 (Nat.le_of_ble_eq_true rfl) rfl ?_
      refine g_aload_n (pc := 233) dL_law_233 rfl rfl ?_
      refine g_invV (pc := 234) dL_law_234 ho2 rfl (tc_thrown 2047 h2 hR2) meX3_thrown q1948 q1949 q1950 rfl rfl (Nat.le_of_ble_eq_true rfl) (fun κ z => tS_lt z) (fun v h3 hp3 fr3 => ?_) (fun xx h3 hp3 fr3 => ?_)
      · obtain ⟨v', τ'', z, tr, z1, z2⟩ := hp3
        cases z
        subst z1
        subst z2
        have hI3 := hI2.tw fr3 tr
        have hlo3 := (fr3.2.2 _ _ hlo2).1 (by rintro (z | z | z | z | z) <;> cases z)
        rw [hcd]
        refine g_iload (pc := 237) dL_law_237 rfl ?_
        refine g_icmp_eq (pc := 239) (tgt := 244) dL_law_239 rfl (fun _ => ?_) (fun q_ => absurd rfl q_)
        refine g_iload (pc := 244) dL_law_244 rfl ?_
        refine g_if_neN (pc := 246) (tgt := 261) dL_law_246 rfl (by omega) (fun q_ => ?_) (fun q_ => ?_)
        · refine g_goto (pc := 261) (tgt := 818) dL_law_261 rfl ?_
          exact g_drop [0, 1, 2, 3, 4] rfl (k818 _ _ hI3)
        · have ge := hg q_
          have eb := hb q_
          refine g_aload_n (pc := 249) dL_law_249 rfl rfl ?_
          refine g_iconst (pc := 250) (v := nI 0) dL_law_250 rfl ?_
          refine g_lald (pc := 251) 0 dL_law_251 hlo3 rfl (by decide) rfl ?_
          rw [ge]
          refine g_iload (pc := 252) dL_law_252 rfl ?_
          refine g_i2l (pc := 254) dL_law_254 ?_
          refine g_lcmp (pc := 255) dL_law_255 ?_
          rw [eb, cmp_same]
          refine g_if_eq (pc := 256) (tgt := 261) dL_law_256 rfl (fun _ => ?_) (fun q_ => absurd rfl q_)
          refine g_goto (pc := 261) (tgt := 818) dL_law_261 rfl ?_
          exact g_drop [0, 1, 2, 3, 4] rfl (k818 _ _ hI3)
      · obtain ⟨v', τ'', z, -⟩ := hp3
        cases z
    · obtain ⟨b, τ', z, -⟩ := hp2
      cases z
  · obtain ⟨k, y, z, -⟩ := hp
    cases z
theorem st_list (hs : hScr Z xs) (hI : LI Z E o lo c τ h) (hc : 3 * c + 3 ≤ xs.length) (k818 : ∀ τ' h', LI Z E o lo (c + 1) τ' h' → LG Z X 818 (lwV Z E o lo c) [] h') : LG Z X 264 (lwV Z E o lo c) [] h := by
  have h192 := hs.2
  refine g_wf (fun hwf => ?_)
  refine g_aload_n (pc := 264) dL_law_264 rfl rfl ?_
  refine g_aload_n (pc := 265) dL_law_265 rfl rfl ?_
  refine g_invSX (pc := 266) dL_law_266 (jo_list hI (by omega) hwf) meX0_list q784 q785 rfl rfl (Nat.le_of_ble_eq_true rfl) (fun κ z => z) (fun v h1 hp fr => ?_) (fun xx h1 hp fr => ?_)
  · obtain ⟨k, y, z, hk4, ⟨g, hlo1, hg⟩, ⟨fs, ho1⟩, ct⟩ := hp
    cases z
    refine g_istore (pc := 269) (ls' := [(0, _), (1, _), (2, _), (3, _), (4, _), (5, _)]) dL_law_269 (Nat.le_of_ble_eq_true rfl) rfl ?_
    refine g_aload_n (pc := 271) dL_law_271 rfl rfl ?_
    refine g_invV (pc := 272) dL_law_272 ho1 rfl ct meX3_list q1976 q1977 q1978 rfl rfl (Nat.le_of_ble_eq_true rfl) (fun κ z => tS_lt z) (fun v h2 hp2 fr2 => ?_) (fun xx h2 hp2 fr2 => ?_)
    · obtain ⟨b, τ', z, hcd, hb, hI2⟩ := hp2
      cases z
      obtain ⟨-, -, -, -, -, -, -, -, -, hR2, -⟩ := id hI2
      have ho2 := hR2.1
      have hlo2 := (fr2.2.2 _ _ hlo1).1 (by rintro (z | z | z | z | z) <;> cases z)
      refine g_istore (pc := 275) (ls' := [(0, _), (1, _), (2, _), (3, _), (4, _), (5, _), (6, _)]) dL_law_275 (Nat.le_of_ble_eq_true rfl) rfl ?_
      refine g_aload_n (pc := 277) dL_law_277 rfl rfl ?_
      refine g_invV (pc := 278) dL_law_278 ho2 rfl (tc_thrown 2047 h2 hR2) meX3_thrown q1948 q1949 q1950 rfl rfl (Nat.le_of_ble_eq_true rfl) (fun κ z => tS_lt z) (fun v h3 hp3 fr3 => ?_) (fun xx h3 hp3 fr3 => ?_)
      · obtain ⟨v', τ'', z, tr, z1, z2⟩ := hp3
        cases z
        subst z1
        subst z2
        have hI3 := hI2.tw fr3 tr
        have hlo3 := (fr3.2.2 _ _ hlo2).1 (by rintro (z | z | z | z | z) <;> cases z)
        rw [hcd]
        refine g_iload (pc := 281) dL_law_281 rfl ?_
        refine g_icmp_eq (pc := 283) (tgt := 288) dL_law_283 rfl (fun _ => ?_) (fun q_ => absurd rfl q_)
        refine g_iload (pc := 288) dL_law_288 rfl ?_
        refine g_if_neN (pc := 290) (tgt := 305) dL_law_290 rfl (by omega) (fun q_ => ?_) (fun q_ => ?_)
        · refine g_goto (pc := 305) (tgt := 818) dL_law_305 rfl ?_
          exact g_drop [0, 1, 2, 3, 4] rfl (k818 _ _ hI3)
        · have ge := hg q_
          have eb := hb q_
          refine g_aload_n (pc := 293) dL_law_293 rfl rfl ?_
          refine g_iconst (pc := 294) (v := nI 0) dL_law_294 rfl ?_
          refine g_lald (pc := 295) 0 dL_law_295 hlo3 rfl (by decide) rfl ?_
          rw [ge]
          refine g_iload (pc := 296) dL_law_296 rfl ?_
          refine g_i2l (pc := 298) dL_law_298 ?_
          refine g_lcmp (pc := 299) dL_law_299 ?_
          rw [eb, cmp_same]
          refine g_if_eq (pc := 300) (tgt := 305) dL_law_300 rfl (fun _ => ?_) (fun q_ => absurd rfl q_)
          refine g_goto (pc := 305) (tgt := 818) dL_law_305 rfl ?_
          exact g_drop [0, 1, 2, 3, 4] rfl (k818 _ _ hI3)
      · obtain ⟨v', τ'', z, -⟩ := hp3
        cases z
    · obtain ⟨b, τ', z, -⟩ := hp2
      cases z
  · obtain ⟨k, y, z, -⟩ := hp
    cases z
theorem st_map (hs : hScr Z xs) (hI : LI Z E o lo c τ h) (hc : 3 * c + 3 ≤ xs.length) (k818 : ∀ τ' h', LI Z E o lo (c + 1) τ' h' → LG Z X 818 (lwV Z E o lo c) [] h') : LG Z X 308 (lwV Z E o lo c) [] h := by
  have h192 := hs.2
  refine g_wf (fun hwf => ?_)
  refine g_aload_n (pc := 308) dL_law_308 rfl rfl ?_
  refine g_aload_n (pc := 309) dL_law_309 rfl rfl ?_
  refine g_invSX (pc := 310) dL_law_310 (jo_map hI (by omega) hwf) meX0_map q814 q815 rfl rfl (Nat.le_of_ble_eq_true rfl) (fun κ z => z) (fun v h1 hp fr => ?_) (fun xx h1 hp fr => ?_)
  · obtain ⟨k, y, z, hk4, ⟨g, hlo1, hg⟩, ⟨fs, ho1⟩, ct⟩ := hp
    cases z
    refine g_istore (pc := 313) (ls' := [(0, _), (1, _), (2, _), (3, _), (4, _), (5, _)]) dL_law_313 (Nat.le_of_ble_eq_true rfl) rfl ?_
    refine g_aload_n (pc := 315) dL_law_315 rfl rfl ?_
    refine g_invV (pc := 316) dL_law_316 ho1 rfl ct meX3_map q1980 q1981 q1982 rfl rfl (Nat.le_of_ble_eq_true rfl) (fun κ z => tS_lt z) (fun v h2 hp2 fr2 => ?_) (fun xx h2 hp2 fr2 => ?_)
    · obtain ⟨b, τ', z, hcd, hb, hI2⟩ := hp2
      cases z
      obtain ⟨-, -, -, -, -, -, -, -, -, hR2, -⟩ := id hI2
      have ho2 := hR2.1
      have hlo2 := (fr2.2.2 _ _ hlo1).1 (by rintro (z | z | z | z | z) <;> cases z)
      refine g_istore (pc := 319) (ls' := [(0, _), (1, _), (2, _), (3, _), (4, _), (5, _), (6, _)]) dL_law_319 (Nat.le_of_ble_eq_true rfl) rfl ?_
      refine g_aload_n (pc := 321) dL_law_321 rfl rfl ?_
      refine g_invV (pc := 322) dL_law_322 ho2 rfl (tc_thrown 2047 h2 hR2) meX3_thrown q1948 q1949 q1950 rfl rfl (Nat.le_of_ble_eq_true rfl) (fun κ z => tS_lt z) (fun v h3 hp3 fr3 => ?_) (fun xx h3 hp3 fr3 => ?_)
      · obtain ⟨v', τ'', z, tr, z1, z2⟩ := hp3
        cases z
        subst z1
        subst z2
        have hI3 := hI2.tw fr3 tr
        have hlo3 := (fr3.2.2 _ _ hlo2).1 (by rintro (z | z | z | z | z) <;> cases z)
        rw [hcd]
        refine g_iload (pc := 325) dL_law_325 rfl ?_
        refine g_icmp_eq (pc := 327) (tgt := 332) dL_law_327 rfl (fun _ => ?_) (fun q_ => absurd rfl q_)
        refine g_iload (pc := 332) dL_law_332 rfl ?_
        refine g_if_neN (pc := 334) (tgt := 349) dL_law_334 rfl (by omega) (fun q_ => ?_) (fun q_ => ?_)
        · refine g_goto (pc := 349) (tgt := 818) dL_law_349 rfl ?_
          exact g_drop [0, 1, 2, 3, 4] rfl (k818 _ _ hI3)
        · have ge := hg q_
          have eb := hb q_
          refine g_aload_n (pc := 337) dL_law_337 rfl rfl ?_
          refine g_iconst (pc := 338) (v := nI 0) dL_law_338 rfl ?_
          refine g_lald (pc := 339) 0 dL_law_339 hlo3 rfl (by decide) rfl ?_
          rw [ge]
          refine g_iload (pc := 340) dL_law_340 rfl ?_
          refine g_i2l (pc := 342) dL_law_342 ?_
          refine g_lcmp (pc := 343) dL_law_343 ?_
          rw [eb, cmp_same]
          refine g_if_eq (pc := 344) (tgt := 349) dL_law_344 rfl (fun _ => ?_) (fun q_ => absurd rfl q_)
          refine g_goto (pc := 349) (tgt := 818) dL_law_349 rfl ?_
          exact g_drop [0, 1, 2, 3, 4] rfl (k818 _ _ hI3)
      · obtain ⟨v', τ'', z, -⟩ := hp3
        cases z
    · obtain ⟨b, τ', z, -⟩ := hp2
      cases z
  · obtain ⟨k, y, z, -⟩ := hp
    cases z
theorem st_add (hs : hScr Z xs) (hI : LI Z E o lo c τ h) (hc : 3 * c + 3 ≤ xs.length) (k818 : ∀ τ' h', LI Z E o lo (c + 1) τ' h' → LG Z X 818 (lwV Z E o lo c) [] h') : LG Z X 352 (lwV Z E o lo c) [] h := by
  have h192 := hs.2
  refine g_wf (fun hwf => ?_)
  refine g_aload_n (pc := 352) dL_law_352 rfl rfl ?_
  refine g_aload_n (pc := 353) dL_law_353 rfl rfl ?_
  refine g_iload (pc := 354) dL_law_354 rfl ?_
  refine g_iconst (pc := 356) (v := nI 1) dL_law_356 rfl ?_
  first | refine g_iaddN (pc := 357) dL_law_357 ?_ | refine g_iadd (pc := 357) dL_law_357 ?_
  refine g_sald hs (3 * c + 1) dL_law_358 (by omega) rfl ?_
  refine g_aload_n (pc := 359) dL_law_359 rfl rfl ?_
  refine g_iload (pc := 360) dL_law_360 rfl ?_
  refine g_iconst (pc := 362) (v := nI 2) dL_law_362 rfl ?_
  first | refine g_iaddN (pc := 363) dL_law_363 ?_ | refine g_iadd (pc := 363) dL_law_363 ?_
  refine g_sald hs (3 * c + 2) dL_law_364 (by omega) rfl ?_
  refine g_aload_n (pc := 365) dL_law_365 rfl rfl ?_
  refine g_invSX (pc := 366) dL_law_366 (jo_add _ _ hI (by omega)) meX0_add q836 q837 rfl rfl (Nat.le_of_ble_eq_true rfl) (fun κ z => z) (fun v h1 hp fr => ?_) (fun xx h1 hp fr => ?_)
  · obtain ⟨k, y, z, hk4, ⟨g, hlo1, hg⟩, ⟨fs, ho1⟩, ct⟩ := hp
    cases z
    refine g_istore (pc := 369) (ls' := [(0, _), (1, _), (2, _), (3, _), (4, _), (5, _)]) dL_law_369 (Nat.le_of_ble_eq_true rfl) rfl ?_
    refine g_aload_n (pc := 371) dL_law_371 rfl rfl ?_
    refine g_aload_n (pc := 372) dL_law_372 rfl rfl ?_
    refine g_iload (pc := 373) dL_law_373 rfl ?_
    refine g_iconst (pc := 375) (v := nI 1) dL_law_375 rfl ?_
    first | refine g_iaddN (pc := 376) dL_law_376 ?_ | refine g_iadd (pc := 376) dL_law_376 ?_
    refine g_sald hs (3 * c + 1) dL_law_377 (by omega) rfl ?_
    refine g_aload_n (pc := 378) dL_law_378 rfl rfl ?_
    refine g_iload (pc := 379) dL_law_379 rfl ?_
    refine g_iconst (pc := 381) (v := nI 2) dL_law_381 rfl ?_
    first | refine g_iaddN (pc := 382) dL_law_382 ?_ | refine g_iadd (pc := 382) dL_law_382 ?_
    refine g_sald hs (3 * c + 2) dL_law_383 (by omega) rfl ?_
    refine g_invV (pc := 384) dL_law_384 ho1 rfl ct meX3_add q1984 q1985 q1986 rfl rfl (Nat.le_of_ble_eq_true rfl) (fun κ z => tS_lt z) (fun v h2 hp2 fr2 => ?_) (fun xx h2 hp2 fr2 => ?_)
    · obtain ⟨b, τ', z, hcd, hb, hI2⟩ := hp2
      cases z
      obtain ⟨-, -, -, -, -, -, -, -, -, hR2, -⟩ := id hI2
      have ho2 := hR2.1
      have hlo2 := (fr2.2.2 _ _ hlo1).1 (by rintro (z | z | z | z | z) <;> cases z)
      refine g_istore (pc := 387) (ls' := [(0, _), (1, _), (2, _), (3, _), (4, _), (5, _), (6, _)]) dL_law_387 (Nat.le_of_ble_eq_true rfl) rfl ?_
      refine g_aload_n (pc := 389) dL_law_389 rfl rfl ?_
      refine g_invV (pc := 390) dL_law_390 ho2 rfl (tc_thrown 2047 h2 hR2) meX3_thrown q1948 q1949 q1950 rfl rfl (Nat.le_of_ble_eq_true rfl) (fun κ z => tS_lt z) (fun v h3 hp3 fr3 => ?_) (fun xx h3 hp3 fr3 => ?_)
      · obtain ⟨v', τ'', z, tr, z1, z2⟩ := hp3
        cases z
        subst z1
        subst z2
        have hI3 := hI2.tw fr3 tr
        have hlo3 := (fr3.2.2 _ _ hlo2).1 (by rintro (z | z | z | z | z) <;> cases z)
        rw [hcd]
        refine g_iload (pc := 393) dL_law_393 rfl ?_
        refine g_icmp_eq (pc := 395) (tgt := 400) dL_law_395 rfl (fun _ => ?_) (fun q_ => absurd rfl q_)
        refine g_iload (pc := 400) dL_law_400 rfl ?_
        refine g_if_neN (pc := 402) (tgt := 417) dL_law_402 rfl (by omega) (fun q_ => ?_) (fun q_ => ?_)
        · refine g_goto (pc := 417) (tgt := 818) dL_law_417 rfl ?_
          exact g_drop [0, 1, 2, 3, 4] rfl (k818 _ _ hI3)
        · have ge := hg q_
          have eb := hb q_
          refine g_aload_n (pc := 405) dL_law_405 rfl rfl ?_
          refine g_iconst (pc := 406) (v := nI 0) dL_law_406 rfl ?_
          refine g_lald (pc := 407) 0 dL_law_407 hlo3 rfl (by decide) rfl ?_
          rw [ge]
          refine g_iload (pc := 408) dL_law_408 rfl ?_
          refine g_i2l (pc := 410) dL_law_410 ?_
          refine g_lcmp (pc := 411) dL_law_411 ?_
          rw [eb, cmp_same]
          refine g_if_eq (pc := 412) (tgt := 417) dL_law_412 rfl (fun _ => ?_) (fun q_ => absurd rfl q_)
          refine g_goto (pc := 417) (tgt := 818) dL_law_417 rfl ?_
          exact g_drop [0, 1, 2, 3, 4] rfl (k818 _ _ hI3)
      · obtain ⟨v', τ'', z, -⟩ := hp3
        cases z
    · obtain ⟨b, τ', z, -⟩ := hp2
      cases z
  · obtain ⟨k, y, z, -⟩ := hp
    cases z
theorem st_put (hs : hScr Z xs) (hI : LI Z E o lo c τ h) (hc : 3 * c + 3 ≤ xs.length) (k818 : ∀ τ' h', LI Z E o lo (c + 1) τ' h' → LG Z X 818 (lwV Z E o lo c) [] h') : LG Z X 420 (lwV Z E o lo c) [] h := by
  have h192 := hs.2
  refine g_wf (fun hwf => ?_)
  refine g_aload_n (pc := 420) dL_law_420 rfl rfl ?_
  refine g_aload_n (pc := 421) dL_law_421 rfl rfl ?_
  refine g_iload (pc := 422) dL_law_422 rfl ?_
  refine g_iconst (pc := 424) (v := nI 1) dL_law_424 rfl ?_
  first | refine g_iaddN (pc := 425) dL_law_425 ?_ | refine g_iadd (pc := 425) dL_law_425 ?_
  refine g_sald hs (3 * c + 1) dL_law_426 (by omega) rfl ?_
  refine g_aload_n (pc := 427) dL_law_427 rfl rfl ?_
  refine g_iload (pc := 428) dL_law_428 rfl ?_
  refine g_iconst (pc := 430) (v := nI 2) dL_law_430 rfl ?_
  first | refine g_iaddN (pc := 431) dL_law_431 ?_ | refine g_iadd (pc := 431) dL_law_431 ?_
  refine g_sald hs (3 * c + 2) dL_law_432 (by omega) rfl ?_
  refine g_aload_n (pc := 433) dL_law_433 rfl rfl ?_
  refine g_invSX (pc := 434) dL_law_434 (jo_put _ _ hI (by omega)) meX0_put q930 q931 rfl rfl (Nat.le_of_ble_eq_true rfl) (fun κ z => z) (fun v h1 hp fr => ?_) (fun xx h1 hp fr => ?_)
  · obtain ⟨k, y, z, hk4, ⟨g, hlo1, hg⟩, ⟨fs, ho1⟩, ct⟩ := hp
    cases z
    refine g_istore (pc := 437) (ls' := [(0, _), (1, _), (2, _), (3, _), (4, _), (5, _)]) dL_law_437 (Nat.le_of_ble_eq_true rfl) rfl ?_
    refine g_aload_n (pc := 439) dL_law_439 rfl rfl ?_
    refine g_aload_n (pc := 440) dL_law_440 rfl rfl ?_
    refine g_iload (pc := 441) dL_law_441 rfl ?_
    refine g_iconst (pc := 443) (v := nI 1) dL_law_443 rfl ?_
    first | refine g_iaddN (pc := 444) dL_law_444 ?_ | refine g_iadd (pc := 444) dL_law_444 ?_
    refine g_sald hs (3 * c + 1) dL_law_445 (by omega) rfl ?_
    refine g_aload_n (pc := 446) dL_law_446 rfl rfl ?_
    refine g_iload (pc := 447) dL_law_447 rfl ?_
    refine g_iconst (pc := 449) (v := nI 2) dL_law_449 rfl ?_
    first | refine g_iaddN (pc := 450) dL_law_450 ?_ | refine g_iadd (pc := 450) dL_law_450 ?_
    refine g_sald hs (3 * c + 2) dL_law_451 (by omega) rfl ?_
    refine g_invV (pc := 452) dL_law_452 ho1 rfl ct meX3_put q1996 q1997 q1998 rfl rfl (Nat.le_of_ble_eq_true rfl) (fun κ z => tS_lt z) (fun v h2 hp2 fr2 => ?_) (fun xx h2 hp2 fr2 => ?_)
    · obtain ⟨b, τ', z, hcd, hb, hI2⟩ := hp2
      cases z
      obtain ⟨-, -, -, -, -, -, -, -, -, hR2, -⟩ := id hI2
      have ho2 := hR2.1
      have hlo2 := (fr2.2.2 _ _ hlo1).1 (by rintro (z | z | z | z | z) <;> cases z)
      refine g_istore (pc := 455) (ls' := [(0, _), (1, _), (2, _), (3, _), (4, _), (5, _), (6, _)]) dL_law_455 (Nat.le_of_ble_eq_true rfl) rfl ?_
      refine g_aload_n (pc := 457) dL_law_457 rfl rfl ?_
      refine g_invV (pc := 458) dL_law_458 ho2 rfl (tc_thrown 2047 h2 hR2) meX3_thrown q1948 q1949 q1950 rfl rfl (Nat.le_of_ble_eq_true rfl) (fun κ z => tS_lt z) (fun v h3 hp3 fr3 => ?_) (fun xx h3 hp3 fr3 => ?_)
      · obtain ⟨v', τ'', z, tr, z1, z2⟩ := hp3
        cases z
        subst z1
        subst z2
        have hI3 := hI2.tw fr3 tr
        have hlo3 := (fr3.2.2 _ _ hlo2).1 (by rintro (z | z | z | z | z) <;> cases z)
        rw [hcd]
        refine g_iload (pc := 461) dL_law_461 rfl ?_
        refine g_icmp_eq (pc := 463) (tgt := 468) dL_law_463 rfl (fun _ => ?_) (fun q_ => absurd rfl q_)
        refine g_iload (pc := 468) dL_law_468 rfl ?_
        refine g_if_neN (pc := 470) (tgt := 485) dL_law_470 rfl (by omega) (fun q_ => ?_) (fun q_ => ?_)
        · refine g_goto (pc := 485) (tgt := 818) dL_law_485 rfl ?_
          exact g_drop [0, 1, 2, 3, 4] rfl (k818 _ _ hI3)
        · have ge := hg q_
          have eb := hb q_
          refine g_aload_n (pc := 473) dL_law_473 rfl rfl ?_
          refine g_iconst (pc := 474) (v := nI 0) dL_law_474 rfl ?_
          refine g_lald (pc := 475) 0 dL_law_475 hlo3 rfl (by decide) rfl ?_
          rw [ge]
          refine g_iload (pc := 476) dL_law_476 rfl ?_
          refine g_i2l (pc := 478) dL_law_478 ?_
          refine g_lcmp (pc := 479) dL_law_479 ?_
          rw [eb, cmp_same]
          refine g_if_eq (pc := 480) (tgt := 485) dL_law_480 rfl (fun _ => ?_) (fun q_ => absurd rfl q_)
          refine g_goto (pc := 485) (tgt := 818) dL_law_485 rfl ?_
          exact g_drop [0, 1, 2, 3, 4] rfl (k818 _ _ hI3)
      · obtain ⟨v', τ'', z, -⟩ := hp3
        cases z
    · obtain ⟨b, τ', z, -⟩ := hp2
      cases z
  · obtain ⟨k, y, z, -⟩ := hp
    cases z
theorem st_compile (hs : hScr Z xs) (hI : LI Z E o lo c τ h) (hc : 3 * c + 3 ≤ xs.length) (k818 : ∀ τ' h', LI Z E o lo (c + 1) τ' h' → LG Z X 818 (lwV Z E o lo c) [] h') : LG Z X 488 (lwV Z E o lo c) [] h := by
  have h192 := hs.2
  refine g_wf (fun hwf => ?_)
  refine g_aload_n (pc := 488) dL_law_488 rfl rfl ?_
  refine g_aload_n (pc := 489) dL_law_489 rfl rfl ?_
  refine g_iload (pc := 490) dL_law_490 rfl ?_
  refine g_iconst (pc := 492) (v := nI 1) dL_law_492 rfl ?_
  first | refine g_iaddN (pc := 493) dL_law_493 ?_ | refine g_iadd (pc := 493) dL_law_493 ?_
  refine g_sald hs (3 * c + 1) dL_law_494 (by omega) rfl ?_
  refine g_aload_n (pc := 495) dL_law_495 rfl rfl ?_
  refine g_invSX (pc := 496) dL_law_496 (jo_compile _ hI (by omega)) meX0_compile q977 q978 rfl rfl (Nat.le_of_ble_eq_true rfl) (fun κ z => z) (fun v h1 hp fr => ?_) (fun xx h1 hp fr => ?_)
  · obtain ⟨k, y, z, hk4, ⟨g, hlo1, hg⟩, ⟨fs, ho1⟩, ct⟩ := hp
    cases z
    refine g_istore (pc := 499) (ls' := [(0, _), (1, _), (2, _), (3, _), (4, _), (5, _)]) dL_law_499 (Nat.le_of_ble_eq_true rfl) rfl ?_
    refine g_aload_n (pc := 501) dL_law_501 rfl rfl ?_
    refine g_aload_n (pc := 502) dL_law_502 rfl rfl ?_
    refine g_iload (pc := 503) dL_law_503 rfl ?_
    refine g_iconst (pc := 505) (v := nI 1) dL_law_505 rfl ?_
    first | refine g_iaddN (pc := 506) dL_law_506 ?_ | refine g_iadd (pc := 506) dL_law_506 ?_
    refine g_sald hs (3 * c + 1) dL_law_507 (by omega) rfl ?_
    refine g_invV (pc := 508) dL_law_508 ho1 rfl ct meX3_compile q2014 q2015 q2016 rfl rfl (Nat.le_of_ble_eq_true rfl) (fun κ z => tS_lt z) (fun v h2 hp2 fr2 => ?_) (fun xx h2 hp2 fr2 => ?_)
    · obtain ⟨b, τ', z, hcd, hb, hI2⟩ := hp2
      cases z
      obtain ⟨-, -, -, -, -, -, -, -, -, hR2, -⟩ := id hI2
      have ho2 := hR2.1
      have hlo2 := (fr2.2.2 _ _ hlo1).1 (by rintro (z | z | z | z | z) <;> cases z)
      refine g_istore (pc := 511) (ls' := [(0, _), (1, _), (2, _), (3, _), (4, _), (5, _), (6, _)]) dL_law_511 (Nat.le_of_ble_eq_true rfl) rfl ?_
      refine g_aload_n (pc := 513) dL_law_513 rfl rfl ?_
      refine g_invV (pc := 514) dL_law_514 ho2 rfl (tc_thrown 2047 h2 hR2) meX3_thrown q1948 q1949 q1950 rfl rfl (Nat.le_of_ble_eq_true rfl) (fun κ z => tS_lt z) (fun v h3 hp3 fr3 => ?_) (fun xx h3 hp3 fr3 => ?_)
      · obtain ⟨v', τ'', z, tr, z1, z2⟩ := hp3
        cases z
        subst z1
        subst z2
        have hI3 := hI2.tw fr3 tr
        have hlo3 := (fr3.2.2 _ _ hlo2).1 (by rintro (z | z | z | z | z) <;> cases z)
        rw [hcd]
        refine g_iload (pc := 517) dL_law_517 rfl ?_
        refine g_icmp_eq (pc := 519) (tgt := 524) dL_law_519 rfl (fun _ => ?_) (fun q_ => absurd rfl q_)
        refine g_iload (pc := 524) dL_law_524 rfl ?_
        refine g_if_neN (pc := 526) (tgt := 541) dL_law_526 rfl (by omega) (fun q_ => ?_) (fun q_ => ?_)
        · refine g_goto (pc := 541) (tgt := 818) dL_law_541 rfl ?_
          exact g_drop [0, 1, 2, 3, 4] rfl (k818 _ _ hI3)
        · have ge := hg q_
          have eb := hb q_
          refine g_aload_n (pc := 529) dL_law_529 rfl rfl ?_
          refine g_iconst (pc := 530) (v := nI 0) dL_law_530 rfl ?_
          refine g_lald (pc := 531) 0 dL_law_531 hlo3 rfl (by decide) rfl ?_
          rw [ge]
          refine g_iload (pc := 532) dL_law_532 rfl ?_
          refine g_i2l (pc := 534) dL_law_534 ?_
          refine g_lcmp (pc := 535) dL_law_535 ?_
          rw [eb, cmp_same]
          refine g_if_eq (pc := 536) (tgt := 541) dL_law_536 rfl (fun _ => ?_) (fun q_ => absurd rfl q_)
          refine g_goto (pc := 541) (tgt := 818) dL_law_541 rfl ?_
          exact g_drop [0, 1, 2, 3, 4] rfl (k818 _ _ hI3)
      · obtain ⟨v', τ'', z, -⟩ := hp3
        cases z
    · obtain ⟨b, τ', z, -⟩ := hp2
      cases z
  · obtain ⟨k, y, z, -⟩ := hp
    cases z
theorem st_render (hs : hScr Z xs) (hI : LI Z E o lo c τ h) (hc : 3 * c + 3 ≤ xs.length) (k818 : ∀ τ' h', LI Z E o lo (c + 1) τ' h' → LG Z X 818 (lwV Z E o lo c) [] h') : LG Z X 557 (lwV Z E o lo c) [] h := by
  have h192 := hs.2
  refine g_wf (fun hwf => ?_)
  refine g_aload_n (pc := 557) dL_law_557 rfl rfl ?_
  refine g_aload_n (pc := 558) dL_law_558 rfl rfl ?_
  refine g_iload (pc := 559) dL_law_559 rfl ?_
  refine g_iconst (pc := 561) (v := nI 1) dL_law_561 rfl ?_
  first | refine g_iaddN (pc := 562) dL_law_562 ?_ | refine g_iadd (pc := 562) dL_law_562 ?_
  refine g_sald hs (3 * c + 1) dL_law_563 (by omega) rfl ?_
  refine g_aload_n (pc := 564) dL_law_564 rfl rfl ?_
  refine g_iload (pc := 565) dL_law_565 rfl ?_
  refine g_iconst (pc := 567) (v := nI 2) dL_law_567 rfl ?_
  first | refine g_iaddN (pc := 568) dL_law_568 ?_ | refine g_iadd (pc := 568) dL_law_568 ?_
  refine g_sald hs (3 * c + 2) dL_law_569 (by omega) rfl ?_
  refine g_aload_n (pc := 570) dL_law_570 rfl rfl ?_
  refine g_invSX (pc := 571) dL_law_571 (jo_render _ _ hI (by omega)) meX0_render q1392 q1393 rfl rfl (Nat.le_of_ble_eq_true rfl) (fun κ z => z) (fun v h1 hp fr => ?_) (fun xx h1 hp fr => ?_)
  · obtain ⟨k, y, z, hk4, ⟨g, hlo1, hg⟩, ⟨fs, ho1⟩, ct⟩ := hp
    cases z
    refine g_istore (pc := 574) (ls' := [(0, _), (1, _), (2, _), (3, _), (4, _), (5, _)]) dL_law_574 (Nat.le_of_ble_eq_true rfl) rfl ?_
    refine g_aload_n (pc := 576) dL_law_576 rfl rfl ?_
    refine g_aload_n (pc := 577) dL_law_577 rfl rfl ?_
    refine g_iload (pc := 578) dL_law_578 rfl ?_
    refine g_iconst (pc := 580) (v := nI 1) dL_law_580 rfl ?_
    first | refine g_iaddN (pc := 581) dL_law_581 ?_ | refine g_iadd (pc := 581) dL_law_581 ?_
    refine g_sald hs (3 * c + 1) dL_law_582 (by omega) rfl ?_
    refine g_aload_n (pc := 583) dL_law_583 rfl rfl ?_
    refine g_iload (pc := 584) dL_law_584 rfl ?_
    refine g_iconst (pc := 586) (v := nI 2) dL_law_586 rfl ?_
    first | refine g_iaddN (pc := 587) dL_law_587 ?_ | refine g_iadd (pc := 587) dL_law_587 ?_
    refine g_sald hs (3 * c + 2) dL_law_588 (by omega) rfl ?_
    refine g_invV (pc := 589) dL_law_589 ho1 rfl ct meX3_render q2100 q2101 q2102 rfl rfl (Nat.le_of_ble_eq_true rfl) (fun κ z => tS_lt z) (fun v h2 hp2 fr2 => ?_) (fun xx h2 hp2 fr2 => ?_)
    · obtain ⟨b, τ', z, hcd, hb, hI2⟩ := hp2
      cases z
      obtain ⟨-, -, -, -, -, -, -, -, -, hR2, -⟩ := id hI2
      have ho2 := hR2.1
      have hlo2 := (fr2.2.2 _ _ hlo1).1 (by rintro (z | z | z | z | z) <;> cases z)
      refine g_istore (pc := 592) (ls' := [(0, _), (1, _), (2, _), (3, _), (4, _), (5, _), (6, _)]) dL_law_592 (Nat.le_of_ble_eq_true rfl) rfl ?_
      refine g_aload_n (pc := 594) dL_law_594 rfl rfl ?_
      refine g_invV (pc := 595) dL_law_595 ho2 rfl (tc_thrown 2047 h2 hR2) meX3_thrown q1948 q1949 q1950 rfl rfl (Nat.le_of_ble_eq_true rfl) (fun κ z => tS_lt z) (fun v h3 hp3 fr3 => ?_) (fun xx h3 hp3 fr3 => ?_)
      · obtain ⟨v', τ'', z, tr, z1, z2⟩ := hp3
        cases z
        subst z1
        subst z2
        have hI3 := hI2.tw fr3 tr
        have hlo3 := (fr3.2.2 _ _ hlo2).1 (by rintro (z | z | z | z | z) <;> cases z)
        rw [hcd]
        refine g_iload (pc := 598) dL_law_598 rfl ?_
        refine g_icmp_eq (pc := 600) (tgt := 605) dL_law_600 rfl (fun _ => ?_) (fun q_ => absurd rfl q_)
        refine g_iload (pc := 605) dL_law_605 rfl ?_
        refine g_if_neN (pc := 607) (tgt := 622) dL_law_607 rfl (by omega) (fun q_ => ?_) (fun q_ => ?_)
        · refine g_goto (pc := 622) (tgt := 818) dL_law_622 rfl ?_
          exact g_drop [0, 1, 2, 3, 4] rfl (k818 _ _ hI3)
        · have ge := hg q_
          have eb := hb q_
          refine g_aload_n (pc := 610) dL_law_610 rfl rfl ?_
          refine g_iconst (pc := 611) (v := nI 0) dL_law_611 rfl ?_
          refine g_lald (pc := 612) 0 dL_law_612 hlo3 rfl (by decide) rfl ?_
          rw [ge]
          refine g_iload (pc := 613) dL_law_613 rfl ?_
          refine g_i2l (pc := 615) dL_law_615 ?_
          refine g_lcmp (pc := 616) dL_law_616 ?_
          rw [eb, cmp_same]
          refine g_if_eq (pc := 617) (tgt := 622) dL_law_617 rfl (fun _ => ?_) (fun q_ => absurd rfl q_)
          refine g_goto (pc := 622) (tgt := 818) dL_law_622 rfl ?_
          exact g_drop [0, 1, 2, 3, 4] rfl (k818 _ _ hI3)
      · obtain ⟨v', τ'', z, -⟩ := hp3
        cases z
    · obtain ⟨b, τ', z, -⟩ := hp2
      cases z
  · obtain ⟨k, y, z, -⟩ := hp
    cases z
theorem st_at (hs : hScr Z xs) (hI : LI Z E o lo c τ h) (hc : 3 * c + 3 ≤ xs.length) (k818 : ∀ τ' h', LI Z E o lo (c + 1) τ' h' → LG Z X 818 (lwV Z E o lo c) [] h') : LG Z X 625 (lwV Z E o lo c) [] h := by
  have h192 := hs.2
  refine g_wf (fun hwf => ?_)
  refine g_aload_n (pc := 625) dL_law_625 rfl rfl ?_
  refine g_aload_n (pc := 626) dL_law_626 rfl rfl ?_
  refine g_iload (pc := 627) dL_law_627 rfl ?_
  refine g_iconst (pc := 629) (v := nI 1) dL_law_629 rfl ?_
  first | refine g_iaddN (pc := 630) dL_law_630 ?_ | refine g_iadd (pc := 630) dL_law_630 ?_
  refine g_sald hs (3 * c + 1) dL_law_631 (by omega) rfl ?_
  refine g_aload_n (pc := 632) dL_law_632 rfl rfl ?_
  refine g_invSX (pc := 633) dL_law_633 (jo_at _ hI (by omega)) meX0_at q1767 q1768 rfl rfl (Nat.le_of_ble_eq_true rfl) (fun κ z => z) (fun v h1 hp fr => ?_) (fun xx h1 hp fr => ?_)
  · obtain ⟨k, y, z, hk4, ⟨g, hlo1, hg⟩, ⟨fs, ho1⟩, ct⟩ := hp
    cases z
    refine g_istore (pc := 636) (ls' := [(0, _), (1, _), (2, _), (3, _), (4, _), (5, _)]) dL_law_636 (Nat.le_of_ble_eq_true rfl) rfl ?_
    refine g_aload_n (pc := 638) dL_law_638 rfl rfl ?_
    refine g_aload_n (pc := 639) dL_law_639 rfl rfl ?_
    refine g_iload (pc := 640) dL_law_640 rfl ?_
    refine g_iconst (pc := 642) (v := nI 1) dL_law_642 rfl ?_
    first | refine g_iaddN (pc := 643) dL_law_643 ?_ | refine g_iadd (pc := 643) dL_law_643 ?_
    refine g_sald hs (3 * c + 1) dL_law_644 (by omega) rfl ?_
    refine g_invV (pc := 645) dL_law_645 ho1 rfl ct meX3_at q2243 q2244 q2245 rfl rfl (Nat.le_of_ble_eq_true rfl) (fun κ z => tS_lt z) (fun v h2 hp2 fr2 => ?_) (fun xx h2 hp2 fr2 => ?_)
    · obtain ⟨b, τ', z, hcd, hb, hI2⟩ := hp2
      cases z
      obtain ⟨-, -, -, -, -, -, -, -, -, hR2, -⟩ := id hI2
      have ho2 := hR2.1
      have hlo2 := (fr2.2.2 _ _ hlo1).1 (by rintro (z | z | z | z | z) <;> cases z)
      refine g_istore (pc := 648) (ls' := [(0, _), (1, _), (2, _), (3, _), (4, _), (5, _), (6, _)]) dL_law_648 (Nat.le_of_ble_eq_true rfl) rfl ?_
      refine g_aload_n (pc := 650) dL_law_650 rfl rfl ?_
      refine g_invV (pc := 651) dL_law_651 ho2 rfl (tc_thrown 2047 h2 hR2) meX3_thrown q1948 q1949 q1950 rfl rfl (Nat.le_of_ble_eq_true rfl) (fun κ z => tS_lt z) (fun v h3 hp3 fr3 => ?_) (fun xx h3 hp3 fr3 => ?_)
      · obtain ⟨v', τ'', z, tr, z1, z2⟩ := hp3
        cases z
        subst z1
        subst z2
        have hI3 := hI2.tw fr3 tr
        have hlo3 := (fr3.2.2 _ _ hlo2).1 (by rintro (z | z | z | z | z) <;> cases z)
        rw [hcd]
        refine g_iload (pc := 654) dL_law_654 rfl ?_
        refine g_icmp_eq (pc := 656) (tgt := 661) dL_law_656 rfl (fun _ => ?_) (fun q_ => absurd rfl q_)
        refine g_iload (pc := 661) dL_law_661 rfl ?_
        refine g_if_neN (pc := 663) (tgt := 678) dL_law_663 rfl (by omega) (fun q_ => ?_) (fun q_ => ?_)
        · refine g_goto (pc := 678) (tgt := 818) dL_law_678 rfl ?_
          exact g_drop [0, 1, 2, 3, 4] rfl (k818 _ _ hI3)
        · have ge := hg q_
          have eb := hb q_
          refine g_aload_n (pc := 666) dL_law_666 rfl rfl ?_
          refine g_iconst (pc := 667) (v := nI 0) dL_law_667 rfl ?_
          refine g_lald (pc := 668) 0 dL_law_668 hlo3 rfl (by decide) rfl ?_
          rw [ge]
          refine g_iload (pc := 669) dL_law_669 rfl ?_
          refine g_i2l (pc := 671) dL_law_671 ?_
          refine g_lcmp (pc := 672) dL_law_672 ?_
          rw [eb, cmp_same]
          refine g_if_eq (pc := 673) (tgt := 678) dL_law_673 rfl (fun _ => ?_) (fun q_ => absurd rfl q_)
          refine g_goto (pc := 678) (tgt := 818) dL_law_678 rfl ?_
          exact g_drop [0, 1, 2, 3, 4] rfl (k818 _ _ hI3)
      · obtain ⟨v', τ'', z, -⟩ := hp3
        cases z
    · obtain ⟨b, τ', z, -⟩ := hp2
      cases z
  · obtain ⟨k, y, z, -⟩ := hp
    cases z
theorem st_kind (hs : hScr Z xs) (hI : LI Z E o lo c τ h) (hc : 3 * c + 3 ≤ xs.length) (k818 : ∀ τ' h', LI Z E o lo (c + 1) τ' h' → LG Z X 818 (lwV Z E o lo c) [] h') : LG Z X 681 (lwV Z E o lo c) [] h := by
  have h192 := hs.2
  refine g_wf (fun hwf => ?_)
  refine g_aload_n (pc := 681) dL_law_681 rfl rfl ?_
  refine g_aload_n (pc := 682) dL_law_682 rfl rfl ?_
  refine g_iload (pc := 683) dL_law_683 rfl ?_
  refine g_iconst (pc := 685) (v := nI 1) dL_law_685 rfl ?_
  first | refine g_iaddN (pc := 686) dL_law_686 ?_ | refine g_iadd (pc := 686) dL_law_686 ?_
  refine g_sald hs (3 * c + 1) dL_law_687 (by omega) rfl ?_
  refine g_aload_n (pc := 688) dL_law_688 rfl rfl ?_
  refine g_invSX (pc := 689) dL_law_689 (jo_kind _ hI (by omega)) meX0_kind q1778 q1779 rfl rfl (Nat.le_of_ble_eq_true rfl) (fun κ z => z) (fun v h1 hp fr => ?_) (fun xx h1 hp fr => ?_)
  · obtain ⟨k, y, z, hk4, ⟨g, hlo1, hg⟩, ⟨fs, ho1⟩, ct⟩ := hp
    cases z
    refine g_istore (pc := 692) (ls' := [(0, _), (1, _), (2, _), (3, _), (4, _), (5, _)]) dL_law_692 (Nat.le_of_ble_eq_true rfl) rfl ?_
    refine g_aload_n (pc := 694) dL_law_694 rfl rfl ?_
    refine g_aload_n (pc := 695) dL_law_695 rfl rfl ?_
    refine g_iload (pc := 696) dL_law_696 rfl ?_
    refine g_iconst (pc := 698) (v := nI 1) dL_law_698 rfl ?_
    first | refine g_iaddN (pc := 699) dL_law_699 ?_ | refine g_iadd (pc := 699) dL_law_699 ?_
    refine g_sald hs (3 * c + 1) dL_law_700 (by omega) rfl ?_
    refine g_invV (pc := 701) dL_law_701 ho1 rfl ct meX3_kind q2247 q2248 q2249 rfl rfl (Nat.le_of_ble_eq_true rfl) (fun κ z => tS_lt z) (fun v h2 hp2 fr2 => ?_) (fun xx h2 hp2 fr2 => ?_)
    · obtain ⟨b, τ', z, hcd, hb, hI2⟩ := hp2
      cases z
      obtain ⟨-, -, -, -, -, -, -, -, -, hR2, -⟩ := id hI2
      have ho2 := hR2.1
      have hlo2 := (fr2.2.2 _ _ hlo1).1 (by rintro (z | z | z | z | z) <;> cases z)
      refine g_istore (pc := 704) (ls' := [(0, _), (1, _), (2, _), (3, _), (4, _), (5, _), (6, _)]) dL_law_704 (Nat.le_of_ble_eq_true rfl) rfl ?_
      refine g_aload_n (pc := 706) dL_law_706 rfl rfl ?_
      refine g_invV (pc := 707) dL_law_707 ho2 rfl (tc_thrown 2047 h2 hR2) meX3_thrown q1948 q1949 q1950 rfl rfl (Nat.le_of_ble_eq_true rfl) (fun κ z => tS_lt z) (fun v h3 hp3 fr3 => ?_) (fun xx h3 hp3 fr3 => ?_)
      · obtain ⟨v', τ'', z, tr, z1, z2⟩ := hp3
        cases z
        subst z1
        subst z2
        have hI3 := hI2.tw fr3 tr
        have hlo3 := (fr3.2.2 _ _ hlo2).1 (by rintro (z | z | z | z | z) <;> cases z)
        rw [hcd]
        refine g_iload (pc := 710) dL_law_710 rfl ?_
        refine g_icmp_eq (pc := 712) (tgt := 717) dL_law_712 rfl (fun _ => ?_) (fun q_ => absurd rfl q_)
        refine g_iload (pc := 717) dL_law_717 rfl ?_
        refine g_if_neN (pc := 719) (tgt := 734) dL_law_719 rfl (by omega) (fun q_ => ?_) (fun q_ => ?_)
        · refine g_goto (pc := 734) (tgt := 818) dL_law_734 rfl ?_
          exact g_drop [0, 1, 2, 3, 4] rfl (k818 _ _ hI3)
        · have ge := hg q_
          have eb := hb q_
          refine g_aload_n (pc := 722) dL_law_722 rfl rfl ?_
          refine g_iconst (pc := 723) (v := nI 0) dL_law_723 rfl ?_
          refine g_lald (pc := 724) 0 dL_law_724 hlo3 rfl (by decide) rfl ?_
          rw [ge]
          refine g_iload (pc := 725) dL_law_725 rfl ?_
          refine g_i2l (pc := 727) dL_law_727 ?_
          refine g_lcmp (pc := 728) dL_law_728 ?_
          rw [eb, cmp_same]
          refine g_if_eq (pc := 729) (tgt := 734) dL_law_729 rfl (fun _ => ?_) (fun q_ => absurd rfl q_)
          refine g_goto (pc := 734) (tgt := 818) dL_law_734 rfl ?_
          exact g_drop [0, 1, 2, 3, 4] rfl (k818 _ _ hI3)
      · obtain ⟨v', τ'', z, -⟩ := hp3
        cases z
    · obtain ⟨b, τ', z, -⟩ := hp2
      cases z
  · obtain ⟨k, y, z, -⟩ := hp
    cases z
theorem st_size (hs : hScr Z xs) (hI : LI Z E o lo c τ h) (hc : 3 * c + 3 ≤ xs.length) (k818 : ∀ τ' h', LI Z E o lo (c + 1) τ' h' → LG Z X 818 (lwV Z E o lo c) [] h') : LG Z X 737 (lwV Z E o lo c) [] h := by
  have h192 := hs.2
  refine g_wf (fun hwf => ?_)
  refine g_aload_n (pc := 737) dL_law_737 rfl rfl ?_
  refine g_aload_n (pc := 738) dL_law_738 rfl rfl ?_
  refine g_iload (pc := 739) dL_law_739 rfl ?_
  refine g_iconst (pc := 741) (v := nI 1) dL_law_741 rfl ?_
  first | refine g_iaddN (pc := 742) dL_law_742 ?_ | refine g_iadd (pc := 742) dL_law_742 ?_
  refine g_sald hs (3 * c + 1) dL_law_743 (by omega) rfl ?_
  refine g_aload_n (pc := 744) dL_law_744 rfl rfl ?_
  refine g_invSX (pc := 745) dL_law_745 (jo_size _ hI (by omega)) meX0_size q1785 q1786 rfl rfl (Nat.le_of_ble_eq_true rfl) (fun κ z => z) (fun v h1 hp fr => ?_) (fun xx h1 hp fr => ?_)
  · obtain ⟨k, y, z, hk4, ⟨g, hlo1, hg⟩, ⟨fs, ho1⟩, ct⟩ := hp
    cases z
    refine g_istore (pc := 748) (ls' := [(0, _), (1, _), (2, _), (3, _), (4, _), (5, _)]) dL_law_748 (Nat.le_of_ble_eq_true rfl) rfl ?_
    refine g_aload_n (pc := 750) dL_law_750 rfl rfl ?_
    refine g_aload_n (pc := 751) dL_law_751 rfl rfl ?_
    refine g_iload (pc := 752) dL_law_752 rfl ?_
    refine g_iconst (pc := 754) (v := nI 1) dL_law_754 rfl ?_
    first | refine g_iaddN (pc := 755) dL_law_755 ?_ | refine g_iadd (pc := 755) dL_law_755 ?_
    refine g_sald hs (3 * c + 1) dL_law_756 (by omega) rfl ?_
    refine g_invV (pc := 757) dL_law_757 ho1 rfl ct meX3_size q2251 q2252 q2253 rfl rfl (Nat.le_of_ble_eq_true rfl) (fun κ z => tS_lt z) (fun v h2 hp2 fr2 => ?_) (fun xx h2 hp2 fr2 => ?_)
    · obtain ⟨b, τ', z, hcd, hb, hI2⟩ := hp2
      cases z
      obtain ⟨-, -, -, -, -, -, -, -, -, hR2, -⟩ := id hI2
      have ho2 := hR2.1
      have hlo2 := (fr2.2.2 _ _ hlo1).1 (by rintro (z | z | z | z | z) <;> cases z)
      refine g_istore (pc := 760) (ls' := [(0, _), (1, _), (2, _), (3, _), (4, _), (5, _), (6, _)]) dL_law_760 (Nat.le_of_ble_eq_true rfl) rfl ?_
      refine g_aload_n (pc := 762) dL_law_762 rfl rfl ?_
      refine g_invV (pc := 763) dL_law_763 ho2 rfl (tc_thrown 2047 h2 hR2) meX3_thrown q1948 q1949 q1950 rfl rfl (Nat.le_of_ble_eq_true rfl) (fun κ z => tS_lt z) (fun v h3 hp3 fr3 => ?_) (fun xx h3 hp3 fr3 => ?_)
      · obtain ⟨v', τ'', z, tr, z1, z2⟩ := hp3
        cases z
        subst z1
        subst z2
        have hI3 := hI2.tw fr3 tr
        have hlo3 := (fr3.2.2 _ _ hlo2).1 (by rintro (z | z | z | z | z) <;> cases z)
        rw [hcd]
        refine g_iload (pc := 766) dL_law_766 rfl ?_
        refine g_icmp_eq (pc := 768) (tgt := 773) dL_law_768 rfl (fun _ => ?_) (fun q_ => absurd rfl q_)
        refine g_iload (pc := 773) dL_law_773 rfl ?_
        refine g_if_neN (pc := 775) (tgt := 790) dL_law_775 rfl (by omega) (fun q_ => ?_) (fun q_ => ?_)
        · refine g_goto (pc := 790) (tgt := 818) dL_law_790 rfl ?_
          exact g_drop [0, 1, 2, 3, 4] rfl (k818 _ _ hI3)
        · have ge := hg q_
          have eb := hb q_
          refine g_aload_n (pc := 778) dL_law_778 rfl rfl ?_
          refine g_iconst (pc := 779) (v := nI 0) dL_law_779 rfl ?_
          refine g_lald (pc := 780) 0 dL_law_780 hlo3 rfl (by decide) rfl ?_
          rw [ge]
          refine g_iload (pc := 781) dL_law_781 rfl ?_
          refine g_i2l (pc := 783) dL_law_783 ?_
          refine g_lcmp (pc := 784) dL_law_784 ?_
          rw [eb, cmp_same]
          refine g_if_eq (pc := 785) (tgt := 790) dL_law_785 rfl (fun _ => ?_) (fun q_ => absurd rfl q_)
          refine g_goto (pc := 790) (tgt := 818) dL_law_790 rfl ?_
          exact g_drop [0, 1, 2, 3, 4] rfl (k818 _ _ hI3)
      · obtain ⟨v', τ'', z, -⟩ := hp3
        cases z
    · obtain ⟨b, τ', z, -⟩ := hp2
      cases z
  · obtain ⟨k, y, z, -⟩ := hp
    cases z
theorem st_errorAt (hI : LI Z E o lo c τ h) (k818 : ∀ τ' h', LI Z E o lo (c + 1) τ' h' → LG Z X 818 (lwV Z E o lo c) [] h') : LG Z X 544 (lwV Z E o lo c) [] h := by
  obtain ⟨D, Tm, l, out, ea, tg, th, ci, ti, hR, ⟨g, hlo⟩, b1, b2, b3, b4, b5⟩ := id hI
  obtain ⟨w, dl, el, ta, ln, rd, sr, c0, co, γ, cj, hc0, hγ, hsr⟩ := id ci
  obtain ⟨x1, x2, x3, x4, x5, x6, x7⟩ := id cj
  have ho := hR.1
  have e11 := ti.2.2.2.2.2.2.2.2.2.2
  refine g_aload_n (pc := 544) dL_law_544 rfl rfl ?_
  refine g_invV (pc := 545) dL_law_545 x1 rfl (en_errorAt 2047 x1) meX1_errorAt q520 q521 q522 rfl rfl (Nat.le_of_ble_eq_true rfl) (by first | exact jF | exact fun _ z => z | assumption | (intro κ z; simp_all)) (jk_e ?_) jk_x
  refine g_aload_n (pc := 548) dL_law_548 rfl rfl ?_
  refine g_invV (pc := 549) dL_law_549 ho rfl (tc_errorAt (τ := τ) 2046 h hR) meX3_errorAt q2096 q2097 q2098 rfl rfl (Nat.le_of_ble_eq_true rfl) (fun κ z => tS_lt z) (fun v h2 hp2 fr2 => ?_) (fun xx h2 hp2 fr2 => ?_)
  · obtain ⟨v', τ', z, tr, z1, z2⟩ := hp2
    cases z
    subst z1
    subst z2
    rw [e11]
    refine g_icmp_eq (pc := 552) (tgt := 818) dL_law_552 rfl (fun _ => ?_) (fun q_ => absurd rfl q_)
    exact k818 _ _ (LI.mk (ci.le (by omega)) fr2 ti.fn0 tr hlo (by omega) (by omega) b3 (by omega) (by omega))
  · obtain ⟨v', τ', z, -⟩ := hp2
    cases z
theorem cn_eq {Tm : Nat → Option aT} {τ : tT} (h : tmR Tm τ) : ∀ n, n ≤ 4 → cnN τ n = cnF (fun i => (Tm i).isSome) n
  | 0, _ => rfl
  | n + 1, hn => by
    have ih := cn_eq h n (by omega)
    show cnN τ n + (if τ.2.2.1 17 n = 0 then 0 else 1) = _
    rw [ih]
    cases ht : Tm n with
    | none =>
      rw [h.2.1 n (by omega) ht, if_pos rfl]
      show _ = cnF (fun i => (Tm i).isSome) n + (if (Tm n).isSome = true then 1 else 0)
      rw [ht]
      rfl
    | some A =>
      obtain ⟨N, f, G, T⟩ := A
      have := (h.2.2.1 n N f G T ht).1.1
      rw [this, if_neg (by decide)]
      show _ = cnF (fun i => (Tm i).isSome) n + (if (Tm n).isSome = true then 1 else 0)
      rw [ht]
      rfl
theorem st_count (hs : hScr Z xs) (hI : LI Z E o lo c τ h) (hc : 3 * c + 3 ≤ xs.length) (k818 : ∀ τ' h', LI Z E o lo (c + 1) τ' h' → LG Z X 818 (lwV Z E o lo c) [] h') : LG Z X 793 (lwV Z E o lo c) [] h := by
  have h192 := hs.2
  obtain ⟨D, Tm, l, out, ea, tg, th, ci, ti, hR, ⟨g, hlo⟩, b1, b2, b3, b4, b5⟩ := id hI
  obtain ⟨w, dl, el, ta, ln, rd, sr, c0, co, γ, cj, hc0, hγ, hsr⟩ := id ci
  obtain ⟨x1, ⟨ys, cap, hA, hxl, hxw⟩, x3, x4, x5, x6, x7⟩ := id cj
  have ho := hR.1
  have h17 : ∀ k, k < 4 → τ.2.2.1 17 k < 2 := fun k hk => by
    cases ht : Tm k with
    | none => rw [ti.2.1.2.1 k hk ht]; decide
    | some A =>
      obtain ⟨N, f, G, T⟩ := A
      rw [(ti.2.1.2.2.1 k N f G T ht).1.1]; decide
  have ecn : cnV ys.length l.length (cnF (fun i => (Tm i).isSome) 4) out.length tg th (xs.getD (3 * c + 1) 0) = cnT τ (xs.getD (3 * c + 1) 0) := by
    obtain ⟨a1, a2, a3, a4, a5, a6, a7, a8, a9, a10, a11⟩ := ti
    unfold cnV cnT
    rw [cn_eq a2 4 (by decide), a1.1, a3, a6, a9, a10, hxl]
    rfl
  refine g_aload_n (pc := 793) dL_law_793 rfl rfl ?_
  refine g_aload_n (pc := 794) dL_law_794 rfl rfl ?_
  refine g_iload (pc := 795) dL_law_795 rfl ?_
  refine g_iconst (pc := 797) (v := nI 1) dL_law_797 rfl ?_
  first | refine g_iaddN (pc := 798) dL_law_798 ?_ | refine g_iadd (pc := 798) dL_law_798 ?_
  refine g_sald hs (3 * c + 1) dL_law_799 (by omega) rfl ?_
  refine g_invV (pc := 800) dL_law_800 x1 rfl (en_count 2044 _ x1 hA x5 x6 x4) meX1_count q524 q525 q526 rfl rfl (Nat.le_of_ble_eq_true rfl) (by first | exact jF | exact fun _ z => z | assumption | (intro κ z; simp_all)) (jk_e ?_) jk_x
  refine g_aload_n (pc := 803) dL_law_803 rfl rfl ?_
  refine g_aload_n (pc := 804) dL_law_804 rfl rfl ?_
  refine g_iload (pc := 805) dL_law_805 rfl ?_
  refine g_iconst (pc := 807) (v := nI 1) dL_law_807 rfl ?_
  first | refine g_iaddN (pc := 808) dL_law_808 ?_ | refine g_iadd (pc := 808) dL_law_808 ?_
  refine g_sald hs (3 * c + 1) dL_law_809 (by omega) rfl ?_
  refine g_invV (pc := 810) dL_law_810 ho rfl (tc_count (τ := τ) 2047 _ h17 h hR) meX3_count q2255 q2256 q2257 rfl rfl (Nat.le_of_ble_eq_true rfl) (fun κ z => tS_lt z) (fun v h2 hp2 fr2 => ?_) (fun xx h2 hp2 fr2 => ?_)
  · obtain ⟨v', τ', z, tr, z1, z2⟩ := hp2
    cases z
    subst z1
    subst z2
    rw [ecn]
    refine g_icmp_eq (pc := 813) (tgt := 818) dL_law_813 rfl (fun _ => ?_) (fun q_ => absurd rfl q_)
    exact k818 _ _ (LI.mk (ci.le (by omega)) fr2 ti.fn0 tr hlo (by omega) (by omega) b3 (by omega) (by omega))
  · obtain ⟨v', τ', z, -⟩ := hp2
    cases z
end LB
