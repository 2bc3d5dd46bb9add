/-! TWIN 14: put, text; what is made -/
set_option maxRecDepth 100000
section TW14
variable {Z : hE} {o : Nat} {τ : tT}
/-- what put writes -/
theorem tD_put {a b : Nat} {n : List Nat} {D : aD} {τ1 τ2 : tT} (hD : tD τ1 D) (ha : a < D.1) (hb : b < D.1) (hmp : isMp (D.2 a) = true) (hn : nmOK n) (hlen : fnP n (aPs (D.2 a)) = none → (aPs (D.2 a)).length < 10)
    (h2 : τ2 = tAN (match fnP n (aPs (D.2 a)) with | some _ => τ1 | none => tAL (tAI τ1 9 a (nI ((aPs (D.2 a)).length + 1))) (10 * a + (aPs (D.2 a)).length) (lN (encN n))) 11 (10 * a + (fnP n (aPs (D.2 a))).getD (aPs (D.2 a)).length) b) : tD τ2 (dPut D a n b) ∧ τ2.2.2.2.1 9 a = nI (ptP n b (aPs (D.2 a))).length ∧ τ2.1 = τ1.1 ∧ tFa [9, 11, 12] τ1 τ2 := by
  have hD2 := hD.2.1
  have hit := (hD.2.2 a ha).1
  rw [isMp_eq hmp] at hit
  obtain ⟨k8, k9, kl, kp, kn⟩ := hit
  have kn := kn rfl
  have e1 : (dPut D a n b).2 a = .inr (.inr (true, ptP n b (aPs (D.2 a)))) := if_pos rfl
  have hmem : ∀ q ∈ ptP n b (aPs (D.2 a)), q.2 < D.1 := fun q hq => by
    rcases ptP_mem hq with z | z
    · exact (hD.2.2 a ha).2 q z
    · rw [z]; exact hb
  cases hf : fnP n (aPs (D.2 a)) with
  | some k =>
    rw [hf] at h2
    have h2 : τ2 = tAN τ1 11 (10 * a + k) b := h2
    subst h2
    obtain ⟨hk1, hk2⟩ := fnP_at hf
    have ep : ptP n b (aPs (D.2 a)) = (aPs (D.2 a)).set k (n, b) := by unfold ptP; rw [hf]
    refine ⟨⟨hD.1, hD.2.1, fun x hx => ?_⟩, ?_, rfl, (tFa.refl _ _).an (by simp)⟩
    · by_cases e : x = a
      · subst e
        rw [e1]
        refine ⟨?_, hmem⟩
        rw [ep]
        refine ⟨k8, by rw [List.length_set]; exact k9, by rw [List.length_set]; exact kl, fun i hi => ?_, fun _ i hi => ?_⟩
        · rw [List.length_set] at hi
          show up2 τ1.2.2.1 11 _ b 11 (10 * x + i) = _
          by_cases e : i = k
          · rw [e, up2_s, getD_set1 hk1]
          · rw [up2_i (by omega), getD_set2 e]; exact kp i hi
        · rw [List.length_set] at hi
          by_cases e : i = k
          · rw [e, getD_set1 hk1]
            refine ⟨?_, hn⟩
            rw [← hk2]; exact (kn k hk1).1
          · rw [getD_set2 e]; exact kn i hi
      · have e2 : (dPut D a n b).2 x = D.2 x := if_neg e
        have hx : x < D.1 := hx
        rw [e2]
        refine ⟨tX.same (a := τ1) (by rfl) (by rfl) (fun _ _ => by rfl) (fun i hi => ?_) (fun _ _ => by rfl) (hD.2.2 x hx).1, (hD.2.2 x hx).2⟩
        exact rAN_i (τ := τ1) (k := 11) (i := 10 * a + k) (i' := 10 * x + i) (v := b) (by omega)
    · rw [ep, List.length_set]; exact k9
  | none =>
    rw [hf] at h2
    have h2 : τ2 = tAN (tAL (tAI τ1 9 a (nI ((aPs (D.2 a)).length + 1))) (10 * a + (aPs (D.2 a)).length) (lN (encN n))) 11 (10 * a + (aPs (D.2 a)).length) b := h2
    have hl := hlen hf
    subst h2
    have ep : ptP n b (aPs (D.2 a)) = aPs (D.2 a) ++ [(n, b)] := by unfold ptP; rw [hf]
    refine ⟨⟨hD.1, hD.2.1, fun x hx => ?_⟩, ?_, rfl, (((tFa.refl _ _).ai (by simp)).al (by simp)).an (by simp)⟩
    · by_cases e : x = a
      · subst e
        rw [e1]
        refine ⟨?_, hmem⟩
        rw [ep]
        refine ⟨k8, ?_, by rw [List.length_append]; simp; omega, fun i hi => ?_, fun _ i hi => ?_⟩
        · rw [List.length_append]
          show up2 τ1.2.2.2.1 9 x _ 9 x = _
          rw [up2_s]; rfl
        · rw [List.length_append] at hi
          simp at hi
          show up2 τ1.2.2.1 11 _ b 11 (10 * x + i) = _
          by_cases e : i = (aPs (D.2 x)).length
          · rw [e, up2_s, getD_app2]
          · rw [up2_i (by omega), getD_app1 (by omega)]; exact kp i (by omega)
        · rw [List.length_append] at hi
          simp at hi
          show (if 10 * x + i = 10 * x + (aPs (D.2 x)).length then lN (encN n) else τ1.2.2.2.2 (10 * x + i)) = _ ∧ _
          by_cases e : i = (aPs (D.2 x)).length
          · rw [e, if_pos rfl, getD_app2]; exact ⟨rfl, hn⟩
          · rw [if_neg (by omega), getD_app1 (by omega)]; exact kn i (by omega)
      · have e2 : (dPut D a n b).2 x = D.2 x := if_neg e
        have hx : x < D.1 := hx
        rw [e2]
        refine ⟨tX.same (a := τ1) (by rfl) ?_ (fun _ _ => by rfl) (fun i hi => ?_) (fun i hi => ?_) (hD.2.2 x hx).1, (hD.2.2 x hx).2⟩
        · exact rAI_i (τ := τ1) (k := 9) (v := nI ((aPs (D.2 a)).length + 1)) e
        · exact rAN_i (τ := τ1) (k := 11) (i := 10 * a + (aPs (D.2 a)).length) (i' := 10 * x + i) (v := b) (by omega)
        · exact if_neg (by omega)
    · rw [ep, List.length_append]
      show up2 τ1.2.2.2.1 9 a _ 9 a = _
      rw [up2_s]; rfl
def ptQ (D : aD) (l : List Nat) (m x : Int32) (τ : tT) (r : Option Value) (τ' : tT) : Prop :=
  (∃ z, r = some (.int z)) ∧ ((¬ (inR D m ∧ inR D x) ∧ τ' = tRf τ 1) ∨ ∃ a b, a < D.1 ∧ b < D.1 ∧ m = nI a ∧ x = nI b ∧
    (((isMp (D.2 a) = false ∨ rch D b a ∨ ¬ nmOK l) ∧ τ'.1 = (tRf τ 2).1 ∧ tFa [13] τ τ') ∨
     (isMp (D.2 a) = true ∧ ¬ rch D b a ∧ nmOK l ∧ fnP l (aPs (D.2 a)) = none ∧ (aPs (D.2 a)).length = 10 ∧ τ'.1 = (tRf τ 3).1 ∧ tFa [13] τ τ') ∨
     (isMp (D.2 a) = true ∧ ¬ rch D b a ∧ nmOK l ∧ ¬ (fnP l (aPs (D.2 a)) = none ∧ (aPs (D.2 a)).length = 10) ∧ r = some (.int (nI (ptP l b (aPs (D.2 a))).length)) ∧ τ'.1 = (tFN (tFN τ 2 0) 0 0).1 ∧ tFa [9, 11, 12, 13] τ τ' ∧ tD τ' (dPut D a l b))))
theorem tc_put (d : Nat) (m x : Int32) (D : aD) (hD : tD τ D) (n : Nat) (hn : τ.1 2 = n) (hn2 : n ≤ 200) (hf : ∀ i, i < n → τ.2.2.1 7 i < 128) : tC Z mX3_put (d + 2) o [.ref o, .int m, .int x] τ (ptQ D (sgF (τ.2.2.1 7) 0 n) m x τ) := by
  refine tC.of rfl rfl (Nat.le_of_ble_eq_true rfl) rfl (fun X hin h hR => ?_)
  have hD2 := hD.2.1
  have hN : τ.1 4 = D.1 := hD.1
  generalize hl : sgF (τ.2.2.1 7) 0 n = l
  have bad : ¬ (inR D m ∧ inR D x) → ∀ h, tH o τ hin h → hG Z X mX3_put (d + 2) tS hin (tK o hin (ptQ D l m x τ)) 16 [(0, .ref o), (1, .int m), (2, .int x)] [] h := by
    intro hb h hR
    refine g_aload_n (pc := 16) dX3_put_16 rfl rfl ?_
    refine g_iconst (pc := 17) (v := nI 1) dX3_put_17 rfl ?_
    refine t_invE (pc := 18) dX3_put_18 hR (tc_refuse _ 1) meX3_refuse q1956 q1958 qs16 rfl rfl (Nat.le_of_ble_eq_true rfl) (fun h hR => ?_)
    exact t_iret (pc := 21) dX3_put_21 hR rfl (⟨⟨_, rfl⟩, Or.inl ⟨hb, rfl⟩⟩)
  refine g_aload_n (pc := 0) dX3_put_0 rfl rfl ?_
  refine g_iload_n (pc := 1) dX3_put_1 rfl rfl ?_
  refine t_inv (pc := 2) dX3_put_2 hR (tc_no _ m (by omega)) meX3_no q1988 q1990 qs19 rfl rfl (Nat.le_of_ble_eq_true rfl) (fun r τ1 h hp hR => ?_)
  obtain ⟨e0, hp⟩ := hp
  rw [e0] at hR
  rw [hN] at hp
  rcases hp with ⟨h1, rfl⟩ | ⟨a, ha, rfl, rfl⟩
  · refine g_if_neN (pc := 5) (tgt := 16) dX3_put_5 rfl (by omega) (fun q => ?_) (fun q => ?_)
    · exact bad (fun z => h1 z.1) h hR
    · exact absurd q (by decide)
  · refine g_if_neN (pc := 5) (tgt := 16) dX3_put_5 rfl (by omega) (fun q => ?_) (fun q => ?_)
    · exact absurd q (by decide)
    · refine g_aload_n (pc := 8) dX3_put_8 rfl rfl ?_
      refine g_iload_n (pc := 9) dX3_put_9 rfl rfl ?_
      refine t_inv (pc := 10) dX3_put_10 hR (tc_no _ x (by omega)) meX3_no q1988 q1990 qs19 rfl rfl (Nat.le_of_ble_eq_true rfl) (fun r τ2 h hp hR => ?_)
      obtain ⟨e0, hp⟩ := hp
      rw [e0] at hR
      rw [hN] at hp
      rcases hp with ⟨h1, rfl⟩ | ⟨b, hb, rfl, rfl⟩
      · refine g_if_eqN (pc := 13) (tgt := 22) dX3_put_13 rfl (by omega) (fun q => ?_) (fun q => ?_)
        · exact absurd q (by decide)
        · exact bad (fun z => h1 z.2) h hR
      · refine g_if_eqN (pc := 13) (tgt := 22) dX3_put_13 rfl (by omega) (fun q => ?_) (fun q => ?_)
        · have hit := (hD.2.2 a ha).1.kind
          refine g_aload_n (pc := 22) dX3_put_22 rfl rfl ?_
          refine t_inv (pc := 23) dX3_put_23 hR (tc_lineName _ n hn hn2 hf) meX3_lineName q2000 q2002 qs21 rfl rfl (Nat.le_of_ble_eq_true rfl) (fun r τ3 h hp hR => ?_)
          obtain ⟨e0, w, rfl, hw, hw1, hw2⟩ := hp
          rw [e0] at hR
          rw [hl] at hw1 hw2
          have no2 : ∀ (τ1 : tT), τ1.1 = τ.1 → tFa [13] τ τ1 → (isMp (D.2 a) = false ∨ rch D b a ∨ ¬ nmOK l) → ∀ h, tH o τ1 hin h → hG Z X mX3_put (d + 2) tS hin (tK o hin (ptQ D l (nI a) (nI b) τ)) 52 [(0, .ref o), (1, .int (nI a)), (2, .int (nI b)), (3, .long (lN w))] [] h := by
            intro τ1 c1 c2 hno h hR
            refine g_aload_n (pc := 52) dX3_put_52 rfl rfl ?_
            refine g_iconst (pc := 53) (v := nI 2) dX3_put_53 rfl ?_
            refine t_invE (pc := 54) dX3_put_54 hR (tc_refuse _ 2) meX3_refuse q1956 q1958 qs16 rfl rfl (Nat.le_of_ble_eq_true rfl) (fun h hR => ?_)
            exact t_iret (pc := 57) dX3_put_57 hR rfl (⟨⟨_, rfl⟩, Or.inr ⟨a, b, ha, hb, rfl, rfl, Or.inl ⟨hno, by simp only [tRf, tFN, c1], c2.fn.fn⟩⟩⟩)
          refine g_lstore_n (pc := 26) (ls' := [(0, _), (1, _), (2, _), (3, _)]) dX3_put_26 rfl (Nat.le_of_ble_eq_true rfl) rfl ?_
          refine g_aload_n (pc := 27) dX3_put_27 rfl rfl ?_
          refine t_get (pc := 28) (v := .ref (tAd _ 8)) 8 dX3_put_28 hR rfl q1807 (Nat.le_of_ble_eq_true rfl) rfl rfl ?_
          refine g_iload_n (pc := 31) dX3_put_31 rfl rfl ?_
          refine t_iald (pc := 32) dX3_put_32 hR rfl (by decide) rfl (by decide) (by show _ < 60; omega) ?_
          refine g_iconst (pc := 33) (v := nI 3) dX3_put_33 rfl ?_
          refine g_icmp_neN (pc := 34) (tgt := 52) dX3_put_34 rfl (by omega) (by omega) (fun q1 => ?_) (fun q1 => ?_)
          · exact no2 τ rfl (tFa.refl _ τ) (Or.inl (by cases z : isMp (D.2 a) with | false => rfl | true => exact absurd (hit.2.2.2.2.mpr z) q1)) h hR
          · have hmp := hit.2.2.2.2.mp q1
            refine g_aload_n (pc := 37) dX3_put_37 rfl rfl ?_
            refine g_iload_n (pc := 38) dX3_put_38 rfl rfl ?_
            refine g_iload_n (pc := 39) dX3_put_39 rfl rfl ?_
            refine t_inv (pc := 40) dX3_put_40 hR (tc_holds _ b a D hD hb ha) meX3_holds q1992 q1994 qs20 rfl rfl (Nat.le_of_ble_eq_true rfl) (fun r τ3 h hp hR => ?_)
            obtain ⟨bb, rfl, hrc, c1, c2⟩ := hp
            refine g_if_neB (pc := 43) (tgt := 52) dX3_put_43 rfl (fun q2 => ?_) (fun q2 => ?_)
            · exact no2 τ3 c1 c2 (Or.inr (Or.inl (hrc.mp q2))) h hR
            · have hnr : ¬ rch D b a := fun z => by rw [hrc.mpr z] at q2; cases q2
              have hD3 : tD τ3 D := hD.fa c2 (by rw [c1]) (by decide) (by decide) (by decide) (by decide) (by decide)
              have hx3 := (hD3.2.2 a ha).1
              rw [isMp_eq hmp] at hx3
              have hx3' := hx3
              obtain ⟨k8, k9, kl, kp, kn⟩ := hx3'
              refine g_lload_n (pc := 46) dX3_put_46 rfl rfl ?_
              refine g_lconst (pc := 47) (v := lN 0) dX3_put_47 rfl ?_
              refine g_lcmp (pc := 48) dX3_put_48 ?_
              refine g_if_ne (pc := 49) (tgt := 58) dX3_put_49 rfl (fun q3 => ?_) (fun q3 => ?_)
              · have hw0 : w ≠ 0 := fun z => q3 (lg_cmp_0.mpr (by rw [z]))
                have hok : nmOK l := Classical.byContradiction (fun z => hw0 (hw2 z))
                have hwl := hw1 hok
                subst hwl
                refine g_aload_n (pc := 58) dX3_put_58 rfl rfl ?_
                refine g_iload_n (pc := 59) dX3_put_59 rfl rfl ?_
                refine g_lload_n (pc := 60) dX3_put_60 rfl rfl ?_
                refine t_invE (pc := 61) dX3_put_61 hR (tc_find _ a l _ (by omega) hok hx3) meX3_find q2010 q2012 qs23 rfl rfl (Nat.le_of_ble_eq_true rfl) (fun h hR => ?_)
                have fin : ∀ (k : Nat) (τ4 : tT), k = (fnP l (aPs (D.2 a))).getD (aPs (D.2 a)).length → k < 10 → (¬ (fnP l (aPs (D.2 a)) = none ∧ (aPs (D.2 a)).length = 10)) → τ4 = (match fnP l (aPs (D.2 a)) with | some _ => tFN τ3 2 0 | none => tAL (tAI (tFN τ3 2 0) 9 a (nI ((aPs (D.2 a)).length + 1))) (10 * a + (aPs (D.2 a)).length) (lN (encN l))) → ∀ h, tH o τ4 hin h → hG Z X mX3_put (d + 2) tS hin (tK o hin (ptQ D l (nI a) (nI b) τ)) 129 [(0, .ref o), (1, .int (nI a)), (2, .int (nI b)), (3, .long (lN (encN l))), (5, .int (nI k))] [] h := by
                  intro k τ4 hk hk10 hroom h4 h hR
                  have hD4 : tD (tFN τ3 2 0) D := tD.fa (B := []) ((tFa.refl [] _).fn) rfl (by simp) (by simp) (by simp) (by simp) (by simp) hD3
                  obtain ⟨g1, g2, g3, g4⟩ := tD_put (n := l) hD4 ha hb hmp hok (fun z => by have := mt (And.intro z) hroom; omega) rfl
                  rw [← hk, ← h4] at g1 g2 g3 g4
                  refine g_aload_n (pc := 129) dX3_put_129 rfl rfl ?_
                  refine t_get (pc := 130) (v := .ref (tAd _ 11)) 11 dX3_put_130 hR rfl q1810 (Nat.le_of_ble_eq_true rfl) rfl rfl ?_
                  refine g_iload_n (pc := 133) dX3_put_133 rfl rfl ?_
                  refine g_bipush (pc := 134) (v := nI 10) dX3_put_134 rfl ?_
                  first | refine g_imulN (pc := 136) dX3_put_136 ?_ | refine g_imul (pc := 136) dX3_put_136 ?_
                  refine g_iload (pc := 137) dX3_put_137 rfl ?_
                  first | refine g_iaddN (pc := 139) dX3_put_139 ?_ | refine g_iadd (pc := 139) dX3_put_139 ?_
                  rw [Nat.mul_comm a 10]
                  refine g_iload_n (pc := 140) dX3_put_140 rfl rfl ?_
                  refine t_iast (pc := 141) dX3_put_141 hR rfl (by decide) rfl (by decide) (by show _ < 600; omega) (fun h hR => ?_)
                  refine g_aload_n (pc := 142) dX3_put_142 rfl rfl ?_
                  refine g_aload_n (pc := 143) dX3_put_143 rfl rfl ?_
                  refine t_get (pc := 144) (v := .ref (tAd _ 9)) 9 dX3_put_144 hR rfl q1808 (Nat.le_of_ble_eq_true rfl) rfl rfl ?_
                  refine g_iload_n (pc := 147) dX3_put_147 rfl rfl ?_
                  refine t_ialdI (pc := 148) dX3_put_148 hR rfl (by decide) rfl (by decide) (by show _ < 60; omega) ?_
                  rw [g2]
                  refine t_invE (pc := 149) dX3_put_149 hR (tc_fine _ _) meX3_fine q1960 q1962 qs17 rfl rfl (Nat.le_of_ble_eq_true rfl) (fun h hR => ?_)
                  refine t_iret (pc := 152) dX3_put_152 hR rfl ⟨⟨_, rfl⟩, Or.inr ⟨a, b, ha, hb, rfl, rfl, Or.inr (Or.inr ⟨hmp, hnr, hok, hroom, rfl, ?_, ?_, ?_⟩)⟩⟩
                  · show upN (tAN τ4 11 (10 * a + k) b).1 0 0 = _
                    rw [g3]; simp only [tFN, c1]
                  · exact (((c2.mono (by simp)).fn (k := 2) (v := 0)).trans (g4.mono (by simp))).fn
                  · exact tD.fa (B := []) ((tFa.refl [] _).fn) rfl (by simp) (by simp) (by simp) (by simp) (by simp) g1
                cases hfn : fnP l (aPs (D.2 a)) with
                | some k =>
                  obtain ⟨hk1, hk2⟩ := fnP_at hfn
                  rw [hfn] at fin
                  refine g_istore (pc := 64) (ls' := [(0, _), (1, _), (2, _), (3, _), (5, _)]) dX3_put_64 (Nat.le_of_ble_eq_true rfl) rfl ?_
                  refine g_iload (pc := 66) dX3_put_66 rfl ?_
                  refine g_if_geN (pc := 68) (tgt := 88) dX3_put_68 rfl (by omega) ?_
                  refine g_aload_n (pc := 88) dX3_put_88 rfl rfl ?_
                  refine g_iconst (pc := 89) (v := nI 0) dX3_put_89 rfl ?_
                  refine t_put (pc := 90) 2 dX3_put_90 hR rfl q1801 (Nat.le_of_ble_eq_true rfl) rfl rfl (by decide) rfl rfl (fun h hR => ?_)
                  refine g_iload (pc := 93) dX3_put_93 rfl ?_
                  refine g_if_geN (pc := 95) (tgt := 129) dX3_put_95 rfl (by omega) ?_
                  exact fin k _ rfl (by omega) (fun z => by cases z.1) rfl h hR
                | none =>
                  rw [hfn] at fin
                  refine g_istore (pc := 64) (ls' := [(0, _), (1, _), (2, _), (3, _), (5, _)]) dX3_put_64 (Nat.le_of_ble_eq_true rfl) rfl ?_
                  refine g_iload (pc := 66) dX3_put_66 rfl ?_
                  refine g_if_ge (pc := 68) (tgt := 88) dX3_put_68 rfl (fun c => absurd c (by decide)) (fun _ => ?_)
                  refine g_aload_n (pc := 71) dX3_put_71 rfl rfl ?_
                  refine t_get (pc := 72) (v := .ref (tAd _ 9)) 9 dX3_put_72 hR rfl q1808 (Nat.le_of_ble_eq_true rfl) rfl rfl ?_
                  refine g_iload_n (pc := 75) dX3_put_75 rfl rfl ?_
                  refine t_ialdI (pc := 76) dX3_put_76 hR rfl (by decide) rfl (by decide) (by show _ < 60; omega) ?_
                  rw [k9]
                  refine g_bipush (pc := 77) (v := nI 10) dX3_put_77 rfl ?_
                  refine g_icmp_neN (pc := 79) (tgt := 88) dX3_put_79 rfl (by omega) (by omega) (fun q4 => ?_) (fun q4 => ?_)
                  · refine g_aload_n (pc := 88) dX3_put_88 rfl rfl ?_
                    refine g_iconst (pc := 89) (v := nI 0) dX3_put_89 rfl ?_
                    refine t_put (pc := 90) 2 dX3_put_90 hR rfl q1801 (Nat.le_of_ble_eq_true rfl) rfl rfl (by decide) rfl rfl (fun h hR => ?_)
                    refine g_iload (pc := 93) dX3_put_93 rfl ?_
                    refine g_if_ge (pc := 95) (tgt := 129) dX3_put_95 rfl (fun c => absurd c (by decide)) (fun _ => ?_)
                    refine g_aload_n (pc := 98) dX3_put_98 rfl rfl ?_
                    refine t_get (pc := 99) (v := .ref (tAd _ 9)) 9 dX3_put_99 hR rfl q1808 (Nat.le_of_ble_eq_true rfl) rfl rfl ?_
                    refine g_iload_n (pc := 102) dX3_put_102 rfl rfl ?_
                    refine t_ialdI (pc := 103) dX3_put_103 hR rfl (by decide) rfl (by decide) (by show _ < 60; omega) ?_
                    rw [show (tFN τ3 2 0).2.2.2.1 9 a = nI (aPs (D.2 a)).length from k9]
                    refine g_istore (pc := 104) (ls' := [(0, _), (1, _), (2, _), (3, _), (5, _)]) dX3_put_104 (Nat.le_of_ble_eq_true rfl) rfl ?_
                    refine g_aload_n (pc := 106) dX3_put_106 rfl rfl ?_
                    refine t_get (pc := 107) (v := .ref (tAd _ 9)) 9 dX3_put_107 hR rfl q1808 (Nat.le_of_ble_eq_true rfl) rfl rfl ?_
                    refine g_iload_n (pc := 110) dX3_put_110 rfl rfl ?_
                    refine g_dup2 (pc := 111) dX3_put_111 rfl rfl ?_
                    refine t_ialdI (pc := 112) dX3_put_112 hR rfl (by decide) rfl (by decide) (by show _ < 60; omega) ?_
                    rw [show (tFN τ3 2 0).2.2.2.1 9 a = nI (aPs (D.2 a)).length from k9]
                    refine g_iconst (pc := 113) (v := nI 1) dX3_put_113 rfl ?_
                    first | refine g_iaddN (pc := 114) dX3_put_114 ?_ | refine g_iadd (pc := 114) dX3_put_114 ?_
                    refine t_iastI (pc := 115) dX3_put_115 hR rfl (by decide) rfl (by decide) (by show _ < 60; omega) (fun h hR => ?_)
                    refine g_aload_n (pc := 116) dX3_put_116 rfl rfl ?_
                    refine t_get (pc := 117) (v := .ref (tAd _ 12)) 12 dX3_put_117 hR rfl q1811 (Nat.le_of_ble_eq_true rfl) rfl rfl ?_
                    refine g_iload_n (pc := 120) dX3_put_120 rfl rfl ?_
                    refine g_bipush (pc := 121) (v := nI 10) dX3_put_121 rfl ?_
                    first | refine g_imulN (pc := 123) dX3_put_123 ?_ | refine g_imul (pc := 123) dX3_put_123 ?_
                    refine g_iload (pc := 124) dX3_put_124 rfl ?_
                    rw [Nat.mul_comm a 10]
                    first | refine g_iaddN (pc := 126) dX3_put_126 ?_ | refine g_iadd (pc := 126) dX3_put_126 ?_
                    refine g_lload_n (pc := 127) dX3_put_127 rfl rfl ?_
                    refine t_last (pc := 128) dX3_put_128 hR (by omega) (fun h hR => ?_)
                    exact fin (aPs (D.2 a)).length _ rfl (by omega) (fun z => q4 z.2) rfl h hR
                  · refine g_aload_n (pc := 82) dX3_put_82 rfl rfl ?_
                    refine g_iconst (pc := 83) (v := nI 3) dX3_put_83 rfl ?_
                    refine t_invE (pc := 84) dX3_put_84 hR (tc_refuse _ 3) meX3_refuse q1956 q1958 qs16 rfl rfl (Nat.le_of_ble_eq_true rfl) (fun h hR => ?_)
                    exact t_iret (pc := 87) dX3_put_87 hR rfl (⟨⟨_, rfl⟩, Or.inr ⟨a, b, ha, hb, rfl, rfl, Or.inr (Or.inl ⟨hmp, hnr, hok, hfn, q4, by simp only [tRf, tFN, c1], c2.fn.fn⟩)⟩⟩)
              · have z := (pk_lEQ (by omega) (by decide)).mp (lg_cmp_0.mp q3)
                exact no2 τ3 c1 c2 (Or.inr (Or.inr (fun hk => by have h1 := encN_pos hk; have h2 := hw1 hk; omega))) h hR
        · exact absurd q (by decide)
/-- the word q of a text of which k characters are packed -/
def wdC (l : List Nat) (k i : Nat) : Nat := if i < k then l.getD i 0 else 0
def wd (l : List Nat) (k q : Nat) : Nat := wdC l k (4 * q) + wdC l k (4 * q + 1) * 256 + wdC l k (4 * q + 2) * 65536 + wdC l k (4 * q + 3) * 16777216
theorem wdC_lt {l : List Nat} (hl : ∀ c ∈ l, c < 128) (k i : Nat) : wdC l k i < 128 := by
  unfold wdC
  split
  · by_cases h : i < l.length
    · exact hl _ (getD_mem h)
    · rw [List.getD_eq_getElem?_getD, List.getElem?_eq_none (by omega)]; decide
  · decide
theorem wd_lt {l : List Nat} (hl : ∀ c ∈ l, c < 128) (k q : Nat) : wd l k q < 2 ^ 31 := by
  unfold wd
  have h0 := wdC_lt hl k (4 * q)
  have h1 := wdC_lt hl k (4 * q + 1)
  have h2 := wdC_lt hl k (4 * q + 2)
  have h3 := wdC_lt hl k (4 * q + 3)
  omega
theorem wd_o {l : List Nat} {k q : Nat} (h : q ≠ k / 4) : wd l (k + 1) q = wd l k q := by
  unfold wd
  have e : ∀ i, i / 4 = q → wdC l (k + 1) i = wdC l k i := fun i hi => by
    unfold wdC
    by_cases z : i < k
    · rw [if_pos z, if_pos (by omega)]
    · rw [if_neg z, if_neg (fun z2 => h (by rw [← hi]; rw [show i = k by omega]))]
  rw [e _ (by omega), e _ (by omega), e _ (by omega), e _ (by omega)]
theorem wdC_ge {l : List Nat} {k i : Nat} (h : k ≤ i) : wdC l k i = 0 := if_neg (by omega)
theorem wdC_in {l : List Nat} {k i : Nat} (h : i < k) : wdC l k i = l.getD i 0 := if_pos h
theorem wd_s {l : List Nat} (hl : ∀ c ∈ l, c < 128) (k : Nat) : wd l k (k / 4) < 256 ^ (k % 4) ∧ wd l (k + 1) (k / 4) = wd l k (k / 4) + l.getD k 0 * 256 ^ (k % 4) := by
  generalize hq : k / 4 = q
  have h0 := wdC_lt hl k (4 * q)
  have h1 := wdC_lt hl k (4 * q + 1)
  have h2 := wdC_lt hl k (4 * q + 2)
  rcases (show k = 4 * q ∨ k = 4 * q + 1 ∨ k = 4 * q + 2 ∨ k = 4 * q + 3 by omega) with e | e | e | e
  · have em : k % 4 = 0 := by omega
    rw [em]
    unfold wd
    rw [wdC_ge (l := l) (k := k) (i := 4 * q) (by omega), wdC_ge (l := l) (k := k) (i := 4 * q + 1) (by omega), wdC_ge (l := l) (k := k) (i := 4 * q + 2) (by omega), wdC_ge (l := l) (k := k) (i := 4 * q + 3) (by omega), wdC_ge (l := l) (k := k + 1) (i := 4 * q + 1) (by omega), wdC_ge (l := l) (k := k + 1) (i := 4 * q + 2) (by omega), wdC_ge (l := l) (k := k + 1) (i := 4 * q + 3) (by omega), wdC_in (l := l) (k := k + 1) (i := 4 * q) (by omega), e]
    simp
  · have em : k % 4 = 1 := by omega
    rw [em]
    unfold wd
    rw [wdC_ge (l := l) (k := k) (i := 4 * q + 1) (by omega), wdC_ge (l := l) (k := k) (i := 4 * q + 2) (by omega), wdC_ge (l := l) (k := k) (i := 4 * q + 3) (by omega), wdC_ge (l := l) (k := k + 1) (i := 4 * q + 2) (by omega), wdC_ge (l := l) (k := k + 1) (i := 4 * q + 3) (by omega), wdC_in (l := l) (k := k + 1) (i := 4 * q + 1) (by omega), wdC_in (l := l) (k := k + 1) (i := 4 * q) (by omega), wdC_in (l := l) (k := k) (i := 4 * q) (by omega)]
    rw [wdC_in (l := l) (k := k) (i := 4 * q) (by omega)] at h0
    rw [← e]
    refine ⟨?_, ?_⟩ <;> simp only [Nat.reducePow] <;> omega
  · have em : k % 4 = 2 := by omega
    rw [em]
    unfold wd
    rw [wdC_ge (l := l) (k := k) (i := 4 * q + 2) (by omega), wdC_ge (l := l) (k := k) (i := 4 * q + 3) (by omega), wdC_ge (l := l) (k := k + 1) (i := 4 * q + 3) (by omega), wdC_in (l := l) (k := k + 1) (i := 4 * q + 2) (by omega), wdC_in (l := l) (k := k + 1) (i := 4 * q + 1) (by omega), wdC_in (l := l) (k := k + 1) (i := 4 * q) (by omega), wdC_in (l := l) (k := k) (i := 4 * q) (by omega), wdC_in (l := l) (k := k) (i := 4 * q + 1) (by omega)]
    rw [wdC_in (l := l) (k := k) (i := 4 * q) (by omega)] at h0
    rw [wdC_in (l := l) (k := k) (i := 4 * q + 1) (by omega)] at h1
    rw [← e]
    refine ⟨?_, ?_⟩ <;> simp only [Nat.reducePow] <;> omega
  · have em : k % 4 = 3 := by omega
    rw [em]
    unfold wd
    rw [wdC_ge (l := l) (k := k) (i := 4 * q + 3) (by omega), wdC_in (l := l) (k := k + 1) (i := 4 * q + 3) (by omega), wdC_in (l := l) (k := k + 1) (i := 4 * q + 2) (by omega), wdC_in (l := l) (k := k + 1) (i := 4 * q + 1) (by omega), wdC_in (l := l) (k := k + 1) (i := 4 * q) (by omega), wdC_in (l := l) (k := k) (i := 4 * q) (by omega), wdC_in (l := l) (k := k) (i := 4 * q + 1) (by omega), wdC_in (l := l) (k := k) (i := 4 * q + 2) (by omega)]
    rw [wdC_in (l := l) (k := k) (i := 4 * q) (by omega)] at h0
    rw [wdC_in (l := l) (k := k) (i := 4 * q + 1) (by omega)] at h1
    rw [wdC_in (l := l) (k := k) (i := 4 * q + 2) (by omega)] at h2
    rw [← e]
    refine ⟨?_, ?_⟩ <;> simp only [Nat.reducePow] <;> omega
theorem wd_get {l : List Nat} (hl : ∀ c ∈ l, c < 128) {k i : Nat} (hi : i < k) : wd l k (i / 4) / 256 ^ (i % 4) % 256 = l.getD i 0 := by
  generalize hq : i / 4 = q
  have h0 := wdC_lt hl k (4 * q)
  have h1 := wdC_lt hl k (4 * q + 1)
  have h2 := wdC_lt hl k (4 * q + 2)
  have h3 := wdC_lt hl k (4 * q + 3)
  have hw : wdC l k i = l.getD i 0 := wdC_in hi
  unfold wd
  rcases (show i = 4 * q ∨ i = 4 * q + 1 ∨ i = 4 * q + 2 ∨ i = 4 * q + 3 by omega) with e | e | e | e
  · have em : i % 4 = 0 := by omega
    rw [em, ← hw, e]
    simp; omega
  · have em : i % 4 = 1 := by omega
    rw [em, ← hw, e]
    simp; omega
  · have em : i % 4 = 2 := by omega
    rw [em, ← hw, e]
    simp; omega
  · have em : i % 4 = 3 := by omega
    rw [em, ← hw, e]
    simp; omega
/-- an item is made -/
theorem tD_new {D : aD} {τ1 : tT} {y : aX} (hD : tD τ D) (h60 : D.1 < 60) (hp : aPs y = []) (h4 : τ1.1 4 = D.1 + 1) (h12 : τ1.2.2.2.2 = τ.2.2.2.2) (h8 : ∀ x, x ≠ D.1 → τ1.2.2.1 8 x = τ.2.2.1 8 x) (h9 : ∀ x, x ≠ D.1 → τ1.2.2.2.1 9 x = τ.2.2.2.1 9 x) (h10 : ∀ i, i < 50 * D.1 → τ1.2.2.1 10 i = τ.2.2.1 10 i) (h11 : τ1.2.2.1 11 = τ.2.2.1 11) (hx : tX τ1 D.1 y) : tD τ1 (dNew D y) := by
  refine ⟨h4, h60, fun x hlt => ?_⟩
  by_cases e : x = D.1
  · subst e
    have e1 : (dNew D y).2 D.1 = y := if_pos rfl
    rw [e1]
    exact ⟨hx, fun q hq => by rw [hp] at hq; cases hq⟩
  · have e1 : (dNew D y).2 x = D.2 x := if_neg e
    have hlt : x < D.1 := by have : x < D.1 + 1 := hlt; omega
    rw [e1]
    refine ⟨tX.same (a := τ) (h8 x e) (h9 x e) (fun i hi => h10 _ (by omega)) (fun i _ => by rw [h11]) (fun i _ => by rw [h12]) (hD.2.2 x hlt).1, fun q hq => ?_⟩
    have := (hD.2.2 x hlt).2 q hq
    show q.2 < D.1 + 1
    omega
/-- make's item -/
theorem tD_mk {D : aD} {y : aX} {k : Nat} {v : Int32} (hD : tD τ D) (h60 : D.1 < 60) (hp : aPs y = []) (hx : ∀ τ1 : tT, τ1.2.2.1 8 D.1 = k → τ1.2.2.2.1 9 D.1 = v → (∀ i, τ1.2.2.1 10 i = τ.2.2.1 10 i) → tX τ1 D.1 y) : tD (tMk τ k v) (dNew D y) := by
  have hN : τ.1 4 = D.1 := hD.1
  refine tD_new hD h60 hp ?_ rfl (fun x e => ?_) (fun x e => ?_) (fun i _ => rfl) rfl (hx _ ?_ ?_ (fun i => rfl))
  · simp only [tMk, tFN, upN, tAI, tAN]; simp [hN]
  · show up2 τ.2.2.1 8 (τ.1 4) k 8 x = _
    rw [hN, up2_i e]
  · show up2 τ.2.2.2.1 9 (τ.1 4) v 9 x = _
    rw [hN, up2_i e]
  · show up2 τ.2.2.1 8 (τ.1 4) k 8 D.1 = _
    rw [hN, up2_s]
  · show up2 τ.2.2.2.1 9 (τ.1 4) v 9 D.1 = _
    rw [hN, up2_s]
theorem tc_text (d : Nat) (D : aD) (hD : tD τ D) (n : Nat) (hn : τ.1 2 = n) (hn2 : n ≤ 200) (hf : ∀ i, i < n → τ.2.2.1 7 i < 128) : tC Z mX3_text (d + 2) o [.ref o] τ (fun r τ' => if D.1 = 60 then r = some (.int (nI 0)) ∧ τ' = tRf τ 1 else r = some (.int (nI D.1)) ∧ τ'.1 = (tMk (tFN τ 2 0) 1 0).1 ∧ tFa [8, 9, 10] τ τ' ∧ tD τ' (dNew D (.inr (.inl (sgF (τ.2.2.1 7) 0 n))))) := by
  refine tC.of rfl rfl (Nat.le_of_ble_eq_true rfl) rfl (fun X hin h hR => ?_)
  have hD2 := hD.2.1
  have hN : τ.1 4 = D.1 := hD.1
  generalize hl : sgF (τ.2.2.1 7) 0 n = l
  have hl128 : ∀ c ∈ l, c < 128 := by rw [← hl]; exact sgF_mem (P := fun c => c < 128) (fun i hi => by rw [Nat.zero_add]; exact hf i hi)
  have hll : l.length = n := by rw [← hl, sgF_len]
  have hlg : ∀ i, i < n → l.getD i 0 = τ.2.2.1 7 i := fun i hi => by rw [← hl, sgF_get hi, Nat.zero_add]
  by_cases h60 : D.1 = 60
  · simp only [if_pos h60]
    refine g_aload_n (pc := 0) dX3_text_0 rfl rfl ?_
    refine t_get (pc := 1) (v := .int (nI _)) 4 dX3_text_1 hR rfl q1803 (Nat.le_of_ble_eq_true rfl) rfl rfl ?_
    refine g_bipush (pc := 4) (v := nI 60) dX3_text_4 rfl ?_
    rw [hN]
    refine g_icmp_neN (pc := 6) (tgt := 15) dX3_text_6 rfl (by omega) (by omega) (fun c1 => ?_) (fun c1 => ?_)
    · exact absurd h60 c1
    · refine g_aload_n (pc := 9) dX3_text_9 rfl rfl ?_
      refine g_iconst (pc := 10) (v := nI 1) dX3_text_10 rfl ?_
      refine t_invE (pc := 11) dX3_text_11 hR (tc_refuse _ 1) meX3_refuse q1956 q1958 qs16 rfl rfl (Nat.le_of_ble_eq_true rfl) (fun h hR => ?_)
      exact t_iret (pc := 14) dX3_text_14 hR rfl (⟨rfl, rfl⟩)
  · simp only [if_neg h60]
    generalize hQ : (fun (r : Option Value) (τ' : tT) => r = some (.int (nI D.1)) ∧ τ'.1 = (tMk (tFN τ 2 0) 1 0).1 ∧ tFa [8, 9, 10] τ τ' ∧ tD τ' (dNew D (.inr (.inl l)))) = Q
    have pack : ∀ (j k : Nat) (τc : tT), k + j = n → τc.1 = τ.1 → tFa [10] τ τc → (∀ i, i < 50 * D.1 → τc.2.2.1 10 i = τ.2.2.1 10 i) → (∀ q, q < 50 → τc.2.2.1 10 (50 * D.1 + q) = wd l k q) → ∀ h, tH o τc hin h → hG Z X mX3_text (d + 2) tS hin (tK o hin Q) 46 [(0, .ref o), (1, .int (nI k))] [] h := by
      intro j
      induction j with
      | zero =>
        intro k τc hk c1 c2 c3 c4 h hR
        have e : k = n := by omega
        subst e
        refine g_iload_n (pc := 46) dX3_text_46 rfl rfl ?_
        refine g_aload_n (pc := 47) dX3_text_47 rfl rfl ?_
        refine t_get (pc := 48) (v := .int (nI _)) 2 dX3_text_48 hR rfl q1801 (Nat.le_of_ble_eq_true rfl) rfl rfl ?_
        rw [show τc.1 2 = k by rw [c1]; exact hn]
        refine g_icmp_geN (pc := 51) (tgt := 92) dX3_text_51 rfl (by omega) (by omega) (fun q => ?_) (fun q => ?_)
        · refine g_aload_n (pc := 92) dX3_text_92 rfl rfl ?_
          refine t_get (pc := 93) (v := .int (nI _)) 2 dX3_text_93 hR rfl q1801 (Nat.le_of_ble_eq_true rfl) rfl rfl ?_
          rw [show τc.1 2 = k by rw [c1]; exact hn]
          refine g_istore_n (pc := 96) (ls' := [(0, _), (1, _)]) dX3_text_96 rfl (Nat.le_of_ble_eq_true rfl) rfl ?_
          refine g_aload_n (pc := 97) dX3_text_97 rfl rfl ?_
          refine g_iconst (pc := 98) (v := nI 0) dX3_text_98 rfl ?_
          refine t_put (pc := 99) 2 dX3_text_99 hR rfl q1801 (Nat.le_of_ble_eq_true rfl) rfl rfl (by decide) rfl rfl (fun h hR => ?_)
          refine g_aload_n (pc := 102) dX3_text_102 rfl rfl ?_
          refine g_iconst (pc := 103) (v := nI 1) dX3_text_103 rfl ?_
          refine g_iload_n (pc := 104) dX3_text_104 rfl rfl ?_
          have h4c : (tFN τc 2 0).1 4 = D.1 := by show upN τc.1 2 0 4 = _; rw [upN_n (by decide), c1]; exact hN
          refine t_inv (pc := 105) dX3_text_105 hR (tc_make _ 1 (nI k) (by rw [h4c]; omega)) meX3_make q1968 q1970 qs18 rfl rfl (Nat.le_of_ble_eq_true rfl) (fun r τ1 h hp hR => ?_)
          rw [h4c, if_neg h60] at hp
          obtain ⟨rfl, rfl⟩ := hp
          subst hQ
          have hDc : tD (tFN τc 2 0) D := ⟨h4c, hD2, fun x hx => ⟨tX.same (a := τ) (by show τc.2.2.1 8 x = _; rw [(c2.2.2 8 (by simp)).1]) (by show τc.2.2.2.1 9 x = _; rw [(c2.2.2 9 (by simp)).2]) (fun i hi => c3 _ (by omega)) (fun i hi => by show τc.2.2.1 11 _ = _; rw [(c2.2.2 11 (by simp)).1]) (fun i hi => by show τc.2.2.2.2 _ = _; rw [c2.2.1 (by simp)]) (hD.2.2 x hx).1, (hD.2.2 x hx).2⟩⟩
          refine t_iret (pc := 108) dX3_text_108 hR rfl ⟨rfl, ?_, ?_, ?_⟩
          · show (tMk (tFN τc 2 0) 1 (nI k)).1 = _
            simp only [tMk, tFN, tAI, tAN, c1]
          · refine (c2.mono (by simp)).trans ?_
            unfold tMk
            exact ((((tFa.refl _ _).fn).an (by simp)).ai (by simp)).fn.fn
          · refine tD_mk hDc (by omega) rfl (fun τ1 g1 g2 g3 => ⟨g1, by rw [hll]; exact g2, by omega, hl128, fun q hq => ?_, fun i hi => ?_⟩)
            · rw [g3]
              show τc.2.2.1 10 _ < _
              rw [c4 q hq]
              exact wd_lt hl128 k q
            · unfold ltW
              rw [g3]
              show τc.2.2.1 10 (50 * D.1 + i / 4) / _ % _ = _
              rw [c4 _ (by omega)]
              exact wd_get hl128 (by omega)
        · exact absurd q (by omega)
      | succ j ih =>
        intro k τc hk c1 c2 c3 c4 h hR
        have hck : l.getD k 0 < 128 := hl128 _ (getD_mem (by omega))
        obtain ⟨w1, w2⟩ := wd_s hl128 k
        refine g_iload_n (pc := 46) dX3_text_46 rfl rfl ?_
        refine g_aload_n (pc := 47) dX3_text_47 rfl rfl ?_
        refine t_get (pc := 48) (v := .int (nI _)) 2 dX3_text_48 hR rfl q1801 (Nat.le_of_ble_eq_true rfl) rfl rfl ?_
        rw [show τc.1 2 = n by rw [c1]; exact hn]
        refine g_icmp_geN (pc := 51) (tgt := 92) dX3_text_51 rfl (by omega) (by omega) (fun q => ?_) (fun q => ?_)
        · exact absurd q (by omega)
        · refine g_aload_n (pc := 54) dX3_text_54 rfl rfl ?_
          refine t_get (pc := 55) (v := .ref (tAd _ 10)) 10 dX3_text_55 hR rfl q1809 (Nat.le_of_ble_eq_true rfl) rfl rfl ?_
          refine g_aload_n (pc := 58) dX3_text_58 rfl rfl ?_
          refine t_get (pc := 59) (v := .int (nI _)) 4 dX3_text_59 hR rfl q1803 (Nat.le_of_ble_eq_true rfl) rfl rfl ?_
          rw [show τc.1 4 = D.1 by rw [c1]; exact hN]
          refine g_bipush (pc := 62) (v := nI 50) dX3_text_62 rfl ?_
          first | refine g_imulN (pc := 64) dX3_text_64 ?_ | refine g_imul (pc := 64) dX3_text_64 ?_
          refine g_iload_n (pc := 65) dX3_text_65 rfl rfl ?_
          refine g_iconst (pc := 66) (v := nI 4) dX3_text_66 rfl ?_
          refine g_idivN (pc := 67) dX3_text_67 (by omega) (by omega) (by omega) ?_
          first | refine g_iaddN (pc := 68) dX3_text_68 ?_ | refine g_iadd (pc := 68) dX3_text_68 ?_
          rw [Nat.mul_comm D.1 50]
          refine g_dup2 (pc := 69) dX3_text_69 rfl rfl ?_
          refine t_iald (pc := 70) dX3_text_70 hR rfl (by decide) rfl (by decide) (by show _ < 3000; omega) ?_
          rw [c4 _ (by omega)]
          refine g_aload_n (pc := 71) dX3_text_71 rfl rfl ?_
          refine t_get (pc := 72) (v := .ref (tAd _ 7)) 7 dX3_text_72 hR rfl q1806 (Nat.le_of_ble_eq_true rfl) rfl rfl ?_
          refine g_iload_n (pc := 75) dX3_text_75 rfl rfl ?_
          refine t_cald (pc := 76) dX3_text_76 hR rfl (by decide) rfl (by decide) (by show _ < 200; omega) ?_
          rw [show τc.2.2.1 7 k = l.getD k 0 by rw [(c2.2.2 7 (by simp)).1, hlg k (by omega)]]
          refine g_bipush (pc := 77) (v := nI 8) dX3_text_77 rfl ?_
          refine g_iload_n (pc := 79) dX3_text_79 rfl rfl ?_
          refine g_iconst (pc := 80) (v := nI 4) dX3_text_80 rfl ?_
          refine g_iremN (pc := 81) dX3_text_81 (by omega) (by omega) (by omega) ?_
          first | refine g_imulN (pc := 82) dX3_text_82 ?_ | refine g_imul (pc := 82) dX3_text_82 ?_
          refine g_ishl (pc := 83) dX3_text_83 ?_
          refine g_ior (pc := 84) dX3_text_84 ?_
          rw [pk_put _ _ _ (Nat.mod_lt _ (by decide)) w1 hck, ← w2]
          refine t_iast (pc := 85) dX3_text_85 hR rfl (by decide) rfl (by decide) (by show _ < 3000; omega) (fun h hR => ?_)
          refine g_iincN (pc := 86) (k0 := 1) (ls' := [(0, _), (1, _)]) dX3_text_86 rfl (Nat.le_of_ble_eq_true rfl) rfl ?_
          refine g_goto (pc := 89) (tgt := 46) dX3_text_89 rfl ?_
          refine ih (k + 1) (tAN τc 10 (50 * D.1 + k / 4) (wd l (k + 1) (k / 4))) (by omega) c1 (c2.an (by simp)) (fun i hi => ?_) (fun q hq => ?_) h hR
          · show up2 τc.2.2.1 10 (50 * D.1 + k / 4) _ 10 i = _
            rw [up2_i (by omega)]; exact c3 i hi
          · show up2 τc.2.2.1 10 (50 * D.1 + k / 4) _ 10 (50 * D.1 + q) = _
            by_cases e : q = k / 4
            · rw [e, up2_s]
            · rw [up2_i (by omega), c4 q hq, wd_o e]
    have clear : ∀ (j k : Nat) (τc : tT), k + j = 50 → τc.1 = τ.1 → tFa [10] τ τc → (∀ i, i < 50 * D.1 → τc.2.2.1 10 i = τ.2.2.1 10 i) → (∀ q, q < k → τc.2.2.1 10 (50 * D.1 + q) = 0) → ∀ h, tH o τc hin h → hG Z X mX3_text (d + 2) tS hin (tK o hin Q) 17 [(0, .ref o), (1, .int (nI k))] [] h := by
      intro j
      induction j with
      | zero =>
        intro k τc hk c1 c2 c3 c4 h hR
        refine g_iload_n (pc := 17) dX3_text_17 rfl rfl ?_
        refine g_bipush (pc := 18) (v := nI 50) dX3_text_18 rfl ?_
        refine g_icmp_geN (pc := 20) (tgt := 44) dX3_text_20 rfl (by omega) (by omega) (fun q => ?_) (fun q => ?_)
        · refine g_iconst (pc := 44) (v := nI 0) dX3_text_44 rfl ?_
          refine g_istore_n (pc := 45) (ls' := [(0, _), (1, _)]) dX3_text_45 rfl (Nat.le_of_ble_eq_true rfl) rfl ?_
          refine pack n 0 τc (by omega) c1 c2 c3 (fun q hq => ?_) h hR
          rw [c4 q (by omega)]
          simp [wd, wdC]
        · exact absurd q (by omega)
      | succ j ih =>
        intro k τc hk c1 c2 c3 c4 h hR
        refine g_iload_n (pc := 17) dX3_text_17 rfl rfl ?_
        refine g_bipush (pc := 18) (v := nI 50) dX3_text_18 rfl ?_
        refine g_icmp_geN (pc := 20) (tgt := 44) dX3_text_20 rfl (by omega) (by omega) (fun q => ?_) (fun q => ?_)
        · exact absurd q (by omega)
        · refine g_aload_n (pc := 23) dX3_text_23 rfl rfl ?_
          refine t_get (pc := 24) (v := .ref (tAd _ 10)) 10 dX3_text_24 hR rfl q1809 (Nat.le_of_ble_eq_true rfl) rfl rfl ?_
          refine g_aload_n (pc := 27) dX3_text_27 rfl rfl ?_
          refine t_get (pc := 28) (v := .int (nI _)) 4 dX3_text_28 hR rfl q1803 (Nat.le_of_ble_eq_true rfl) rfl rfl ?_
          rw [show τc.1 4 = D.1 by rw [c1]; exact hN]
          refine g_bipush (pc := 31) (v := nI 50) dX3_text_31 rfl ?_
          first | refine g_imulN (pc := 33) dX3_text_33 ?_ | refine g_imul (pc := 33) dX3_text_33 ?_
          refine g_iload_n (pc := 34) dX3_text_34 rfl rfl ?_
          first | refine g_iaddN (pc := 35) dX3_text_35 ?_ | refine g_iadd (pc := 35) dX3_text_35 ?_
          rw [Nat.mul_comm D.1 50]
          refine g_iconst (pc := 36) (v := nI 0) dX3_text_36 rfl ?_
          refine t_iast (pc := 37) dX3_text_37 hR rfl (by decide) rfl (by decide) (by show _ < 3000; omega) (fun h hR => ?_)
          refine g_iincN (pc := 38) (k0 := 1) (ls' := [(0, _), (1, _)]) dX3_text_38 rfl (Nat.le_of_ble_eq_true rfl) rfl ?_
          refine g_goto (pc := 41) (tgt := 17) dX3_text_41 rfl ?_
          refine ih (k + 1) (tAN τc 10 (50 * D.1 + k) 0) (by omega) c1 (c2.an (by simp)) (fun i hi => ?_) (fun q hq => ?_) h hR
          · show up2 τc.2.2.1 10 (50 * D.1 + k) _ 10 i = _
            rw [up2_i (by omega)]; exact c3 i hi
          · show up2 τc.2.2.1 10 (50 * D.1 + k) _ 10 (50 * D.1 + q) = _
            by_cases e : q = k
            · rw [e, up2_s]
            · rw [up2_i (by omega)]; exact c4 q (by omega)
    refine g_aload_n (pc := 0) dX3_text_0 rfl rfl ?_
    refine t_get (pc := 1) (v := .int (nI _)) 4 dX3_text_1 hR rfl q1803 (Nat.le_of_ble_eq_true rfl) rfl rfl ?_
    refine g_bipush (pc := 4) (v := nI 60) dX3_text_4 rfl ?_
    rw [hN]
    refine g_icmp_neN (pc := 6) (tgt := 15) dX3_text_6 rfl (by omega) (by omega) (fun c1 => ?_) (fun c1 => ?_)
    · refine g_iconst (pc := 15) (v := nI 0) dX3_text_15 rfl ?_
      refine g_istore_n (pc := 16) (ls' := [(0, _), (1, _)]) dX3_text_16 rfl (Nat.le_of_ble_eq_true rfl) rfl ?_
      exact clear 50 0 τ (by omega) rfl (tFa.refl _ τ) (fun _ _ => rfl) (fun q hq => absurd hq (Nat.not_lt_zero _)) h hR
    · exact absurd c1 h60
end TW14
