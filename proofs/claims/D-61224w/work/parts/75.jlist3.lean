/-! JDK 15: ArrayList.add -/
set_option maxRecDepth 100000
section JC
variable {Z : hE} {h : hP} {κ a κe e cap : Nat} {xs : List Nat}
/-- after add: one more element; only the list and its array have changed -/
def jAd (Z : hE) (h : hP) (κ a κe e : Nat) (xs : List Nat) (x : Nat) (h' : hP) : Prop := (∃ e' cap', jAL Z h' κ a κe e' cap' (xs ++ [x]) ∧ (e' = e ∨ h.1 ≤ e')) ∧ hFa (fun q => q = a ∨ q = e) h h' ∧ jRm h h' 1 (2 * xs.length + 10)
theorem jc_ladd2 (d x : Nat) (hs : jAL Z h κ a κe e cap xs) (hx : elK h x) (hn : xs.length ≤ 4000) (l1 : h.1 + 1 ≤ hLC Z) (l2 : h.2.1 + (2 * xs.length + 10) ≤ hLS) : jC Z mJ2_add_2 (d + 5) (fun k => k = κ ∨ k = κe) [.ref a, .ref x, .ref e, .int (nI xs.length)] h (fun v h' => v = none ∧ jAd Z h κ a κe e xs x h') := by
  refine jC.of pnJ2 rfl (Nat.le_of_ble_eq_true rfl) rfl (fun X => ?_)
  refine g_wf (fun hwf => ?_)
  refine g_inl (fun hinl => ?_)
  obtain ⟨κx, fx, rx, x1, x2, x3⟩ := hx.may hinl
  obtain ⟨⟨k1, k19⟩, ⟨k2, k29⟩, hcap, hle, hel, ⟨md, ha⟩, ⟨f, hE⟩⟩ := hs
  have kc := jAL.kc k1
  have hlen : (xs ++ [x]).length = xs.length + 1 := by rw [List.length_append]; rfl
  have grw : ∀ (hcl : cap = xs.length) (n0 : Nat) (κ0 : Nat), h.2.2 e = some (κ0, .inr (n0, f)) → n0 = xs.length → hG Z X mJ2_add_2 (d + 5) (fun k => k = κ ∨ k = κe) h (jK (fun v h' => v = none ∧ jAd Z h κ a κe e xs x h')) 0 [(0, .ref a), (1, .ref x), (2, .ref e), (3, .int (nI xs.length))] [] h := by
    intro hcl n0 κ0 he0 hn0
    subst hn0
    refine g_iload_n (pc := 0) dJ2_add_2_0 rfl rfl ?_
    refine g_aload_n (pc := 1) dJ2_add_2_1 rfl rfl ?_
    refine g_alen (pc := 2) dJ2_add_2_2 he0 ?_
    refine g_icmp_neN (pc := 3) (tgt := 11) dJ2_add_2_3 rfl (by omega) (by omega) (fun q_ => absurd q_ (by omega)) (fun _ => ?_)
    refine g_aload_n (pc := 6) dJ2_add_2_6 rfl rfl ?_
    refine g_invV (pc := 7) dJ2_add_2_7 ha kc (jc_grow d md f k1 k19 k2 k29 ha hel hn (by rw [hcl] at hE; exact hE) l1 l2) meJ2_grow q639 q641 qs5 rfl rfl (Nat.le_of_ble_eq_true rfl) (fun k z => Or.inl z) (jk_n (fun v h1 hp fr => ?_)) jk_x
    obtain ⟨rfl, cap', g, hc1, hc2, rfl, hg⟩ := hp
    have hane : a ≠ h.1 := Nat.ne_of_lt (hwf a _ ha)
    have hxne : x ≠ h.1 := Nat.ne_of_lt (hwf x _ x1)
    have hn1 : (hSet (hNew h (κe, .inr (cap', g)) cap') a (κ, .inl [.int md, .ref h.1, .int (nI xs.length)])).2.2 h.1 = some (κe, .inr (cap', g)) := by rw [hSet_n hane.symm]; exact hNew_s _ _ _
    obtain ⟨κx', fx', rx', y1, y2, y3⟩ : ∃ κ3 fs r, (hSet (hNew h (κe, .inr (cap', g)) cap') a (κ, .inl [.int md, .ref h.1, .int (nI xs.length)])).2.2 x = some (κ3, .inl fs) ∧ hCl (κ3 % 100) = some r ∧ Cond.castable r.1 "java/lang/Object" ∈ lw_tbl := by
      by_cases z : x = a
      · rw [z]
        have e1 : κx = κ := by
          rw [z] at x1
          exact congrArg Prod.fst (Option.some.inj (x1.symm.trans ha))
        rw [e1] at x2
        exact ⟨κ, _, rx, hSet_s _ _ _, x2, x3⟩
      · exact ⟨κx, fx, rx, by rw [hSet_n z, hNew_n hxne]; exact x1, x2, x3⟩
    refine g_astore_n (pc := 10) (ls' := [(0, _), (1, _), (2, _), (3, _)]) dJ2_add_2_10 rfl (Nat.le_of_ble_eq_true rfl) rfl ?_
    refine g_aload_n (pc := 11) dJ2_add_2_11 rfl rfl ?_
    refine g_iload_n (pc := 12) dJ2_add_2_12 rfl rfl ?_
    refine g_aload_n (pc := 13) dJ2_add_2_13 rfl rfl ?_
    refine g_aast (pc := 14) xs.length dJ2_add_2_14 hn1 (jAL.ke k2) hc1 rfl k29 (Or.inr rfl) y1 y2 (Or.inr y3) (by decide) ?_
    have ha2 : (hSet (hSet (hNew h (κe, .inr (cap', g)) cap') a (κ, .inl [.int md, .ref h.1, .int (nI xs.length)])) h.1 (κe, .inr (cap', upV g xs.length (.ref x)))).2.2 a = some (κ, .inl [.int md, .ref h.1, .int (nI xs.length)]) := by rw [hSet_n hane]; exact hSet_s _ _ _
    refine g_aload_n (pc := 15) dJ2_add_2_15 rfl rfl ?_
    refine g_iload_n (pc := 16) dJ2_add_2_16 rfl rfl ?_
    refine g_iconst (pc := 17) (v := nI 1) dJ2_add_2_17 rfl ?_
    first | refine g_iaddN (pc := 18) dJ2_add_2_18 ?_ | refine g_iadd (pc := 18) dJ2_add_2_18 ?_
    refine g_put (pc := 19) (r := (RJ2, TJ2, 3)) 2 dJ2_add_2_19 ha2 kc (Nat.le_of_ble_eq_true rfl) q464 (Or.inl rfl) rfl k19 (Or.inl rfl) (tyJ2_ok 2 (Nat.le_of_ble_eq_true rfl)) rfl rfl ?_
    refine g_vret (pc := 22) dJ2_add_2_22 rfl ?_
    have hfa1 : hFa (fun q => q = a ∨ q = h.1) (hNew h (κe, .inr (cap', g)) cap') (hSet (hSet (hSet (hNew h (κe, .inr (cap', g)) cap') a (κ, .inl [.int md, .ref h.1, .int (nI xs.length)])) h.1 (κe, .inr (cap', upV g xs.length (.ref x)))) a (κ, .inl [.int md, .ref h.1, .int (nI (xs.length + 1))])) :=
      hFa.tr (hFa.tr (hFa.set (jNw hwf ha) (by rfl) (Or.inl rfl)) (hFa.set hn1 (by rfl) (Or.inr rfl))) (hFa.set ha2 (by rfl) (Or.inl rfl))
    have hfa : hFa (fun q => q = a ∨ q = e) h (hSet (hSet (hSet (hNew h (κe, .inr (cap', g)) cap') a (κ, .inl [.int md, .ref h.1, .int (nI xs.length)])) h.1 (κe, .inr (cap', upV g xs.length (.ref x)))) a (κ, .inl [.int md, .ref h.1, .int (nI (xs.length + 1))])) := by
      refine ⟨Nat.le_succ _, Nat.le_add_right _ _, fun q c hq => ?_⟩
      have hq1 := jNw (n := cap') (c' := (κe, .inr (cap', g))) hwf hq
      have hqn : q ≠ h.1 := Nat.ne_of_lt (hwf q c hq)
      exact ⟨fun hne => (hfa1.2.2 q c hq1).1 (fun z => by rcases z with z | z; exact hne (Or.inl z); exact hqn z), (hfa1.2.2 q c hq1).2⟩
    refine ⟨_, rfl, rfl, ⟨h.1, cap', ⟨⟨k1, k19⟩, ⟨k2, k29⟩, by omega, by omega, ?_, ⟨md, by rw [hlen]; exact hSet_s _ _ _⟩, upV g xs.length (.ref x), Or.inr ⟨by omega, by rw [hSet_n hane.symm]; exact hSet_s _ _ _, fun i hi => ?_⟩⟩, Or.inr (Nat.le_refl _)⟩, hfa, ⟨Nat.le_refl _, by show h.2.1 + cap' ≤ _; omega⟩⟩
    · intro y hy
      rcases List.mem_append.mp hy with z | z
      · exact (hel y z).fa hfa
      · rw [List.mem_singleton.mp z]; exact hx.fa hfa
    · rw [hlen] at hi
      rw [getD_app]
      by_cases q : i < xs.length
      · rw [if_pos q, upV_n (by omega), hg i q]
        rcases hE with ⟨z, _⟩ | ⟨_, _, hf⟩
        · omega
        · exact hf i q
      · have z : i = xs.length := by omega
        rw [if_neg q, z, upV_s, Nat.sub_self]
        rfl
  rcases hE with ⟨z, hd, he⟩ | ⟨z, he, hf⟩
  · exact grw (by omega) 0 965 he (by omega)
  · by_cases q : cap = xs.length
    · exact grw q cap κe he q
    ·
      refine g_iload_n (pc := 0) dJ2_add_2_0 rfl rfl ?_
      refine g_aload_n (pc := 1) dJ2_add_2_1 rfl rfl ?_
      refine g_alen (pc := 2) dJ2_add_2_2 he ?_
      refine g_icmp_neN (pc := 3) (tgt := 11) dJ2_add_2_3 rfl (by omega) (by omega) (fun _ => ?_) (fun q_ => absurd q_ (by omega))
      refine g_aload_n (pc := 11) dJ2_add_2_11 rfl rfl ?_
      refine g_iload_n (pc := 12) dJ2_add_2_12 rfl rfl ?_
      refine g_aload_n (pc := 13) dJ2_add_2_13 rfl rfl ?_
      refine g_aast (pc := 14) xs.length dJ2_add_2_14 he (jAL.ke k2) (by omega) rfl k29 (Or.inr rfl) x1 x2 (Or.inr x3) (by decide) ?_
      have hae : a ≠ e := fun w => by
        rw [w] at ha
        have := congrArg Prod.fst (Option.some.inj (ha.symm.trans he))
        have : κ = κe := this
        omega
      have ha2 : (hSet h e (κe, .inr (cap, upV f xs.length (.ref x)))).2.2 a = some (κ, .inl [.int md, .ref e, .int (nI xs.length)]) := by rw [hSet_n hae]; exact ha
      refine g_aload_n (pc := 15) dJ2_add_2_15 rfl rfl ?_
      refine g_iload_n (pc := 16) dJ2_add_2_16 rfl rfl ?_
      refine g_iconst (pc := 17) (v := nI 1) dJ2_add_2_17 rfl ?_
      first | refine g_iaddN (pc := 18) dJ2_add_2_18 ?_ | refine g_iadd (pc := 18) dJ2_add_2_18 ?_
      refine g_put (pc := 19) (r := (RJ2, TJ2, 3)) 2 dJ2_add_2_19 ha2 kc (Nat.le_of_ble_eq_true rfl) q464 (Or.inl rfl) rfl k19 (Or.inl rfl) (tyJ2_ok 2 (Nat.le_of_ble_eq_true rfl)) rfl rfl ?_
      refine g_vret (pc := 22) dJ2_add_2_22 rfl ?_
      have hfa : hFa (fun q => q = a ∨ q = e) h (hSet (hSet h e (κe, .inr (cap, upV f xs.length (.ref x)))) a (κ, .inl [.int md, .ref e, .int (nI (xs.length + 1))])) := hFa.tr (hFa.set he (by rfl) (Or.inr rfl)) (hFa.set ha2 (by rfl) (Or.inl rfl))
      refine ⟨_, rfl, rfl, ⟨e, cap, ⟨⟨k1, k19⟩, ⟨k2, k29⟩, hcap, by omega, ?_, ⟨md, by rw [hlen]; exact hSet_s _ _ _⟩, upV f xs.length (.ref x), Or.inr ⟨z, by rw [hSet_n hae.symm]; exact hSet_s _ _ _, fun i hi => ?_⟩⟩, Or.inl rfl⟩, hfa, ⟨Nat.le_succ _, Nat.le_add_right _ _⟩⟩
      · intro y hy
        rcases List.mem_append.mp hy with z | z
        · exact (hel y z).fa hfa
        · rw [List.mem_singleton.mp z]; exact hx.fa hfa
      · rw [hlen] at hi
        rw [getD_app]
        by_cases w : i < xs.length
        · rw [if_pos w, upV_n (by omega)]; exact hf i w
        · have u : i = xs.length := by omega
          rw [if_neg w, u, upV_s, Nat.sub_self]
          rfl
theorem jc_ladd (d x : Nat) (hs : jAL Z h κ a κe e cap xs) (hx : elK h x) (hn : xs.length ≤ 4000) (l1 : h.1 + 1 ≤ hLC Z) (l2 : h.2.1 + (2 * xs.length + 10) ≤ hLS) : jC Z mJ2_add (d + 6) (fun k => k = κ ∨ k = κe) [.ref a, .ref x] h (fun v h' => v = some (.int (nI 1)) ∧ jAd Z h κ a κe e xs x h') := by
  refine jC.of pnJ2 rfl (Nat.le_of_ble_eq_true rfl) rfl (fun X => ?_)
  obtain ⟨⟨k1, k19⟩, ⟨k2, k29⟩, hcap, hle, hel, ⟨md, ha⟩, hE⟩ := hs
  have kc := jAL.kc k1
  refine g_aload_n (pc := 0) dJ2_add_0 rfl rfl ?_
  refine g_dup (pc := 1) dJ2_add_1 rfl ?_
  refine g_get (pc := 2) (r := (RJ2, TJ2, 3)) 0 dJ2_add_2 ha kc (Nat.le_of_ble_eq_true rfl) q466 (Or.inr q467) rfl ?_
  refine g_iconst (pc := 5) (v := nI 1) dJ2_add_5 rfl ?_
  refine g_iadd (pc := 6) dJ2_add_6 ?_
  refine g_put (pc := 7) (r := (RJ2, TJ2, 3)) 0 dJ2_add_7 ha kc (Nat.le_of_ble_eq_true rfl) q466 (Or.inr q467) rfl k19 (Or.inl rfl) (tyJ2_ok 0 (Nat.le_of_ble_eq_true rfl)) rfl rfl ?_
  have ha1 := hSet_s h a (κ, .inl [.int (md + nI 1), .ref e, .int (nI xs.length)])
  have hfa0 : hFa (fun q => q = a) h (hSet h a (κ, .inl [.int (md + nI 1), .ref e, .int (nI xs.length)])) := hFa.set ha (by rfl) rfl
  have hs1 : jAL Z (hSet h a (κ, .inl [.int (md + nI 1), .ref e, .int (nI xs.length)])) κ a κe e cap xs := by
    refine ⟨⟨k1, k19⟩, ⟨k2, k29⟩, hcap, hle, fun y hy => (hel y hy).fa hfa0, ⟨_, ha1⟩, ?_⟩
    obtain ⟨f, hE⟩ := hE
    refine ⟨f, ?_⟩
    rcases hE with ⟨z, hd, he⟩ | ⟨z, he, hf⟩
    · refine Or.inl ⟨z, hd, (hfa0.2.2 e _ he).1 (fun w => ?_)⟩
      rw [w, ha] at he
      have := congrArg Prod.fst (Option.some.inj he)
      have : κ = 965 := this
      omega
    · refine Or.inr ⟨z, (hfa0.2.2 e _ he).1 (fun w => ?_), hf⟩
      rw [w, ha] at he
      have := congrArg Prod.fst (Option.some.inj he)
      have : κ = κe := this
      omega
  refine g_aload_n (pc := 10) dJ2_add_10 rfl rfl ?_
  refine g_aload_n (pc := 11) dJ2_add_11 rfl rfl ?_
  refine g_aload_n (pc := 12) dJ2_add_12 rfl rfl ?_
  refine g_get (pc := 13) (r := (RJ2, TJ2, 3)) 1 dJ2_add_13 ha1 kc (Nat.le_of_ble_eq_true rfl) q463 (Or.inl rfl) rfl ?_
  refine g_aload_n (pc := 16) dJ2_add_16 rfl rfl ?_
  refine g_get (pc := 17) (r := (RJ2, TJ2, 3)) 2 dJ2_add_17 ha1 kc (Nat.le_of_ble_eq_true rfl) q464 (Or.inl rfl) rfl ?_
  refine g_invV (pc := 20) dJ2_add_20 ha1 kc (jc_ladd2 d x hs1 (hx.fa hfa0) hn l1 l2) meJ2_add_2 q635 q637 qs4 rfl rfl (Nat.le_of_ble_eq_true rfl) (by first | exact jF | exact fun _ z => z | assumption | (intro κ z; simp_all)) (jk_n (fun v h1 hp fr => ?_)) jk_x
  obtain ⟨rfl, ⟨e', cap', hp1, hp2⟩, hp3, hp4⟩ := hp
  refine g_iconst (pc := 23) (v := nI 1) dJ2_add_23 rfl ?_
  exact g_zret (pc := 24) dJ2_add_24 rfl (by first | exact bz_n _ | rfl) ⟨_, rfl, rfl, ⟨e', cap', hp1, hp2⟩, (hfa0.mono (fun q z => Or.inl z)).tr hp3, hp4⟩
end JC
