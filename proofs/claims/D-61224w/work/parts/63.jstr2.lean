/-! JDK 3: equals, indexOf -/
set_option maxRecDepth 100000
theorem jSt.uniq {h : hP} {κ κ' a : Nat} {l l' : List Nat} (p : jSt h κ a l) (q : jSt h κ' a l') : l = l' := by
  obtain ⟨_, p2, b, κb, hs, hz, p3, _, ⟨f, p5, _, _, _, p6⟩, _⟩ := p
  obtain ⟨_, q2, b', κb', hs', hz', q3, _, ⟨f', q5, _, _, _, q6⟩, _⟩ := q
  rw [p3] at q3
  have e := Option.some.inj q3
  have e1 : b = b' := by
    have := congrArg Prod.snd e
    simp at this
    exact this.1
  subst e1
  rw [p5] at q5
  have e2 := Option.some.inj q5
  have e3 : l.length = l'.length ∧ f = f' := by
    have := congrArg Prod.snd e2
    simp at this
    exact this
  apply List.ext_getElem e3.1
  intro i h1 h2
  have a1 := p6 i h1
  have a2 := q6 i h2
  rw [e3.2] at a1
  rw [a1] at a2
  have hi : nI (l.getD i 0) = nI (l'.getD i 0) := by injection a2
  have c1 := p2 _ (getD_mem (d := 0) h1)
  have c2 := q2 _ (getD_mem (d := 0) h2)
  have := (nI_eq (by omega) (by omega)).mp hi
  rw [List.getD_eq_getElem?_getD, List.getD_eq_getElem?_getD, List.getElem?_eq_getElem h1, List.getElem?_eq_getElem h2] at this
  exact this
/-- where w stands first, from a place on -/
def ixO (l w : List Nat) (k : Nat) : Option Nat := if findF (fun i => l.getD i 0) l.length w l.length k < l.length then some (findF (fun i => l.getD i 0) l.length w l.length k) else none
theorem findF_at {f : Nat → Nat} {e i : Nat} {w : List Nat} (hi : i < e) (hs : stB f e i w = true) : ∀ (n k : Nat), k ≤ i → i - k ≤ n → (∀ j, k ≤ j → j < i → stB f e j w = false) → findF f e w n k = i
  | 0, k, h1, h2, _ => by unfold findF; omega
  | n + 1, k, h1, h2, h3 => by
    unfold findF
    by_cases z : k = i
    · rw [if_neg (fun y => by rw [z, hs] at y; exact absurd y.2 (by decide))]; exact z
    · rw [if_pos ⟨by omega, h3 k (Nat.le_refl _) (by omega)⟩]
      exact findF_at hi hs n (k + 1) (by omega) (by omega) (fun j a b => h3 j (by omega) b)
theorem findF_un {f : Nat → Nat} {e : Nat} {w : List Nat} : ∀ (n k : Nat), k ≤ e → e - k ≤ n → (∀ j, k ≤ j → j < e → stB f e j w = false) → findF f e w n k = e
  | 0, k, h1, h2, _ => by unfold findF; omega
  | n + 1, k, h1, h2, h3 => by
    unfold findF
    by_cases z : k = e
    · rw [if_neg (by omega)]; exact z
    · rw [if_pos ⟨by omega, h3 k (Nat.le_refl _) (by omega)⟩]
      exact findF_un n (k + 1) (by omega) (by omega) (fun j a b => h3 j (by omega) b)
theorem ixO_some {l w : List Nat} {k i : Nat} (hk : k ≤ i) (hi : i < l.length) (hs : stB (fun i => l.getD i 0) l.length i w = true) (hn : ∀ j, k ≤ j → j < i → stB (fun i => l.getD i 0) l.length j w = false) : ixO l w k = some i := by
  unfold ixO
  rw [findF_at hi hs l.length k hk (by omega) hn, if_pos hi]
theorem ixO_none {l w : List Nat} {k : Nat} (hk : k ≤ l.length) (hn : ∀ j, k ≤ j → j < l.length → stB (fun i => l.getD i 0) l.length j w = false) : ixO l w k = none := by
  unfold ixO
  rw [findF_un l.length k hk (by omega) hn, if_neg (Nat.lt_irrefl _)]
theorem stB_iff {f : Nat → Nat} {e : Nat} : ∀ {w : List Nat} {p : Nat}, p + w.length ≤ e → (stB f e p w = true ↔ ∀ t, t < w.length → f (p + t) = w.getD t 0)
  | [], _, _ => ⟨fun _ t ht => absurd ht (Nat.not_lt_zero _), fun _ => rfl⟩
  | c :: cs, p, h => by
    have h : p + (cs.length + 1) ≤ e := h
    rw [stB_cons, Bool.and_eq_true, stB_iff (w := cs) (p := p + 1) (by omega), cA_eq (by omega), beq_iff_eq]
    constructor
    · rintro ⟨a, b⟩ t ht
      cases t with
      | zero => exact a
      | succ t =>
        have := b t (by have : t + 1 < cs.length + 1 := ht; omega)
        rw [show p + (t + 1) = p + 1 + t by omega]; exact this
    · intro a
      refine ⟨a 0 (by simp), fun t ht => ?_⟩
      have := a (t + 1) (by simp; exact ht)
      rw [show p + 1 + t = p + (t + 1) by omega]; exact this
section JS3
variable {Z : hE} {h : hP} {κ a : Nat} {l : List Nat}
theorem jc_l1equals (d b b' κb κb' : Nat) (l' : List Nat) (hb : jBy h b κb l.length l) (hb' : jBy h b' κb' l'.length l') (hl : ∀ c ∈ l, c < 128) (hl' : ∀ c ∈ l', c < 128) : jP Z mJ15_equals d [.ref b, .ref b'] h (some (.int (nI (decide (l = l')).toNat))) := by
  refine jC.of pnJ15 rfl (Nat.le_of_ble_eq_true rfl) rfl (fun X => ?_)
  obtain ⟨f, hb, hty, _, hn, hf⟩ := hb
  obtain ⟨f', hb', hty', _, hn', hf'⟩ := hb'
  have loop : ∀ (j k : Nat), k + j = l.length → l.length = l'.length → (∀ i, i < k → l.getD i 0 = l'.getD i 0) → hG Z X mJ15_equals d (fun _ => False) h (jK (fun v h' => v = some (.int (nI (decide (l = l')).toNat)) ∧ h' = h)) 9 [(0, .ref b), (1, .ref b'), (2, .int (nI k))] [] h := by
    intro j
    induction j with
    | zero =>
      intro k hk hlen heq
      refine g_iload_n (pc := 9) dJ15_equals_9 rfl rfl ?_
      refine g_aload_n (pc := 10) dJ15_equals_10 rfl rfl ?_
      refine g_alen (pc := 11) dJ15_equals_11 hb ?_
      refine g_icmp_geN (pc := 12) (tgt := 32) dJ15_equals_12 rfl (by omega) (by omega) (fun _ => ?_) (fun q_ => absurd q_ (by omega))
      refine g_iconst (pc := 32) (v := nI 1) dJ15_equals_32 rfl ?_
      refine g_zret (pc := 33) dJ15_equals_33 rfl rfl ⟨_, rfl, ?_, rfl⟩
      have : l = l' := by
        apply List.ext_getElem hlen
        intro i h1 h2
        have := heq i (by omega)
        rw [List.getD_eq_getElem?_getD, List.getD_eq_getElem?_getD, List.getElem?_eq_getElem h1, List.getElem?_eq_getElem h2] at this
        exact this
      rw [decide_eq_true this]
      rfl
    | succ j ih =>
      intro k hk hlen heq
      have c1 := hl _ (getD_mem (l := l) (i := k) (d := 0) (by omega))
      have c2 := hl' _ (getD_mem (l := l') (i := k) (d := 0) (by omega))
      refine g_iload_n (pc := 9) dJ15_equals_9 rfl rfl ?_
      refine g_aload_n (pc := 10) dJ15_equals_10 rfl rfl ?_
      refine g_alen (pc := 11) dJ15_equals_11 hb ?_
      refine g_icmp_geN (pc := 12) (tgt := 32) dJ15_equals_12 rfl (by omega) (by omega) (fun q_ => absurd q_ (by omega)) (fun _ => ?_)
      refine g_aload_n (pc := 15) dJ15_equals_15 rfl rfl ?_
      refine g_iload_n (pc := 16) dJ15_equals_16 rfl rfl ?_
      refine g_bald (pc := 17) k dJ15_equals_17 hb hty (by omega) rfl ?_
      rw [hf k (by omega)]
      refine g_aload_n (pc := 18) dJ15_equals_18 rfl rfl ?_
      refine g_iload_n (pc := 19) dJ15_equals_19 rfl rfl ?_
      refine g_bald (pc := 20) k dJ15_equals_20 hb' hty' (by omega) rfl ?_
      rw [hf' k (by omega)]
      refine g_icmp_eqN (pc := 21) (tgt := 26) dJ15_equals_21 rfl (by omega) (by omega) (fun q => ?_) (fun q => ?_)
      · refine g_iincN (pc := 26) (k0 := 1) (ls' := [(0, _), (1, _), (2, _)]) dJ15_equals_26 rfl (Nat.le_of_ble_eq_true rfl) rfl ?_
        refine g_goto (pc := 29) (tgt := 9) dJ15_equals_29 rfl ?_
        refine ih (k + 1) (by omega) hlen (fun i hi => ?_)
        by_cases e : i = k
        · rw [e]; exact q
        · exact heq i (by omega)
      · refine g_iconst (pc := 24) (v := nI 0) dJ15_equals_24 rfl ?_
        refine g_zret (pc := 25) dJ15_equals_25 rfl rfl ⟨_, rfl, ?_, rfl⟩
        rw [decide_eq_false (fun z => q (by rw [z]))]
        rfl
  refine g_aload_n (pc := 0) dJ15_equals_0 rfl rfl ?_
  refine g_alen (pc := 1) dJ15_equals_1 hb ?_
  refine g_aload_n (pc := 2) dJ15_equals_2 rfl rfl ?_
  refine g_alen (pc := 3) dJ15_equals_3 hb' ?_
  refine g_icmp_neN (pc := 4) (tgt := 34) dJ15_equals_4 rfl (by omega) (by omega) (fun q => ?_) (fun q => ?_)
  · refine g_iconst (pc := 34) (v := nI 0) dJ15_equals_34 rfl ?_
    refine g_zret (pc := 35) dJ15_equals_35 rfl rfl ⟨_, rfl, ?_, rfl⟩
    rw [decide_eq_false (fun z => q (by rw [z]))]
    rfl
  · refine g_iconst (pc := 7) (v := nI 0) dJ15_equals_7 rfl ?_
    refine g_istore_n (pc := 8) (ls' := [(0, _), (1, _), (2, _)]) dJ15_equals_8 rfl (Nat.le_of_ble_eq_true rfl) rfl ?_
    exact loop l.length 0 (by omega) q (fun i hi => absurd hi (Nat.not_lt_zero _))
theorem jc_equals (d κ' a' : Nat) (l' : List Nat) (hs : jSt h κ a l) (hs' : jSt h κ' a' l') : jP Z mJ9_equals (d + 1) [.ref a, .ref a'] h (some (.int (nI (decide (l = l')).toNat))) := by
  refine jC.of pnJ9 rfl (Nat.le_of_ble_eq_true rfl) rfl (fun X => ?_)
  have hs0 := hs
  have hs0' := hs'
  have kc := hs.cl
  have kc' := hs'.cl
  obtain ⟨_, hl, b, κb, h1, h2, ha, _, hb, _⟩ := hs
  obtain ⟨_, hl', b', κb', h1', h2', ha', _, hb', _⟩ := hs'
  refine g_aload_n (pc := 0) dJ9_equals_0 rfl rfl ?_
  refine g_aload_n (pc := 1) dJ9_equals_1 rfl rfl ?_
  refine g_acmp_ne (pc := 2) (some a) (some a') (tgt := 7) dJ9_equals_2 rfl rfl rfl (fun q => ?_) (fun q => ?_)
  · refine g_aload_n (pc := 7) dJ9_equals_7 rfl rfl ?_
    refine g_instY (pc := 8) dJ9_equals_8 ha' kc' q968 (Or.inl rfl) ?_
    refine g_if_eq (pc := 11) (tgt := 54) dJ9_equals_11 rfl (fun z => absurd z (by decide)) (fun _ => ?_)
    refine g_aload_n (pc := 14) dJ9_equals_14 rfl rfl ?_
    refine g_cast (pc := 15) dJ9_equals_15 ha' kc' q968 (Or.inl rfl) ?_
    refine g_astore_n (pc := 18) (ls' := [(0, _), (1, _), (2, _)]) dJ9_equals_18 rfl (Nat.le_of_ble_eq_true rfl) rfl ?_
    refine g_gets (pc := 19) dJ9_equals_19 st_compact q308 (Or.inl rfl) ?_
    refine g_if_eq (pc := 22) (tgt := 36) dJ9_equals_22 rfl (fun z => absurd z (by decide)) (fun _ => ?_)
    refine g_aload_n (pc := 25) dJ9_equals_25 rfl rfl ?_
    refine g_get (pc := 26) (r := (RJ9, TJ9, 4)) 1 dJ9_equals_26 ha kc (Nat.le_of_ble_eq_true rfl) q450 (Or.inl rfl) rfl ?_
    refine g_aload_n (pc := 29) dJ9_equals_29 rfl rfl ?_
    refine g_get (pc := 30) (r := (RJ9, TJ9, 4)) 1 dJ9_equals_30 ha' kc' (Nat.le_of_ble_eq_true rfl) q450 (Or.inl rfl) rfl ?_
    refine g_icmp_neN (pc := 33) (tgt := 54) dJ9_equals_33 rfl (by omega) (by omega) (fun q_ => absurd q_ (fun z => z rfl)) (fun _ => ?_)
    refine g_aload_n (pc := 36) dJ9_equals_36 rfl rfl ?_
    refine g_get (pc := 37) (r := (RJ9, TJ9, 4)) 0 dJ9_equals_37 ha kc (Nat.le_of_ble_eq_true rfl) q449 (Or.inl rfl) rfl ?_
    refine g_aload_n (pc := 40) dJ9_equals_40 rfl rfl ?_
    refine g_get (pc := 41) (r := (RJ9, TJ9, 4)) 0 dJ9_equals_41 ha' kc' (Nat.le_of_ble_eq_true rfl) q449 (Or.inl rfl) rfl ?_
    refine g_invS (pc := 44) dJ9_equals_44 (jc_l1equals d b b' κb κb' l' hb hb' hl hl') meJ15_equals q969 q970 rfl rfl (Nat.le_of_ble_eq_true rfl) (by first | exact jF | exact fun _ z => z | assumption | (intro κ z; simp_all)) (jk_e ?_) jk_x
    refine g_if_eqB (pc := 47) (tgt := 54) dJ9_equals_47 rfl (fun z => ?_) (fun z => ?_)
    · refine g_iconst (pc := 54) (v := nI 0) dJ9_equals_54 rfl ?_
      refine g_zret (pc := 55) dJ9_equals_55 rfl rfl ⟨_, rfl, ?_, rfl⟩
      rw [z]; rfl
    · refine g_iconst (pc := 50) (v := nI 1) dJ9_equals_50 rfl ?_
      refine g_goto (pc := 51) (tgt := 55) dJ9_equals_51 rfl ?_
      refine g_zret (pc := 55) dJ9_equals_55 rfl rfl ⟨_, rfl, ?_, rfl⟩
      rw [z]; rfl
  · cases q
    refine g_iconst (pc := 5) (v := nI 1) dJ9_equals_5 rfl ?_
    refine g_zret (pc := 6) dJ9_equals_6 rfl rfl ⟨_, rfl, ?_, rfl⟩
    rw [decide_eq_true (hs0.uniq hs0')]
    rfl
theorem jc_l1indexOf (d b b' κb κb' k : Nat) (w : List Nat) (hb : jBy h b κb l.length l) (hb' : jBy h b' κb' w.length w) (hl : ∀ c ∈ l, c < 128) (hw : ∀ c ∈ w, 0 < c ∧ c < 128) (hw0 : 1 ≤ w.length) (hk : k ≤ l.length) (hm : w.length ≤ l.length) (hL : l.length ≤ 1000000) : jP Z mJ15_indexOf d [.ref b, .int (nI l.length), .ref b', .int (nI w.length), .int (nI k)] h (some (.int (oI (ixO l w k)))) := by
  refine jC.of pnJ15 rfl (Nat.le_of_ble_eq_true rfl) rfl (fun X => ?_)
  obtain ⟨f, hb, hty, _, hn, hf⟩ := hb
  obtain ⟨f', hb', hty', _, hn', hf'⟩ := hb'
  have hc : ∀ i, i < l.length → l.getD i 0 < 128 := fun i hi => hl _ (getD_mem hi)
  have hc' : ∀ i, i < w.length → w.getD i 0 < 128 := fun i hi => (hw _ (getD_mem hi)).2
  generalize hF : (fun i => l.getD i 0) = F
  have hFi : ∀ i, F i = l.getD i 0 := fun i => by rw [← hF]
  have hmx : ∀ i, l.length - w.length < i → stB F l.length i w = false := fun i hi => by
    cases hz : stB F l.length i w with
    | false => rfl
    | true =>
      have hne : w ≠ [] := fun z => by rw [z] at hw0; exact absurd hw0 (by decide)
      have := stB_len (fun c hc => by have := (hw c hc).1; omega) hne hz
      omega
  generalize hQ : (fun (v : Option Value) (h' : hP) => v = some (.int (oI (ixO l w k))) ∧ h' = h) = Q
  -- too far
  have far : ∀ i, i ≤ l.length + 5 → l.length - w.length < i → (∀ j, k ≤ j → j < i → stB F l.length j w = false) → hG Z X mJ15_indexOf d (fun _ => False) h (jK Q) 14 [(0, .ref b), (1, .int (nI l.length)), (2, .ref b'), (3, .int (nI w.length)), (4, .int (nI k)), (5, .int (nI (w.getD 0 0))), (6, .int (nI (l.length - w.length))), (7, .int (nI i))] [] h := by
    intro i hi hi2 hinv
    refine g_iload (pc := 14) dJ15_indexOf_14 rfl ?_
    refine g_iload (pc := 16) dJ15_indexOf_16 rfl ?_
    refine g_icmp_gtN (pc := 18) (tgt := 119) dJ15_indexOf_18 rfl (by omega) (by omega) (fun _ => ?_) (fun q_ => absurd q_ (by omega))
    refine g_iconst (pc := 119) (v := (-1)) dJ15_indexOf_119 rfl ?_
    subst hQ
    refine g_iret (pc := 120) dJ15_indexOf_120 rfl ⟨_, rfl, ?_, rfl⟩
    rw [ixO_none hk (fun j a b => by
      rw [hF]
      by_cases z : j < i
      · exact hinv j a z
      · exact hmx j (by omega))]
    rfl
  have far52 : ∀ i, i ≤ l.length + 4 → l.length - w.length < i → (∀ j, k ≤ j → j < i → stB F l.length j w = false) → hG Z X mJ15_indexOf d (fun _ => False) h (jK Q) 52 [(0, .ref b), (1, .int (nI l.length)), (2, .ref b'), (3, .int (nI w.length)), (4, .int (nI k)), (5, .int (nI (w.getD 0 0))), (6, .int (nI (l.length - w.length))), (7, .int (nI i))] [] h := by
    intro i hi hi2 hinv
    refine g_iload (pc := 52) dJ15_indexOf_52 rfl ?_
    refine g_iload (pc := 54) dJ15_indexOf_54 rfl ?_
    refine g_icmp_gtN (pc := 56) (tgt := 113) dJ15_indexOf_56 rfl (by omega) (by omega) (fun _ => ?_) (fun q_ => absurd q_ (by omega))
    refine g_iincN (pc := 113) (k0 := 1) (ls' := [(0, _), (1, _), (2, _), (3, _), (4, _), (5, _), (6, _), (7, _)]) dJ15_indexOf_113 rfl (Nat.le_of_ble_eq_true rfl) rfl ?_
    refine g_goto (pc := 116) (tgt := 14) dJ15_indexOf_116 rfl ?_
    refine far (i + 1) (by omega) (by omega) (fun j a b => ?_)
    by_cases z : j < i
    · exact hinv j a z
    · exact hmx j (by omega)
  have main : ∀ (n i : Nat), l.length + 1 - i ≤ n → i ≤ l.length + 1 → k ≤ i → (∀ j, k ≤ j → j < i → stB F l.length j w = false) →
      hG Z X mJ15_indexOf d (fun _ => False) h (jK Q) 14 [(0, .ref b), (1, .int (nI l.length)), (2, .ref b'), (3, .int (nI w.length)), (4, .int (nI k)), (5, .int (nI (w.getD 0 0))), (6, .int (nI (l.length - w.length))), (7, .int (nI i))] [] h
      ∧ ((i ≤ l.length - w.length → F i = w.getD 0 0) → hG Z X mJ15_indexOf d (fun _ => False) h (jK Q) 52 [(0, .ref b), (1, .int (nI l.length)), (2, .ref b'), (3, .int (nI w.length)), (4, .int (nI k)), (5, .int (nI (w.getD 0 0))), (6, .int (nI (l.length - w.length))), (7, .int (nI i))] [] h)
      ∧ (stB F l.length i w = false → hG Z X mJ15_indexOf d (fun _ => False) h (jK Q) 30 [(0, .ref b), (1, .int (nI l.length)), (2, .ref b'), (3, .int (nI w.length)), (4, .int (nI k)), (5, .int (nI (w.getD 0 0))), (6, .int (nI (l.length - w.length))), (7, .int (nI i))] [] h) := by
    intro n
    induction n with
    | zero =>
      intro i hi hi1 hk hinv
      refine ⟨far i (by omega) (by omega) hinv, fun _ => far52 i (by omega) (by omega) hinv, fun hz => ?_⟩
      refine g_iincN (pc := 30) (k0 := 1) (ls' := [(0, _), (1, _), (2, _), (3, _), (4, _), (5, _), (6, _), (7, _)]) dJ15_indexOf_30 rfl (Nat.le_of_ble_eq_true rfl) rfl ?_
      refine g_iload (pc := 33) dJ15_indexOf_33 rfl ?_
      refine g_iload (pc := 35) dJ15_indexOf_35 rfl ?_
      refine g_icmp_gtN (pc := 37) (tgt := 52) dJ15_indexOf_37 rfl (by omega) (by omega) (fun _ => ?_) (fun q_ => absurd q_ (by omega))
      refine far52 (i + 1) (by omega) (by omega) (fun j a b => ?_)
      by_cases z : j = i
      · rw [z]; exact hz
      · exact hinv j a (by omega)
    | succ n ih =>
      intro i hi hi1 hki hinv
      by_cases hfar : l.length - w.length < i
      · refine ⟨far i (by omega) hfar hinv, fun _ => far52 i (by omega) hfar hinv, fun hz => ?_⟩
        refine g_iincN (pc := 30) (k0 := 1) (ls' := [(0, _), (1, _), (2, _), (3, _), (4, _), (5, _), (6, _), (7, _)]) dJ15_indexOf_30 rfl (Nat.le_of_ble_eq_true rfl) rfl ?_
        refine g_iload (pc := 33) dJ15_indexOf_33 rfl ?_
        refine g_iload (pc := 35) dJ15_indexOf_35 rfl ?_
        refine g_icmp_gtN (pc := 37) (tgt := 52) dJ15_indexOf_37 rfl (by omega) (by omega) (fun _ => ?_) (fun q_ => absurd q_ (by omega))
        refine far52 (i + 1) (by omega) (by omega) (fun j a b => ?_)
        by_cases z : j = i
        · rw [z]; exact hz
        · exact hinv j a (by omega)
      · have nxt : ∀ (hz : stB F l.length i w = false), ∀ j, k ≤ j → j < i + 1 → stB F l.length j w = false := fun hz j a b => by
          by_cases z : j = i
          · rw [z]; exact hz
          · exact hinv j a (by omega)
        have hci := hc i (by omega)
        have hc0 := hc' 0 (by omega)
        have hB : stB F l.length i w = false → hG Z X mJ15_indexOf d (fun _ => False) h (jK Q) 30 [(0, .ref b), (1, .int (nI l.length)), (2, .ref b'), (3, .int (nI w.length)), (4, .int (nI k)), (5, .int (nI (w.getD 0 0))), (6, .int (nI (l.length - w.length))), (7, .int (nI i))] [] h := by
          intro hz
          obtain ⟨i1, i2, i3⟩ := ih (i + 1) (by omega) (by omega) (by omega) (nxt hz)
          refine g_iincN (pc := 30) (k0 := 1) (ls' := [(0, _), (1, _), (2, _), (3, _), (4, _), (5, _), (6, _), (7, _)]) dJ15_indexOf_30 rfl (Nat.le_of_ble_eq_true rfl) rfl ?_
          refine g_iload (pc := 33) dJ15_indexOf_33 rfl ?_
          refine g_iload (pc := 35) dJ15_indexOf_35 rfl ?_
          refine g_icmp_gtN (pc := 37) (tgt := 52) dJ15_indexOf_37 rfl (by omega) (by omega) (fun q => ?_) (fun q => ?_)
          · exact i2 (fun z => by omega)
          · have hc1 := hc (i + 1) (by omega)
            refine g_aload_n (pc := 40) dJ15_indexOf_40 rfl rfl ?_
            refine g_iload (pc := 41) dJ15_indexOf_41 rfl ?_
            refine g_bald (pc := 43) (i + 1) dJ15_indexOf_43 hb hty (by omega) rfl ?_
            rw [hf (i + 1) (by omega)]
            refine g_iload (pc := 44) dJ15_indexOf_44 rfl ?_
            refine g_icmp_eqN (pc := 46) (tgt := 52) dJ15_indexOf_46 rfl (by omega) (by omega) (fun q2 => ?_) (fun q2 => ?_)
            · exact i2 (fun _ => by rw [hFi]; exact q2)
            · refine g_goto (pc := 49) (tgt := 30) dJ15_indexOf_49 rfl ?_
              refine i3 ?_
              cases hy : stB F l.length (i + 1) w with
              | false => rfl
              | true =>
                have := (stB_iff (by omega)).mp hy 0 (by omega)
                rw [Nat.add_zero, hFi] at this
                exact absurd this q2
        have hC : (i ≤ l.length - w.length → F i = w.getD 0 0) → hG Z X mJ15_indexOf d (fun _ => False) h (jK Q) 52 [(0, .ref b), (1, .int (nI l.length)), (2, .ref b'), (3, .int (nI w.length)), (4, .int (nI k)), (5, .int (nI (w.getD 0 0))), (6, .int (nI (l.length - w.length))), (7, .int (nI i))] [] h := by
          intro h0
          have h0 := h0 (by omega)
          have no : stB F l.length i w = false → hG Z X mJ15_indexOf d (fun _ => False) h (jK Q) 113 [(0, .ref b), (1, .int (nI l.length)), (2, .ref b'), (3, .int (nI w.length)), (4, .int (nI k)), (5, .int (nI (w.getD 0 0))), (6, .int (nI (l.length - w.length))), (7, .int (nI i))] [] h := by
            intro hz
            refine g_iincN (pc := 113) (k0 := 1) (ls' := [(0, _), (1, _), (2, _), (3, _), (4, _), (5, _), (6, _), (7, _)]) dJ15_indexOf_113 rfl (Nat.le_of_ble_eq_true rfl) rfl ?_
            refine g_goto (pc := 116) (tgt := 14) dJ15_indexOf_116 rfl ?_
            exact (ih (i + 1) (by omega) (by omega) (by omega) (nxt hz)).1
          have cmp : ∀ (u t : Nat), t + u + 1 = w.length → (∀ s, s < 1 + t → F (i + s) = w.getD s 0) → hG Z X mJ15_indexOf d (fun _ => False) h (jK Q) 76 [(0, .ref b), (1, .int (nI l.length)), (2, .ref b'), (3, .int (nI w.length)), (4, .int (nI k)), (5, .int (nI (w.getD 0 0))), (6, .int (nI (l.length - w.length))), (7, .int (nI i)), (8, .int (nI (i + 1 + t))), (9, .int (nI (i + w.length))), (10, .int (nI (1 + t)))] [] h := by
            intro u
            induction u with
            | zero =>
              intro t ht heq
              refine g_iload (pc := 76) dJ15_indexOf_76 rfl ?_
              refine g_iload (pc := 78) dJ15_indexOf_78 rfl ?_
              refine g_icmp_geN (pc := 80) (tgt := 103) dJ15_indexOf_80 rfl (by omega) (by omega) (fun _ => ?_) (fun q_ => absurd q_ (by omega))
              refine g_iload (pc := 103) dJ15_indexOf_103 rfl ?_
              refine g_iload (pc := 105) dJ15_indexOf_105 rfl ?_
              refine g_icmp_neN (pc := 107) (tgt := 113) dJ15_indexOf_107 rfl (by omega) (by omega) (fun q_ => absurd q_ (fun z => z (by omega))) (fun _ => ?_)
              refine g_iload (pc := 110) dJ15_indexOf_110 rfl ?_
              subst hQ
              refine g_iret (pc := 112) dJ15_indexOf_112 rfl ⟨_, rfl, ?_, rfl⟩
              rw [ixO_some (i := i) hki (by omega) (by rw [hF]; exact (stB_iff (by omega)).mpr (fun s hs => heq s (by omega))) (fun j a b => by rw [hF]; exact hinv j a b)]
              rfl
            | succ u ihu =>
              intro t ht heq
              have c1 := hc (i + 1 + t) (by omega)
              have c2 := hc' (1 + t) (by omega)
              refine g_iload (pc := 76) dJ15_indexOf_76 rfl ?_
              refine g_iload (pc := 78) dJ15_indexOf_78 rfl ?_
              refine g_icmp_geN (pc := 80) (tgt := 103) dJ15_indexOf_80 rfl (by omega) (by omega) (fun q_ => absurd q_ (by omega)) (fun _ => ?_)
              refine g_aload_n (pc := 83) dJ15_indexOf_83 rfl rfl ?_
              refine g_iload (pc := 84) dJ15_indexOf_84 rfl ?_
              refine g_bald (pc := 86) (i + 1 + t) dJ15_indexOf_86 hb hty (by omega) rfl ?_
              rw [hf (i + 1 + t) (by omega)]
              refine g_aload_n (pc := 87) dJ15_indexOf_87 rfl rfl ?_
              refine g_iload (pc := 88) dJ15_indexOf_88 rfl ?_
              refine g_bald (pc := 90) (1 + t) dJ15_indexOf_90 hb' hty' (by omega) rfl ?_
              rw [hf' (1 + t) (by omega)]
              refine g_icmp_neN (pc := 91) (tgt := 103) dJ15_indexOf_91 rfl (by omega) (by omega) (fun q => ?_) (fun q => ?_)
              · refine g_iload (pc := 103) dJ15_indexOf_103 rfl ?_
                refine g_iload (pc := 105) dJ15_indexOf_105 rfl ?_
                refine g_icmp_neN (pc := 107) (tgt := 113) dJ15_indexOf_107 rfl (by omega) (by omega) (fun _ => ?_) (fun q_ => absurd q_ (by omega))
                refine g_drop [0, 1, 2, 3, 4, 5, 6, 7] rfl ?_
                refine no ?_
                cases hy : stB F l.length i w with
                | false => rfl
                | true =>
                  have := (stB_iff (by omega)).mp hy (1 + t) (by omega)
                  rw [hFi, show i + (1 + t) = i + 1 + t by omega] at this
                  exact absurd this q
              · refine g_iincN (pc := 94) (k0 := 1) (ls' := [(0, _), (1, _), (2, _), (3, _), (4, _), (5, _), (6, _), (7, _), (8, _), (9, _), (10, _)]) dJ15_indexOf_94 rfl (Nat.le_of_ble_eq_true rfl) rfl ?_
                refine g_iincN (pc := 97) (k0 := 1) (ls' := [(0, _), (1, _), (2, _), (3, _), (4, _), (5, _), (6, _), (7, _), (8, _), (9, _), (10, _)]) dJ15_indexOf_97 rfl (Nat.le_of_ble_eq_true rfl) rfl ?_
                refine g_goto (pc := 100) (tgt := 76) dJ15_indexOf_100 rfl ?_
                refine ihu (t + 1) (by omega) (fun s hs => ?_)
                by_cases e : s = 1 + t
                · rw [e, hFi, show i + (1 + t) = i + 1 + t by omega]; exact q
                · exact heq s (by omega)
          refine g_iload (pc := 52) dJ15_indexOf_52 rfl ?_
          refine g_iload (pc := 54) dJ15_indexOf_54 rfl ?_
          refine g_icmp_gtN (pc := 56) (tgt := 113) dJ15_indexOf_56 rfl (by omega) (by omega) (fun q_ => absurd q_ (by omega)) (fun _ => ?_)
          refine g_iload (pc := 59) dJ15_indexOf_59 rfl ?_
          refine g_iconst (pc := 61) (v := nI 1) dJ15_indexOf_61 rfl ?_
          first | refine g_iaddN (pc := 62) dJ15_indexOf_62 ?_ | refine g_iadd (pc := 62) dJ15_indexOf_62 ?_
          refine g_istore (pc := 63) (ls' := [(0, _), (1, _), (2, _), (3, _), (4, _), (5, _), (6, _), (7, _), (8, _)]) dJ15_indexOf_63 (Nat.le_of_ble_eq_true rfl) rfl ?_
          refine g_iload (pc := 65) dJ15_indexOf_65 rfl ?_
          refine g_iload_n (pc := 67) dJ15_indexOf_67 rfl rfl ?_
          first | refine g_iaddN (pc := 68) dJ15_indexOf_68 ?_ | refine g_iadd (pc := 68) dJ15_indexOf_68 ?_
          refine g_iconst (pc := 69) (v := nI 1) dJ15_indexOf_69 rfl ?_
          first | refine g_isubN (pc := 70) dJ15_indexOf_70 (by omega) ?_ | refine g_isub (pc := 70) dJ15_indexOf_70 ?_
          rw [show i + 1 + w.length - 1 = i + w.length by omega]
          refine g_istore (pc := 71) (ls' := [(0, _), (1, _), (2, _), (3, _), (4, _), (5, _), (6, _), (7, _), (8, _), (9, _)]) dJ15_indexOf_71 (Nat.le_of_ble_eq_true rfl) rfl ?_
          refine g_iconst (pc := 73) (v := nI 1) dJ15_indexOf_73 rfl ?_
          refine g_istore (pc := 74) (ls' := [(0, _), (1, _), (2, _), (3, _), (4, _), (5, _), (6, _), (7, _), (8, _), (9, _), (10, _)]) dJ15_indexOf_74 (Nat.le_of_ble_eq_true rfl) rfl ?_
          exact cmp (w.length - 1) 0 (by omega) (fun s hs => by rw [show s = 0 by omega, Nat.add_zero]; exact h0)
        refine ⟨?_, hC, hB⟩
        refine g_iload (pc := 14) dJ15_indexOf_14 rfl ?_
        refine g_iload (pc := 16) dJ15_indexOf_16 rfl ?_
        refine g_icmp_gtN (pc := 18) (tgt := 119) dJ15_indexOf_18 rfl (by omega) (by omega) (fun q_ => absurd q_ (by omega)) (fun _ => ?_)
        refine g_aload_n (pc := 21) dJ15_indexOf_21 rfl rfl ?_
        refine g_iload (pc := 22) dJ15_indexOf_22 rfl ?_
        refine g_bald (pc := 24) i dJ15_indexOf_24 hb hty (by omega) rfl ?_
        rw [hf i (by omega)]
        refine g_iload (pc := 25) dJ15_indexOf_25 rfl ?_
        refine g_icmp_eqN (pc := 27) (tgt := 52) dJ15_indexOf_27 rfl (by omega) (by omega) (fun q => ?_) (fun q => ?_)
        · exact hC (fun _ => by rw [hFi]; exact q)
        · refine hB ?_
          cases hy : stB F l.length i w with
          | false => rfl
          | true =>
            have := (stB_iff (by omega)).mp hy 0 (by omega)
            rw [Nat.add_zero, hFi] at this
            exact absurd this q
  refine g_aload_n (pc := 0) dJ15_indexOf_0 rfl rfl ?_
  refine g_iconst (pc := 1) (v := nI 0) dJ15_indexOf_1 rfl ?_
  refine g_bald (pc := 2) 0 dJ15_indexOf_2 hb' hty' (by omega) rfl ?_
  rw [hf' 0 (by omega)]
  refine g_istore (pc := 3) (ls' := [(0, _), (1, _), (2, _), (3, _), (4, _), (5, _)]) dJ15_indexOf_3 (Nat.le_of_ble_eq_true rfl) rfl ?_
  refine g_iload_n (pc := 5) dJ15_indexOf_5 rfl rfl ?_
  refine g_iload_n (pc := 6) dJ15_indexOf_6 rfl rfl ?_
  first | refine g_isubN (pc := 7) dJ15_indexOf_7 (by omega) ?_ | refine g_isub (pc := 7) dJ15_indexOf_7 ?_
  refine g_istore (pc := 8) (ls' := [(0, _), (1, _), (2, _), (3, _), (4, _), (5, _), (6, _)]) dJ15_indexOf_8 (Nat.le_of_ble_eq_true rfl) rfl ?_
  refine g_iload (pc := 10) dJ15_indexOf_10 rfl ?_
  refine g_istore (pc := 12) (ls' := [(0, _), (1, _), (2, _), (3, _), (4, _), (5, _), (6, _), (7, _)]) dJ15_indexOf_12 (Nat.le_of_ble_eq_true rfl) rfl ?_
  exact (main (l.length + 1) k (by omega) (by omega) (Nat.le_refl _) (fun j a b => by omega)).1
end JS3
