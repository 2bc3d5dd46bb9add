/-! TWIN 12: data made -/
set_option maxRecDepth 100000
theorem getD_mem {α : Type} {l : List α} {i : Nat} {d : α} (h : i < l.length) : l.getD i d ∈ l := by
  rw [List.getD_eq_getElem?_getD, List.getElem?_eq_getElem h]
  exact List.getElem_mem _
theorem mem_getD {α : Type} {l : List α} {q : α} {d : α} (h : q ∈ l) : ∃ i, i < l.length ∧ l.getD i d = q := by
  obtain ⟨i, hi, e⟩ := List.getElem_of_mem h
  exact ⟨i, hi, by rw [List.getD_eq_getElem?_getD, List.getElem?_eq_getElem hi]; exact e⟩
theorem rAN_s {τ : tT} {k i v : Nat} : (tAN τ k i v).2.2.1 k i = v := up2_s τ.2.2.1 k i v
theorem rAN_i {τ : tT} {k i v i' : Nat} (h : i' ≠ i) : (tAN τ k i v).2.2.1 k i' = τ.2.2.1 k i' := up2_i (f := τ.2.2.1) h
theorem rAN_k {τ : tT} {k i v k' : Nat} (h : k' ≠ k) : (tAN τ k i v).2.2.1 k' = τ.2.2.1 k' := up2_k (f := τ.2.2.1) h
theorem rAI_s {τ : tT} {k i : Nat} {v : Int32} : (tAI τ k i v).2.2.2.1 k i = v := up2_s τ.2.2.2.1 k i v
theorem rAI_i {τ : tT} {k i i' : Nat} {v : Int32} (h : i' ≠ i) : (tAI τ k i v).2.2.2.1 k i' = τ.2.2.2.1 k i' := up2_i (f := τ.2.2.2.1) h
theorem rAI_k {τ : tT} {k i k' : Nat} {v : Int32} (h : k' ≠ k) : (tAI τ k i v).2.2.2.1 k' = τ.2.2.2.1 k' := up2_k (f := τ.2.2.2.1) h
theorem rFN_s {τ : tT} {k v : Nat} : (tFN τ k v).1 k = v := upN_s τ.1 k v
theorem rFN_n {τ : tT} {k v k' : Nat} (h : k' ≠ k) : (tFN τ k v).1 k' = τ.1 k' := upN_n (f := τ.1) h
/-- the arrays of B alone change -/
def tFa (B : List Nat) (τ τ' : tT) : Prop := τ'.2.1 = τ.2.1 ∧ (12 ∉ B → τ'.2.2.2.2 = τ.2.2.2.2) ∧ ∀ k, k ∉ B → τ'.2.2.1 k = τ.2.2.1 k ∧ τ'.2.2.2.1 k = τ.2.2.2.1 k
theorem tFa.refl (B : List Nat) (τ : tT) : tFa B τ τ := ⟨rfl, fun _ => rfl, fun _ _ => ⟨rfl, rfl⟩⟩
theorem tFa.trans {B : List Nat} {a b c : tT} (h1 : tFa B a b) (h2 : tFa B b c) : tFa B a c :=
  ⟨h2.1.trans h1.1, fun n => (h2.2.1 n).trans (h1.2.1 n), fun k n => ⟨(h2.2.2 k n).1.trans (h1.2.2 k n).1, (h2.2.2 k n).2.trans (h1.2.2 k n).2⟩⟩
theorem tFa.mono {B B' : List Nat} {a b : tT} (h : tFa B a b) (hb : ∀ k ∈ B, k ∈ B') : tFa B' a b :=
  ⟨h.1, fun n => h.2.1 (fun z => n (hb _ z)), fun k n => h.2.2 k (fun z => n (hb _ z))⟩
theorem tFa.an {B : List Nat} {a b : tT} {k i v : Nat} (h : tFa B a b) (hk : k ∈ B) : tFa B a (tAN b k i v) :=
  h.trans ⟨rfl, fun _ => rfl, fun k' n => ⟨up2_k (fun z => n (z ▸ hk)), rfl⟩⟩
theorem tFa.ai {B : List Nat} {a b : tT} {k i : Nat} {v : Int32} (h : tFa B a b) (hk : k ∈ B) : tFa B a (tAI b k i v) :=
  h.trans ⟨rfl, fun _ => rfl, fun k' n => ⟨rfl, up2_k (fun z => n (z ▸ hk))⟩⟩
theorem tFa.fn {B : List Nat} {a b : tT} {k v : Nat} (h : tFa B a b) : tFa B a (tFN b k v) := h.trans ⟨rfl, fun _ => rfl, fun _ _ => ⟨rfl, rfl⟩⟩
theorem tFa.al {B : List Nat} {a b : tT} {i : Nat} {v : Int64} (h : tFa B a b) (hk : 12 ∈ B) : tFa B a (tAL b i v) := h.trans ⟨rfl, fun n => absurd hk n, fun _ _ => ⟨rfl, rfl⟩⟩
theorem tX.kind {τ : tT} {x : Nat} : ∀ {y : aX}, tX τ x y → τ.2.2.1 8 x < 4 ∧ (τ.2.2.1 8 x < 2 → aPs y = []) ∧ (2 ≤ τ.2.2.1 8 x → τ.2.2.2.1 9 x = nI (aPs y).length ∧ (aPs y).length ≤ 10 ∧ ∀ i, i < (aPs y).length → τ.2.2.1 11 (10 * x + i) = ((aPs y).getD i ([], 0)).2) ∧ (τ.2.2.1 8 x = 2 ↔ isLs y = true) ∧ (τ.2.2.1 8 x = 3 ↔ isMp y = true)
  | .inl v, ⟨h, _⟩ => by rw [h]; simp [aPs, isLs, isMp]
  | .inr (.inl l), ⟨h, _⟩ => by rw [h]; simp [aPs, isLs, isMp]
  | .inr (.inr (true, ps)), ⟨h, a, b, c, _⟩ => by
    refine ⟨by rw [h]; decide, fun z => absurd z (by rw [h]; decide), fun _ => ⟨a, b, c⟩, by rw [h]; simp [isLs], by rw [h]; simp [isMp]⟩
  | .inr (.inr (false, ps)), ⟨h, a, b, c, _⟩ => by
    refine ⟨by rw [h]; decide, fun z => absurd z (by rw [h]; decide), fun _ => ⟨a, b, c⟩, by rw [h]; simp [isLs], by rw [h]; simp [isMp]⟩
theorem tX.same {a b : tT} {x : Nat} (h8 : b.2.2.1 8 x = a.2.2.1 8 x) (h9 : b.2.2.2.1 9 x = a.2.2.2.1 9 x) (h10 : ∀ i, i < 50 → b.2.2.1 10 (50 * x + i) = a.2.2.1 10 (50 * x + i)) (h11 : ∀ i, i < 10 → b.2.2.1 11 (10 * x + i) = a.2.2.1 11 (10 * x + i)) (h12 : ∀ i, i < 10 → b.2.2.2.2 (10 * x + i) = a.2.2.2.2 (10 * x + i)) : ∀ {y : aX}, tX a x y → tX b x y := by
  intro y
  rcases y with v | l | ⟨m, ps⟩
  · rintro ⟨p, q⟩; exact ⟨h8.trans p, h9.trans q⟩
  · rintro ⟨p, q, r, s, t, u⟩
    exact ⟨h8.trans p, h9.trans q, r, s, fun j hj => by rw [h10 j hj]; exact t j hj, fun i hi => by unfold ltW; rw [h10 _ (by omega)]; exact u i hi⟩
  · rintro ⟨p, q, r, s, t⟩
    exact ⟨h8.trans p, h9.trans q, r, fun i hi => by rw [h11 i (by omega)]; exact s i hi, fun hm i hi => by rw [h12 i (by omega)]; exact t hm i hi⟩
theorem tD.fa {B : List Nat} {a b : tT} {D : aD} (h : tFa B a b) (h4 : b.1 4 = a.1 4) (n8 : 8 ∉ B) (n9 : 9 ∉ B) (n10 : 10 ∉ B) (n11 : 11 ∉ B) (n12 : 12 ∉ B) (q : tD a D) : tD b D :=
  ⟨h4.trans q.1, q.2.1, fun x hx => ⟨(q.2.2 x hx).1.same (by rw [(h.2.2 8 n8).1]) (by rw [(h.2.2 9 n9).2]) (fun i _ => by rw [(h.2.2 10 n10).1]) (fun i _ => by rw [(h.2.2 11 n11).1]) (fun i _ => by rw [h.2.1 n12]), (q.2.2 x hx).2⟩⟩
def unm (D : aD) (τ : tT) : Nat := cnF (fun j => decide (τ.2.2.1 13 j = 0)) D.1
def hdI (D : aD) (x : Nat) (τ τc : tT) : Prop := τc.1 = τ.1 ∧ tFa [13] τ τc ∧ (∀ j, j < D.1 → τc.2.2.1 13 j < 2) ∧ τc.2.2.1 13 x = 1 ∧ (∀ j, j < D.1 → τc.2.2.1 13 j = 1 → rch D x j)
theorem hdI.mark {D : aD} {x k p : Nat} {q : List Nat × Nat} {τ τc : tT} (h : hdI D x τ τc) (hk : k < D.1) (hm : τc.2.2.1 13 k = 1) (hq : q ∈ aPs (D.2 k)) (hp : q.2 = p) : hdI D x τ (tAN τc 13 p 1) := by
  obtain ⟨a, b, c, d, e⟩ := h
  refine ⟨a, b.an (by simp), fun j hj => ?_, ?_, fun j hj hj1 => ?_⟩
  · show up2 τc.2.2.1 13 p 1 13 j < 2
    by_cases z : j = p
    · rw [z, up2_s]; decide
    · rw [up2_i z]; exact c j hj
  · show up2 τc.2.2.1 13 p 1 13 x = 1
    by_cases z : x = p
    · rw [z, up2_s]
    · rw [up2_i z]; exact d
  · by_cases z : j = p
    · subst z; rw [← hp]; exact (e k hk hm).step hq
    · have hj2 : up2 τc.2.2.1 13 p 1 13 j = 1 := hj1
      rw [up2_i z] at hj2; exact e j hj hj2
theorem unm_lt {D : aD} {τc : tT} {p : Nat} (hp : p < D.1) (h0 : τc.2.2.1 13 p = 0) : unm D (tAN τc 13 p 1) < unm D τc := by
  refine cnF_lt (j := p) (fun i hi q => ?_) hp (by simpa using h0) ?_
  · simp only [decide_eq_true_eq] at q ⊢
    have q : up2 τc.2.2.1 13 p 1 13 i = 0 := q
    by_cases z : i = p
    · rw [z, up2_s] at q; cases q
    · rw [up2_i z] at q; exact q
  · simp only [decide_eq_false_iff_not]
    show ¬ up2 τc.2.2.1 13 p 1 13 p = 0
    rw [up2_s]; decide
theorem unm_le {D : aD} {τc : tT} {p : Nat} : unm D (tAN τc 13 p 1) ≤ unm D τc := by
  refine cnF_le (fun i hi q => ?_)
  simp only [decide_eq_true_eq] at q ⊢
  have q : up2 τc.2.2.1 13 p 1 13 i = 0 := q
  by_cases z : i = p
  · rw [z, up2_s] at q; cases q
  · rw [up2_i z] at q; exact q
/-- the children of k, from the first up to i, are marked -/
def mkd (D : aD) (τc : tT) (k i : Nat) : Prop := ∀ j, j < i → j < (aPs (D.2 k)).length → τc.2.2.1 13 ((aPs (D.2 k)).getD j ([], 0)).2 = 1
theorem mkd.mark {D : aD} {τc : tT} {k i p : Nat} (h : mkd D τc k i) : mkd D (tAN τc 13 p 1) k i := fun j hj hl => by
  show up2 τc.2.2.1 13 p 1 13 _ = 1
  by_cases z : ((aPs (D.2 k)).getD j ([], 0)).2 = p
  · rw [z, up2_s]
  · rw [up2_i z]; exact h j hj hl
/-- with flag m at item k: no flag: all marked items up to k have marked parts; a flag: fewer are unmarked than n -/
def hdF (D : aD) (τc : tT) (k n m : Nat) : Prop := (m = 0 → unm D τc ≤ n ∧ ∀ j, j < k → τc.2.2.1 13 j = 1 → mkd D τc j 10) ∧ (m = 1 → unm D τc < n) ∧ m < 2
section TW12
variable {Z : hE} {o : Nat} {τ : tT}
theorem tc_holds (d x y : Nat) (D : aD) (hD : tD τ D) (hx : x < D.1) (hy : y < D.1) : tC Z mX3_holds d o [.ref o, .int (nI x), .int (nI y)] τ (fun r τ' => ∃ b : Bool, r = some (.int (nI b.toNat)) ∧ (b = true ↔ rch D x y) ∧ τ'.1 = τ.1 ∧ tFa [13] τ τ') := by
  refine tC.of rfl rfl (Nat.le_of_ble_eq_true rfl) rfl (fun X hin h hR => ?_)
  have hD2 := hD.2.1
  have hN : τ.1 4 = D.1 := hD.1
  generalize hQ : (fun (r : Option Value) (τ' : tT) => ∃ b : Bool, r = some (.int (nI b.toNat)) ∧ (b = true ↔ rch D x y) ∧ τ'.1 = τ.1 ∧ tFa [13] τ τ') = Q
  -- facts of the data at a later state
  have dat : ∀ {τc : tT}, hdI D x τ τc → tD τc D := fun c => hD.fa c.2.1 (by rw [c.1]) (by decide) (by decide) (by decide) (by decide) (by decide)
  -- the end
  have fin : ∀ (τc : tT), hdI D x τ τc → (∀ j, j < D.1 → τc.2.2.1 13 j = 1 → mkd D τc j 10) → ∀ h, tH o τc hin h → hG Z X mX3_holds d tS hin (tK o hin Q) 141 [(0, .ref o), (1, .int (nI x)), (2, .int (nI y))] [] h := by
    intro τc c cl h hR
    have hb := c.2.2.1 y hy
    refine g_aload_n (pc := 141) dX3_holds_141 rfl rfl ?_
    refine t_get (pc := 142) (v := .ref (tAd _ 13)) 13 dX3_holds_142 hR rfl q1812 (Nat.le_of_ble_eq_true rfl) rfl rfl ?_
    refine g_iload_n (pc := 145) dX3_holds_145 rfl rfl ?_
    refine t_zald (pc := 146) dX3_holds_146 hR rfl (by decide) rfl (by decide) (by show _ < 60; omega) ?_
    subst hQ
    refine t_bret (pc := 147) (decide (τc.2.2.1 13 y = 1)) dX3_holds_147 hR rfl ?_ ⟨_, rfl, ?_, c.1, c.2.1⟩
    · rcases (show τc.2.2.1 13 y = 0 ∨ τc.2.2.1 13 y = 1 by omega) with q | q <;> rw [q] <;> rfl
    · simp only [decide_eq_true_eq]
      refine ⟨fun q => c.2.2.2.2 y hy q, fun q => ?_⟩
      refine (q (fun j => j < D.1 ∧ τc.2.2.1 13 j = 1) ⟨hx, c.2.2.2.1⟩ (fun a ha p hp => ?_)).2
      have ha2 := (hD.2.2 a ha.1).2 p hp
      refine ⟨ha2, ?_⟩
      obtain ⟨i, hi, e⟩ := mem_getD (d := (([] : List Nat), 0)) hp
      have hl : (aPs (D.2 a)).length ≤ 10 := by
        have hk := (hD.2.2 a ha.1).1.kind
        rcases Nat.lt_or_ge (τ.2.2.1 8 a) 2 with z | z
        · rw [hk.2.1 z]; decide
        · exact (hk.2.2.1 z).2.1
      have := cl a ha.1 ha.2 i (by omega) hi
      rw [e] at this
      exact this
  have main : ∀ (n m : Nat) (τc : tT), hdI D x τ τc → hdF D τc D.1 n m → ∀ h, tH o τc hin h → hG Z X mX3_holds d tS hin (tK o hin Q) 34 [(0, .ref o), (1, .int (nI x)), (2, .int (nI y)), (3, .int (nI m))] [] h := by
    intro n
    induction n with
    | zero =>
      intro m τc c f h hR
      have hm := f.2.2
      refine g_iload_n (pc := 34) dX3_holds_34 rfl rfl ?_
      refine g_if_eqN (pc := 35) (tgt := 141) dX3_holds_35 rfl (by omega) (fun q => ?_) (fun q => ?_)
      · refine g_drop [0, 1, 2] rfl ?_
        exact fin τc c (f.1 q).2 h hR
      · exact absurd (f.2.1 (by omega)) (Nat.not_lt_zero _)
    | succ n ih =>
      intro m τc c f h hR
      have hm := f.2.2
      -- the items
      have items : ∀ (j k m : Nat) (τc : tT), k + j = D.1 → hdI D x τ τc → hdF D τc k n m → ∀ h, tH o τc hin h → hG Z X mX3_holds d tS hin (tK o hin Q) 43 [(0, .ref o), (1, .int (nI x)), (2, .int (nI y)), (3, .int (nI m)), (4, .int (nI k))] [] h := by
        intro j
        induction j with
        | zero =>
          intro k m τc hk c f h hR
          refine g_iload (pc := 43) dX3_holds_43 rfl ?_
          refine g_aload_n (pc := 45) dX3_holds_45 rfl rfl ?_
          refine t_get (pc := 46) (v := .int (nI _)) 4 dX3_holds_46 hR rfl q1803 (Nat.le_of_ble_eq_true rfl) rfl rfl ?_
          rw [show τc.1 4 = D.1 by rw [c.1]; exact hN]
          refine g_icmp_geN (pc := 49) (tgt := 138) dX3_holds_49 rfl (by omega) (by omega) (fun q => ?_) (fun q => ?_)
          · refine g_goto (pc := 138) (tgt := 34) dX3_holds_138 rfl ?_
            refine g_drop [0, 1, 2, 3] rfl ?_
            have hk2 : k = D.1 := by omega
            rw [hk2] at f
            exact ih m τc c f h hR
          · exact absurd q (by omega)
        | succ j ihj =>
          intro k m τc hk c f h hR
          have hit := ((dat c).2.2 k (by omega)).1
          have hch := ((dat c).2.2 k (by omega)).2
          have hkd := hit.kind
          have hb := c.2.2.1 k (by omega)
          have nx : ∀ (m : Nat) (τc : tT), hdI D x τ τc → hdF D τc (k + 1) n m → ∀ h, tH o τc hin h → hG Z X mX3_holds d tS hin (tK o hin Q) 132 [(0, .ref o), (1, .int (nI x)), (2, .int (nI y)), (3, .int (nI m)), (4, .int (nI k))] [] h := by
            intro m τc c f h hR
            refine g_iincN (pc := 132) (k0 := 1) (ls' := [(0, _), (1, _), (2, _), (3, _), (4, _)]) dX3_holds_132 rfl (Nat.le_of_ble_eq_true rfl) rfl ?_
            refine g_goto (pc := 135) (tgt := 43) dX3_holds_135 rfl ?_
            exact ihj (k + 1) m τc (by omega) c f h hR
          refine g_iload (pc := 43) dX3_holds_43 rfl ?_
          refine g_aload_n (pc := 45) dX3_holds_45 rfl rfl ?_
          refine t_get (pc := 46) (v := .int (nI _)) 4 dX3_holds_46 hR rfl q1803 (Nat.le_of_ble_eq_true rfl) rfl rfl ?_
          rw [show τc.1 4 = D.1 by rw [c.1]; exact hN]
          refine g_icmp_geN (pc := 49) (tgt := 138) dX3_holds_49 rfl (by omega) (by omega) (fun q => ?_) (fun q => ?_)
          · exact absurd q (by omega)
          · refine g_aload_n (pc := 52) dX3_holds_52 rfl rfl ?_
            refine t_get (pc := 53) (v := .ref (tAd _ 13)) 13 dX3_holds_53 hR rfl q1812 (Nat.le_of_ble_eq_true rfl) rfl rfl ?_
            refine g_iload (pc := 56) dX3_holds_56 rfl ?_
            refine t_zald (pc := 58) dX3_holds_58 hR rfl (by decide) rfl (by decide) (by show _ < 60; omega) ?_
            refine g_if_eqN (pc := 59) (tgt := 132) dX3_holds_59 rfl (by omega) (fun q1 => ?_) (fun q1 => ?_)
            · refine nx m τc c ⟨fun z => ⟨(f.1 z).1, fun i hi h1 => ?_⟩, f.2⟩ h hR
              by_cases e : i = k
              · rw [e, q1] at h1; cases h1
              · exact (f.1 z).2 i (by omega) h1
            · refine g_aload_n (pc := 62) dX3_holds_62 rfl rfl ?_
              refine t_get (pc := 63) (v := .ref (tAd _ 8)) 8 dX3_holds_63 hR rfl q1807 (Nat.le_of_ble_eq_true rfl) rfl rfl ?_
              refine g_iload (pc := 66) dX3_holds_66 rfl ?_
              refine t_iald (pc := 68) dX3_holds_68 hR rfl (by decide) rfl (by decide) (by show _ < 60; omega) ?_
              refine g_iconst (pc := 69) (v := nI 2) dX3_holds_69 rfl ?_
              refine g_icmp_geN (pc := 70) (tgt := 76) dX3_holds_70 rfl (by omega) (by omega) (fun q2 => ?_) (fun q2 => ?_)
              · have q8 : 2 ≤ τ.2.2.1 8 k := by rw [← (c.2.1.2.2 8 (by decide)).1]; exact q2
                have parts : ∀ (j i m : Nat) (τc : tT), i + j = (aPs (D.2 k)).length → hdI D x τ τc → hdF D τc k n m → τc.2.2.1 13 k = 1 → (m = 0 → mkd D τc k i) → ∀ h, tH o τc hin h → hG Z X mX3_holds d tS hin (tK o hin Q) 79 [(0, .ref o), (1, .int (nI x)), (2, .int (nI y)), (3, .int (nI m)), (4, .int (nI k)), (5, .int (nI i))] [] h := by
                  intro j
                  induction j with
                  | zero =>
                    intro i m τc hi c f hkm hm h hR
                    have h9 : τc.2.2.2.1 9 k = nI (aPs (D.2 k)).length := (((dat c).2.2 k (by omega)).1.kind.2.2.1 (by rw [(c.2.1.2.2 8 (by decide)).1]; exact q8)).1
                    refine g_iload (pc := 79) dX3_holds_79 rfl ?_
                    refine g_aload_n (pc := 81) dX3_holds_81 rfl rfl ?_
                    refine t_get (pc := 82) (v := .ref (tAd _ 9)) 9 dX3_holds_82 hR rfl q1808 (Nat.le_of_ble_eq_true rfl) rfl rfl ?_
                    refine g_iload (pc := 85) dX3_holds_85 rfl ?_
                    refine t_ialdI (pc := 87) dX3_holds_87 hR rfl (by decide) rfl (by decide) (by show _ < 60; omega) ?_
                    rw [h9]
                    refine g_icmp_geN (pc := 88) (tgt := 132) dX3_holds_88 rfl (by omega) (by omega) (fun q3 => ?_) (fun q3 => ?_)
                    · refine g_drop [0, 1, 2, 3, 4] rfl ?_
                      refine nx m τc c ⟨fun z => ⟨(f.1 z).1, fun i' hi' h1 => ?_⟩, f.2⟩ h hR
                      by_cases e : i' = k
                      · rw [e]; intro j' hj' hl'; exact hm z j' (by omega) hl'
                      · exact (f.1 z).2 i' (by omega) h1
                    · exact absurd q3 (by omega)
                  | succ j ihp =>
                    intro i m τc hi c f hkm hm h hR
                    have hx8 := ((dat c).2.2 k (by omega)).1.kind.2.2.1 (by rw [(c.2.1.2.2 8 (by decide)).1]; exact q8)
                    generalize hp : ((aPs (D.2 k)).getD i ([], 0)).2 = p
                    have hq : (aPs (D.2 k)).getD i ([], 0) ∈ aPs (D.2 k) := getD_mem (by omega)
                    have hpD : p < D.1 := by rw [← hp]; exact hch _ hq
                    have h11 := hx8.2.2 i (by omega)
                    rw [hp] at h11
                    have hpb := c.2.2.1 p hpD
                    have hmb := f.2.2
                    refine g_iload (pc := 79) dX3_holds_79 rfl ?_
                    refine g_aload_n (pc := 81) dX3_holds_81 rfl rfl ?_
                    refine t_get (pc := 82) (v := .ref (tAd _ 9)) 9 dX3_holds_82 hR rfl q1808 (Nat.le_of_ble_eq_true rfl) rfl rfl ?_
                    refine g_iload (pc := 85) dX3_holds_85 rfl ?_
                    refine t_ialdI (pc := 87) dX3_holds_87 hR rfl (by decide) rfl (by decide) (by show _ < 60; omega) ?_
                    rw [hx8.1]
                    refine g_icmp_geN (pc := 88) (tgt := 132) dX3_holds_88 rfl (by omega) (by omega) (fun q3 => ?_) (fun q3 => ?_)
                    · exact absurd q3 (by omega)
                    · refine g_aload_n (pc := 91) dX3_holds_91 rfl rfl ?_
                      refine t_get (pc := 92) (v := .ref (tAd _ 11)) 11 dX3_holds_92 hR rfl q1810 (Nat.le_of_ble_eq_true rfl) rfl rfl ?_
                      refine g_iload (pc := 95) dX3_holds_95 rfl ?_
                      refine g_bipush (pc := 97) (v := nI 10) dX3_holds_97 rfl ?_
                      first | refine g_imulN (pc := 99) dX3_holds_99 ?_ | refine g_imul (pc := 99) dX3_holds_99 ?_
                      refine g_iload (pc := 100) dX3_holds_100 rfl ?_
                      first | refine g_iaddN (pc := 102) dX3_holds_102 ?_ | refine g_iadd (pc := 102) dX3_holds_102 ?_
                      rw [Nat.mul_comm k 10]
                      refine t_iald (pc := 103) dX3_holds_103 hR rfl (by decide) rfl (by decide) (by show _ < 600; omega) ?_
                      rw [h11]
                      refine g_istore (pc := 104) (ls' := [(0, _), (1, _), (2, _), (3, _), (4, _), (5, _), (6, _)]) dX3_holds_104 (Nat.le_of_ble_eq_true rfl) rfl ?_
                      refine g_aload_n (pc := 106) dX3_holds_106 rfl rfl ?_
                      refine t_get (pc := 107) (v := .ref (tAd _ 13)) 13 dX3_holds_107 hR rfl q1812 (Nat.le_of_ble_eq_true rfl) rfl rfl ?_
                      refine g_iload (pc := 110) dX3_holds_110 rfl ?_
                      refine t_zald (pc := 112) dX3_holds_112 hR rfl (by decide) rfl (by decide) (by show _ < 60; omega) ?_
                      refine g_if_neN (pc := 113) (tgt := 118) dX3_holds_113 rfl (by omega) (fun q4 => ?_) (fun q4 => ?_)
                      · refine g_aload_n (pc := 118) dX3_holds_118 rfl rfl ?_
                        refine t_get (pc := 119) (v := .ref (tAd _ 13)) 13 dX3_holds_119 hR rfl q1812 (Nat.le_of_ble_eq_true rfl) rfl rfl ?_
                        refine g_iload (pc := 122) dX3_holds_122 rfl ?_
                        refine g_iconst (pc := 124) (v := nI 1) dX3_holds_124 rfl ?_
                        refine t_zast (pc := 125) dX3_holds_125 hR rfl (by decide) rfl (by decide) (by show _ < 60; omega) (by omega) (fun h hR => ?_)
                        refine g_iincN (pc := 126) (k0 := 1) (ls' := [(0, _), (1, _), (2, _), (3, _), (4, _), (5, _), (6, _)]) dX3_holds_126 rfl (Nat.le_of_ble_eq_true rfl) rfl ?_
                        refine g_goto (pc := 129) (tgt := 79) dX3_holds_129 rfl ?_
                        have hp1 : τc.2.2.1 13 p = 1 := by omega
                        refine g_drop [0, 1, 2, 3, 4, 5] rfl ?_
                        refine ihp (i + 1) m _ (by omega) (c.mark (by omega) hkm hq hp) ⟨fun z => ⟨Nat.le_trans unm_le (f.1 z).1, fun i' hi' h1 => ?_⟩, fun z => Nat.lt_of_le_of_lt unm_le (f.2.1 z), f.2.2⟩ ?_ (fun z => ?_) h hR
                        · have h1 : up2 τc.2.2.1 13 p 1 13 i' = 1 := h1
                          by_cases e : i' = p
                          · exact mkd.mark ((f.1 z).2 i' hi' (by rw [e]; exact hp1))
                          · rw [up2_i e] at h1; exact mkd.mark ((f.1 z).2 i' hi' h1)
                        · show up2 τc.2.2.1 13 p 1 13 k = 1
                          by_cases e : k = p
                          · rw [e, up2_s]
                          · rw [up2_i e]; exact hkm
                        · intro j' hj' hl'
                          by_cases e : j' = i
                          · rw [e, hp]; exact up2_s τc.2.2.1 13 p 1
                          · exact mkd.mark (hm z) j' (by omega) hl'
                      · refine g_iconst (pc := 116) (v := nI 1) dX3_holds_116 rfl ?_
                        refine g_istore_n (pc := 117) (ls' := [(0, _), (1, _), (2, _), (3, _), (4, _), (5, _), (6, _)]) dX3_holds_117 rfl (Nat.le_of_ble_eq_true rfl) rfl ?_
                        refine g_aload_n (pc := 118) dX3_holds_118 rfl rfl ?_
                        refine t_get (pc := 119) (v := .ref (tAd _ 13)) 13 dX3_holds_119 hR rfl q1812 (Nat.le_of_ble_eq_true rfl) rfl rfl ?_
                        refine g_iload (pc := 122) dX3_holds_122 rfl ?_
                        refine g_iconst (pc := 124) (v := nI 1) dX3_holds_124 rfl ?_
                        refine t_zast (pc := 125) dX3_holds_125 hR rfl (by decide) rfl (by decide) (by show _ < 60; omega) (by omega) (fun h hR => ?_)
                        refine g_iincN (pc := 126) (k0 := 1) (ls' := [(0, _), (1, _), (2, _), (3, _), (4, _), (5, _), (6, _)]) dX3_holds_126 rfl (Nat.le_of_ble_eq_true rfl) rfl ?_
                        refine g_goto (pc := 129) (tgt := 79) dX3_holds_129 rfl ?_
                        refine g_drop [0, 1, 2, 3, 4, 5] rfl ?_
                        refine ihp (i + 1) 1 _ (by omega) (c.mark (by omega) hkm hq hp) ⟨(fun z => by cases z), fun _ => ?_, by decide⟩ ?_ (fun z => by cases z) h hR
                        · have h1 := unm_lt hpD q4
                          rcases (show m = 0 ∨ m = 1 by omega) with z | z
                          · have := (f.1 z).1; omega
                          · have := f.2.1 z; omega
                        · show up2 τc.2.2.1 13 p 1 13 k = 1
                          by_cases e : k = p
                          · rw [e, up2_s]
                          · rw [up2_i e]; exact hkm
                refine g_iconst (pc := 76) (v := nI 0) dX3_holds_76 rfl ?_
                refine g_istore (pc := 77) (ls' := [(0, _), (1, _), (2, _), (3, _), (4, _), (5, _)]) dX3_holds_77 (Nat.le_of_ble_eq_true rfl) rfl ?_
                exact parts (aPs (D.2 k)).length 0 m τc (by omega) c f (by omega) (fun _ j' hj' => absurd hj' (Nat.not_lt_zero _)) h hR
              · refine g_goto (pc := 73) (tgt := 132) dX3_holds_73 rfl ?_
                refine nx m τc c ⟨fun z => ⟨(f.1 z).1, fun i hi h1 => ?_⟩, f.2⟩ h hR
                by_cases e : i = k
                · rw [e]; intro j' hj' hl'
                  rw [hkd.2.1 q2] at hl'; cases hl'
                · exact (f.1 z).2 i (by omega) h1
      refine g_iload_n (pc := 34) dX3_holds_34 rfl rfl ?_
      refine g_if_eqN (pc := 35) (tgt := 141) dX3_holds_35 rfl (by omega) (fun q => ?_) (fun q => ?_)
      · refine g_drop [0, 1, 2] rfl ?_
        exact fin τc c (f.1 q).2 h hR
      · refine g_iconst (pc := 38) (v := nI 0) dX3_holds_38 rfl ?_
        refine g_istore_n (pc := 39) (ls' := [(0, _), (1, _), (2, _), (3, _)]) dX3_holds_39 rfl (Nat.le_of_ble_eq_true rfl) rfl ?_
        refine g_iconst (pc := 40) (v := nI 0) dX3_holds_40 rfl ?_
        refine g_istore (pc := 41) (ls' := [(0, _), (1, _), (2, _), (3, _), (4, _)]) dX3_holds_41 (Nat.le_of_ble_eq_true rfl) rfl ?_
        have h1 := f.2.1 (by omega)
        exact items D.1 0 0 τc (by omega) c ⟨fun _ => ⟨by omega, fun i hi => absurd hi (Nat.not_lt_zero _)⟩, fun z => (by cases z), by decide⟩ h hR
  -- the first loop
  have first : ∀ (j k : Nat) (τc : tT), k + j = D.1 → τc.1 = τ.1 → tFa [13] τ τc → (∀ i, i < k → τc.2.2.1 13 i = if i = x then 1 else 0) → ∀ h, tH o τc hin h → hG Z X mX3_holds d tS hin (tK o hin Q) 2 [(0, .ref o), (1, .int (nI x)), (2, .int (nI y)), (3, .int (nI k))] [] h := by
    intro j
    induction j with
    | zero =>
      intro k τc hk c1 c2 c3 h hR
      refine g_iload_n (pc := 2) dX3_holds_2 rfl rfl ?_
      refine g_aload_n (pc := 3) dX3_holds_3 rfl rfl ?_
      refine t_get (pc := 4) (v := .int (nI _)) 4 dX3_holds_4 hR rfl q1803 (Nat.le_of_ble_eq_true rfl) rfl rfl ?_
      rw [show τc.1 4 = D.1 by rw [c1]; exact hN]
      refine g_icmp_geN (pc := 7) (tgt := 32) dX3_holds_7 rfl (by omega) (by omega) (fun q => ?_) (fun q => ?_)
      · refine g_iconst (pc := 32) (v := nI 1) dX3_holds_32 rfl ?_
        refine g_istore_n (pc := 33) (ls' := [(0, _), (1, _), (2, _), (3, _)]) dX3_holds_33 rfl (Nat.le_of_ble_eq_true rfl) rfl ?_
        refine main (unm D τc + 1) 1 τc ⟨c1, c2, fun j hj => ?_, ?_, fun j hj h1 => ?_⟩ ⟨fun z => (by cases z), fun _ => Nat.lt_succ_self _, by decide⟩ h hR
        · rw [c3 j (by omega)]; split <;> decide
        · rw [c3 x (by omega)]; simp
        · rw [c3 j (by omega)] at h1
          split at h1
          · rename_i e; rw [e]; exact rch.refl D x
          · cases h1
      · exact absurd q (by omega)
    | succ j ih =>
      intro k τc hk c1 c2 c3 h hR
      have st : ∀ v, v < 2 → v = (if k = x then 1 else 0) → ∀ h, tH o τc hin h → hG Z X mX3_holds d tS hin (tK o hin Q) 25 [(0, .ref o), (1, .int (nI x)), (2, .int (nI y)), (3, .int (nI k))] [.int (nI v), .int (nI k), .ref (tAd o 13)] h := by
        intro v hv he h hR
        refine t_zast (pc := 25) (k := 13) dX3_holds_25 hR rfl (by decide) rfl (by decide) (by show _ < 60; omega) hv (fun h hR => ?_)
        refine g_iincN (pc := 26) (k0 := 1) (ls' := [(0, _), (1, _), (2, _), (3, _)]) dX3_holds_26 rfl (Nat.le_of_ble_eq_true rfl) rfl ?_
        refine g_goto (pc := 29) (tgt := 2) dX3_holds_29 rfl ?_
        refine ih (k + 1) (tAN τc 13 k v) (by omega) c1 (c2.an (by simp)) (fun i hi => ?_) h hR
        show up2 τc.2.2.1 13 k v 13 i = _
        by_cases e : i = k
        · rw [e, up2_s, he]
        · rw [up2_i e]; exact c3 i (by omega)
      refine g_iload_n (pc := 2) dX3_holds_2 rfl rfl ?_
      refine g_aload_n (pc := 3) dX3_holds_3 rfl rfl ?_
      refine t_get (pc := 4) (v := .int (nI _)) 4 dX3_holds_4 hR rfl q1803 (Nat.le_of_ble_eq_true rfl) rfl rfl ?_
      rw [show τc.1 4 = D.1 by rw [c1]; exact hN]
      refine g_icmp_geN (pc := 7) (tgt := 32) dX3_holds_7 rfl (by omega) (by omega) (fun q => ?_) (fun q => ?_)
      · exact absurd q (by omega)
      · refine g_aload_n (pc := 10) dX3_holds_10 rfl rfl ?_
        refine t_get (pc := 11) (v := .ref (tAd _ 13)) 13 dX3_holds_11 hR rfl q1812 (Nat.le_of_ble_eq_true rfl) rfl rfl ?_
        refine g_iload_n (pc := 14) dX3_holds_14 rfl rfl ?_
        refine g_iload_n (pc := 15) dX3_holds_15 rfl rfl ?_
        refine g_iload_n (pc := 16) dX3_holds_16 rfl rfl ?_
        refine g_icmp_neN (pc := 17) (tgt := 24) dX3_holds_17 rfl (by omega) (by omega) (fun q2 => ?_) (fun q2 => ?_)
        · refine g_iconst (pc := 24) (v := nI 0) dX3_holds_24 rfl ?_
          exact st 0 (by decide) (by rw [if_neg q2]) h hR
        · refine g_iconst (pc := 20) (v := nI 1) dX3_holds_20 rfl ?_
          refine g_goto (pc := 21) (tgt := 25) dX3_holds_21 rfl ?_
          exact st 1 (by decide) (by rw [if_pos q2]) h hR
  refine g_iconst (pc := 0) (v := nI 0) dX3_holds_0 rfl ?_
  refine g_istore_n (pc := 1) (ls' := [(0, _), (1, _), (2, _), (3, _)]) dX3_holds_1 rfl (Nat.le_of_ble_eq_true rfl) rfl ?_
  exact first D.1 0 τ (by omega) rfl (tFa.refl _ τ) (fun i hi => absurd hi (Nat.not_lt_zero _)) h hR
end TW12
