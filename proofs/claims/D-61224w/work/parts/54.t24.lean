/-! TWIN 24: what holds while it renders -/
set_option maxRecDepth 100000
theorem dnF_fuel {f : Nat → Nat} {e : Nat} : ∀ (n m k : Nat), e - k ≤ n → e - k ≤ m → dnF f e n k = dnF f e m k
  | 0, 0, _, _, _ => rfl
  | 0, m + 1, k, h, _ => by
    unfold dnF
    rw [if_neg]
    intro q
    have := cA_lt (f := f) (e := e) (p := k) (by rw [q]; decide)
    omega
  | n + 1, 0, k, _, h => by
    unfold dnF
    rw [if_neg]
    intro q
    have := cA_lt (f := f) (e := e) (p := k) (by rw [q]; decide)
    omega
  | n + 1, m + 1, k, h1, h2 => by
    unfold dnF
    split
    · rename_i q
      dsimp only
      generalize (if lts f e (k + 1) = 0 ∧ isD (cA f e (k + 1)) = true then 1 else lts f e (k + 1)) = x
      rw [dnF_fuel n m (k + 1 + x) (by omega) (by omega)]
    · rfl
theorem dnF_sh {F f : Nat → Nat} {b e : Nat} (H : ∀ i, i < e → F (b + i) = f i) : ∀ (n k : Nat), dnF F (b + e) n (b + k) = dnF f e n k
  | 0, _ => rfl
  | n + 1, k => by
    unfold dnF
    rw [cA_sh H, show b + k + 1 = b + (k + 1) by omega, lts_sh H, cA_sh H]
    split
    · dsimp only
      generalize hx : (if lts f e (k + 1) = 0 ∧ isD (cA f e (k + 1)) = true then 1 else lts f e (k + 1)) = x
      have hb : ∀ i, i < x → k + 1 + i < e := fun i hi => by
        split at hx
        · rename_i q
          have := cA_lt (isD_pos q.2)
          omega
        · have := lts_le (f := f) (e := e) (p := k + 1)
          omega
      rw [show b + (k + 1) + x = b + (k + 1 + x) by omega, dnF_sh H n, sgF_congr (f := F) (f' := f) (p := b + (k + 1)) (p' := k + 1) (n := x) (fun i hi => by rw [show b + (k + 1) + i = b + (k + 1 + i) by omega]; exact H _ (hb i hi))]
    · rfl
theorem pathO_sh {F f : Nat → Nat} {b e p : Nat} (H : ∀ i, i < e → F (b + i) = f i) (hp : p < e) (hv : pathE f e p = some e) : pathO F (b + e) (b + p) = pathO f e p := by
  unfold pathO
  rw [H p hp]
  by_cases h : f p = 64
  · rw [if_pos h, if_pos h]
    have := (path_at h hv).1
    rw [show b + p + 1 = b + (p + 1) by omega, H (p + 1) (by omega)]
  · rw [if_neg h, if_neg h]
    have e1 : upF F (b + e) (b + e) (b + p) = b + upF f e e p := by
      rw [upF_sh H]
      congr 1
      exact upF_fuel _ _ _ (by omega) (by omega)
    rw [e1, lts_sh H, stB_sh H, show b + upF f e e p - (b + p) = upF f e e p - p by omega]
    have hl := lts_le (f := f) (e := e) (p := upF f e e p)
    rw [show ∀ m k, b + m + k = b + (m + k) from fun m k => by omega, dnF_sh H, dnF_fuel (b + e) e _ (by omega) (by omega), sgF_congr (f := F) (f' := f) (p := b + upF f e e p) (p' := upF f e e p) (n := lts f e (upF f e e p)) (fun i hi => by rw [show b + upF f e e p + i = b + (upF f e e p + i) by omega]; exact H _ (by omega))]
theorem opO_sh {F f : Nat → Nat} {b e p : Nat} (H : ∀ i, i < e → F (b + i) = f i) (hv : operE f e p = some e) : opO F (b + e) (b + p) = opO f e p := by
  have hp := operE_gt hv
  unfold opO
  rw [H p hp]
  by_cases h : f p = 34
  · rw [if_pos h, if_pos h]
    rw [sgF_congr (f := F) (f' := f) (p := b + p + 1) (p' := p + 1) (n := b + e - (b + p) - 2) (fun i hi => by rw [show b + p + 1 + i = b + (p + 1 + i) by omega]; exact H _ (by omega)), show b + e - (b + p) - 2 = e - p - 2 by omega]
  · rw [if_neg h, if_neg h]
    cases hd : isD (f p) with
    | true =>
      rw [if_pos rfl, if_pos rfl]
      rw [sgF_congr (f := F) (f' := f) (p := b + p) (p' := p) (n := b + e - (b + p)) (fun i hi => by rw [show b + p + i = b + (p + i) by omega]; exact H _ (by omega)), show b + e - (b + p) = e - p by omega]
    | false =>
      rw [if_neg (by decide), if_neg (by decide)]
      refine pathO_sh H hp ?_
      unfold operE at hv
      rw [cA_eq hp, if_neg h, hd] at hv
      exact hv
theorem exO_sh {F f : Nat → Nat} {b e p : Nat} (H : ∀ i, i < e → F (b + i) = f i) (hv : isEx f e p = true) : exO F (b + e) (b + p) = exO f e p := by
  unfold isEx at hv
  unfold exO
  rw [helpN_sh H]
  by_cases h : helpN f e p = 0
  · rw [if_pos h] at hv ⊢
    rw [Bool.and_eq_true] at hv
    rw [if_pos h, opO_sh H (by simpa using hv.1)]
  · rw [if_neg h] at hv ⊢
    rw [if_neg h, show b + p + nameS (helpN f e p) = b + (p + nameS (helpN f e p)) by omega, operE_sh H]
    cases hk : operE f e (p + nameS (helpN f e p)) with
    | none => rw [hk] at hv; cases hv
    | some k =>
      rw [hk] at hv
      dsimp only at hv
      have hk2 := operE_le hk
      rw [show (Option.map (fun x => b + x) (some k)).getD 0 = b + k from rfl, show (some k : Option Nat).getD 0 = k from rfl]
      rw [opO_sh (fun i hi => H i (by omega)) (operE_cut hk)]
      by_cases h4 : helpN f e p < 4
      · rw [if_pos h4, if_pos h4]
      · rw [if_neg h4] at hv ⊢
        rw [Bool.and_eq_true] at hv
        rw [if_neg h4, show b + k + 1 = b + (k + 1) by omega, opO_sh H (by simpa using hv.2)]
def sP (f : Nat → Nat) (e p : Nat) (x : Option Nat) : Prop := ∀ s, x = some s → (s < 2 → isEx f e p = true) ∧ (s = 3 → isEx f e (p + 4) = true) ∧ (s = 4 ∨ s = 5 → isEx f e (p + 6) = true) ∧ (s = 10 → e = p + 3 ∧ 97 ≤ f (p + 2) ∧ f (p + 2) ≤ 100)
theorem sP_if {f : Nat → Nat} {e p : Nat} {c : Prop} {i : Decidable c} {x y : Option Nat} (h1 : c → sP f e p x) (h2 : ¬ c → sP f e p y) : sP f e p (@ite _ c i x y) := by
  cases i with
  | isTrue h => exact h1 h
  | isFalse h => exact h2 h
theorem sP_none {f : Nat → Nat} {e p : Nat} : sP f e p none := fun s h => by cases h
theorem sP_some {f : Nat → Nat} {e p k : Nat} (h : (k < 2 → isEx f e p = true) ∧ (k = 3 → isEx f e (p + 4) = true) ∧ (k = 4 ∨ k = 5 → isEx f e (p + 6) = true) ∧ (k = 10 → e = p + 3 ∧ 97 ≤ f (p + 2) ∧ f (p + 2) ≤ 100)) : sP f e p (some k) := fun s q => by cases q; exact h
theorem sortN_ex {f : Nat → Nat} {e p : Nat} {t : Bool} : sP f e p (sortN f e p t) := by
  unfold sortN
  refine sP_if (fun _ => sP_if (fun h => sP_some ⟨fun _ => h, by omega, by omega, by omega⟩) (fun _ => sP_none)) (fun _ => ?_)
  refine sP_if (fun _ => sP_some ⟨by omega, by omega, by omega, by omega⟩) (fun _ => ?_)
  refine sP_if (fun _ => sP_if (fun h => sP_some ⟨by omega, fun _ => h, by omega, by omega⟩) (fun _ => sP_none)) (fun _ => ?_)
  refine sP_if (fun _ => sP_if (fun h => sP_some ⟨by omega, by omega, fun _ => h, by omega⟩) (fun _ => sP_none)) (fun _ => ?_)
  refine sP_if (fun _ => sP_if (fun h => sP_some ⟨by omega, by omega, fun _ => h, by omega⟩) (fun _ => sP_none)) (fun _ => ?_)
  refine sP_if (fun _ => sP_some ⟨by omega, by omega, by omega, by omega⟩) (fun _ => ?_)
  refine sP_if (fun _ => sP_some ⟨by omega, by omega, by omega, by omega⟩) (fun _ => ?_)
  refine sP_if (fun _ => sP_some ⟨by omega, by omega, by omega, by omega⟩) (fun _ => ?_)
  refine sP_if (fun _ => sP_some ⟨by omega, by omega, by omega, by omega⟩) (fun _ => ?_)
  refine sP_if (fun _ => sP_if (fun h => sP_some ⟨by omega, by omega, by omega, fun _ => ⟨h.1, h.2.2⟩⟩) (fun _ => sP_none)) (fun _ => ?_)
  exact sP_if (fun h => sP_some ⟨fun _ => h, by omega, by omega, by omega⟩) (fun _ => sP_none)
theorem tkT_ex {f : Nat → Nat} {e p : Nat} {t : tGt} (h : tkT f e p = some (.inr t)) : sP f t.2.2.1 t.2.1 (some t.2.2.2.2) := by
  unfold tkT at h
  dsimp only at h
  generalize findF f e [123, 123] e p = k at h
  split at h
  · cases h
  · generalize stB f e k [123, 123, 123] = th at h
    generalize (if th = true then 3 else 2) = n at h
    generalize findF f e (if th = true then [125, 125, 125] else [125, 125]) e (k + n) = q at h
    split at h
    · cases h
    · split at h
      · cases h
      · rename_i s hs
        cases h
        rw [← hs]
        exact sortN_ex
/-- a template that was taken apart without a fault -/
def tmOK (A : aT) : Prop := A.1 ≤ 180 ∧ (∀ i, i < A.1 → A.2.1 i < 128) ∧ 4 * A.2.2.1 ≤ A.1 ∧ (∃ p, p ≤ A.1 ∧ tTok A.1 A.2.2.1 p A.2.2.2) ∧ ∀ j, j < A.2.2.1 → ∃ p, tkT A.2.1 A.1 p = some (.inr (A.2.2.2.1 j))
/-- what is kept all through a rendering -/
def gKp (k : Nat) : Prop := k < 26 ∨ k = 32
def gK (τ τ' : tT) : Prop := (∀ k, k ≠ 5 → k ≠ 33 → k ≠ 34 → k ≠ 36 → k ≠ 37 → k ≠ 38 → k ≠ 39 → τ'.1 k = τ.1 k) ∧ τ'.2.1 = τ.2.1 ∧ τ'.2.2.2.2 = τ.2.2.2.2 ∧ ∀ k i, gKp k → τ'.2.2.1 k i = τ.2.2.1 k i ∧ τ'.2.2.2.1 k i = τ.2.2.2.1 k i
theorem gK.refl (τ : tT) : gK τ τ := ⟨fun _ _ _ _ _ _ _ _ => rfl, rfl, rfl, fun _ _ _ => ⟨rfl, rfl⟩⟩
theorem gK.trans {a b c : tT} (h : gK a b) (g : gK b c) : gK a c := ⟨fun k x1 x2 x3 x4 x5 x6 x7 => (g.1 k x1 x2 x3 x4 x5 x6 x7).trans (h.1 k x1 x2 x3 x4 x5 x6 x7), g.2.1.trans h.2.1, g.2.2.1.trans h.2.2.1, fun k i q => ⟨(g.2.2.2 k i q).1.trans (h.2.2.2 k i q).1, (g.2.2.2 k i q).2.trans (h.2.2.2 k i q).2⟩⟩
theorem vK.gK {R : Nat → Prop} {a b : tT} (h : vK R a b) : gK a b := ⟨fun k _ x2 _ _ _ x6 x7 => h.1 k x2 x6 x7, h.2.1, h.2.2.1, fun k i q => h.2.2.2 k i (Or.inl (by unfold gKp at q; omega))⟩
theorem sK.gK {a b : tT} (h : sK a b) : gK a b := ⟨fun k _ x2 x3 _ _ x6 x7 => h.1 k x2 x3 x6 x7, h.2.1, h.2.2.1, fun k i q => h.2.2.2 k i (by unfold gKp at q; unfold sKp; omega)⟩
theorem gK.fn {a b : tT} {k v : Nat} (h : gK a b) (hk : k = 5 ∨ k = 33 ∨ k = 34 ∨ k = 36 ∨ k = 37 ∨ k = 38 ∨ k = 39) : gK a (tFN b k v) := h.trans ⟨fun j x1 x2 x3 x4 x5 x6 x7 => rFN_n (by omega), rfl, rfl, fun _ _ _ => ⟨rfl, rfl⟩⟩
theorem gK.an {a b : tT} {k i v : Nat} (h : gK a b) (hk : ¬ gKp k) : gK a (tAN b k i v) := h.trans ⟨fun _ _ _ _ _ _ _ _ => rfl, rfl, rfl, fun k' i' q => ⟨congrFun (rAN_k (τ := b) (k := k) (k' := k') (fun z => hk (by rw [← z]; exact q))) i', rfl⟩⟩
theorem gK.ai {a b : tT} {k i : Nat} {v : Int32} (h : gK a b) (hk : ¬ gKp k) : gK a (tAI b k i v) := h.trans ⟨fun _ _ _ _ _ _ _ _ => rfl, rfl, rfl, fun k' i' q => ⟨rfl, congrFun (rAI_k (τ := b) (k := k) (k' := k') (fun z => hk (by rw [← z]; exact q))) i'⟩⟩
theorem gK.pp {a b : tT} {t g pa ot : Nat} (h : gK a b) : gK a (pU b t g pa ot) := by
  unfold pU
  exact ((((((h.an (by unfold gKp; omega)).an (by unfold gKp; omega)).an (by unfold gKp; omega)).an (by unfold gKp; omega)).an (by unfold gKp; omega)).ai (by unfold gKp; omega)).fn (by omega)
theorem tD.gK {a b : tT} {D : aD} (h : gK a b) (q : tD a D) : tD b D :=
  ⟨(h.1 4 (by decide) (by decide) (by decide) (by decide) (by decide) (by decide) (by decide)).trans q.1, q.2.1, fun x hx => ⟨tX.same (a := a) (h.2.2.2 8 x (Or.inl (by decide))).1 (h.2.2.2 9 x (Or.inl (by decide))).2 (fun i _ => (h.2.2.2 10 _ (Or.inl (by decide))).1) (fun i _ => (h.2.2.2 11 _ (Or.inl (by decide))).1) (fun i _ => by rw [h.2.2.1]) (q.2.2 x hx).1, (q.2.2 x hx).2⟩⟩
theorem tTa.gK {a b : tT} (h : gK a b) {k n : Nat} {T : tTb} (q : tTa a k n T) : tTa b k n T := by
  intro g hg
  obtain ⟨q1, q2, q3, q4, q5, q6, q7⟩ := q g hg
  have hk : ∀ k, k < 26 → ∀ i, b.2.2.1 k i = a.2.2.1 k i ∧ b.2.2.2.1 k i = a.2.2.2.1 k i := fun k h1 i => h.2.2.2 k i (Or.inl h1)
  exact ⟨(hk 18 (by decide) _).1.trans q1, (hk 20 (by decide) _).1.trans q2, (hk 21 (by decide) _).1.trans q3, (hk 19 (by decide) _).1.trans q4, (hk 22 (by decide) _).2.trans q5, (hk 23 (by decide) _).2.trans q6, (hk 24 (by decide) _).2.trans q7⟩
/-- the templates of the twin -/
def tmR (Tm : Nat → Option aT) (τ : tT) : Prop := (∀ t, 4 ≤ t → Tm t = none) ∧ (∀ t, t < 4 → Tm t = none → τ.2.2.1 17 t = 0) ∧ (∀ t n f g T, Tm t = some (n, f, g, T) → tTp τ t n f g T ∧ tmOK (n, f, g, T)) ∧ txB τ
theorem tmR.lt {Tm : Nat → Option aT} {τ : tT} (h : tmR Tm τ) {t : Nat} {A : aT} (q : Tm t = some A) : t < 4 := by
  rcases Nat.lt_or_ge t 4 with z | z
  · exact z
  · rw [h.1 t z] at q; cases q
theorem tmR.gK {Tm : Nat → Option aT} {a b : tT} (h : gK a b) (q : tmR Tm a) : tmR Tm b := by
  have hk : ∀ k, k < 26 → ∀ i, b.2.2.1 k i = a.2.2.1 k i := fun k h1 i => (h.2.2.2 k i (Or.inl h1)).1
  refine ⟨q.1, fun t ht e => (hk 17 (by decide) t).trans (q.2.1 t ht e), fun t n f g T e => ?_, fun i => by rw [hk 14 (by decide)]; exact q.2.2.2 i⟩
  obtain ⟨⟨y1, y2, y3, y4, y5⟩, z⟩ := q.2.2.1 t n f g T e
  exact ⟨⟨(hk 17 (by decide) _).trans y1, (hk 15 (by decide) _).trans y2, (hk 16 (by decide) _).trans y3, fun i hi => (hk 14 (by decide) _).trans (y4 i hi), y5.gK h⟩, z⟩
/-- the twin is where the machine is -/
def rnR (Tm : Nat → Option aT) (D : aD) (k : Nat) (τ0 : tT) (c : aM) (τ : tT) : Prop := ∃ n f g T, evB Tm D c.1 n f g T c.2.2.1 c.2.2.2.1 τ ∧ c.2.1 ≤ n ∧ botU c.1 c.2.2.1 = k ∧ outL τ c.2.2.2.2.1 ∧ τ.1 5 = c.2.2.2.2.2 ∧ c.2.2.2.2.2 ≤ 600 ∧ τ.1 38 = 0 ∧ gK τ0 τ ∧ tmR Tm τ
def mRs (Tm : Nat → Option aT) (D : aD) (k : Nat) (τ0 : tT) (x : aZ) (r : Option Value) (τ' : tT) : Prop := match x with
  | .inl c' => r = some (.int (nI (200 * c'.1 + c'.2.1))) ∧ rnR Tm D k τ0 c' τ'
  | .inr (.inl e) => (∃ w, r = some (.int w)) ∧ τ'.1 38 = e ∧ gK τ0 τ'
  | .inr (.inr _) => False
/-- registers, from a state that keeps them -/
theorem vR.same {a b : tT} {D : aD} {r : Nat} (h : ∀ k i, k < 30 → b.2.2.1 k i = a.2.2.1 k i ∧ b.2.2.2.1 k i = a.2.2.2.1 k i) : ∀ {v : aV}, vR D a r v → vR D b r v := by
  intro v
  rcases v with _ | v | l | x
  · intro p; exact (h 26 r (by decide)).2.trans p
  · rintro ⟨p, q⟩; exact ⟨(h 26 r (by decide)).2.trans p, (h 27 r (by decide)).2.trans q⟩
  · rintro ⟨p, q, r', s, t⟩; exact ⟨(h 26 r (by decide)).2.trans p, (h 28 r (by decide)).1.trans q, r', s, fun i hi => by rw [(h 29 _ (by decide)).1]; exact t i hi⟩
  · rintro ⟨p, q, m, ps, s, t⟩; exact ⟨p, (h 27 r (by decide)).2.trans q, m, ps, s, (h 26 r (by decide)).2.trans t⟩
theorem vC.same {a b : tT} {D : aD} (h : ∀ k i, k < 30 → b.2.2.1 k i = a.2.2.1 k i ∧ b.2.2.2.1 k i = a.2.2.2.1 k i) : ∀ {C : List aV}, vC D a C → vC D b C
  | [], _ => trivial
  | v :: C, ⟨x, y⟩ => ⟨x.same h, y.same h⟩
/-- the template's own facts -/
theorem evB.of {Tm : Nat → Option aT} {D : aD} {t n : Nat} {f : Nat → Nat} {g : Nat} {T : tTb} {U : List aU} {C : List aV} {τ : tT} (hm : tmR Tm τ) (hT : Tm t = some (n, f, g, T)) (hU : uR Tm D τ t U ∧ τ.1 37 = U.length ∧ U.length ≤ 20) (hC : vC D τ C ∧ τ.1 36 = C.length ∧ C.length ≤ 14) (hD : tD τ D) (ha : acy D) : evB Tm D t n f g T U C τ := by
  obtain ⟨h1, h2⟩ := hm.2.2.1 t n f g T hT
  obtain ⟨p, p1, p2⟩ := h2.2.2.2.1
  have h3 := h2.2.2.1
  have h4 := h2.1
  dsimp only at h3 h4
  exact ⟨⟨hm.lt hT, hT, h1.2.2.2.2, by omega, p2.2.2.2.2.2⟩, hU, hC, hD, ha, hm.2.2.2⟩
/-- a tag of the template -/
theorem tmOK.tag {n : Nat} {f : Nat → Nat} {g : Nat} {T : tTb} (h : tmOK (n, f, g, T)) {j : Nat} (hj : j < g) : tgOK n (T.1 j) ∧ sP f (T.1 j).2.2.1 (T.1 j).2.1 (some (T.1 j).2.2.2.2) ∧ (∀ m, T.2.1 j = some m → m < g) ∧ (∀ m, T.2.2 j = some m → m < g) := by
  obtain ⟨h1, h2, h3, ⟨p, p1, p2⟩, h5⟩ := h
  obtain ⟨q, hq⟩ := h5 j hj
  exact ⟨p2.1 j hj, tkT_ex hq, fun m z => p2.2.2.2.1 j m z, fun m z => p2.2.2.2.2.1 j m z⟩
section TW24
variable {τ : tT}
theorem pU_r {t g pa ot u : Nat} (hu : τ.1 37 = u) : (pU τ t g pa ot).2.2.1 40 u = t ∧ (pU τ t g pa ot).2.2.1 41 u = g ∧ (pU τ t g pa ot).2.2.1 47 u = pa ∧ (pU τ t g pa ot).2.2.1 46 u = ot ∧ (pU τ t g pa ot).2.2.1 42 u = 0 ∧ (pU τ t g pa ot).1 37 = u + 1 := by
  unfold pU
  rw [hu]
  refine ⟨?_, ?_, ?_, ?_, ?_, ?_⟩ <;> simp [tFN, tAI, tAN, up2, upN]
theorem pU_o {t g pa ot u i k : Nat} (hu : τ.1 37 = u) (hi : i ≠ u) : (pU τ t g pa ot).2.2.1 k i = τ.2.2.1 k i ∧ (pU τ t g pa ot).2.2.2.1 k i = τ.2.2.2.1 k i := by
  unfold pU
  rw [hu]
  constructor
  · simp only [tFN, tAI, tAN, up2_o hi]
  · simp only [tFN, tAI, tAN, up2_o hi]
theorem pU_k {t g pa ot k : Nat} (hk : k < 40) : (pU τ t g pa ot).2.2.1 k = τ.2.2.1 k ∧ (pU τ t g pa ot).2.2.2.1 k = τ.2.2.2.1 k := by
  unfold pU
  constructor
  · show (tAN (tAN (tAN (tAN (tAN τ 40 _ t) 41 _ g) 47 _ pa) 46 _ ot) 42 _ 0).2.2.1 k = _
    rw [rAN_k (by omega), rAN_k (by omega), rAN_k (by omega), rAN_k (by omega), rAN_k (by omega)]
  · show (tAI (tAN (tAN (tAN (tAN (tAN τ 40 _ t) 41 _ g) 47 _ pa) 46 _ ot) 42 _ 0) 43 _ (-1)).2.2.2.1 k = _
    rw [rAI_k (by omega)]
    rfl
theorem pU_f {t g pa ot k : Nat} (hk : k ≠ 37) : (pU τ t g pa ot).1 k = τ.1 k := by
  unfold pU
  exact rFN_n hk
theorem pU_uR {Tm : Nat → Option aT} {D : aD} {t j : Nat} {ot : Bool} {U : List aU} {n : Nat} {f : Nat → Nat} {g : Nat} {T : tTb} (hU : uR Tm D τ t U) (h37 : τ.1 37 = U.length) (hT : Tm t = some (n, f, g, T)) (hj : j < g) (hs : (T.1 j).2.2.2.2 = 4 → ot = true) : uR Tm D (pU τ t (50 * t + j) 0 ot.toNat) t (.inr (j, ot, 0, 0) :: U) := by
  obtain ⟨r1, r2, r3, r4, r5, r6⟩ := pU_r (t := t) (g := 50 * t + j) (pa := 0) (ot := ot.toNat) h37
  refine ⟨r3, r4, r5, r2, by decide, ⟨n, f, g, T, hT, hj, fun z w => ?_⟩, hU.same (fun i hi => ?_)⟩
  · rw [hs z] at w; cases w
  · have hne : i ≠ U.length := by omega
    exact ⟨(pU_o h37 hne).1, (pU_o h37 hne).1, (pU_o h37 hne).1, (pU_o h37 hne).1, (pU_o h37 hne).1, (pU_o h37 hne).2⟩
end TW24
