/-! LAW 2: what both sides hold between the calls -/
set_option maxRecDepth 100000
/-! the twin's side -/
theorem tTa.ar {a b : tT} {k n : Nat} {T : tTb} (h : ∀ j i, 18 ≤ j → j ≤ 24 → 50 * k ≤ i → i < 50 * k + n → b.2.2.1 j i = a.2.2.1 j i ∧ b.2.2.2.1 j i = a.2.2.2.1 j i) (q : tTa a k n T) : tTa b k n T := by
  intro g hg
  obtain ⟨q1, q2, q3, q4, q5, q6, q7⟩ := q g hg
  have hk : ∀ j, 18 ≤ j → j ≤ 24 → b.2.2.1 j (50 * k + g) = a.2.2.1 j (50 * k + g) ∧ b.2.2.2.1 j (50 * k + g) = a.2.2.2.1 j (50 * k + g) := fun j h1 h2 => h j _ h1 h2 (by omega) (by omega)
  exact ⟨(hk 18 (by decide) (by decide)).1.trans q1, (hk 20 (by decide) (by decide)).1.trans q2, (hk 21 (by decide) (by decide)).1.trans q3, (hk 19 (by decide) (by decide)).1.trans q4, (hk 22 (by decide) (by decide)).2.trans q5, (hk 23 (by decide) (by decide)).2.trans q6, (hk 24 (by decide) (by decide)).2.trans q7⟩
theorem tTp.ar {a b : tT} {k n g : Nat} {f : Nat → Nat} {T : tTb} (h15 : b.2.2.1 15 k = a.2.2.1 15 k) (h16 : b.2.2.1 16 k = a.2.2.1 16 k) (h17 : b.2.2.1 17 k = a.2.2.1 17 k) (h14 : ∀ i, i < n → b.2.2.1 14 (200 * k + i) = a.2.2.1 14 (200 * k + i)) (h : ∀ j i, 18 ≤ j → j ≤ 24 → 50 * k ≤ i → i < 50 * k + g → b.2.2.1 j i = a.2.2.1 j i ∧ b.2.2.2.1 j i = a.2.2.2.1 j i) (q : tTp a k n f g T) : tTp b k n f g T :=
  ⟨h17.trans q.1, h15.trans q.2.1, h16.trans q.2.2.1, fun i hi => (h14 i hi).trans (q.2.2.2.1 i hi), q.2.2.2.2.ar h⟩
theorem tmR.ar {Tm : Nat → Option aT} {a b : tT} (h : ∀ k i, 14 ≤ k → k ≤ 24 → b.2.2.1 k i = a.2.2.1 k i ∧ b.2.2.2.1 k i = a.2.2.2.1 k i) (q : tmR Tm a) : tmR Tm b := by
  have hk : ∀ k, 14 ≤ k → k ≤ 24 → ∀ i, b.2.2.1 k i = a.2.2.1 k i := fun k h1 h2 i => (h k i h1 h2).1
  refine ⟨q.1, fun t ht e => (hk 17 (by decide) (by decide) t).trans (q.2.1 t ht e), fun t n f g T e => ?_, fun i => by rw [hk 14 (by decide) (by decide)]; exact q.2.2.2 i⟩
  obtain ⟨y, z⟩ := q.2.2.1 t n f g T e
  exact ⟨y.ar (hk 15 (by decide) (by decide) _) (hk 16 (by decide) (by decide) _) (hk 17 (by decide) (by decide) _) (fun i _ => hk 14 (by decide) (by decide) _) (fun j i h1 h2 _ _ => h j i (by omega) h2), z⟩
/-- what the twin's state τ holds -/
def TI (D : aD) (Tm : Nat → Option aT) (l out : List Nat) (ea : Int32) (tg th : Nat) (τ : tT) : Prop := tD τ D ∧ tmR Tm τ ∧ τ.1 2 = l.length ∧ (∀ i, i < l.length → τ.2.2.1 7 i = l.getD i 0) ∧ (∀ c ∈ l, c < 128) ∧ τ.1 35 = out.length ∧ out.length ≤ 400 ∧ (∀ i, i < out.length → τ.2.2.1 32 i = out.getD i 0) ∧ τ.1 6 = tg ∧ τ.1 1 = th ∧ τ.2.1 = ea
section TI
variable {D D' : aD} {Tm : Nat → Option aT} {l l' out : List Nat} {ea : Int32} {tg th th' : Nat} {τ τ' : tT}
theorem TI.up {B : List Nat} (h : TI D Tm l out ea tg th τ) (f : tFa B τ τ') (nB : ∀ k ∈ B, 8 ≤ k ∧ k ≤ 13) (hD : tD τ' D') (hl : (l' = l ∧ τ'.1 2 = τ.1 2) ∨ (l' = [] ∧ τ'.1 2 = 0)) (e35 : τ'.1 35 = τ.1 35) (e6 : τ'.1 6 = τ.1 6) (e1 : τ'.1 1 = th') : TI D' Tm l' out ea tg th' τ' := by
  obtain ⟨a1, a2, a3, a4, a5, a6, a7, a8, a9, a10, a11⟩ := h
  have nb : ∀ k, ¬ (8 ≤ k ∧ k ≤ 13) → k ∉ B := fun k hk z => hk (nB k z)
  refine ⟨hD, a2.ar (fun k i h1 h2 => ?_), ?_, ?_, ?_, e35.trans a6, a7, fun i hi => ?_, e6.trans a9, e1, f.1.trans a11⟩
  · have := f.2.2 k (nb k (by omega))
    exact ⟨by rw [this.1], by rw [this.2]⟩
  · rcases hl with ⟨z1, z2⟩ | ⟨z1, z2⟩
    · rw [z1]; exact z2.trans a3
    · rw [z1]; exact z2
  · rcases hl with ⟨z1, z2⟩ | ⟨z1, z2⟩
    · rw [z1]
      intro i hi
      rw [(f.2.2 7 (nb 7 (by omega))).1]
      exact a4 i hi
    · rw [z1]; intro i hi; exact absurd hi (Nat.not_lt_zero _)
  · rcases hl with ⟨z1, z2⟩ | ⟨z1, z2⟩
    · rw [z1]; exact a5
    · rw [z1]; intro c hc; cases hc
  · rw [(f.2.2 32 (nb 32 (by omega))).1]
    exact a8 i hi
theorem TI.rf (h : TI D Tm l out ea tg th τ) (k : Nat) : TI D Tm l out ea tg (th + 1) (tRf τ k) := by
  have f : tFa [] τ (tRf τ k) := (tFa.refl [] τ).fn.fn
  refine h.up f (fun k hk => by cases hk) (h.1.fa f (by rfl) (by decide) (by decide) (by decide) (by decide) (by decide)) (Or.inl ⟨rfl, rfl⟩) rfl rfl ?_
  have := h.2.2.2.2.2.2.2.2.2.1
  show upN (upN τ.1 0 k) 1 (τ.1 1 + 1) 1 = _
  rw [upN_s, this]
theorem TI.fn0 (h : TI D Tm l out ea tg th τ) : TI D Tm l out ea tg th (tFN τ 0 0) := by
  have f : tFa [] τ (tFN τ 0 0) := (tFa.refl [] τ).fn
  exact h.up f (fun k hk => by cases hk) (h.1.fa f (by rfl) (by decide) (by decide) (by decide) (by decide) (by decide)) (Or.inl ⟨rfl, rfl⟩) rfl rfl h.2.2.2.2.2.2.2.2.2.1
/-- refused, with the marks changed -/
theorem TI.rfa {k : Nat} (h : TI D Tm l out ea tg th τ) (e : τ'.1 = (tRf τ k).1) (f : tFa [13] τ τ') : TI D Tm l out ea tg (th + 1) τ' := by
  have hh := h.2.2.2.2.2.2.2.2.2.1
  refine h.up f (fun k hk => by simp at hk; omega) (h.1.fa f (by rw [e]; rfl) (by decide) (by decide) (by decide) (by decide) (by decide)) (Or.inl ⟨rfl, by rw [e]; rfl⟩) (by rw [e]; rfl) (by rw [e]; rfl) ?_
  rw [e]
  show upN (upN τ.1 0 k) 1 (τ.1 1 + 1) 1 = _
  rw [upN_s, hh]
theorem rf_code {k : Nat} {τ : tT} : (tRf τ k).1 0 = k := by
  show upN (upN τ.1 0 k) 1 (τ.1 1 + 1) 0 = k
  rw [upN_n (by decide), upN_s]
/-- after a rendering, or a look at a size -/
theorem TI.hk {out' : List Nat} {tg' : Nat} (h : TI D Tm l out ea tg th τ) (f : hK τ τ') (e35 : τ'.1 35 = out'.length) (ho : out'.length ≤ 400) (h32 : ∀ i, i < out'.length → τ'.2.2.1 32 i = out'.getD i 0) (e6 : τ'.1 6 = tg') (e1 : τ'.1 1 = th') : TI D Tm l out' ea tg' th' τ' := by
  obtain ⟨a1, a2, a3, a4, a5, a6, a7, a8, a9, a10, a11⟩ := h
  refine ⟨?_, a2.ar (fun k i h1 h2 => f.2.2.2 k i (by omega)), ?_, fun i hi => ?_, a5, e35, ho, h32, e6, e1, f.2.1.trans a11⟩
  · refine ⟨(f.1 4 (by decide) (by decide) (by decide) (by decide) (by decide) (by decide) (by decide) (by decide) (by decide) (by decide) (by decide)).trans a1.1, a1.2.1, fun x hx => ⟨tX.same (a := τ) (f.2.2.2 8 x (by decide)).1 (f.2.2.2 9 x (by decide)).2 (fun i _ => (f.2.2.2 10 _ (by decide)).1) (fun i _ => (f.2.2.2 11 _ (by decide)).1) (fun i _ => by rw [f.2.2.1]) (a1.2.2 x hx).1, (a1.2.2 x hx).2⟩⟩
  · exact (f.1 2 (by decide) (by decide) (by decide) (by decide) (by decide) (by decide) (by decide) (by decide) (by decide) (by decide) (by decide)).trans a3
  · exact (f.2.2.2 7 i (by decide)).1.trans (a4 i hi)
/-- a character more -/
theorem TI.ty {k : Nat} (h : TI D Tm l out ea tg th τ) (hk : k < 128) : TI D Tm (l ++ [k]) out ea tg th (tFN (tFN (tAN τ 7 (τ.1 2) k) 2 (τ.1 2 + 1)) 0 0) := by
  obtain ⟨a1, a2, a3, a4, a5, a6, a7, a8, a9, a10, a11⟩ := h
  have f : tFa [7] τ (tFN (tFN (tAN τ 7 (τ.1 2) k) 2 (τ.1 2 + 1)) 0 0) := (((tFa.refl [7] τ).an (by decide)).fn).fn
  refine ⟨a1.fa f (by rfl) (by decide) (by decide) (by decide) (by decide) (by decide), a2.ar (fun j i h1 h2 => ?_), ?_, fun i hi => ?_, ?_, a6, a7, fun i hi => ?_, a9, a10, a11⟩
  · have := f.2.2 j (by simp; omega)
    exact ⟨by rw [this.1], by rw [this.2]⟩
  · show upN (upN τ.1 2 (τ.1 2 + 1)) 0 0 2 = _
    rw [upN_n (by decide), upN_s, a3, List.length_append]
    rfl
  · rw [List.length_append, List.length_singleton] at hi
    show up2 τ.2.2.1 7 (τ.1 2) k 7 i = _
    rw [a3]
    by_cases z : i = l.length
    · rw [z, up2_s, List.getD_eq_getElem?_getD, List.getElem?_append_right (Nat.le_refl _), Nat.sub_self]
      rfl
    · rw [up2_i z, List.getD_eq_getElem?_getD, List.getElem?_append_left (by omega), ← List.getD_eq_getElem?_getD]
      exact a4 i (by omega)
  · intro c hc
    rcases List.mem_append.mp hc with z | z
    · exact a5 c z
    · rw [List.mem_singleton.mp z]; exact hk
  · rw [(f.2.2 32 (by decide)).1]
    exact a8 i hi
/-- the line as the twin has it -/
theorem TI.ln (h : TI D Tm l out ea tg th τ) : sgF (τ.2.2.1 7) 0 l.length = l := by
  have a4 := h.2.2.2.1
  apply List.ext_getElem
  · exact sgF_len
  · intro i h1 h2
    have e1 := sgF_get (f := τ.2.2.1 7) (n := l.length) (p := 0) (i := i) h2
    rw [Nat.zero_add, a4 i h2] at e1
    rw [List.getD_eq_getElem?_getD, List.getElem?_eq_getElem h1, List.getD_eq_getElem?_getD, List.getElem?_eq_getElem h2] at e1
    exact e1
end TI
/-- the tags of a machine's table come from the text -/
def tSrc (f : Nat → Nat) (e : Nat) (g : Nat) (T : tTb) : Prop := ∀ j, j < g → ∃ p, tkT f e p = some (.inr (T.1 j))
theorem fitT_1 {T T' : tTb} {g : Nat} {S S' : List Nat} (h : fitT T g S = some (S', T')) : T'.1 = T.1 := by
  unfold fitT at h
  dsimp only at h
  split at h
  · split at h
    · cases h
    · cases h; rfl
  · split at h
    · cases h; rfl
    · cases S with
      | nil => cases h
      | cons b S0 =>
        unfold fitE at h
        dsimp only at h
        split at h
        · split at h
          · cases h
          · cases h; rfl
        · split at h
          · cases h; rfl
          · cases h
theorem tSrc.step {f : Nat → Nat} {e : Nat} {s s' : tPs} (h : tSrc f e s.2.1 s.2.2.2) (hs : tpS f e s = .inl s') : tSrc f e s'.2.1 s'.2.2.2 := by
  unfold tpS at hs
  split at hs
  · cases hs
  · cases hs
  · rename_i t ht
    split at hs
    · cases hs
    · rename_i S' T' hf
      cases hs
      have e1 := fitT_1 hf
      intro j hj
      show ∃ p, tkT f e p = some (.inr (T'.1 j))
      rw [e1]
      show ∃ p, tkT f e p = some (.inr (upO s.2.2.2.1 s.2.1 t j))
      by_cases z : j = s.2.1
      · rw [z, upO_s]; exact ⟨_, ht⟩
      · rw [upO_n z]
        exact h j (by have : j < s.2.1 + 1 := hj; omega)
theorem tpS_g {f : Nat → Nat} {e : Nat} {s : tPs} {r : Option Nat × Nat × tTb} (hs : tpS f e s = .inr r) : r.2.1 = s.2.1 ∧ r.2.2 = s.2.2.2 := by
  unfold tpS at hs
  split at hs
  · cases hs; exact ⟨rfl, rfl⟩
  · cases hs; exact ⟨rfl, rfl⟩
  · split at hs
    · cases hs; exact ⟨rfl, rfl⟩
    · cases hs
theorem tSrc.run {f : Nat → Nat} {e : Nat} {r : Option Nat × Nat × tTb} : ∀ {n : Nat} {s : tPs}, tSrc f e s.2.1 s.2.2.2 → tpI f e n s = .inr r → tSrc f e r.2.1 r.2.2
  | 0, s, _, h => by cases h
  | n + 1, s, h0, h => by
    cases hs : tpS f e s with
    | inl s' =>
      rw [tpI_inl hs] at h
      exact tSrc.run (h0.step hs) h
    | inr r' =>
      rw [tpI_inr hs] at h
      cases h
      obtain ⟨z1, z2⟩ := tpS_g hs
      rw [z1, z2]
      exact h0
section TC
variable {D : aD} {Tm : Nat → Option aT} {l out : List Nat} {ea : Int32} {tg th : Nat} {τ τ' : tT}
theorem TI.tD {e1 : τ'.1 4 = τ.1 4} (h : TI D Tm l out ea tg th τ) (hk : ∀ k i, k < 14 → τ'.2.2.1 k i = τ.2.2.1 k i ∧ τ'.2.2.2.1 k i = τ.2.2.2.1 k i) (h12 : τ'.2.2.2.2 = τ.2.2.2.2) : tD τ' D :=
  ⟨e1.trans h.1.1, h.1.2.1, fun x hx => ⟨tX.same (a := τ) (hk 8 x (by decide)).1 (hk 9 x (by decide)).2 (fun i _ => (hk 10 _ (by decide)).1) (fun i _ => (hk 11 _ (by decide)).1) (fun i _ => by rw [h12]) (h.1.2.2 x hx).1, (h.1.2.2 x hx).2⟩⟩
/-- a template that has no fault -/
theorem TI.cm {k G : Nat} {T : tTb} {r : Option Value} (h : TI D Tm l out ea tg th τ) (hk : k < 4) (h64 : l.length ≤ 64) (hfn : tpFn (lF l) l.length tP0 (none, G, T)) (hc : cmP τ k l.length (lF l) (none, G, T) r τ') (hx : txB τ') : r = some (.int (nI G)) ∧ τ'.1 0 = 0 ∧ TI D (tmU Tm k (l.length, lF l, G, T)) [] out (-1) tg th τ' := by
  obtain ⟨c1, c2, c3, c4, c5, p, c6, c7, c8⟩ : r = some (.int (nI G)) ∧ τ'.1 = (tFN (tFN τ 2 0) 0 0).1 ∧ τ'.2.1 = -1 ∧ tCp k τ τ' ∧ tTp τ' k l.length (lF l) G T ∧ ∃ p, p ≤ l.length ∧ tTok l.length G p T ∧ 4 * G ≤ p := hc
  have e1 : τ'.1 4 = τ.1 4 := by rw [c2]; rfl
  have hD := TI.tD (e1 := e1) h (fun j i hj => c4.2 j i (Or.inl hj)) c4.1
  obtain ⟨a1, a2, a3, a4, a5, a6, a7, a8, a9, a10, a11⟩ := h
  refine ⟨c1, by rw [c2]; rfl, hD, ⟨fun t ht => ?_, fun t ht e => ?_, fun t n f g T' e => ?_, hx⟩, by rw [c2]; rfl, fun i hi => absurd hi (Nat.not_lt_zero _), (fun c hc => by cases hc), by rw [c2]; exact a6, a7, fun i hi => ?_, by rw [c2]; exact a9, by rw [c2]; exact a10, c3⟩
  · show (if t = k then _ else Tm t) = none
    rw [if_neg (by omega)]
    exact a2.1 t ht
  · have e : (if t = k then some (l.length, lF l, G, T) else Tm t) = none := e
    by_cases z : t = k
    · rw [if_pos z] at e; cases e
    · rw [if_neg z] at e
      rw [(c4.2 17 t (by unfold tCk; omega)).1]
      exact a2.2.1 t ht e
  · have e : (if t = k then some (l.length, lF l, G, T) else Tm t) = some (n, f, g, T') := e
    by_cases z : t = k
    · rw [if_pos z] at e
      cases e
      rw [z]
      refine ⟨c5, by show l.length ≤ 180; omega, fun i hi => a5 _ (getD_mem (d := 0) hi), by show 4 * G ≤ l.length; omega, ⟨p, c6, c7⟩, ?_⟩
      obtain ⟨m, hm⟩ := hfn
      exact tSrc.run (r := (none, G, T)) (fun j hj => absurd hj (Nat.not_lt_zero _)) hm
    · rw [if_neg z] at e
      have ht := a2.lt e
      obtain ⟨y1, y2⟩ := a2.2.2.1 t n f g T' e
      have yn : n ≤ 180 := y2.1
      have yg : 4 * g ≤ n := y2.2.2.1
      refine ⟨y1.ar (c4.2 15 t (by unfold tCk; omega)).1 (c4.2 16 t (by unfold tCk; omega)).1 (c4.2 17 t (by unfold tCk; omega)).1 (fun i hi => (c4.2 14 _ ?_).1) (fun j i h1 h2 h3 h4 => c4.2 j i ?_), y2⟩
      · refine Or.inr (Or.inr (Or.inr (Or.inr (Or.inr (Or.inr ⟨rfl, by omega, ?_⟩)))))
        rcases Nat.lt_or_gt_of_ne z with q | q <;> omega
      · refine Or.inr (Or.inr (Or.inr (Or.inr (Or.inr (Or.inl ⟨h1, h2, by omega, ?_⟩)))))
        rcases Nat.lt_or_gt_of_ne z with q | q <;> omega
  · rw [(c4.2 32 i (Or.inr (Or.inl (by decide)))).1]
    exact a8 i hi
/-- a template with a fault -/
theorem TI.cx {k G x : Nat} {T : tTb} {r : Option Value} (h : TI D Tm l out ea tg th τ) (hc : cmP τ k l.length (lF l) (some x, G, T) r τ') (hx : txB τ') : r = some (.int (nI 0)) ∧ τ'.1 0 = 2 ∧ TI D Tm [] out (nI x) tg (th + 1) τ' := by
  obtain ⟨c1, c2, c3, c4, c5⟩ : r = some (.int (nI 0)) ∧ τ'.1 = (tRf (tFN τ 2 0) 2).1 ∧ τ'.2.1 = nI x ∧ tA4 τ (τ.1, τ.2.1, τ'.2.2) ∧ x < l.length := hc
  have e1 : τ'.1 4 = τ.1 4 := by rw [c2]; rfl
  have c4' : ∀ j i, tA4k j i → τ'.2.2.1 j i = τ.2.2.1 j i ∧ τ'.2.2.2.1 j i = τ.2.2.2.1 j i := c4.2.2.2
  have hD := TI.tD (e1 := e1) h (fun j i hj => c4' j i (Or.inl hj)) c4.2.2.1
  obtain ⟨a1, a2, a3, a4, a5, a6, a7, a8, a9, a10, a11⟩ := h
  refine ⟨c1, by rw [c2]; exact rf_code, hD, ⟨a2.1, fun t ht e => ?_, fun t n f g T' e => ?_, hx⟩, by rw [c2]; rfl, fun i hi => absurd hi (Nat.not_lt_zero _), (fun c hc => by cases hc), by rw [c2]; exact a6, a7, fun i hi => ?_, by rw [c2]; exact a9, ?_, c3⟩
  · rw [(c4' 17 t (by unfold tA4k; omega)).1]
    exact a2.2.1 t ht e
  · have ht := a2.lt e
    obtain ⟨y1, y2⟩ := a2.2.2.1 t n f g T' e
    have yn : n ≤ 180 := y2.1
    have yg : 4 * g ≤ n := y2.2.2.1
    exact ⟨y1.ar (c4' 15 t (by unfold tA4k; omega)).1 (c4' 16 t (by unfold tA4k; omega)).1 (c4' 17 t (by unfold tA4k; omega)).1 (fun i hi => (c4' 14 _ (by unfold tA4k; omega)).1) (fun j i h1 h2 h3 h4 => c4' j i (by unfold tA4k; omega)), y2⟩
  · rw [(c4' 32 i (by unfold tA4k; omega)).1]
    exact a8 i hi
  · rw [c2]
    show upN (upN (upN τ.1 2 0) 0 2) 1 (upN τ.1 2 0 1 + 1) 1 = _
    rw [upN_s, upN_n (by decide), a10]
end TC
