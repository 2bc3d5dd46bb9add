/-! PURE 12: the next tag by its inside -/
set_option maxRecDepth 100000
section TK
variable {l : List Nat} {p k q0 : Nat}
/-- how many brackets -/
def nbT (l : List Nat) (k : Nat) : Nat := if stB (lF l) l.length k [123, 123, 123] = true then 3 else 2
def clT (l : List Nat) (k : Nat) : List Nat := if stB (lF l) l.length k [123, 123, 123] = true then [125, 125, 125] else [125, 125]
theorem ix_find {w : List Nat} {i : Nat} (h : ixO l w p = some i) : findF (lF l) l.length w l.length p = i ∧ i < l.length := by
  unfold ixO at h
  split at h
  · rename_i h1
    have e := Option.some.inj h
    exact ⟨e, by rw [← e]; exact h1⟩
  · cases h
theorem ix_find0 {w : List Nat} (h : ixO l w p = none) : ¬ findF (lF l) l.length w l.length p < l.length := by
  unfold ixO at h
  split at h
  · cases h
  · assumption
theorem tk_none (h : ixO l [123, 123] p = none) : tkT (lF l) l.length p = none := by
  have h1 := ix_find0 h
  unfold tkT
  dsimp only
  rw [if_pos (by omega)]
theorem tk_fl (h : ixO l [123, 123] p = some k) (h2 : ixO l (clT l k) (k + nbT l k) = none) : tkT (lF l) l.length p = some (.inl k) := by
  obtain ⟨e1, e2⟩ := ix_find h
  have e3 := ix_find0 h2
  unfold tkT
  dsimp only
  rw [e1, if_neg (by omega)]
  show (if l.length ≤ findF (lF l) l.length (clT l k) l.length (k + nbT l k) then some (Sum.inl k) else _) = _
  rw [if_pos (by omega)]
theorem tk_tag (h : ixO l [123, 123] p = some k) (h2 : ixO l (clT l k) (k + nbT l k) = some q0) : tkT (lF l) l.length p = match sortN (lF l) q0 (k + nbT l k) (stB (lF l) l.length k [123, 123, 123]) with
    | none => some (.inl k)
    | some s => some (.inr (k, k + nbT l k, q0, q0 + nbT l k, s)) := by
  obtain ⟨e1, e2⟩ := ix_find h
  obtain ⟨e3, e4⟩ := ix_find h2
  unfold tkT
  dsimp only
  rw [e1, if_neg (by omega)]
  show (if l.length ≤ findF (lF l) l.length (clT l k) l.length (k + nbT l k) then some (Sum.inl k) else match sortN (lF l) (findF (lF l) l.length (clT l k) l.length (k + nbT l k)) (k + nbT l k) (stB (lF l) l.length k [123, 123, 123]) with | none => some (.inl k) | some s => some (.inr (k, k + nbT l k, findF (lF l) l.length (clT l k) l.length (k + nbT l k), findF (lF l) l.length (clT l k) l.length (k + nbT l k) + nbT l k, s))) = _
  rw [e3, if_neg (by omega)]
/-- a part of the text as a text of its own -/
theorem sb_H {b r : Nat} : ∀ i, i < r - b → lF l (b + i) = lF (sbL l b r) i := fun i hi => (sbL_get hi).symm
theorem sort_sb {b r : Nat} (hb : b ≤ r) (t : Bool) : sortN (lF l) r b t = sortN (lF (sbL l b r)) (sbL l b r).length 0 t := by
  have := sortN_sh (f := lF l) (f' := lF (sbL l b r)) (b := b) (e := r - b) sb_H 0 t
  rw [show b + (r - b) = r by omega, Nat.add_zero] at this
  rw [sbL_len]
  exact this
theorem isEx_sb {b r j : Nat} (hb : b ≤ r) : isEx (lF l) r (b + j) = isEx (lF (sbL l b r)) (sbL l b r).length j := by
  have := isEx_sh (f := lF l) (f' := lF (sbL l b r)) (b := b) (e := r - b) sb_H j
  rw [show b + (r - b) = r by omega] at this
  rw [sbL_len]
  exact this
theorem exO_sb {b r j : Nat} (hb : b ≤ r) (h : isEx (lF (sbL l b r)) (sbL l b r).length j = true) : exO (lF l) r (b + j) = exO (lF (sbL l b r)) (sbL l b r).length j := by
  rw [sbL_len] at h ⊢
  have := exO_sh (F := lF l) (f := lF (sbL l b r)) (b := b) (e := r - b) (p := j) sb_H h
  rw [show b + (r - b) = r by omega] at this
  exact this
/-- the machine's runs -/
def tpTo (f : Nat → Nat) (e : Nat) (s s' : tPs) : Prop := ∃ n, tpI f e n s = .inl s'
def tpFn (f : Nat → Nat) (e : Nat) (s : tPs) (r : Option Nat × Nat × tTb) : Prop := ∃ n, tpI f e n s = .inr r
theorem tpI_add {f : Nat → Nat} {e : Nat} {s' : tPs} {r : tPs ⊕ (Option Nat × Nat × tTb)} : ∀ {n m : Nat} {s : tPs}, tpI f e n s = .inl s' → tpI f e m s' = r → tpI f e (n + m) s = r
  | 0, m, s, h, q => by
    have h : (Sum.inl s : tPs ⊕ (Option Nat × Nat × tTb)) = .inl s' := h
    cases h
    rw [Nat.zero_add]; exact q
  | n + 1, m, s, h, q => by
    rw [show n + 1 + m = (n + m) + 1 by omega]
    cases hs : tpS f e s with
    | inl s2 =>
      rw [tpI_inl hs] at h ⊢
      exact tpI_add h q
    | inr r2 =>
      rw [tpI_inr hs] at h
      cases h
theorem tpTo.refl {f : Nat → Nat} {e : Nat} (s : tPs) : tpTo f e s s := ⟨0, rfl⟩
theorem tpTo.trans {f : Nat → Nat} {e : Nat} {a b c : tPs} (h : tpTo f e a b) (g : tpTo f e b c) : tpTo f e a c := by
  obtain ⟨n, h⟩ := h
  obtain ⟨m, g⟩ := g
  exact ⟨n + m, tpI_add h g⟩
theorem tpTo.fin {f : Nat → Nat} {e : Nat} {a b : tPs} {r : Option Nat × Nat × tTb} (h : tpTo f e a b) (g : tpFn f e b r) : tpFn f e a r := by
  obtain ⟨n, h⟩ := h
  obtain ⟨m, g⟩ := g
  exact ⟨n + m, tpI_add h g⟩
theorem tpTo.one {f : Nat → Nat} {e : Nat} {a b : tPs} (h : tpS f e a = .inl b) : tpTo f e a b := ⟨1, by rw [tpI_inl h]; rfl⟩
theorem tpFn.one {f : Nat → Nat} {e : Nat} {a : tPs} {r : Option Nat × Nat × tTb} (h : tpS f e a = .inr r) : tpFn f e a r := ⟨1, by rw [tpI_inr h]⟩
end TK
section SN
variable {l : List Nat}
theorem sn_ends (h : enB l = true) : sortN (lF l) l.length 0 false = some (if l = [101, 108, 115, 101] then 6 else if l = [47, 105, 102] then 7 else if l = [47, 101, 97, 99, 104] then 8 else 9) := by
  unfold enB at h
  by_cases c1 : l = [101, 108, 115, 101]
  · subst c1; decide
  · by_cases c2 : l = [47, 105, 102]
    · subst c2; decide
    · by_cases c3 : l = [47, 101, 97, 99, 104]
      · subst c3; decide
      · have c4 : l = [47, 119, 105, 116, 104] := by
          rw [decide_eq_false c1, decide_eq_false c2, decide_eq_false c3] at h
          simpa using h
        subst c4; decide
/-- no end: the ends' tests fail -/
theorem sn_noend (h : enB l = false) : (¬ (l.length = 0 + 4 ∧ stB (lF l) l.length 0 [101, 108, 115, 101] = true)) ∧ (¬ (l.length = 0 + 3 ∧ stB (lF l) l.length 0 [47, 105, 102] = true)) ∧ (¬ (l.length = 0 + 5 ∧ stB (lF l) l.length 0 [47, 101, 97, 99, 104] = true)) ∧ ¬ (l.length = 0 + 5 ∧ stB (lF l) l.length 0 [47, 119, 105, 116, 104] = true) := by
  unfold enB at h
  simp only [Bool.or_eq_false_iff, decide_eq_false_iff_not] at h
  obtain ⟨⟨⟨c1, c2⟩, c3⟩, c4⟩ := h
  refine ⟨fun z => c1 ?_, fun z => c2 ?_, fun z => c3 ?_, fun z => c4 ?_⟩
  · exact (stB_full (by decide) (by decide)).mpr ⟨by simpa using z.1, z.2⟩
  · exact (stB_full (by decide) (by decide)).mpr ⟨by simpa using z.1, z.2⟩
  · exact (stB_full (by decide) (by decide)).mpr ⟨by simpa using z.1, z.2⟩
  · exact (stB_full (by decide) (by decide)).mpr ⟨by simpa using z.1, z.2⟩
theorem sn_three : sortN (lF l) l.length 0 true = if isEx (lF l) l.length 0 = true then some 1 else none := by
  unfold sortN
  rw [if_pos rfl]
theorem cA0 {c : Nat} (hc : c ≠ 0) : cA (lF l) l.length 0 = c ↔ stB (lF l) l.length 0 [c] = true := by
  rw [stB_cons]
  show _ ↔ ((cA (lF l) l.length 0 == c) && true) = true
  rw [Bool.and_true, beq_iff_eq]
/-- the sort of what is no end, by its beginning -/
theorem sn_open (h : enB l = false) : sortN (lF l) l.length 0 false = if stB (lF l) l.length 0 [33] = true then some 2
    else if stB (lF l) l.length 0 [35, 105, 102, 32] = true then (if isEx (lF l) l.length 4 = true then some 3 else none)
    else if stB (lF l) l.length 0 [35, 101, 97, 99, 104, 32] = true then (if isEx (lF l) l.length 6 = true then some 4 else none)
    else if stB (lF l) l.length 0 [35, 119, 105, 116, 104, 32] = true then (if isEx (lF l) l.length 6 = true then some 5 else none)
    else if stB (lF l) l.length 0 [62, 32] = true then (if l.length = 3 ∧ 97 ≤ lF l 2 ∧ lF l 2 ≤ 100 then some 10 else none)
    else if isEx (lF l) l.length 0 = true then some 0 else none := by
  obtain ⟨n1, n2, n3, n4⟩ := sn_noend h
  unfold sortN
  rw [if_neg (by decide)]
  by_cases c33 : cA (lF l) l.length 0 = 33
  · rw [if_pos c33, if_pos ((cA0 (by decide)).mp c33)]
  · rw [if_neg c33, if_neg (fun z => c33 ((cA0 (by decide)).mpr z)), Nat.zero_add, Nat.zero_add, if_neg n1, if_neg n2, if_neg n3, if_neg n4]
    by_cases b1 : stB (lF l) l.length 0 [35, 105, 102, 32] = true
    · rw [if_pos b1, if_pos b1]
    · rw [if_neg b1, if_neg b1]
      by_cases b2 : stB (lF l) l.length 0 [35, 101, 97, 99, 104, 32] = true
      · rw [if_pos b2, if_pos b2]
      · rw [if_neg b2, if_neg b2]
        by_cases b3 : stB (lF l) l.length 0 [35, 119, 105, 116, 104, 32] = true
        · rw [if_pos b3, if_pos b3]
        · rw [if_neg b3, if_neg b3]
          have st2 : stB (lF l) l.length 0 [62, 32] = true ↔ cA (lF l) l.length 0 = 62 ∧ cA (lF l) l.length 1 = 32 := by
            rw [stB_cons, stB_cons]
            show ((cA (lF l) l.length 0 == 62) && ((cA (lF l) l.length (0 + 1) == 32) && true)) = true ↔ _
            rw [Bool.and_true, Bool.and_eq_true, beq_iff_eq, beq_iff_eq]
          by_cases c62 : cA (lF l) l.length 0 = 62
          · rw [if_pos c62]
            have h0 : 0 < l.length := cA_lt (by rw [c62]; decide)
            by_cases b4 : stB (lF l) l.length 0 [62, 32] = true
            · have c32 := (st2.mp b4).2
              have h1 : 1 < l.length := cA_lt (by rw [c32]; decide)
              rw [cA_eq h1] at c32
              rw [if_pos b4]
              by_cases y : l.length = 3 ∧ 97 ≤ lF l 2 ∧ lF l 2 ≤ 100
              · rw [if_pos y, if_pos ⟨y.1, c32, y.2⟩]
              · rw [if_neg y, if_neg (fun z => y ⟨z.1, z.2.2⟩)]
            · rw [if_neg b4, if_neg (fun z => b4 (st2.mpr ⟨c62, by rw [cA_eq (by omega)]; exact z.2.1⟩))]
              have f0 : lF l 0 = 62 := by rw [cA_eq h0] at c62; exact c62
              have hne : isEx (lF l) l.length 0 = false := by
                cases hb : isEx (lF l) l.length 0 with
                | false => rfl
                | true =>
                  exfalso
                  have nst : ∀ (c : Nat) (w : List Nat), c ≠ 62 → stB (lF l) l.length 0 (c :: w) = false := fun c w hc => by
                    rw [stB_cons, c62]
                    rw [show (62 == c) = false from beq_eq_false_iff_ne.mpr (fun z => hc z.symm)]
                    rfl
                  have hh : helpN (lF l) l.length 0 = 0 := by
                    unfold helpN
                    rw [nst 117 _ (by decide), nst 108 _ (by decide), nst 110 _ (by decide), nst 97 _ (by decide), nst 101 _ (by decide), nst 97 _ (by decide)]
                    rfl
                  have ho := (isEx_0 hh).1.mp hb
                  unfold operE at ho
                  rw [if_neg (by rw [c62]; decide), if_neg (by rw [c62]; decide), pathE_W (by rw [c62]; decide)] at ho
                  have hu : upF (lF l) l.length l.length 0 = 0 := upF_no (by omega) _
                  have hl0 : lts (lF l) l.length 0 = 0 := lts_stop (by rw [c62]; rfl)
                  unfold pathW at ho
                  rw [hu, hl0, if_pos (by omega)] at ho
                  cases ho
              rw [hne]
              rfl
          · rw [if_neg c62, if_neg (fun z => c62 (st2.mp z).1)]
end SN
