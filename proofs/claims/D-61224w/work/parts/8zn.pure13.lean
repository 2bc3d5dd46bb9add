/-! PURE 13: steps of the machine that takes a template apart; tables that agree; lists of Parts -/
set_option maxRecDepth 100000
/-- a new tag in the table -/
def tT1 (T : tTb) (g : Nat) (t : tGt) : tTb := (upO T.1 g t, upO T.2.1 g none, upO T.2.2 g none)
section TS
variable {f : Nat → Nat} {N p g : Nat} {S : List Nat} {T : tTb} {t : tGt}
theorem ts_simple (h : tkT f N p = some (.inr t)) (hs : t.2.2.2.2 < 3 ∨ t.2.2.2.2 = 10) : tpS f N (p, g, S, T) = .inl (t.2.2.2.1, g + 1, S, tT1 T g t) := by
  refine tpS_tg h ?_
  unfold fitT
  dsimp only
  rw [upO_s, if_neg (by omega), if_pos (by omega)]
  rfl
theorem ts_open (h : tkT f N p = some (.inr t)) (hs : 3 ≤ t.2.2.2.2 ∧ t.2.2.2.2 ≤ 5) (hS : S.length ≠ 4) : tpS f N (p, g, S, T) = .inl (t.2.2.2.1, g + 1, g :: S, tT1 T g t) := by
  refine tpS_tg h ?_
  unfold fitT
  dsimp only
  rw [upO_s, if_pos (by omega), if_neg hS]
  rfl
theorem ts_open4 (h : tkT f N p = some (.inr t)) (hs : 3 ≤ t.2.2.2.2 ∧ t.2.2.2.2 ≤ 5) (hS : S.length = 4) : tpS f N (p, g, S, T) = .inr (some t.1, g, T) := by
  refine tpS_no h ?_
  unfold fitT
  dsimp only
  rw [upO_s, if_pos (by omega), if_pos hS]
theorem ts_fitE (hs : 6 ≤ t.2.2.2.2 ∧ t.2.2.2.2 ≤ 9) : fitT (upO T.1 g t, upO T.2.1 g none, upO T.2.2 g none) g S = fitE (tT1 T g t) g t.2.2.2.2 S := by
  unfold fitT
  dsimp only
  rw [upO_s, if_neg (by omega), if_neg (by omega)]
  rfl
theorem ts_end0 (h : tkT f N p = some (.inr t)) (hs : 6 ≤ t.2.2.2.2 ∧ t.2.2.2.2 ≤ 9) : tpS f N (p, g, [], T) = .inr (some t.1, g, T) := by
  refine tpS_no h ?_
  rw [ts_fitE hs]
  rfl
theorem ts_else {b : Nat} (h : tkT f N p = some (.inr t)) (hs : t.2.2.2.2 = 6) (hb : b < g) (hT : T.2.1 b = none) : tpS f N (p, g, b :: S, T) = .inl (t.2.2.2.1, g + 1, b :: S, ((tT1 T g t).1, upO (tT1 T g t).2.1 b (some g), upO (tT1 T g t).2.2 g (some b))) := by
  refine tpS_tg h ?_
  rw [ts_fitE (by omega)]
  unfold fitE
  dsimp only
  have e : (tT1 T g t).2.1 b = none := by show upO T.2.1 g none b = none; rw [upO_n (by omega)]; exact hT
  rw [if_pos hs, e]
  rfl
theorem ts_else2 {b m : Nat} (h : tkT f N p = some (.inr t)) (hs : t.2.2.2.2 = 6) (hb : b < g) (hT : T.2.1 b = some m) : tpS f N (p, g, b :: S, T) = .inr (some t.1, g, T) := by
  refine tpS_no h ?_
  rw [ts_fitE (by omega)]
  unfold fitE
  dsimp only
  have e : (tT1 T g t).2.1 b = some m := by show upO T.2.1 g none b = some m; rw [upO_n (by omega)]; exact hT
  rw [if_pos hs, e]
  rfl
theorem ts_end {b : Nat} (h : tkT f N p = some (.inr t)) (hs : 7 ≤ t.2.2.2.2 ∧ t.2.2.2.2 ≤ 9) (hb : b < g) (hT : (T.1 b).2.2.2.2 + 4 = t.2.2.2.2) : tpS f N (p, g, b :: S, T) = .inl (t.2.2.2.1, g + 1, S, ((tT1 T g t).1, (tT1 T g t).2.1, upO (upO (tT1 T g t).2.2 g (some b)) b (some g))) := by
  refine tpS_tg h ?_
  rw [ts_fitE (by omega)]
  unfold fitE
  dsimp only
  have e : (tT1 T g t).1 b = T.1 b := by show upO T.1 g t b = _; rw [upO_n (by omega)]
  rw [if_neg (by omega), e, if_pos hT]
theorem ts_endN {b : Nat} (h : tkT f N p = some (.inr t)) (hs : 7 ≤ t.2.2.2.2 ∧ t.2.2.2.2 ≤ 9) (hb : b < g) (hT : (T.1 b).2.2.2.2 + 4 ≠ t.2.2.2.2) : tpS f N (p, g, b :: S, T) = .inr (some t.1, g, T) := by
  refine tpS_no h ?_
  rw [ts_fitE (by omega)]
  unfold fitE
  dsimp only
  have e : (tT1 T g t).1 b = T.1 b := by show upO T.1 g t b = _; rw [upO_n (by omega)]
  rw [if_neg (by omega), e, if_neg hT]
end TS
/-- below g the tables are the same -/
def tE (g : Nat) (T T' : tTb) : Prop := ∀ j, j < g → T'.1 j = T.1 j ∧ T'.2.1 j = T.2.1 j ∧ T'.2.2 j = T.2.2 j
theorem tE.rf (g : Nat) (T : tTb) : tE g T T := fun _ _ => ⟨rfl, rfl, rfl⟩
theorem tE.tr {g g' : Nat} {A B C : tTb} (x : tE g A B) (y : tE g' B C) (h : g ≤ g') : tE g A C := fun j hj => by
  obtain ⟨a, b, c⟩ := x j hj
  obtain ⟨a', b', c'⟩ := y j (by omega)
  exact ⟨a'.trans a, b'.trans b, c'.trans c⟩
theorem tE.new (T : tTb) (g : Nat) (t : tGt) : tE g T (tT1 T g t) := fun j hj => ⟨upO_n (by omega), upO_n (by omega), upO_n (by omega)⟩
/-- a table (G tags) that goes on from T, which has g tags and comes to place p; the links from g0 on -/
def adm (g0 g p : Nat) (T T' : tTb) (G : Nat) : Prop := g ≤ G ∧ (∀ j, j < g → T'.1 j = T.1 j) ∧ (∀ j, g0 ≤ j → j < g → T'.2.1 j = T.2.1 j ∧ T'.2.2 j = T.2.2 j) ∧ (g < G → p ≤ (T'.1 g).1)
/-- what goes on from a later state goes on from an earlier one -/
theorem adm.pre {g0 g p g1 p1 : Nat} {T T1 T' : tTb} {G : Nat} (x : adm g0 g1 p1 T1 T' G) (h : tE g T T1) (hg : g < g1) (hp : p ≤ (T1.1 g).1) : adm g0 g p T T' G := by
  obtain ⟨a, b, c, d⟩ := x
  refine ⟨by omega, fun j hj => (b j (by omega)).trans (h j hj).1, fun j h0 hj => ?_, fun _ => by rw [b g hg]; exact hp⟩
  obtain ⟨c1, c2⟩ := c j h0 (by omega)
  exact ⟨c1.trans (h j hj).2.1, c2.trans (h j hj).2.2⟩
theorem adm.lo {g0 g0' g p : Nat} {T T' : tTb} {G : Nat} (x : adm g0 g p T T' G) (h : g0 ≤ g0') : adm g0' g p T T' G := ⟨x.1, x.2.1, fun j h0 hj => x.2.2.1 j (by omega) hj, x.2.2.2⟩
/-- the next tag -/
theorem adm.nx {N g0 g p : Nat} {S : List Nat} {T T' : tTb} {G : Nat} (x : adm g0 g p T T' G) (i : tInv N (p, g, S, T)) : nxT T' G p g := by
  obtain ⟨a, b, c, d⟩ := x
  obtain ⟨-, -, -, -, k1, k2, -⟩ := i
  refine ⟨a, fun j hj => ?_, d⟩
  have z1 := k1 j hj
  have z2 := k2 j hj
  dsimp only at z1 z2 hj
  rw [b j hj]
  unfold tgOK at z1
  omega
/-- a list of Parts -/
def cXs (h : hP) (f : Nat → Nat) (T : tTb) (G N : Nat) (R : Nat → Nat → Nat → Nat → Nat → Prop) (p g p' g' : Nat) (xs : List Nat) : Prop := ∃ P : Nat → Nat × Nat, P 0 = (p, g) ∧ P xs.length = (p', g') ∧ (∀ i, i ≤ xs.length → nxT T G (P i).1 (P i).2) ∧ ∀ i, i < xs.length → cPart h f T G N R (P i).1 (P i).2 (P (i + 1)).1 (P (i + 1)).2 (xs.getD i 0)
section CX
variable {h h' : hP} {f : Nat → Nat} {T : tTb} {G N : Nat} {R R' : Nat → Nat → Nat → Nat → Nat → Prop} {p g p' g' p2 g2 : Nat} {xs : List Nat}
theorem cXs.nil (hx : nxT T G p g) : cXs h f T G N R p g p g [] := ⟨fun _ => (p, g), rfl, rfl, fun _ _ => hx, fun i hi => absurd hi (by simp)⟩
theorem cXs.snoc {a : Nat} (x : cXs h f T G N R p g p' g' xs) (hx : nxT T G p2 g2) (c : cPart h f T G N R p' g' p2 g2 a) : cXs h f T G N R p g p2 g2 (xs ++ [a]) := by
  obtain ⟨P, e1, e2, e3, e4⟩ := x
  refine ⟨upO P (xs.length + 1) (p2, g2), ?_, ?_, fun i hi => ?_, fun i hi => ?_⟩
  · rw [upO_n (by omega)]; exact e1
  · rw [List.length_append]; exact upO_s _ _ _
  · rw [List.length_append, List.length_singleton] at hi
    by_cases z : i = xs.length + 1
    · subst z; rw [upO_s]; exact hx
    · rw [upO_n z]; exact e3 i (by omega)
  · rw [List.length_append, List.length_singleton] at hi
    by_cases z : i = xs.length
    · subst z
      rw [upO_n (by omega), upO_s, e2, List.getD_eq_getElem?_getD, List.getElem?_append_right (Nat.le_refl _), Nat.sub_self]
      exact c
    · rw [upO_n (by omega), upO_n (by omega), List.getD_eq_getElem?_getD, List.getElem?_append_left (by omega), ← List.getD_eq_getElem?_getD]
      exact e4 i (by omega)
theorem cXs.kt {S : Nat → Prop} (fr : hFr S h h') (n : cNT S) (mn : cMn h h') (hR : ∀ p g p' g' a, R p g p' g' a → R' p g p' g' a) (x : cXs h f T G N R p g p' g' xs) : cXs h' f T G N R' p g p' g' xs := by
  obtain ⟨P, e1, e2, e3, e4⟩ := x
  exact ⟨P, e1, e2, e3, fun i hi => (e4 i hi).kt fr n mn hR⟩
theorem cXs.pl {arr : Nat} {F : Nat → Value} (x : cXs h f T G N R p g p' g' xs) (ha : h.2.2 arr = some (66, .inr (xs.length, F))) (hF : ∀ i, i < xs.length → F i = .ref (xs.getD i 0)) (hl : xs.length ≤ 1000) : cPl h f T G N R p g p' g' arr := by
  obtain ⟨P, e1, e2, e3, e4⟩ := x
  exact ⟨xs.length, F, fun i => xs.getD i 0, P, ha, hl, e1, e2, e3, fun i hi => ⟨hF i hi, e4 i hi⟩⟩
end CX
/-- the arrays inside of a Part, n blocks deep -/
def cPr (h : hP) (f : Nat → Nat) (T : tTb) (G N : Nat) : Nat → Nat → Nat → Nat → Nat → Nat → Prop
  | 0 => fun _ _ _ _ _ => False
  | n + 1 => cPs h f T G N n
theorem cPs_r {h : hP} {f : Nat → Nat} {T : tTb} {G N n : Nat} : cPs h f T G N n = cPl h f T G N (cPr h f T G N n) := by
  cases n <;> rfl
theorem cPr.kt {h h' : hP} {S : Nat → Prop} {f : Nat → Nat} {T : tTb} {G N n : Nat} (fr : hFr S h h') (nt : cNT S) (mn : cMn h h') : ∀ p g p' g' a, cPr h f T G N n p g p' g' a → cPr h' f T G N n p g p' g' a := by
  cases n with
  | zero => exact fun _ _ _ _ _ z => z
  | succ n => exact fun _ _ _ _ _ z => cPs.kt fr nt mn z
/-- the sort of an end -/
def enS (w : List Nat) : Nat := if w = [101, 108, 115, 101] then 6 else if w = [47, 105, 102] then 7 else if w = [47, 101, 97, 99, 104] then 8 else 9
theorem enS_le (w : List Nat) : 6 ≤ enS w ∧ enS w ≤ 9 := by
  unfold enS
  split
  · decide
  · split
    · decide
    · split <;> decide
theorem enS_else {w : List Nat} (h : enB w = true) : enS w = 6 ↔ w = [101, 108, 115, 101] := by
  unfold enS
  constructor
  · intro z
    split at z
    · assumption
    · split at z
      · cases z
      · split at z <;> cases z
  · intro z; rw [if_pos z]
theorem enS_end {w : List Nat} (h : enB w = true) {so : Nat} (h3 : 3 ≤ so ∧ so ≤ 5) : w = 47 :: nmB3 so ↔ so + 4 = enS w := by
  unfold enB at h
  have hw : w = [101, 108, 115, 101] ∨ w = [47, 105, 102] ∨ w = [47, 101, 97, 99, 104] ∨ w = [47, 119, 105, 116, 104] := by
    simpa [or_assoc] using h
  have hso : so = 3 ∨ so = 4 ∨ so = 5 := by omega
  rcases hw with rfl | rfl | rfl | rfl <;> rcases hso with rfl | rfl | rfl <;> decide
/-- a block is over: one Part -/
theorem cPart.blk {h : hP} {f : Nat → Nat} {T : tTb} {G N n p g g2 : Nat} {t t2 : tGt} {a s v A1 A2 : Nat} (hg : g < G) (h1 : T.1 g = t) (hp : p = t.1) (hs : 3 ≤ t.2.2.2.2 ∧ t.2.2.2.2 ≤ 5) (hc : h.2.2 a = some (17, .inl [.ref s, .ref v, .ref A1, .ref A2])) (js : jSt h 930 s (nmB3 t.2.2.2.2)) (hx : cEx h (exO f t.2.2.1 (t.2.1 + (if t.2.2.2.2 = 3 then 4 else 6))) v) (hm : T.2.2 g = some g2) (hmG : g2 < G) (h2 : T.1 g2 = t2) (h24 : t2.2.2.2.2 = t.2.2.2.2 + 4)
    (ho : (T.2.1 g = none ∧ cPr h f T G N n t.2.2.2.1 (g + 1) t2.1 g2 A1 ∧ ∃ F, h.2.2 A2 = some (66, .inr (0, F))) ∨ (∃ m1, T.2.1 g = some m1 ∧ m1 < G ∧ (T.1 m1).2.2.2.2 = 6 ∧ cPr h f T G N n t.2.2.2.1 (g + 1) (T.1 m1).1 m1 A1 ∧ cPr h f T G N n (T.1 m1).2.2.2.1 (m1 + 1) t2.1 g2 A2)) : cPart h f T G N (cPr h f T G N n) p g t2.2.2.2.1 (g2 + 1) a := by
  subst h1; subst h2; subst hp
  exact Or.inr (Or.inr ⟨hg, rfl, hs.1, hs.2, s, v, A1, A2, g2, hc, js, hx, hm, hmG, h24, rfl, rfl, ho⟩)
