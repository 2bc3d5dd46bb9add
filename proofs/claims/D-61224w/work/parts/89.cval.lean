/-! COMPONENT 10: what is kept; values; data; calls by the receiver's class -/
set_option maxRecDepth 100000
/-- kept by every rendering: TextData (but for the cache), helper names -/
def cMn (h h' : hP) : Prop := (∀ a l, txt h a l → txt h' a l) ∧ (∀ a l, jSt h 130 a l → jSt h' 130 a l) ∧ (∀ a k s c, h.2.2 a = some (6, .inl [.int k, .ref s, c]) → ∃ c', h'.2.2 a = some (6, .inl [.int k, .ref s, c']))
theorem cMn.rf (h : hP) : cMn h h := ⟨fun _ _ x => x, fun _ _ x => x, fun _ _ _ c x => ⟨c, x⟩⟩
theorem cMn.tr {a b c : hP} (x : cMn a b) (y : cMn b c) : cMn a c := ⟨fun p l q => y.1 p l (x.1 p l q), fun p l q => y.2.1 p l (x.2.1 p l q), fun p k s c q => by
  obtain ⟨c', e⟩ := x.2.2 p k s c q
  exact y.2.2 p k s c' e⟩
/-- kinds that no rendering changes -/
def cNS (S : Nat → Prop) : Prop := ∀ κ ∈ [1, 5, 7, 8, 10, 11, 12, 13, 14, 15, 16, 17, 18, 21, 30, 32, 60, 65, 66, 67, 68, 69, 131, 160, 169, 905, 930, 960], ¬ S κ
/-- of them those that the data need; those that templates need -/
def cND (S : Nat → Prop) : Prop := ∀ κ ∈ [5, 7, 8, 21, 30, 60, 68, 69, 905, 930, 960], ¬ S κ
def cNT (S : Nat → Prop) : Prop := ∀ κ ∈ [5, 10, 11, 12, 13, 14, 15, 16, 17, 18, 30, 60, 66, 169, 930, 960], ¬ S κ
theorem cNS.d {S : Nat → Prop} (n : cNS S) : cND S := fun κ hκ => n κ ((by decide : ∀ κ ∈ [5, 7, 8, 21, 30, 60, 68, 69, 905, 930, 960], κ ∈ [1, 5, 7, 8, 10, 11, 12, 13, 14, 15, 16, 17, 18, 21, 30, 32, 60, 65, 66, 67, 68, 69, 131, 160, 169, 905, 930, 960]) κ hκ)
theorem cNS.t {S : Nat → Prop} (n : cNS S) : cNT S := fun κ hκ => n κ ((by decide : ∀ κ ∈ [5, 10, 11, 12, 13, 14, 15, 16, 17, 18, 30, 60, 66, 169, 930, 960], κ ∈ [1, 5, 7, 8, 10, 11, 12, 13, 14, 15, 16, 17, 18, 21, 30, 32, 60, 65, 66, 67, 68, 69, 131, 160, 169, 905, 930, 960]) κ hκ)
/-- of them those that expressions need -/
def cNE (S : Nat → Prop) : Prop := ∀ κ ∈ [5, 12, 13, 14, 15, 30, 60, 169, 930, 960], ¬ S κ
theorem cNT.e {S : Nat → Prop} (n : cNT S) : cNE S := fun κ hκ => n κ ((by decide : ∀ κ ∈ [5, 12, 13, 14, 15, 30, 60, 169, 930, 960], κ ∈ [5, 10, 11, 12, 13, 14, 15, 16, 17, 18, 30, 60, 66, 169, 930, 960]) κ hκ)
theorem cMn.ft {S : Nat → Prop} {h h' : hP} (f : hFr S h h') (h30 : ¬ S 30) (h930 : ¬ S 930) (h60 : ¬ S 60) (h960 : ¬ S 960) (h6 : ¬ S 6) (h1 : ¬ S 130) : cMn h h' :=
  ⟨fun a l t => t.fr f h6 h30 h930 h60 h960, fun a l t => t.fr f h1 h60 h960, fun a k s c e => ⟨c, (f.2.2 a _ e).1 h6⟩⟩
theorem cMn.fr {S : Nat → Prop} {h h' : hP} (f : hFr S h h') (n : cNS S) (h6 : ¬ S 6) (h1 : ¬ S 130) : cMn h h' :=
  ⟨fun a l t => t.fr f h6 (n 30 (by decide)) (n 930 (by decide)) (n 60 (by decide)) (n 960 (by decide)), fun a l t => t.fr f h1 (n 60 (by decide)) (n 960 (by decide)), fun a k s c e => ⟨c, (f.2.2 a _ e).1 h6⟩⟩
theorem cNS.jss (γ : Nat) (h : 2 ≤ γ ∧ γ < 9) : cNS (jSS γ) := by
  intro κ hκ z
  simp only [List.mem_cons, List.not_mem_nil, or_false] at hκ
  rcases z with z | z <;> omega
theorem cMn.jss {γ : Nat} {h h' : hP} (f : hFr (jSS γ) h h') (hg : 2 ≤ γ ∧ γ < 9) : cMn h h' := cMn.fr f (cNS.jss γ hg) (by rintro (z | z) <;> omega) (by rintro (z | z) <;> omega)
/-- a value that is no Capitals -/
def vB (D : aD) (DA : Nat → Nat) (h : hP) (v : aV) (x : Value) : Prop := match v with
  | none => x = .null
  | some (.inl k) => ∃ a κ w, x = .ref a ∧ h.2.2 a = some (κ, .inl [w, .int k]) ∧ (κ = 5 ∨ κ = 905)
  | some (.inr (.inl l)) => ∃ a, x = .ref a ∧ txt h a l
  | some (.inr (.inr k)) => x = .ref (DA k) ∧ k < D.1 ∧ ∃ p, D.2 k = .inr (.inr p)
/-- the value v is x; at most n Capitals inside of each other -/
def cV (D : aD) (DA : Nat → Nat) (h : hP) : Nat → aV → Value → Prop
  | 0, v, x => vB D DA h v x
  | n + 1, v, x => cV D DA h n v x ∨ ∃ a k y v', x = .ref a ∧ h.2.2 a = some (21, .inl [k, y, .int (nI (shw D v').length)]) ∧ v = some (.inr (.inl ((shw D v').map upc))) ∧ (shw D v').length ≤ 400 ∧ cV D DA h n v' y
theorem cV.up {D : aD} {DA : Nat → Nat} {h : hP} {n : Nat} {v : aV} {x : Value} (q : cV D DA h n v x) : cV D DA h (n + 1) v x := Or.inl q
theorem cV.le {D : aD} {DA : Nat → Nat} {h : hP} {n : Nat} {v : aV} {x : Value} (q : cV D DA h n v x) : ∀ {m : Nat}, n ≤ m → cV D DA h m v x
  | 0, e => by rw [show n = 0 by omega] at q; exact q
  | m + 1, e => by
    by_cases z : n = m + 1
    · rw [← z]; exact q
    · exact Or.inl (cV.le q (m := m) (by omega))
theorem vB.kt {D : aD} {DA : Nat → Nat} {h h' : hP} {v : aV} {x : Value} {S : Nat → Prop} (f : hFr S h h') (n : cND S) (m : cMn h h') (q : vB D DA h v x) : vB D DA h' v x := by
  unfold vB at q ⊢
  split
  · exact q
  · obtain ⟨a, κ, w, e1, e2, e3⟩ := q
    exact ⟨a, κ, w, e1, (f.2.2 a _ e2).1 (by show ¬ S κ; rcases e3 with e | e <;> rw [e] <;> exact n _ (by decide)), e3⟩
  · obtain ⟨a, e1, e2⟩ := q
    exact ⟨a, e1, m.1 _ _ e2⟩
  · exact q
theorem vB.kp {D : aD} {DA : Nat → Nat} {h h' : hP} {v : aV} {x : Value} {S : Nat → Prop} (f : hFr S h h') (n : cNS S) (m : cMn h h') (q : vB D DA h v x) : vB D DA h' v x := vB.kt f n.d m q
theorem cV.kt {D : aD} {DA : Nat → Nat} {h h' : hP} {S : Nat → Prop} (f : hFr S h h') (n : cND S) (m : cMn h h') : ∀ {k : Nat} {v : aV} {x : Value}, cV D DA h k v x → cV D DA h' k v x
  | 0, _, _, q => vB.kt f n m q
  | k + 1, v, x, q => by
    rcases q with q | ⟨a, w, y, v', e1, e2, e3, e4, e5⟩
    · exact Or.inl (cV.kt f n m q)
    · exact Or.inr ⟨a, w, y, v', e1, (f.2.2 a _ e2).1 (n 21 (by decide)), e3, e4, cV.kt f n m e5⟩
theorem cV.kp {D : aD} {DA : Nat → Nat} {h h' : hP} {S : Nat → Prop} (f : hFr S h h') (n : cNS S) (m : cMn h h') {k : Nat} {v : aV} {x : Value} (q : cV D DA h k v x) : cV D DA h' k v x := cV.kt f n.d m q
theorem cV.n0 {D : aD} {DA : Nat → Nat} {h : hP} {n : Nat} : cV D DA h n none .null := cV.le (n := 0) (show cV D DA h 0 none .null from (rfl : vB D DA h none .null)) (Nat.zero_le _)
theorem cV.tx {D : aD} {DA : Nat → Nat} {h : hP} {n p : Nat} {l : List Nat} (x : txt h p l) : cV D DA h n (some (.inr (.inl l))) (.ref p) := cV.le (n := 0) (show cV D DA h 0 (some (.inr (.inl l))) (.ref p) from (⟨p, rfl, x⟩ : vB D DA h (some (.inr (.inl l))) (.ref p))) (Nat.zero_le _)
theorem cV.nm {D : aD} {DA : Nat → Nat} {h : hP} {n p κ : Nat} {w : Value} {k : Int32} (x : h.2.2 p = some (κ, .inl [w, .int k])) (hk : κ = 5 ∨ κ = 905) : cV D DA h n (some (.inl k)) (.ref p) := cV.le (n := 0) (show cV D DA h 0 (some (.inl k)) (.ref p) from (⟨p, κ, w, rfl, x, hk⟩ : vB D DA h (some (.inl k)) (.ref p))) (Nat.zero_le _)
theorem cV.nul {D : aD} {DA : Nat → Nat} {h : hP} : ∀ {n : Nat} {v : aV}, cV D DA h n v .null → v = none
  | 0, v, q => by
    have q : vB D DA h v .null := q
    unfold vB at q
    split at q
    · rfl
    · obtain ⟨_, _, _, z, _⟩ := q; cases z
    · obtain ⟨_, z, _⟩ := q; cases z
    · obtain ⟨z, _⟩ := q; cases z
  | n + 1, v, q => by
    rcases q with q | ⟨_, _, _, _, z, _⟩
    · exact cV.nul q
    · cases z
theorem cV.nr {D : aD} {DA : Nat → Nat} {h : hP} : ∀ {n : Nat} {v : aV} {y : Value}, cV D DA h n v y → y = .null ∨ ∃ c, y = .ref c
  | 0, v, y, q => by
    have q : vB D DA h v y := q
    unfold vB at q
    split at q
    · exact Or.inl q
    · obtain ⟨_, _, _, z, _⟩ := q; exact Or.inr ⟨_, z⟩
    · obtain ⟨_, z, _⟩ := q; exact Or.inr ⟨_, z⟩
    · obtain ⟨z, _⟩ := q; exact Or.inr ⟨_, z⟩
  | n + 1, v, y, q => by
    rcases q with q | ⟨_, _, _, _, z, _⟩
    · exact cV.nr q
    · exact Or.inr ⟨_, z⟩
theorem cV.isS {D : aD} {DA : Nat → Nat} {h : hP} : ∀ {n c : Nat} {v : aV}, cV D DA h n v (.ref c) → v ≠ none
  | 0, c, v, q => by
    have q : vB D DA h v (.ref c) := q
    unfold vB at q
    split at q
    · cases q
    · exact fun z => by cases z
    · exact fun z => by cases z
    · exact fun z => by cases z
  | n + 1, c, v, q => by
    rcases q with q | ⟨_, _, _, _, _, _, z, _⟩
    · exact cV.isS q
    · rw [z]; exact fun z => by cases z
/-- an item of the data; q: searches so far -/
def cIt (D : aD) (DA AR NR : Nat → Nat) (h : hP) (q k : Nat) : Prop := match D.2 k with
  | .inl v => ∃ j, j ≤ q ∧ h.2.2 (DA k) = some (5, .inl [.int (nI j), .int v])
  | .inr (.inl l) => txt h (DA k) l ∧ ∃ j s c, j ≤ q ∧ h.2.2 (DA k) = some (6, .inl [.int (nI j), .ref s, c])
  | .inr (.inr (false, ps)) => ∃ j f, j ≤ q ∧ h.2.2 (DA k) = some (7, .inl [.int (nI j), .ref (AR k), .int (nI ps.length)]) ∧ h.2.2 (AR k) = some (68, .inr (10, f)) ∧ ps.length ≤ 10 ∧ ∀ i, i < ps.length → f i = .ref (DA (ps.getD i ([], 0)).2)
  | .inr (.inr (true, ps)) => ∃ j f g, j ≤ q ∧ h.2.2 (DA k) = some (8, .inl [.int (nI j), .ref (AR k), .int (nI ps.length), .ref (NR k)]) ∧ h.2.2 (AR k) = some (68, .inr (10, f)) ∧ ps.length ≤ 10 ∧ (∀ i, i < ps.length → f i = .ref (DA (ps.getD i ([], 0)).2)) ∧ h.2.2 (NR k) = some (69, .inr (10, g)) ∧ ∀ i, i < ps.length → ∃ s, g i = .ref s ∧ jSt h 30 s (ps.getD i ([], 0)).1 ∧ nmOK (ps.getD i ([], 0)).1
def isC (x : aX) : Prop := ∃ p, x = .inr (.inr p)
/-- the addresses: of the items, of their arrays of elements, of names -/
abbrev cW : Type := (Nat → Nat) × (Nat → Nat) × (Nat → Nat)
def cD (D : aD) (w : cW) (h : hP) (q : Nat) : Prop := (∀ k, k < D.1 → cIt D w.1 w.2.1 w.2.2 h q k) ∧ (∀ i j, i < D.1 → j < D.1 → w.1 i = w.1 j → i = j) ∧ (∀ i j, i < D.1 → j < D.1 → isC (D.2 i) → isC (D.2 j) → w.2.1 i = w.2.1 j → i = j) ∧ (∀ i j, i < D.1 → j < D.1 → isC (D.2 i) → isC (D.2 j) → w.2.2 i = w.2.2 j → i = j) ∧ q ≤ 1000 ∧ D.1 ≤ 60 ∧ acy D
theorem cIt.kt {D : aD} {DA AR NR : Nat → Nat} {h h' : hP} {S : Nat → Prop} {q k : Nat} (f : hFr S h h') (n : cND S) (m : cMn h h') (x : cIt D DA AR NR h q k) : cIt D DA AR NR h' q k := by
  unfold cIt at x ⊢
  generalize D.2 k = y at x ⊢
  rcases y with v | l | ⟨_ | _, ps⟩
  · obtain ⟨j, e1, e2⟩ := x
    exact ⟨j, e1, (f.2.2 _ _ e2).1 (n 5 (by decide))⟩
  · obtain ⟨t, j, s, c, e1, e2⟩ := x
    obtain ⟨c', e3⟩ := m.2.2 _ _ _ _ e2
    exact ⟨m.1 _ _ t, j, s, c', e1, e3⟩
  · obtain ⟨j, g, e1, e2, e3, e4⟩ := x
    exact ⟨j, g, e1, (f.2.2 _ _ e2).1 (n 7 (by decide)), (f.2.2 _ _ e3).1 (n 68 (by decide)), e4⟩
  · obtain ⟨j, g, g', e1, e2, e3, e4, e5, e6, e7⟩ := x
    refine ⟨j, g, g', e1, (f.2.2 _ _ e2).1 (n 8 (by decide)), (f.2.2 _ _ e3).1 (n 68 (by decide)), e4, e5, (f.2.2 _ _ e6).1 (n 69 (by decide)), fun i hi => ?_⟩
    obtain ⟨s, a, b, c⟩ := e7 i hi
    exact ⟨s, a, b.fr f (n 30 (by decide)) (n 60 (by decide)) (n 960 (by decide)), c⟩
theorem cIt.kp {D : aD} {DA AR NR : Nat → Nat} {h h' : hP} {S : Nat → Prop} {q k : Nat} (f : hFr S h h') (n : cNS S) (m : cMn h h') (x : cIt D DA AR NR h q k) : cIt D DA AR NR h' q k := cIt.kt f n.d m x
theorem cD.kt {D : aD} {w : cW} {h h' : hP} {S : Nat → Prop} {q : Nat} (f : hFr S h h') (n : cND S) (m : cMn h h') (x : cD D w h q) : cD D w h' q := ⟨fun k hk => (x.1 k hk).kt f n m, x.2⟩
theorem cD.kp {D : aD} {w : cW} {h h' : hP} {S : Nat → Prop} {q : Nat} (f : hFr S h h') (n : cNS S) (m : cMn h h') (x : cD D w h q) : cD D w h' q := cD.kt f n.d m x
/-- an item is a value -/
theorem cD.v {D : aD} {w : cW} {h : hP} {q k : Nat} (x : cD D w h q) (hk : k < D.1) : cV D w.1 h 0 (aVof D k) (.ref (w.1 k)) := by
  have i := x.1 k hk
  show vB D w.1 h (aVof D k) (.ref (w.1 k))
  unfold cIt at i
  unfold aVof
  cases e : D.2 k with
  | inl v =>
    rw [e] at i
    obtain ⟨j, e1, e2⟩ := i
    exact ⟨_, 5, _, rfl, e2, Or.inl rfl⟩
  | inr y =>
    cases y with
    | inl l =>
      rw [e] at i
      exact ⟨_, rfl, i.1⟩
    | inr p => exact ⟨rfl, hk, p, e⟩
section RX
variable {Z : hE} {X : hX} {M : hM} {d : Nat} {S : Nat → Prop} {hin : hP} {K : hO → hP → Prop} {pc : Nat} {ls : List (Nat × Value)} {st : List Value} {h : hP}
/-- rows over a reference or null -/
theorem g_aload_nX {j : Fin 4} {i : Nat} {x : Value} (hd : decode M.1 pc = .ok (.aload_n j, 1)) (hi : (j : Nat) = i) (hl : lk ls i = some x) (hx : x = .null ∨ ∃ c, x = .ref c) (k : hG Z X M d S hin K (pc + 1) ls (x :: st) h) : hG Z X M d S hin K pc ls st h := by
  rcases hx with rfl | ⟨c, rfl⟩
  · exact g_aload_nN hd hi hl k
  · exact g_aload_n hd hi hl k
theorem g_aloadX {i : Nat} {x : Value} (hd : decode M.1 pc = .ok (.aload i, 2)) (hl : lk ls i = some x) (hx : x = .null ∨ ∃ c, x = .ref c) (k : hG Z X M d S hin K (pc + 2) ls (x :: st) h) : hG Z X M d S hin K pc ls st h := by
  rcases hx with rfl | ⟨c, rfl⟩
  · exact g_aloadN hd hl k
  · exact g_aload hd hl k
theorem g_astore_nX {j : Fin 4} {i : Nat} {x : Value} {ls' : List (Nat × Value)} (hd : decode M.1 pc = .ok (.astore_n j, 1)) (hi : (j : Nat) = i) (hn : i < M.2.2.1) (hl : st1 ls i x = ls') (hx : x = .null ∨ ∃ c, x = .ref c) (k : hG Z X M d S hin K (pc + 1) ls' st h) : hG Z X M d S hin K pc ls (x :: st) h := by
  rcases hx with rfl | ⟨c, rfl⟩
  · exact g_astore_nN hd hi hn hl k
  · exact g_astore_n hd hi hn hl k
theorem g_astoreX {i : Nat} {x : Value} {ls' : List (Nat × Value)} (hd : decode M.1 pc = .ok (.astore i, 2)) (hn : i < M.2.2.1) (hl : st1 ls i x = ls') (hx : x = .null ∨ ∃ c, x = .ref c) (k : hG Z X M d S hin K (pc + 2) ls' st h) : hG Z X M d S hin K pc ls (x :: st) h := by
  rcases hx with rfl | ⟨c, rfl⟩
  · exact g_astoreN hd hn hl k
  · exact g_astore hd hn hl k
end RX
theorem mm0 {α : Type} {a : α} {l : List α} : a ∈ a :: l := List.mem_cons_self
theorem mm1 {α : Type} {a b : α} {l : List α} : a ∈ b :: a :: l := List.mem_cons_of_mem _ List.mem_cons_self
theorem mm2 {α : Type} {a b c : α} {l : List α} : a ∈ b :: c :: a :: l := List.mem_cons_of_mem _ mm1
theorem mm3 {α : Type} {a b c d : α} {l : List α} : a ∈ b :: c :: d :: a :: l := List.mem_cons_of_mem _ mm2
theorem mm4 {α : Type} {a b c d e : α} {l : List α} : a ∈ b :: c :: d :: e :: a :: l := List.mem_cons_of_mem _ mm3
/-- a call whose receiver is of one of the classes of L, with the methods there -/
def hDs (Z : hE) (d : Nat) (S' : Nat → Prop) (b : Nat) (As : List Value) (h : hP) (K' : hO → hP → Prop) (L : List (Nat × hM)) : Prop := ∃ κ fs M', h.2.2 b = some (κ, .inl fs) ∧ (κ % 100, M') ∈ L ∧ hCt Z M' d S' (.ref b :: As) h K'
theorem dw_X7 {Z : hE} {X : hX} {d : Nat} {S : Nat → Prop} {hin : hP} {K : hO → hP → Prop} {ls : List (Nat × Value)} {h : hP} {S' : Nat → Prop} {K' : hO → hP → Prop} {b : Nat} {A1 : Value} {rest : List Value} (hc : hDs Z d S' b [A1] h K' [(5, mX5_write), (6, mX6_write), (7, mX7_write), (8, mX8_write), (21, mX21_write)]) (hw : (rest.map fun v => v.category).sum ≤ 8) (hS : ∀ κ, S' κ → S κ)
    (kn : ∀ v h', K' (.inl v) h' → hFr S' h h' → hG Z X mX7_write (d + 1) S hin K (27 + 3) ls (v.toList ++ rest) h')
    (kx : ∀ E h', K' (.inr E) h' → hFr S' h h' → hGX Z X mX7_write (d + 1) S hin K 27 ls E h') : hG Z X mX7_write (d + 1) S hin K 27 ls (A1 :: .ref b :: rest) h := by
  obtain ⟨κ, fs, M', hb, hm, hct⟩ := hc
  simp only [List.mem_cons, Prod.mk.injEq, List.not_mem_nil, or_false] at hm
  rcases hm with ⟨hk, rfl⟩ | ⟨hk, rfl⟩ | ⟨hk, rfl⟩ | ⟨hk, rfl⟩ | ⟨hk, rfl⟩
  · exact g_invU (pc := 27) dX7_write_27 (r := (RX5, TX5, 2)) hb (by rw [hk]; rfl) hct meX5_write q1590 q1573 (Or.inl q1572) q1595 q1631 ⟨⟨by decide, by decide⟩, rfl⟩ rfl rfl hw hS kn kx
  · exact g_invU (pc := 27) dX7_write_27 (r := (RX6, TX6, 3)) hb (by rw [hk]; rfl) hct meX6_write q1590 q1573 (Or.inl q1572) q1605 q1632 ⟨⟨by decide, by decide⟩, rfl⟩ rfl rfl hw hS kn kx
  · exact g_invU (pc := 27) dX7_write_27 (r := (RX7, TX7, 3)) hb (by rw [hk]; rfl) hct meX7_write q1590 q1573 (Or.inl q1572) q1579 q1629 ⟨⟨by decide, by decide⟩, rfl⟩ rfl rfl hw hS kn kx
  · exact g_invU (pc := 27) dX7_write_27 (r := (RX8, TX8, 4)) hb (by rw [hk]; rfl) hct meX8_write q1590 q1573 (Or.inl q1572) q1591 q1630 ⟨⟨by decide, by decide⟩, rfl⟩ rfl rfl hw hS kn kx
  · exact g_invU (pc := 27) dX7_write_27 (r := (RX21, TX21, 3)) hb (by rw [hk]; rfl) hct meX21_write q1590 q1573 (Or.inl q1572) q1575 q1574 ⟨⟨by decide, by decide⟩, rfl⟩ rfl rfl hw hS kn kx
theorem dw_X21 {Z : hE} {X : hX} {d : Nat} {S : Nat → Prop} {hin : hP} {K : hO → hP → Prop} {ls : List (Nat × Value)} {h : hP} {S' : Nat → Prop} {K' : hO → hP → Prop} {b : Nat} {A1 : Value} {rest : List Value} (hc : hDs Z d S' b [A1] h K' [(5, mX5_write), (6, mX6_write), (7, mX7_write), (8, mX8_write), (21, mX21_write)]) (hw : (rest.map fun v => v.category).sum ≤ 8) (hS : ∀ κ, S' κ → S κ)
    (kn : ∀ v h', K' (.inl v) h' → hFr S' h h' → hG Z X mX21_write (d + 1) S hin K (17 + 3) ls (v.toList ++ rest) h')
    (kx : ∀ E h', K' (.inr E) h' → hFr S' h h' → hGX Z X mX21_write (d + 1) S hin K 17 ls E h') : hG Z X mX21_write (d + 1) S hin K 17 ls (A1 :: .ref b :: rest) h := by
  obtain ⟨κ, fs, M', hb, hm, hct⟩ := hc
  simp only [List.mem_cons, Prod.mk.injEq, List.not_mem_nil, or_false] at hm
  rcases hm with ⟨hk, rfl⟩ | ⟨hk, rfl⟩ | ⟨hk, rfl⟩ | ⟨hk, rfl⟩ | ⟨hk, rfl⟩
  · exact g_invU (pc := 17) dX21_write_17 (r := (RX5, TX5, 2)) hb (by rw [hk]; rfl) hct meX5_write q1578 q1573 (Or.inl q1572) q1595 q1631 ⟨⟨by decide, by decide⟩, rfl⟩ rfl rfl hw hS kn kx
  · exact g_invU (pc := 17) dX21_write_17 (r := (RX6, TX6, 3)) hb (by rw [hk]; rfl) hct meX6_write q1578 q1573 (Or.inl q1572) q1605 q1632 ⟨⟨by decide, by decide⟩, rfl⟩ rfl rfl hw hS kn kx
  · exact g_invU (pc := 17) dX21_write_17 (r := (RX7, TX7, 3)) hb (by rw [hk]; rfl) hct meX7_write q1578 q1573 (Or.inl q1572) q1579 q1629 ⟨⟨by decide, by decide⟩, rfl⟩ rfl rfl hw hS kn kx
  · exact g_invU (pc := 17) dX21_write_17 (r := (RX8, TX8, 4)) hb (by rw [hk]; rfl) hct meX8_write q1578 q1573 (Or.inl q1572) q1591 q1630 ⟨⟨by decide, by decide⟩, rfl⟩ rfl rfl hw hS kn kx
  · exact g_invU (pc := 17) dX21_write_17 (r := (RX21, TX21, 3)) hb (by rw [hk]; rfl) hct meX21_write q1578 q1573 (Or.inl q1572) q1575 q1574 ⟨⟨by decide, by decide⟩, rfl⟩ rfl rfl hw hS kn kx
theorem dw_X2 {Z : hE} {X : hX} {d : Nat} {S : Nat → Prop} {hin : hP} {K : hO → hP → Prop} {ls : List (Nat × Value)} {h : hP} {S' : Nat → Prop} {K' : hO → hP → Prop} {b : Nat} {A1 : Value} {rest : List Value} (hc : hDs Z d S' b [A1] h K' [(5, mX5_write), (6, mX6_write), (7, mX7_write), (8, mX8_write), (21, mX21_write)]) (hw : (rest.map fun v => v.category).sum ≤ 8) (hS : ∀ κ, S' κ → S κ)
    (kn : ∀ v h', K' (.inl v) h' → hFr S' h h' → hG Z X mX2_of (d + 1) S hin K (14 + 3) ls (v.toList ++ rest) h')
    (kx : ∀ E h', K' (.inr E) h' → hFr S' h h' → hGX Z X mX2_of (d + 1) S hin K 14 ls E h') : hG Z X mX2_of (d + 1) S hin K 14 ls (A1 :: .ref b :: rest) h := by
  obtain ⟨κ, fs, M', hb, hm, hct⟩ := hc
  simp only [List.mem_cons, Prod.mk.injEq, List.not_mem_nil, or_false] at hm
  rcases hm with ⟨hk, rfl⟩ | ⟨hk, rfl⟩ | ⟨hk, rfl⟩ | ⟨hk, rfl⟩ | ⟨hk, rfl⟩
  · exact g_invU (pc := 14) dX2_of_14 (r := (RX5, TX5, 2)) hb (by rw [hk]; rfl) hct meX5_write q1571 q1573 (Or.inl q1572) q1595 q1631 ⟨⟨by decide, by decide⟩, rfl⟩ rfl rfl hw hS kn kx
  · exact g_invU (pc := 14) dX2_of_14 (r := (RX6, TX6, 3)) hb (by rw [hk]; rfl) hct meX6_write q1571 q1573 (Or.inl q1572) q1605 q1632 ⟨⟨by decide, by decide⟩, rfl⟩ rfl rfl hw hS kn kx
  · exact g_invU (pc := 14) dX2_of_14 (r := (RX7, TX7, 3)) hb (by rw [hk]; rfl) hct meX7_write q1571 q1573 (Or.inl q1572) q1579 q1629 ⟨⟨by decide, by decide⟩, rfl⟩ rfl rfl hw hS kn kx
  · exact g_invU (pc := 14) dX2_of_14 (r := (RX8, TX8, 4)) hb (by rw [hk]; rfl) hct meX8_write q1571 q1573 (Or.inl q1572) q1591 q1630 ⟨⟨by decide, by decide⟩, rfl⟩ rfl rfl hw hS kn kx
  · exact g_invU (pc := 14) dX2_of_14 (r := (RX21, TX21, 3)) hb (by rw [hk]; rfl) hct meX21_write q1571 q1573 (Or.inl q1572) q1575 q1574 ⟨⟨by decide, by decide⟩, rfl⟩ rfl rfl hw hS kn kx
