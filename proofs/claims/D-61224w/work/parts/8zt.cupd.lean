/-! COMPONENT 48: the data after add and put -/
set_option maxRecDepth 100000
section CU
variable {D : aD} {w : cW} {h : hP} {q a b j : Nat} {ps : List (List Nat × Nat)} {f : Nat → Value}
theorem cD.up {q' : Nat} (hD : cD D w h q) (h1 : q ≤ q') (h2 : q' ≤ 1000) : cD D w h q' := by
  obtain ⟨d1, d2, d3, d4, d5, d6⟩ := hD
  refine ⟨fun k hk => ?_, d2, d3, d4, h2, d6⟩
  have hi := d1 k hk
  unfold cIt at hi ⊢
  generalize D.2 k = y at hi ⊢
  rcases y with v | l | ⟨_ | _, ps⟩
  · obtain ⟨j, e1, e2⟩ := hi
    exact ⟨j, by omega, e2⟩
  · obtain ⟨t, j, s, c, e1, e2⟩ := hi
    exact ⟨t, j, s, c, by omega, e2⟩
  · obtain ⟨j, g, e1, e2⟩ := hi
    exact ⟨j, g, by omega, e2⟩
  · obtain ⟨j, g, g', e1, e2⟩ := hi
    exact ⟨j, g, g', by omega, e2⟩
/-- the first field of an item -/
theorem cD.as (hD : cD D w h q) {k : Nat} (hk : k < D.1) : ∃ κ j rest, j ≤ q ∧ h.2.2 (w.1 k) = some (κ, .inl (.int (nI j) :: rest)) ∧ aS κ := by
  have hi := hD.1 k hk
  unfold cIt at hi
  generalize D.2 k = y at hi
  rcases y with v | l | ⟨_ | _, ps⟩
  · obtain ⟨j, e1, e2⟩ := hi
    exact ⟨_, j, _, e1, e2, Or.inl rfl⟩
  · obtain ⟨t, j, s, c, e1, e2⟩ := hi
    exact ⟨_, j, _, e1, e2, Or.inr (Or.inl rfl)⟩
  · obtain ⟨j, g, e1, e2, -⟩ := hi
    exact ⟨_, j, _, e1, e2, Or.inr (Or.inr (Or.inl rfl))⟩
  · obtain ⟨j, g, g', e1, e2, -⟩ := hi
    exact ⟨_, j, _, e1, e2, Or.inr (Or.inr (Or.inr rfl))⟩
theorem getD_ap1 {l : List (List Nat × Nat)} {x : List Nat × Nat} {i : Nat} (h : i < l.length) : (l ++ [x]).getD i ([], 0) = l.getD i ([], 0) := by
  rw [List.getD_eq_getElem?_getD, List.getElem?_append_left h, ← List.getD_eq_getElem?_getD]
theorem getD_ap2 {l : List (List Nat × Nat)} {x : List Nat × Nat} : (l ++ [x]).getD l.length ([], 0) = x := by
  rw [List.getD_eq_getElem?_getD, List.getElem?_append_right (Nat.le_refl _), Nat.sub_self]; rfl
theorem getD_st1 {l : List (List Nat × Nat)} {x : List Nat × Nat} {k : Nat} (h : k < l.length) : (l.set k x).getD k ([], 0) = x := by
  rw [List.getD_eq_getElem?_getD, List.getElem?_set_self h]; rfl
theorem getD_st2 {l : List (List Nat × Nat)} {x : List Nat × Nat} {k i : Nat} (h : i ≠ k) : (l.set k x).getD i ([], 0) = l.getD i ([], 0) := by
  rw [List.getD_eq_getElem?_getD, List.getElem?_set_ne (fun z => h z.symm), ← List.getD_eq_getElem?_getD]
/-- an item that has other cells is as before, when an item's cell, its array and its names change -/
theorem cIt.oth {D' : aD} {h' : hP} {k : Nat} (hD : cD D w h q) (hk : k < D.1) (ha : a < D.1) (hka : k ≠ a) (hC : isC (D.2 a)) (hd : D'.2 k = D.2 k) (fr : hFr (fun κ => κ = 7 ∨ κ = 8 ∨ κ = 68 ∨ κ = 69) h h') (hh : ∀ z c, h.2.2 z = some c → z ≠ w.1 a → z ≠ w.2.1 a → z ≠ w.2.2 a → h'.2.2 z = some c) (k1 : ∃ κ c, (κ = 7 ∨ κ = 8) ∧ h.2.2 (w.1 a) = some (κ, c)) (k2 : ∃ c, h.2.2 (w.2.1 a) = some (68, c)) (k3 : (∃ c, h.2.2 (w.2.2 a) = some (69, c)) ∨ ∀ z c, h.2.2 z = some c → z ≠ w.1 a → z ≠ w.2.1 a → h'.2.2 z = some c) : cIt D' w.1 w.2.1 w.2.2 h' q k := by
  obtain ⟨d1, d2, d3, d4, d5, d6⟩ := hD
  have hi := d1 k hk
  have nk : w.1 k ≠ w.1 a := fun z => hka (d2 k a hk ha z)
  obtain ⟨κa, ca, hκa, ea⟩ := k1
  obtain ⟨cb, eb⟩ := k2
  -- a cell of another kind than those that change
  have oth : ∀ {z κ c}, h.2.2 z = some (κ, c) → (κ = 7 ∨ κ = 8 → z ≠ w.1 a) → (κ = 68 → z ≠ w.2.1 a) → (κ = 69 → z ≠ w.2.2 a) → h'.2.2 z = some (κ, c) := by
    intro z κ c hz n1 n2 n3
    have m1 : z ≠ w.1 a := by
      intro y
      by_cases v : κ = 7 ∨ κ = 8
      · exact n1 v y
      · rw [y, ea] at hz
        have := congrArg Prod.fst (Option.some.inj hz)
        dsimp only at this
        exact v (by rcases hκa with u | u <;> omega)
    have m2 : z ≠ w.2.1 a := by
      intro y
      by_cases v : κ = 68
      · exact n2 v y
      · rw [y, eb] at hz
        have := congrArg Prod.fst (Option.some.inj hz)
        exact v this.symm
    rcases k3 with ⟨cc, ec⟩ | k3
    · refine hh z _ hz m1 m2 ?_
      intro y
      by_cases v : κ = 69
      · exact n3 v y
      · rw [y, ec] at hz
        have := congrArg Prod.fst (Option.some.inj hz)
        exact v this.symm
    · exact k3 z _ hz m1 m2
  unfold cIt at hi ⊢
  rw [hd]
  cases ey : D.2 k with
  | inl v =>
    rw [ey] at hi
    obtain ⟨j, e1, e2⟩ := hi
    exact ⟨j, e1, oth e2 (fun z => by omega) (fun z => by omega) (fun z => by omega)⟩
  | inr y =>
    cases y with
    | inl l =>
      rw [ey] at hi
      obtain ⟨t, j, s, c, e1, e2⟩ := hi
      exact ⟨t.fr fr (by decide) (by decide) (by decide) (by decide) (by decide), j, s, c, e1, oth e2 (fun z => by omega) (fun z => by omega) (fun z => by omega)⟩
    | inr p =>
      have hCk : isC (D.2 k) := ⟨p, ey⟩
      have na : w.2.1 k ≠ w.2.1 a := fun z => hka (d3 k a hk ha hCk hC z)
      have nn : w.2.2 k ≠ w.2.2 a := fun z => hka (d4 k a hk ha hCk hC z)
      obtain ⟨m, ps⟩ := p
      rw [ey] at hi
      cases m with
      | false =>
        obtain ⟨j, g, e1, e2, e3, e4⟩ := hi
        exact ⟨j, g, e1, oth e2 (fun _ => nk) (fun z => by omega) (fun z => by omega), oth e3 (fun z => by omega) (fun _ => na) (fun z => by omega), e4⟩
      | true =>
        obtain ⟨j, g, g', e1, e2, e3, e4, e5, e6, e7⟩ := hi
        refine ⟨j, g, g', e1, oth e2 (fun _ => nk) (fun z => by omega) (fun z => by omega), oth e3 (fun z => by omega) (fun _ => na) (fun z => by omega), e4, e5, oth e6 (fun z => by omega) (fun z => by omega) (fun _ => nn), fun i hi => ?_⟩
        obtain ⟨s, y1, y2, y3⟩ := e7 i hi
        exact ⟨s, y1, y2.fr fr (by decide) (by decide) (by decide), y3⟩
/-- an element more -/
theorem cD.add (hD : cD D w h q) (ha : a < D.1) (hb : b < D.1) (hy : D.2 a = .inr (.inr (false, ps))) (hl : ps.length < 10) (hnr : ¬ rch D b a) (h1 : h.2.2 (w.1 a) = some (7, .inl [.int (nI j), .ref (w.2.1 a), .int (nI ps.length)])) (hj : j ≤ q) (h2 : h.2.2 (w.2.1 a) = some (68, .inr (10, f))) (hf : ∀ i, i < ps.length → f i = .ref (w.1 (ps.getD i ([], 0)).2)) : cD (dAdd D a b) w (hSet (hSet h (w.2.1 a) (68, .inr (10, upV f ps.length (.ref (w.1 b))))) (w.1 a) (7, .inl [.int (nI j), .ref (w.2.1 a), .int (nI (ps.length + 1))])) q := by
  have hD0 := hD
  obtain ⟨d1, d2, d3, d4, d5, d6, d7⟩ := hD
  have hCa : isC (D.2 a) := ⟨_, hy⟩
  have hps : aPs (D.2 a) = ps := by rw [hy]; rfl
  have hC : ∀ i, isC ((dAdd D a b).2 i) → isC (D.2 i) := by
    intro i hi
    by_cases z : i = a
    · rw [z]; exact hCa
    · have : (dAdd D a b).2 i = D.2 i := if_neg z
      rw [this] at hi; exact hi
  have hne : w.1 a ≠ w.2.1 a := by
    intro z
    rw [z, h2] at h1
    cases h1
  have f1 : hFr (fun κ => κ = 7 ∨ κ = 8 ∨ κ = 68 ∨ κ = 69) h (hSet h (w.2.1 a) (68, .inr (10, upV f ps.length (.ref (w.1 b))))) := (hFr.rf h).set h2 rfl (Or.inr (Or.inr (Or.inl rfl)))
  have h1' : (hSet h (w.2.1 a) (68, .inr (10, upV f ps.length (.ref (w.1 b))))).2.2 (w.1 a) = some (7, .inl [.int (nI j), .ref (w.2.1 a), .int (nI ps.length)]) := by rw [hSet_n hne]; exact h1
  have f2 := f1.set (c := (7, .inl [.int (nI j), .ref (w.2.1 a), .int (nI (ps.length + 1))])) h1' rfl (Or.inl rfl)
  refine ⟨fun k hk => ?_, d2, fun i k hi hk ci ck => d3 i k hi hk (hC i ci) (hC k ck), fun i k hi hk ci ck => d4 i k hi hk (hC i ci) (hC k ck), d5, d6, ?_⟩
  · by_cases z : k = a
    · subst z
      have e : (dAdd D k b).2 k = .inr (.inr (false, ps ++ [([], b)])) := by
        show (if k = k then _ else _) = _
        rw [if_pos rfl, hps]
      unfold cIt
      rw [e]
      refine ⟨j, upV f ps.length (.ref (w.1 b)), hj, ?_, ?_, by rw [List.length_append]; exact hl, fun i hi => ?_⟩
      · rw [hSet_s, List.length_append]; rfl
      · rw [hSet_n (fun z => hne z.symm), hSet_s]
      · rw [List.length_append, List.length_singleton] at hi
        unfold upV
        by_cases z : i = ps.length
        · rw [if_pos z, z, getD_ap2]
        · rw [if_neg z, getD_ap1 (by omega)]; exact hf i (by omega)
    · refine cIt.oth hD0 hk ha z hCa (if_neg z) f2 (fun y c hc n1 n2 _ => by rw [hSet_n n1, hSet_n n2]; exact hc) ⟨7, _, Or.inl rfl, h1⟩ ⟨_, h2⟩ (Or.inr (fun y c hc n1 n2 => by rw [hSet_n n1, hSet_n n2]; exact hc))
  · refine acy.add d7 (x := b) (l := a) rfl (fun i hi => if_neg hi) (fun x hx => ?_) hb hnr
    have e : (dAdd D a b).2 a = .inr (.inr (false, aPs (D.2 a) ++ [([], b)])) := if_pos rfl
    rw [e] at hx
    have hx : x ∈ aPs (D.2 a) ++ [([], b)] := hx
    rcases List.mem_append.mp hx with z | z
    · exact Or.inl z
    · rw [List.mem_singleton.mp z]; exact Or.inr rfl
/-- a part by a name: there already, or new -/
theorem cD.put {g : Nat → Value} {nm : List Nat} {s k n : Nat} (hD : cD D w h q) (ha : a < D.1) (hb : b < D.1) (hy : D.2 a = .inr (.inr (true, ps))) (hnr : ¬ rch D b a) (h1 : h.2.2 (w.1 a) = some (8, .inl [.int (nI j), .ref (w.2.1 a), .int (nI ps.length), .ref (w.2.2 a)])) (hj : j ≤ q) (h2 : h.2.2 (w.2.1 a) = some (68, .inr (10, f))) (hf : ∀ i, i < ps.length → f i = .ref (w.1 (ps.getD i ([], 0)).2)) (h3 : h.2.2 (w.2.2 a) = some (69, .inr (10, g))) (hg : ∀ i, i < ps.length → ∃ s, g i = .ref s ∧ jSt h 30 s (ps.getD i ([], 0)).1 ∧ nmOK (ps.getD i ([], 0)).1) (hs : jSt h 30 s nm) (hn : nmOK nm) (hkn : (fnP nm ps = some k ∧ k < ps.length ∧ n = ps.length) ∨ (fnP nm ps = none ∧ k = ps.length ∧ n = ps.length + 1 ∧ ps.length < 10)) (h10 : ps.length ≤ 10)
    {h' : hP} (e1 : h'.2.2 (w.1 a) = some (8, .inl [.int (nI j), .ref (w.2.1 a), .int (nI n), .ref (w.2.2 a)])) (e2 : h'.2.2 (w.2.1 a) = some (68, .inr (10, upV f k (.ref (w.1 b))))) (e3 : h'.2.2 (w.2.2 a) = some (69, .inr (10, upV g k (.ref s)))) (fr : hFr (fun κ => κ = 7 ∨ κ = 8 ∨ κ = 68 ∨ κ = 69) h h') (hh : ∀ z c, h.2.2 z = some c → z ≠ w.1 a → z ≠ w.2.1 a → z ≠ w.2.2 a → h'.2.2 z = some c) : cD (dPut D a nm b) w h' q := by
  have hD0 := hD
  obtain ⟨d1, d2, d3, d4, d5, d6, d7⟩ := hD
  have hCa : isC (D.2 a) := ⟨_, hy⟩
  have hps : aPs (D.2 a) = ps := by rw [hy]; rfl
  have hC : ∀ i, isC ((dPut D a nm b).2 i) → isC (D.2 i) := by
    intro i hi
    by_cases z : i = a
    · rw [z]; exact hCa
    · have : (dPut D a nm b).2 i = D.2 i := if_neg z
      rw [this] at hi; exact hi
  -- the parts by their places
  have pl : (ptP nm b ps).length = n ∧ n ≤ 10 ∧ ∀ i, i < n → (i = k ∧ (ptP nm b ps).getD i ([], 0) = (nm, b)) ∨ (i ≠ k ∧ i < ps.length ∧ (ptP nm b ps).getD i ([], 0) = ps.getD i ([], 0)) := by
    unfold ptP
    rcases hkn with ⟨z1, z2, z3⟩ | ⟨z1, z2, z3, z4⟩
    · rw [z1]
      dsimp only
      refine ⟨by rw [List.length_set]; exact z3.symm, by omega, fun i hi => ?_⟩
      by_cases z : i = k
      · rw [z]; exact Or.inl ⟨rfl, getD_st1 z2⟩
      · exact Or.inr ⟨z, by omega, getD_st2 z⟩
    · rw [z1]
      dsimp only
      refine ⟨by rw [List.length_append]; exact z3.symm, by omega, fun i hi => ?_⟩
      by_cases z : i = k
      · rw [z, z2]; exact Or.inl ⟨rfl, getD_ap2⟩
      · exact Or.inr ⟨z, by omega, getD_ap1 (by omega)⟩
  refine ⟨fun i hi => ?_, d2, fun i k hi hk ci ck => d3 i k hi hk (hC i ci) (hC k ck), fun i k hi hk ci ck => d4 i k hi hk (hC i ci) (hC k ck), d5, d6, ?_⟩
  · by_cases z : i = a
    · subst z
      have e : (dPut D i nm b).2 i = .inr (.inr (true, ptP nm b ps)) := by
        show (if i = i then _ else _) = _
        rw [if_pos rfl, hps]
      obtain ⟨p1, p2, p3⟩ := pl
      unfold cIt
      rw [e]
      refine ⟨j, upV f k (.ref (w.1 b)), upV g k (.ref s), hj, by rw [p1]; exact e1, e2, by rw [p1]; exact p2, fun x hx => ?_, e3, fun x hx => ?_⟩
      · rw [p1] at hx
        unfold upV
        rcases p3 x hx with ⟨y1, y2⟩ | ⟨y1, y2, y3⟩
        · rw [if_pos y1, y2]
        · rw [if_neg y1, y3]; exact hf x y2
      · rw [p1] at hx
        unfold upV
        rcases p3 x hx with ⟨y1, y2⟩ | ⟨y1, y2, y3⟩
        · rw [if_pos y1, y2]
          exact ⟨s, rfl, hs.fr fr (by decide) (by decide) (by decide), hn⟩
        · rw [if_neg y1, y3]
          obtain ⟨s', v1, v2, v3⟩ := hg x y2
          exact ⟨s', v1, v2.fr fr (by decide) (by decide) (by decide), v3⟩
    · exact cIt.oth hD0 hi ha z hCa (if_neg z) fr hh ⟨8, _, Or.inr rfl, h1⟩ ⟨_, h2⟩ (Or.inl ⟨_, h3⟩)
  · refine acy.add d7 (x := b) (l := a) rfl (fun i hi => if_neg hi) (fun x hx => ?_) hb hnr
    have e : (dPut D a nm b).2 a = .inr (.inr (true, ptP nm b (aPs (D.2 a)))) := if_pos rfl
    rw [e] at hx
    rcases ptP_mem (show x ∈ ptP nm b (aPs (D.2 a)) from hx) with z | z
    · exact Or.inl z
    · rw [z]; exact Or.inr rfl
end CU
