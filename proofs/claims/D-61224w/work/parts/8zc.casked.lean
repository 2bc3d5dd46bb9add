/-! COMPONENT 33: what a search keeps: all but the field 'asked' of the data -/
set_option maxRecDepth 100000
def aS : Nat → Prop := fun κ => κ = 5 ∨ κ = 6 ∨ κ = 7 ∨ κ = 8
def aMn (h h' : hP) : Prop := hFr aS h h' ∧ ∀ a κ k rest, aS κ → h.2.2 a = some (κ, .inl (.int k :: rest)) → ∃ k', h'.2.2 a = some (κ, .inl (.int k' :: rest))
theorem aMn.rf (h : hP) : aMn h h := ⟨hFr.rf h, fun _ _ k _ _ e => ⟨k, e⟩⟩
theorem aMn.tr {a b c : hP} (x : aMn a b) (y : aMn b c) : aMn a c := ⟨x.1.tr y.1, fun p κ k rest hk e => by
  obtain ⟨k', e'⟩ := x.2 p κ k rest hk e
  exact y.2 p κ k' rest hk e'⟩
theorem aMn.set {h : hP} {a κ : Nat} {k : Value} {k' : Int32} {rest : List Value} (hk : aS κ) (e : h.2.2 a = some (κ, .inl (k :: rest))) : aMn h (hSet h a (κ, .inl (.int k' :: rest))) := by
  refine ⟨(hFr.rf h).set e rfl hk, fun p κ2 k2 rest2 hk2 e2 => ?_⟩
  by_cases z : p = a
  · subst z
    rw [e] at e2
    cases e2
    exact ⟨k', hSet_s _ _ _⟩
  · exact ⟨k2, by rw [hSet_n z]; exact e2⟩
theorem aS_no {κ : Nat} (h : 8 < κ) : ¬ aS κ := by
  rintro (z | z | z | z) <;> omega
theorem jSt.ka {h h' : hP} {κ a : Nat} {l : List Nat} (m : aMn h h') (j : jSt h κ a l) : jSt h' κ a l := j.fr m.1 (aS_no (by rcases j.1 with z | z | z <;> omega)) (aS_no (by decide)) (aS_no (by decide))
theorem txtN.ka {h h' : hP} (m : aMn h h') : ∀ (n a : Nat) (l : List Nat), txtN n h a l → txtN n h' a l
  | 0, a, l, ⟨k, s, κ, c, e1, e2, e3, e4⟩ => by
    obtain ⟨k', e'⟩ := m.2 a 6 k _ (Or.inr (Or.inl rfl)) e1
    exact ⟨k', s, κ, c, e', e2.ka m, e3, e4⟩
  | n + 1, a, l, ⟨k, s, κ, c, e1, e2, e3, e4, e5⟩ => by
    obtain ⟨k', e'⟩ := m.2 a 6 k _ (Or.inr (Or.inl rfl)) e1
    refine ⟨k', s, κ, c, e', e2.ka m, e3, e4, ?_⟩
    rcases e5 with e | ⟨q, e, e'⟩
    · exact Or.inl e
    · exact Or.inr ⟨q, e, txtN.ka m n q _ e'⟩
theorem txt.ka {h h' : hP} {a : Nat} {l : List Nat} (m : aMn h h') (t : txt h a l) : txt h' a l := fun n => txtN.ka m n a l (t n)
theorem cOp.ka {h h' : hP} {o : aO} {a : Nat} (m : aMn h h') (x : cOp h o a) : cOp h' o a := by
  have f := m.1
  rcases o with b | (_ | k | l | y) | ⟨u, ns⟩
  · exact (f.2.2 _ _ (show h.2.2 a = some (12, .inl [.int (nI b.toNat)]) from x)).1 (aS_no (show 8 < 12 by decide))
  · exact False.elim x
  · obtain ⟨y, w, e1, e2⟩ := x
    obtain ⟨w', e3⟩ := m.2 y 5 w _ (Or.inl rfl) e2
    exact ⟨y, w', (f.2.2 _ _ e1).1 (aS_no (show 8 < 13 by decide)), e3⟩
  · obtain ⟨y, e1, e2⟩ := x
    exact ⟨y, (f.2.2 _ _ e1).1 (aS_no (show 8 < 13 by decide)), e2.ka m⟩
  · exact False.elim x
  · obtain ⟨ar, g, e1, e2, e3, e4, e5⟩ := x
    refine ⟨ar, g, (f.2.2 _ _ e1).1 (aS_no (show 8 < 14 by decide)), (f.2.2 _ _ e2).1 (aS_no (show 8 < 169 by decide)), e3, e4, fun i hi => ?_⟩
    obtain ⟨s, κ, y1, y2, y3, y4⟩ := e5 i hi
    exact ⟨s, κ, y1, y2.ka m, y3, y4⟩
theorem cEx.ka {h h' : hP} {x : aE} {a : Nat} (m : aMn h h') (q : cEx h x a) : cEx h' x a := by
  rcases x with o | ⟨k, A, B⟩
  · exact cOp.ka m q
  · obtain ⟨k1, k2, s, κ, oa, ob, e1, e2, e3, e4, e5⟩ := q
    refine ⟨k1, k2, s, κ, oa, ob, (m.1.2.2 _ _ e1).1 (aS_no (show 8 < 15 by decide)), e2.ka m, e3, e4.ka m, ?_⟩
    rcases e5 with ⟨z1, z2⟩ | ⟨B', b, z1, z2, z3⟩
    · exact Or.inl ⟨z1, z2⟩
    · exact Or.inr ⟨B', b, z1, z2, z3.ka m⟩
theorem cPart.ka {h h' : hP} {f : Nat → Nat} {T : tTb} {G N : Nat} {R R' : Nat → Nat → Nat → Nat → Nat → Prop} {p g p' g' a : Nat} (m : aMn h h') (hR : ∀ p g p' g' a, R p g p' g' a → R' p g p' g' a) (x : cPart h f T G N R p g p' g' a) : cPart h' f T G N R' p g p' g' a := by
  have fr := m.1
  rcases x with ⟨s, κ, e1, e2, e3, e4⟩ | ⟨e1, e2, e3, e4, e5⟩ | ⟨e1, e2, e3, e4, s, v, A1, A2, mm, y1, y2, y3, y4, y5, y6, y7, y8, y9⟩
  · exact Or.inl ⟨s, κ, (fr.2.2 _ _ e1).1 (aS_no (show 8 < 10 by decide)), e2.ka m, e3, e4⟩
  · refine Or.inr (Or.inl ⟨e1, e2, e3, e4, ?_⟩)
    rcases e5 with ⟨z1, z2⟩ | ⟨z1, v, z2, z3⟩ | ⟨z1, z2, z3⟩
    · exact Or.inl ⟨z1, (fr.2.2 _ _ z2).1 (aS_no (show 8 < 16 by decide))⟩
    · exact Or.inr (Or.inl ⟨z1, v, (fr.2.2 _ _ z2).1 (aS_no (show 8 < 11 by decide)), z3.ka m⟩)
    · exact Or.inr (Or.inr ⟨z1, z2, (fr.2.2 _ _ z3).1 (aS_no (show 8 < 18 by decide))⟩)
  · refine Or.inr (Or.inr ⟨e1, e2, e3, e4, s, v, A1, A2, mm, (fr.2.2 _ _ y1).1 (aS_no (show 8 < 17 by decide)), y2.ka m, y3.ka m, y4, y5, y6, y7, y8, ?_⟩)
    rcases y9 with ⟨z1, z2, F, z3⟩ | ⟨m1, z1, z2, z3, z4, z5⟩
    · exact Or.inl ⟨z1, hR _ _ _ _ _ z2, F, (fr.2.2 _ _ z3).1 (aS_no (show 8 < 66 by decide))⟩
    · exact Or.inr ⟨m1, z1, z2, z3, hR _ _ _ _ _ z4, hR _ _ _ _ _ z5⟩
theorem cPl.ka {h h' : hP} {f : Nat → Nat} {T : tTb} {G N : Nat} {R R' : Nat → Nat → Nat → Nat → Nat → Prop} {p g p' g' a : Nat} (m : aMn h h') (hR : ∀ p g p' g' a, R p g p' g' a → R' p g p' g' a) (x : cPl h f T G N R p g p' g' a) : cPl h' f T G N R' p g p' g' a := by
  obtain ⟨k, F, A, P, e1, e2, e3, e4, e5, e6⟩ := x
  exact ⟨k, F, A, P, (m.1.2.2 _ _ e1).1 (aS_no (show 8 < 66 by decide)), e2, e3, e4, e5, fun i hi => ⟨(e6 i hi).1, (e6 i hi).2.ka m hR⟩⟩
theorem cPs.ka {h h' : hP} {f : Nat → Nat} {T : tTb} {G N : Nat} (m : aMn h h') : ∀ {k p g p' g' a : Nat}, cPs h f T G N k p g p' g' a → cPs h' f T G N k p g p' g' a
  | 0, _, _, _, _, _, x => cPl.ka m (fun _ _ _ _ _ z => z) x
  | k + 1, _, _, _, _, _, x => cPl.ka m (fun _ _ _ _ _ z => cPs.ka m z) x
theorem cTs.ka {h h' : hP} {ta : Nat} {Tm : Nat → Option aT} (m : aMn h h') (x : cTs h ta Tm) : cTs h' ta Tm := by
  obtain ⟨F, e1, e2⟩ := x
  refine ⟨F, (m.1.2.2 _ _ e1).1 (aS_no (show 8 < 67 by decide)), fun k hk => ?_⟩
  rcases e2 k hk with z | ⟨N, f, G, T, arr, z1, z2, z3⟩
  · exact Or.inl z
  · exact Or.inr ⟨N, f, G, T, arr, z1, z2, z3.ka m⟩
/-- an item is marked: its field is now k -/
theorem cD.ask {D : aD} {w : cW} {h : hP} {q q' a κ : Nat} {k0 : Value} {rest : List Value} (hD : cD D w h q) (hq : q ≤ q') (hq2 : q' ≤ 1000) (ha : a < D.1) (e : h.2.2 (w.1 a) = some (κ, .inl (k0 :: rest))) : aS κ ∧ cD D w (hSet h (w.1 a) (κ, .inl (.int (nI q') :: rest))) q' := by
  have hi := hD.1 a ha
  have hk : aS κ := by
    unfold cIt at hi
    generalize D.2 a = y at hi
    rcases y with v | l | ⟨_ | _, ps⟩
    · obtain ⟨j, z1, z2⟩ := hi
      rw [e] at z2; cases z2; exact Or.inl rfl
    · obtain ⟨z0, j, s, c, z1, z2⟩ := hi
      rw [e] at z2; cases z2; exact Or.inr (Or.inl rfl)
    · obtain ⟨j, f, z1, z2, z3⟩ := hi
      rw [e] at z2; cases z2; exact Or.inr (Or.inr (Or.inl rfl))
    · obtain ⟨j, f, g, z1, z2, z3⟩ := hi
      rw [e] at z2; cases z2; exact Or.inr (Or.inr (Or.inr rfl))
  have m := aMn.set (k' := nI q') hk e
  refine ⟨hk, fun b hb => ?_, hD.2.1, hD.2.2.1, hD.2.2.2.1, hq2, hD.2.2.2.2.2⟩
  have hib := hD.1 b hb
  unfold cIt at hib ⊢
  have arr : ∀ {t c}, h.2.2 t = some c → 8 < c.1 → (hSet h (w.1 a) (κ, .inl (.int (nI q') :: rest))).2.2 t = some c := fun {t c} ht hc => (m.1.2.2 _ _ ht).1 (aS_no hc)
  have own : ∀ {κb : Nat} {j : Nat} {rb : List Value}, j ≤ q → h.2.2 (w.1 b) = some (κb, .inl (.int (nI j) :: rb)) → ∃ j', j' ≤ q' ∧ (hSet h (w.1 a) (κ, .inl (.int (nI q') :: rest))).2.2 (w.1 b) = some (κb, .inl (.int (nI j') :: rb)) := by
    intro κb j rb hj hc
    by_cases z : w.1 b = w.1 a
    · rw [z] at hc ⊢
      rw [e] at hc
      cases hc
      exact ⟨q', Nat.le_refl _, hSet_s _ _ _⟩
    · exact ⟨j, by omega, by rw [hSet_n z]; exact hc⟩
  generalize D.2 b = y at hib ⊢
  rcases y with v | l | ⟨_ | _, ps⟩
  · obtain ⟨j, z1, z2⟩ := hib
    exact own z1 z2
  · obtain ⟨z0, j, s, c, z1, z2⟩ := hib
    obtain ⟨j', w1, w2⟩ := own z1 z2
    exact ⟨z0.ka m, j', s, c, w1, w2⟩
  · obtain ⟨j, f, z1, z2, z3, z4, z5⟩ := hib
    obtain ⟨j', w1, w2⟩ := own z1 z2
    exact ⟨j', f, w1, w2, arr z3 (show 8 < 68 by decide), z4, z5⟩
  · obtain ⟨j, f, g, z1, z2, z3, z4, z5, z6, z7⟩ := hib
    obtain ⟨j', w1, w2⟩ := own z1 z2
    refine ⟨j', f, g, w1, w2, arr z3 (show 8 < 68 by decide), z4, z5, arr z6 (show 8 < 69 by decide), fun i hi => ?_⟩
    obtain ⟨s, y1, y2, y3⟩ := z7 i hi
    exact ⟨s, y1, y2.ka m, y3⟩
