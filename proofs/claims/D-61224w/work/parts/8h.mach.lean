/-! COMPONENT 18: steps of the machine; the templates as objects -/
set_option maxRecDepth 100000
/-- g is the next tag from p on -/
def nxT (T : tTb) (G p g : Nat) : Prop := g ≤ G ∧ (∀ i, i < g → (T.1 i).1 < p) ∧ (g < G → p ≤ (T.1 g).1)
theorem tgF_nx {T : tTb} {p g : Nat} : ∀ {n a : Nat}, a ≤ g → g ≤ a + n → (∀ i, a ≤ i → i < g → (T.1 i).1 < p) → (g < a + n → p ≤ (T.1 g).1) → tgF T n a p = g
  | 0, a, h1, h2, _, _ => by show a = g; omega
  | n + 1, a, h1, h2, h3, h4 => by
    unfold tgF
    by_cases e : a = g
    · subst e
      rw [if_pos (h4 (by omega))]
    · have := h3 a (Nat.le_refl _) (by omega)
      rw [if_neg (by omega)]
      exact tgF_nx (by omega) (by omega) (fun i hi => h3 i (by omega)) (fun z => h4 (by omega))
theorem nxT.tg {T : tTb} {G p g : Nat} (h : nxT T G p g) : tgF T G 0 p = g := tgF_nx (Nat.zero_le _) (by have := h.1; omega) (fun i _ hi => h.2.1 i hi) (fun z => h.2.2 (by omega))
/-- where the plain text before tag g ends -/
def stpT (T : tTb) (G N g : Nat) : Nat := if g < G then (T.1 g).1 else N
section MS
variable {Tm : Nat → Option aT} {D : aD} {t p g N G : Nat} {f : Nat → Nat} {T : tTb} {U : List aU} {C : List aV} {out : List Nat} {seen : Nat}
theorem ms_plain (ht : Tm t = some (N, f, G, T)) (hx : nxT T G p g) (hp : p < stpT T G N g) : mS Tm D (t, p, U, C, out, seen) = if 400 < out.length + (stpT T G N g - p) then .inr (.inl 4) else .inl (t, stpT T G N g, U, C, out ++ sgF f p (stpT T G N g - p), seen) := by
  unfold stpT at hp ⊢
  unfold mS
  simp only [ht, hx.tg]
  rw [if_pos hp]
theorem ms_tag (ht : Tm t = some (N, f, G, T)) (hx : nxT T G p g) (hg : g < G) (hp : p = (T.1 g).1) : mS Tm D (t, p, U, C, out, seen) = mTag Tm D f T t g U C out seen := by
  unfold mS
  simp only [ht, hx.tg]
  rw [if_pos hg, if_neg (by omega), if_pos hg]
theorem ms_end {t' j N' G' : Nat} {f' : Nat → Nat} {T' : tTb} (ht : Tm t = some (N, f, G, T)) (hx : nxT T G N G) (ht' : Tm t' = some (N', f', G', T')) : mS Tm D (t, N, .inl (t', j) :: U, C, out, seen) = .inl (t', (T'.1 j).2.2.2.1, U, C, out, seen) := by
  unfold mS
  simp only [ht, hx.tg, ht']
  rw [if_neg (Nat.lt_irrefl _), if_neg (Nat.lt_irrefl _), if_neg (Nat.lt_irrefl _)]
theorem ms_fin (ht : Tm t = some (N, f, G, T)) (hx : nxT T G N G) : mS Tm D (t, N, [], C, out, seen) = .inr (.inr (out, seen)) := by
  unfold mS
  simp only [ht, hx.tg]
  rw [if_neg (Nat.lt_irrefl _), if_neg (Nat.lt_irrefl _), if_neg (Nat.lt_irrefl _)]
end MS
/-- the names of the blocks -/
def nmB3 : Nat → List Nat
  | 3 => [105, 102]
  | 4 => [101, 97, 99, 104]
  | _ => [119, 105, 116, 104]
/-- one Part: from place p (next tag g) up to place p' (next tag g'); R: arrays of Parts inside -/
def cPart (h : hP) (f : Nat → Nat) (T : tTb) (G N : Nat) (R : Nat → Nat → Nat → Nat → Nat → Prop) (p g p' g' a : Nat) : Prop :=
  (∃ s κ, h.2.2 a = some (10, .inl [.ref s]) ∧ jSt h κ s (sgF f p (p' - p)) ∧ (κ = 30 ∨ κ = 930) ∧ p < p' ∧ p' = stpT T G N g ∧ g' = g ∧ p' - p ≤ 1000) ∨
  (g < G ∧ p = (T.1 g).1 ∧ g' = g + 1 ∧ p' = (T.1 g).2.2.2.1 ∧ (
    ((T.1 g).2.2.2.2 = 2 ∧ h.2.2 a = some (16, .inl [])) ∨
    ((T.1 g).2.2.2.2 < 2 ∧ ∃ v, h.2.2 a = some (11, .inl [.ref v, .int (nI (T.1 g).2.2.2.2)]) ∧ cEx h (exO f (T.1 g).2.2.1 (T.1 g).2.1) v) ∨
    ((T.1 g).2.2.2.2 = 10 ∧ f ((T.1 g).2.1 + 2) - 97 < 4 ∧ h.2.2 a = some (18, .inl [.int (nI (f ((T.1 g).2.1 + 2) - 97))])))) ∨
  (g < G ∧ p = (T.1 g).1 ∧ 3 ≤ (T.1 g).2.2.2.2 ∧ (T.1 g).2.2.2.2 ≤ 5 ∧ ∃ s v A1 A2 m, h.2.2 a = some (17, .inl [.ref s, .ref v, .ref A1, .ref A2]) ∧ jSt h 930 s (nmB3 (T.1 g).2.2.2.2) ∧ cEx h (exO f (T.1 g).2.2.1 ((T.1 g).2.1 + (if (T.1 g).2.2.2.2 = 3 then 4 else 6))) v ∧ T.2.2 g = some m ∧ m < G ∧ (T.1 m).2.2.2.2 = (T.1 g).2.2.2.2 + 4 ∧ p' = (T.1 m).2.2.2.1 ∧ g' = m + 1 ∧ (
    (T.2.1 g = none ∧ R (T.1 g).2.2.2.1 (g + 1) (T.1 m).1 m A1 ∧ ∃ F, h.2.2 A2 = some (66, .inr (0, F))) ∨
    (∃ m1, T.2.1 g = some m1 ∧ m1 < G ∧ (T.1 m1).2.2.2.2 = 6 ∧ R (T.1 g).2.2.2.1 (g + 1) (T.1 m1).1 m1 A1 ∧ R (T.1 m1).2.2.2.1 (m1 + 1) (T.1 m).1 m A2)))
/-- an array of Parts -/
def cPl (h : hP) (f : Nat → Nat) (T : tTb) (G N : Nat) (R : Nat → Nat → Nat → Nat → Nat → Prop) (p g p' g' arr : Nat) : Prop := ∃ (k : Nat) (F : Nat → Value) (A : Nat → Nat) (P : Nat → Nat × Nat), h.2.2 arr = some (66, .inr (k, F)) ∧ k ≤ 1000 ∧ P 0 = (p, g) ∧ P k = (p', g') ∧ (∀ i, i ≤ k → nxT T G (P i).1 (P i).2) ∧ ∀ i, i < k → F i = .ref (A i) ∧ cPart h f T G N R (P i).1 (P i).2 (P (i + 1)).1 (P (i + 1)).2 (A i)
def cPs (h : hP) (f : Nat → Nat) (T : tTb) (G N : Nat) : Nat → Nat → Nat → Nat → Nat → Nat → Prop
  | 0 => cPl h f T G N (fun _ _ _ _ _ => False)
  | n + 1 => cPl h f T G N (cPs h f T G N n)
theorem cPart.kt {h h' : hP} {S : Nat → Prop} {f : Nat → Nat} {T : tTb} {G N : Nat} {R R' : Nat → Nat → Nat → Nat → Nat → Prop} {p g p' g' a : Nat} (fr : hFr S h h') (n : cNT S) (mn : cMn h h') (hR : ∀ p g p' g' a, R p g p' g' a → R' p g p' g' a) (x : cPart h f T G N R p g p' g' a) : cPart h' f T G N R' p g p' g' a := by
  rcases x with ⟨s, κ, e1, e2, e3, e4⟩ | ⟨e1, e2, e3, e4, e5⟩ | ⟨e1, e2, e3, e4, s, v, A1, A2, m, y1, y2, y3, y4, y5, y6, y7, y8, y9⟩
  · exact Or.inl ⟨s, κ, (fr.2.2 _ _ e1).1 (n 10 (by decide)), e2.fr fr (by rcases e3 with z | z <;> rw [z] <;> exact n _ (by decide)) (n 60 (by decide)) (n 960 (by decide)), e3, e4⟩
  · refine Or.inr (Or.inl ⟨e1, e2, e3, e4, ?_⟩)
    rcases e5 with ⟨z1, z2⟩ | ⟨z1, v, z2, z3⟩ | ⟨z1, z2, z3⟩
    · exact Or.inl ⟨z1, (fr.2.2 _ _ z2).1 (n 16 (by decide))⟩
    · exact Or.inr (Or.inl ⟨z1, v, (fr.2.2 _ _ z2).1 (n 11 (by decide)), z3.kt fr n.e mn⟩)
    · exact Or.inr (Or.inr ⟨z1, z2, (fr.2.2 _ _ z3).1 (n 18 (by decide))⟩)
  · refine Or.inr (Or.inr ⟨e1, e2, e3, e4, s, v, A1, A2, m, (fr.2.2 _ _ y1).1 (n 17 (by decide)), y2.fr fr (n 930 (by decide)) (n 60 (by decide)) (n 960 (by decide)), y3.kt fr n.e mn, y4, y5, y6, y7, y8, ?_⟩)
    rcases y9 with ⟨z1, z2, F, z3⟩ | ⟨m1, z1, z2, z3, z4, z5⟩
    · exact Or.inl ⟨z1, hR _ _ _ _ _ z2, F, (fr.2.2 _ _ z3).1 (n 66 (by decide))⟩
    · exact Or.inr ⟨m1, z1, z2, z3, hR _ _ _ _ _ z4, hR _ _ _ _ _ z5⟩
theorem cPart.kp {h h' : hP} {S : Nat → Prop} {f : Nat → Nat} {T : tTb} {G N : Nat} {R R' : Nat → Nat → Nat → Nat → Nat → Prop} {p g p' g' a : Nat} (fr : hFr S h h') (n : cNS S) (mn : cMn h h') (hR : ∀ p g p' g' a, R p g p' g' a → R' p g p' g' a) (x : cPart h f T G N R p g p' g' a) : cPart h' f T G N R' p g p' g' a := cPart.kt fr n.t mn hR x
theorem cPl.kt {h h' : hP} {S : Nat → Prop} {f : Nat → Nat} {T : tTb} {G N : Nat} {R R' : Nat → Nat → Nat → Nat → Nat → Prop} {p g p' g' a : Nat} (fr : hFr S h h') (n : cNT S) (mn : cMn h h') (hR : ∀ p g p' g' a, R p g p' g' a → R' p g p' g' a) (x : cPl h f T G N R p g p' g' a) : cPl h' f T G N R' p g p' g' a := by
  obtain ⟨k, F, A, P, e1, e2, e3, e4, e5, e6⟩ := x
  exact ⟨k, F, A, P, (fr.2.2 _ _ e1).1 (n 66 (by decide)), e2, e3, e4, e5, fun i hi => ⟨(e6 i hi).1, (e6 i hi).2.kt fr n mn hR⟩⟩
theorem cPl.kp {h h' : hP} {S : Nat → Prop} {f : Nat → Nat} {T : tTb} {G N : Nat} {R R' : Nat → Nat → Nat → Nat → Nat → Prop} {p g p' g' a : Nat} (fr : hFr S h h') (n : cNS S) (mn : cMn h h') (hR : ∀ p g p' g' a, R p g p' g' a → R' p g p' g' a) (x : cPl h f T G N R p g p' g' a) : cPl h' f T G N R' p g p' g' a := cPl.kt fr n.t mn hR x
theorem cPs.kt {h h' : hP} {S : Nat → Prop} {f : Nat → Nat} {T : tTb} {G N : Nat} (fr : hFr S h h') (n : cNT S) (mn : cMn h h') : ∀ {k p g p' g' a : Nat}, cPs h f T G N k p g p' g' a → cPs h' f T G N k p g p' g' a
  | 0, _, _, _, _, _, x => cPl.kt fr n mn (fun _ _ _ _ _ z => z) x
  | k + 1, _, _, _, _, _, x => cPl.kt fr n mn (fun _ _ _ _ _ z => cPs.kt fr n mn z) x
theorem cPs.kp {h h' : hP} {S : Nat → Prop} {f : Nat → Nat} {T : tTb} {G N : Nat} (fr : hFr S h h') (n : cNS S) (mn : cMn h h') {k p g p' g' a : Nat} (x : cPs h f T G N k p g p' g' a) : cPs h' f T G N k p g p' g' a := cPs.kt fr n.t mn x
/-- the templates: ta is the array of arrays -/
def cTs (h : hP) (ta : Nat) (Tm : Nat → Option aT) : Prop := ∃ F, h.2.2 ta = some (67, .inr (4, F)) ∧ ∀ k, k < 4 → (Tm k = none ∧ F k = .null) ∨ ∃ N f G T arr, Tm k = some (N, f, G, T) ∧ F k = .ref arr ∧ cPs h f T G N 4 0 0 N G arr
theorem cTs.kt {h h' : hP} {S : Nat → Prop} {ta : Nat} {Tm : Nat → Option aT} (fr : hFr S h h') (n : cNT S) (n67 : ¬ S 67) (mn : cMn h h') (x : cTs h ta Tm) : cTs h' ta Tm := by
  obtain ⟨F, e1, e2⟩ := x
  refine ⟨F, (fr.2.2 _ _ e1).1 n67, fun k hk => ?_⟩
  rcases e2 k hk with z | ⟨N, f, G, T, arr, z1, z2, z3⟩
  · exact Or.inl z
  · exact Or.inr ⟨N, f, G, T, arr, z1, z2, z3.kt fr n mn⟩
theorem cTs.kp {h h' : hP} {S : Nat → Prop} {ta : Nat} {Tm : Nat → Option aT} (fr : hFr S h h') (n : cNS S) (mn : cMn h h') (x : cTs h ta Tm) : cTs h' ta Tm := cTs.kt fr n.t (n 67 (by decide)) mn x
