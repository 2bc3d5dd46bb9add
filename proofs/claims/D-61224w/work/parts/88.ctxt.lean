/-! COMPONENT 9: TextData with its cache -/
set_option maxRecDepth 100000
/-- the TextData at a has the text l; its cache, n levels deep, is nothing or has the capitals -/
def txtN : Nat → hP → Nat → List Nat → Prop
  | 0, h, a, l => ∃ k s κ c, h.2.2 a = some (6, .inl [.int k, .ref s, c]) ∧ jSt h κ s l ∧ (κ = 30 ∨ κ = 930) ∧ l.length ≤ 64
  | n + 1, h, a, l => ∃ k s κ c, h.2.2 a = some (6, .inl [.int k, .ref s, c]) ∧ jSt h κ s l ∧ (κ = 30 ∨ κ = 930) ∧ l.length ≤ 64 ∧ (c = .null ∨ ∃ q, c = .ref q ∧ txtN n h q (l.map upc))
def txt (h : hP) (a : Nat) (l : List Nat) : Prop := ∀ n, txtN n h a l
theorem txtN.fr {S : Nat → Prop} {h h' : hP} (f : hFr S h h') (h6 : ¬ S 6) (h1 : ¬ S 30) (h2 : ¬ S 930) (h3 : ¬ S 60) (h4 : ¬ S 960) : ∀ (n a : Nat) (l : List Nat), txtN n h a l → txtN n h' a l
  | 0, a, l, ⟨k, s, κ, c, e1, e2, e3, e4⟩ => ⟨k, s, κ, c, (f.2.2 a _ e1).1 h6, jSt.fr f (by rcases e3 with e | e <;> rw [e] <;> assumption) h3 h4 e2, e3, e4⟩
  | n + 1, a, l, ⟨k, s, κ, c, e1, e2, e3, e4, e5⟩ => by
    refine ⟨k, s, κ, c, (f.2.2 a _ e1).1 h6, jSt.fr f (by rcases e3 with e | e <;> rw [e] <;> assumption) h3 h4 e2, e3, e4, ?_⟩
    rcases e5 with e | ⟨q, e, e'⟩
    · exact Or.inl e
    · exact Or.inr ⟨q, e, txtN.fr f h6 h1 h2 h3 h4 n q _ e'⟩
theorem txt.fr {S : Nat → Prop} {h h' : hP} {a : Nat} {l : List Nat} (f : hFr S h h') (h6 : ¬ S 6) (h1 : ¬ S 30) (h2 : ¬ S 930) (h3 : ¬ S 60) (h4 : ¬ S 960) (t : txt h a l) : txt h' a l := fun n => txtN.fr f h6 h1 h2 h3 h4 n a l (t n)
