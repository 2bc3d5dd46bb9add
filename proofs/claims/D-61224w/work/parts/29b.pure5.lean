/-! PURE 5: names; what reaches what; heights -/
def encN (l : List Nat) : Nat := l.foldl (fun w c => w * 32 + (c - 96)) 0
def nmOK (l : List Nat) : Prop := (∀ c ∈ l, isL c = true) ∧ 1 ≤ l.length ∧ l.length ≤ 8
theorem encN_snoc (l : List Nat) (c : Nat) : encN (l ++ [c]) = encN l * 32 + (c - 96) := by
  unfold encN
  rw [List.foldl_append]
  rfl
theorem isL_iff {c : Nat} : isL c = true ↔ 97 ≤ c ∧ c ≤ 122 := by simp [isL]
theorem isD_iff {c : Nat} : isD c = true ↔ 48 ≤ c ∧ c ≤ 57 := by simp [isD]
def encR : List Nat → Nat
  | [] => 0
  | c :: l => encR l * 32 + (c - 96)
theorem encN_rev : ∀ l : List Nat, encN l.reverse = encR l
  | [] => rfl
  | c :: l => by
    rw [List.reverse_cons, encN_snoc, encN_rev l]
    rfl
theorem encR_inj : ∀ {l l' : List Nat}, (∀ c ∈ l, isL c = true) → (∀ c ∈ l', isL c = true) → encR l = encR l' → l = l'
  | [], [], _, _, _ => rfl
  | [], c :: l', _, h, e => by
    have h1 := isL_iff.mp (h c List.mem_cons_self)
    simp only [encR] at e
    omega
  | c :: l, [], h, _, e => by
    have h1 := isL_iff.mp (h c List.mem_cons_self)
    simp only [encR] at e
    omega
  | c :: l, c' :: l', h, h', e => by
    have h1 := isL_iff.mp (h c List.mem_cons_self)
    have h2 := isL_iff.mp (h' c' List.mem_cons_self)
    simp only [encR] at e
    have e1 : c = c' := by omega
    have e2 : encR l = encR l' := by omega
    rw [e1, encR_inj (fun x hx => h x (List.mem_cons_of_mem _ hx)) (fun x hx => h' x (List.mem_cons_of_mem _ hx)) e2]
theorem encR_lt : ∀ {l : List Nat}, (∀ c ∈ l, isL c = true) → encR l < 32 ^ l.length
  | [], _ => by simp [encR]
  | c :: l, h => by
    have h1 := isL_iff.mp (h c List.mem_cons_self)
    have h2 := encR_lt (l := l) (fun x hx => h x (List.mem_cons_of_mem _ hx))
    simp only [encR, List.length_cons, Nat.pow_succ]
    omega
theorem encN_R (l : List Nat) : encN l = encR l.reverse := by
  rw [← encN_rev, List.reverse_reverse]
theorem encN_inj {l l' : List Nat} (h : ∀ c ∈ l, isL c = true) (h' : ∀ c ∈ l', isL c = true) (e : encN l = encN l') : l = l' := by
  rw [encN_R, encN_R] at e
  have := encR_inj (fun c hc => h c (List.mem_reverse.mp hc)) (fun c hc => h' c (List.mem_reverse.mp hc)) e
  exact List.reverse_inj.mp this
theorem encN_lt {l : List Nat} (h : ∀ c ∈ l, isL c = true) (h8 : l.length ≤ 8) : encN l < 2 ^ 40 := by
  rw [encN_R]
  have h1 := encR_lt (l := l.reverse) (fun c hc => h c (List.mem_reverse.mp hc))
  rw [List.length_reverse] at h1
  have h2 : 32 ^ l.length ≤ 32 ^ 8 := Nat.pow_le_pow_right (by decide) h8
  have h3 : (32 : Nat) ^ 8 = 2 ^ 40 := by decide
  omega
theorem encN_pos {l : List Nat} (h : nmOK l) : 0 < encN l := by
  have h1 : l ≠ [] := fun z => by have := h.2.1; rw [z] at this; exact absurd this (by decide)
  rcases Nat.eq_zero_or_pos (encN l) with e | e
  · have e2 : encN l = encN [] := by rw [e]; rfl
    exact absurd (encN_inj h.1 (by simp) e2) h1
  · exact e
/-- x reaches y -/
def rch (D : aD) (x y : Nat) : Prop := ∀ P : Nat → Prop, P x → (∀ a, P a → ∀ q ∈ aPs (D.2 a), P q.2) → P y
theorem rch.refl (D : aD) (x : Nat) : rch D x x := fun _ h _ => h
theorem rch.step {D : aD} {x a : Nat} {q : List Nat × Nat} (h : rch D x a) (hq : q ∈ aPs (D.2 a)) : rch D x q.2 := fun P h1 h2 => h2 a (h P h1 h2) q hq
theorem rch.trans {D : aD} {x y z : Nat} (h : rch D x y) (g : rch D y z) : rch D x z := fun P h1 h2 => g P (h P h1 h2) h2
/-- no item holds itself at any depth; parts are there -/
def acy (D : aD) : Prop := ∃ ρ : Nat → Nat, ∀ x, x < D.1 → ∀ q ∈ aPs (D.2 x), q.2 < D.1 ∧ ρ q.2 < ρ x
def cnF (P : Nat → Bool) : Nat → Nat
  | 0 => 0
  | n + 1 => cnF P n + (if P n then 1 else 0)
theorem cnF_le {P Q : Nat → Bool} : ∀ {n : Nat}, (∀ i, i < n → P i = true → Q i = true) → cnF P n ≤ cnF Q n
  | 0, _ => Nat.le_refl _
  | n + 1, h => by
    have h1 := cnF_le (n := n) (fun i hi => h i (by omega))
    have h2 := h n (by omega)
    simp only [cnF]
    cases hp : P n with
    | false => simp; omega
    | true => rw [h2 hp]; simp; omega
theorem cnF_lt {P Q : Nat → Bool} : ∀ {n j : Nat}, (∀ i, i < n → P i = true → Q i = true) → j < n → Q j = true → P j = false → cnF P n < cnF Q n
  | 0, _, _, h, _, _ => absurd h (Nat.not_lt_zero _)
  | n + 1, j, h, hj, hq, hp => by
    have h2 := h n (by omega)
    simp only [cnF]
    by_cases e : j = n
    · subst e
      have h1 := cnF_le (n := j) (fun i hi => h i (by omega))
      rw [hq, hp]; simp; omega
    · have h1 := cnF_lt (n := n) (j := j) (fun i hi => h i (by omega)) (by omega) hq hp
      cases hp : P n with
      | false => simp; omega
      | true => rw [h2 hp]; simp; omega
theorem cnF_top : ∀ n : Nat, cnF (fun _ => true) n = n
  | 0 => rfl
  | n + 1 => by simp [cnF, cnF_top n]
def rkN (N : Nat) (ρ : Nat → Nat) (x : Nat) : Nat := cnF (fun y => decide (ρ y < ρ x)) N
theorem rkN_lt {N : Nat} {ρ : Nat → Nat} {x : Nat} (hx : x < N) : rkN N ρ x < N := by
  have := cnF_lt (P := fun y => decide (ρ y < ρ x)) (Q := fun _ => true) (n := N) (j := x) (fun _ _ _ => rfl) hx rfl (by simp)
  rw [cnF_top] at this
  exact this
theorem rkN_mono {N : Nat} {ρ : Nat → Nat} {x c : Nat} (hc : c < N) (h : ρ c < ρ x) : rkN N ρ c < rkN N ρ x :=
  cnF_lt (j := c) (fun i _ q => by simp at q ⊢; omega) hc (by simpa using h) (by simp)
theorem hgt_rk {D : aD} {ρ : Nat → Nat} (h : ∀ x, x < D.1 → ∀ q ∈ aPs (D.2 x), q.2 < D.1 ∧ ρ q.2 < ρ x) : ∀ (n x : Nat), x < D.1 → rkN D.1 ρ x < n → hgt D n x
  | 0, _, _, q => absurd q (Nat.not_lt_zero _)
  | n + 1, x, hx, q => fun p hp => by
    obtain ⟨a, b⟩ := h x hx p hp
    have := rkN_mono (N := D.1) a b
    exact hgt_rk h n p.2 a (by omega)
theorem acy.hgt {D : aD} (h : acy D) {x : Nat} (hx : x < D.1) : hgt D D.1 x := by
  obtain ⟨ρ, h⟩ := h
  exact hgt_rk h D.1 x hx (rkN_lt hx)
def spF (ρ : Nat → Nat) : Nat → Nat
  | 0 => 0
  | n + 1 => spF ρ n + ρ n + 1
theorem spF_lt {ρ : Nat → Nat} : ∀ {n a : Nat}, a < n → ρ a < spF ρ n
  | 0, _, h => absurd h (Nat.not_lt_zero _)
  | n + 1, a, h => by
    simp only [spF]
    by_cases e : a = n
    · subst e; omega
    · have := spF_lt (ρ := ρ) (n := n) (a := a) (by omega)
      omega
theorem acy.add {D D' : aD} {x l : Nat} (h : acy D) (hn : D'.1 = D.1) (ho : ∀ a, a ≠ l → D'.2 a = D.2 a) (hl : ∀ q ∈ aPs (D'.2 l), q ∈ aPs (D.2 l) ∨ q.2 = x) (hx : x < D.1) (hr : ¬ rch D x l) : acy D' := by
  obtain ⟨ρ, h⟩ := h
  refine ⟨fun a => @ite _ (rch D x a) (Classical.propDecidable _) (ρ a) (ρ a + spF ρ D.1), fun a ha q hq => ?_⟩
  rw [hn] at ha ⊢
  have key : ∀ b, b < D.1 → ρ b < spF ρ D.1 := fun b hb => spF_lt hb
  by_cases e : a = l
  · subst e
    rcases hl q hq with z | z
    · obtain ⟨h1, h2⟩ := h a ha q z
      refine ⟨h1, ?_⟩
      dsimp only
      rw [if_neg hr]
      split <;> omega
    · refine ⟨by omega, ?_⟩
      dsimp only
      rw [if_neg hr, z, if_pos (rch.refl D x)]
      have := key x hx
      omega
  · rw [ho a e] at hq
    obtain ⟨h1, h2⟩ := h a ha q hq
    refine ⟨h1, ?_⟩
    dsimp only
    by_cases r : rch D x a
    · rw [if_pos r, if_pos (r.step hq)]; exact h2
    · rw [if_neg r]
      have := key q.2 h1
      split <;> omega
theorem acy.new {D D' : aD} (h : acy D) (hn : D'.1 = D.1 + 1) (ho : ∀ a, a < D.1 → D'.2 a = D.2 a) (hl : aPs (D'.2 D.1) = []) : acy D' := by
  obtain ⟨ρ, h⟩ := h
  refine ⟨ρ, fun a ha q hq => ?_⟩
  by_cases e : a = D.1
  · subst e
    rw [hl] at hq
    cases hq
  · rw [ho a (by omega)] at hq
    obtain ⟨h1, h2⟩ := h a (by omega) q hq
    exact ⟨by omega, h2⟩
theorem acy.nil (D : aD) (h : D.1 = 0) : acy D := ⟨fun _ => 0, fun x hx => absurd hx (by omega)⟩
