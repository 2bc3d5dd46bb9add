/-! LAW 3: the component's side; both -/
set_option maxRecDepth 100000
/-- what the component holds -/
def CJ (Z : hE) (E : Nat) (D : aD) (w : cW) (dl el ta ln rd sr c0 co γ : Nat) (Tm : Nat → Option aT) (l out : List Nat) (ea : Int32) (tg th : Nat) (h : hP) : Prop := h.2.2 E = some (eF dl ta ln rd ea tg th sr) ∧ eL Z D w h dl el ∧ cD D w h sr ∧ cTs h ta Tm ∧ jSB h 1 ln c0 l ∧ cO h γ rd co out ∧ ∀ i, i < D.1 → isC (D.2 i) → w.2.2 i < h.1
def CI (Z : hE) (E : Nat) (D : aD) (Tm : Nat → Option aT) (l out : List Nat) (ea : Int32) (tg th c : Nat) (h : hP) : Prop := ∃ w dl el ta ln rd sr c0 co γ, CJ Z E D w dl el ta ln rd sr c0 co γ Tm l out ea tg th h ∧ (200 ≤ c0 ∧ c0 ≤ 1000) ∧ (γ = 2 ∨ γ = 3) ∧ sr ≤ c
/-- the kinds of what it holds (but the engine's own cell) -/
def lwL : List Nat := [5, 7, 8, 21, 30, 60, 68, 69, 905, 930, 960, 10, 11, 12, 13, 14, 15, 16, 17, 18, 66, 169, 67, 6, 130, 32, 65, 965, 131, 160, 202, 231, 260, 302, 331, 360]
theorem eL.fr {Z : hE} {D : aD} {w : cW} {h h' : hP} {dl e : Nat} {S : Nat → Prop} (f : hFr S h h') (n1 : ¬ S 32) (n2 : ¬ S 65) (n3 : ¬ S 965) (x : eL Z D w h dl e) : eL Z D w h' dl e := by
  obtain ⟨xs, cap, k1, k2⟩ := x
  exact ⟨xs, cap, k1.fr f n1 n2 n3, k2⟩
section CJ
variable {Z : hE} {E : Nat} {D : aD} {w : cW} {dl el ta ln rd sr c0 co γ : Nat} {Tm : Nat → Option aT} {l out : List Nat} {ea : Int32} {tg th c : Nat} {h h' : hP} {S : Nat → Prop}
theorem CJ.ch {ea' : Int32} {tg' th' : Nat} (x : CJ Z E D w dl el ta ln rd sr c0 co γ Tm l out ea tg th h) (f : hFr S h h') (hE : h'.2.2 E = some (eF dl ta ln rd ea' tg' th' sr)) (n : ∀ κ ∈ lwL, ¬ S κ) (hγ : γ = 2 ∨ γ = 3) : CJ Z E D w dl el ta ln rd sr c0 co γ Tm l out ea' tg' th' h' := by
  obtain ⟨x1, x2, x3, x4, x5, x6, x7⟩ := x
  have mn : cMn h h' := cMn.ft f (n 30 (by decide)) (n 930 (by decide)) (n 60 (by decide)) (n 960 (by decide)) (n 6 (by decide)) (n 130 (by decide))
  refine ⟨hE, x2.fr f (n 32 (by decide)) (n 65 (by decide)) (n 965 (by decide)), x3.kt f (fun κ hκ => n κ ((by decide : ∀ κ ∈ [5, 7, 8, 21, 30, 60, 68, 69, 905, 930, 960], κ ∈ lwL) κ hκ)) mn, x4.kt f (fun κ hκ => n κ ((by decide : ∀ κ ∈ [5, 10, 11, 12, 13, 14, 15, 16, 17, 18, 30, 60, 66, 169, 930, 960], κ ∈ lwL) κ hκ)) (n 67 (by decide)) mn, x5.fr f (n 131 (by decide)) (n 160 (by decide)), ?_, fun i hi ci => Nat.lt_of_lt_of_le (x7 i hi ci) f.1⟩
  rcases hγ with rfl | rfl
  · exact x6.fr f (n 202 (by decide)) (n 231 (by decide)) (n 260 (by decide))
  · exact x6.fr f (n 302 (by decide)) (n 331 (by decide)) (n 360 (by decide))
/-- after the engine has thrown -/
theorem CJ.thr (x : CJ Z E D w dl el ta ln rd sr c0 co γ Tm l out ea tg th h) (hγ : γ = 2 ∨ γ = 3) (hE : h'.2.2 E = some (eF dl ta ln rd ea tg (th + 1) sr)) (f : hFr (fun κ => κ = 1) h h') : CJ Z E D w dl el ta ln rd sr c0 co γ Tm l out ea tg (th + 1) h' :=
  x.ch f hE (by intro κ hκ z; rw [z] at hκ; revert hκ; decide) hγ
/-- kept by the twin, and by a change of the law's own array -/
def lwS : Nat → Prop := fun κ => κ = 64 ∨ tS κ
theorem lwS_no : ∀ κ ∈ lwL, ¬ lwS κ := by
  intro κ hκ z
  have : ∀ κ ∈ lwL, κ ≠ 64 ∧ κ ≠ 3 ∧ κ ≠ 161 ∧ κ ≠ 162 ∧ κ ≠ 163 ∧ κ ≠ 164 := by decide
  have := this κ hκ
  rcases z with z | z | z | z | z | z <;> omega
theorem CI.kp (f : hFr lwS h h') (x : CI Z E D Tm l out ea tg th c h) : CI Z E D Tm l out ea tg th c h' := by
  obtain ⟨w, dl, el, ta, ln, rd, sr, c0, co, γ, x1, x2, x3, x4⟩ := x
  exact ⟨w, dl, el, ta, ln, rd, sr, c0, co, γ, x1.ch f ((f.2.2 _ _ x1.1).1 (by rintro (z | z | z | z | z | z) <;> cases z)) lwS_no x3, x2, x3, x4⟩
theorem CI.le {c' : Nat} (x : CI Z E D Tm l out ea tg th c h) (hc : c ≤ c') : CI Z E D Tm l out ea tg th c' h := by
  obtain ⟨w, dl, el, ta, ln, rd, sr, c0, co, γ, x1, x2, x3, x4⟩ := x
  exact ⟨w, dl, el, ta, ln, rd, sr, c0, co, γ, x1, x2, x3, by omega⟩
end CJ
theorem tR.fr {o : Nat} {τ : tT} {h h' : hP} {S : Nat → Prop} (f : hFr S h h') (n : ∀ κ, tS κ → ¬ S κ) (x : tR o τ h) : tR o τ h' :=
  ⟨(f.2.2 _ _ x.1).1 (n 3 (Or.inl rfl)), fun k hk => (f.2.2 _ _ (x.2 k hk)).1 (n _ (tS_kd k))⟩
/-- an item more -/
theorem cD.nw {D : aD} {w : cW} {h : hP} {q a ar nr : Nat} {y : aX} (hD : cD D w h q) (h60 : D.1 < 60) (n1 : ∀ i, i < D.1 → w.1 i ≠ a) (n2 : ∀ i, i < D.1 → isC (D.2 i) → w.2.1 i ≠ ar) (n3 : ∀ i, i < D.1 → isC (D.2 i) → w.2.2 i ≠ nr) (hp : aPs y = []) (hy : cIt (dNew D y) (upO w.1 D.1 a) (upO w.2.1 D.1 ar) (upO w.2.2 D.1 nr) h q D.1) : cD (dNew D y) (upO w.1 D.1 a, upO w.2.1 D.1 ar, upO w.2.2 D.1 nr) h q := by
  obtain ⟨d1, d2, d3, d4, d5, d6, d7⟩ := hD
  have hne : ∀ k, k < D.1 → (dNew D y).2 k = D.2 k := fun k hk => if_neg (by omega)
  obtain ⟨ρ, hρ⟩ := id d7
  refine ⟨fun k hk => ?_, fun i j hi hj e => ?_, fun i j hi hj ci cj e => ?_, fun i j hi hj ci cj e => ?_, d5, h60, acy.new d7 rfl (fun k hk => hne k hk) ?_⟩
  · by_cases z : k = D.1
    · rw [z]; exact hy
    · have hk : k < D.1 + 1 := hk
      have hk' : k < D.1 := by omega
      have hi := d1 k hk'
      have ch := hρ k hk'
      unfold cIt at hi ⊢
      rw [hne k hk']
      show (match D.2 k with
        | .inl v => ∃ j, j ≤ q ∧ h.2.2 (upO w.1 D.1 a k) = some (5, .inl [.int (nI j), .int v])
        | .inr (.inl l) => txt h (upO w.1 D.1 a k) l ∧ ∃ j s c, j ≤ q ∧ h.2.2 (upO w.1 D.1 a k) = some (6, .inl [.int (nI j), .ref s, c])
        | .inr (.inr (false, ps)) => ∃ j f, j ≤ q ∧ h.2.2 (upO w.1 D.1 a k) = some (7, .inl [.int (nI j), .ref (upO w.2.1 D.1 ar k), .int (nI ps.length)]) ∧ h.2.2 (upO w.2.1 D.1 ar k) = some (68, .inr (10, f)) ∧ ps.length ≤ 10 ∧ ∀ i, i < ps.length → f i = .ref (upO w.1 D.1 a (ps.getD i ([], 0)).2)
        | .inr (.inr (true, ps)) => ∃ j f g, j ≤ q ∧ h.2.2 (upO w.1 D.1 a k) = some (8, .inl [.int (nI j), .ref (upO w.2.1 D.1 ar k), .int (nI ps.length), .ref (upO w.2.2 D.1 nr k)]) ∧ h.2.2 (upO w.2.1 D.1 ar k) = some (68, .inr (10, f)) ∧ ps.length ≤ 10 ∧ (∀ i, i < ps.length → f i = .ref (upO w.1 D.1 a (ps.getD i ([], 0)).2)) ∧ h.2.2 (upO w.2.2 D.1 nr k) = some (69, .inr (10, g)) ∧ ∀ i, i < ps.length → ∃ s, g i = .ref s ∧ jSt h 30 s (ps.getD i ([], 0)).1 ∧ nmOK (ps.getD i ([], 0)).1)
      rw [upO_n z, upO_n z, upO_n z]
      cases ey : D.2 k with
      | inl v => rw [ey] at hi; exact hi
      | inr x =>
        cases x with
        | inl s => rw [ey] at hi; exact hi
        | inr p =>
          obtain ⟨m, ps⟩ := p
          rw [ey] at hi ch
          have ch2 : ∀ i, i < ps.length → (ps.getD i ([], 0)).2 ≠ D.1 := fun i hi => by
            have : (ps.getD i ([], 0)).2 < D.1 := (ch _ (getD_mem (d := ([], 0)) hi)).1
            omega
          cases m with
          | false =>
            obtain ⟨j, f, e1, e2, e3, e4, e5⟩ := hi
            exact ⟨j, f, e1, e2, e3, e4, fun i hi => by rw [upO_n (ch2 i hi)]; exact e5 i hi⟩
          | true =>
            obtain ⟨j, f, g, e1, e2, e3, e4, e5, e6⟩ := hi
            exact ⟨j, f, g, e1, e2, e3, e4, fun i hi => by rw [upO_n (ch2 i hi)]; exact e5 i hi, e6⟩
  · have hi : i < D.1 + 1 := hi
    have hj : j < D.1 + 1 := hj
    have e : upO w.1 D.1 a i = upO w.1 D.1 a j := e
    by_cases z1 : i = D.1 <;> by_cases z2 : j = D.1
    · omega
    · rw [z1, upO_s, upO_n z2] at e
      exact absurd e.symm (n1 j (by omega))
    · rw [z2, upO_s, upO_n z1] at e
      exact absurd e (n1 i (by omega))
    · rw [upO_n z1, upO_n z2] at e
      exact d2 i j (by omega) (by omega) e
  · have hi : i < D.1 + 1 := hi
    have hj : j < D.1 + 1 := hj
    have e : upO w.2.1 D.1 ar i = upO w.2.1 D.1 ar j := e
    by_cases z1 : i = D.1 <;> by_cases z2 : j = D.1
    · omega
    · rw [hne j (by omega)] at cj
      rw [z1, upO_s, upO_n z2] at e
      exact absurd e.symm (n2 j (by omega) cj)
    · rw [hne i (by omega)] at ci
      rw [z2, upO_s, upO_n z1] at e
      exact absurd e (n2 i (by omega) ci)
    · rw [hne j (by omega)] at cj
      rw [hne i (by omega)] at ci
      rw [upO_n z1, upO_n z2] at e
      exact d3 i j (by omega) (by omega) ci cj e
  · have hi : i < D.1 + 1 := hi
    have hj : j < D.1 + 1 := hj
    have e : upO w.2.2 D.1 nr i = upO w.2.2 D.1 nr j := e
    by_cases z1 : i = D.1 <;> by_cases z2 : j = D.1
    · omega
    · rw [hne j (by omega)] at cj
      rw [z1, upO_s, upO_n z2] at e
      exact absurd e.symm (n3 j (by omega) cj)
    · rw [hne i (by omega)] at ci
      rw [z2, upO_s, upO_n z1] at e
      exact absurd e (n3 i (by omega) ci)
    · rw [hne j (by omega)] at cj
      rw [hne i (by omega)] at ci
      rw [upO_n z1, upO_n z2] at e
      exact d4 i j (by omega) (by omega) ci cj e
  · have : (dNew D y).2 D.1 = y := if_pos rfl
    rw [this]
    exact hp
/-- old cells lie below the heap's end -/
theorem cD.lo {D : aD} {w : cW} {h : hP} {q : Nat} (hD : cD D w h q) (hwf : ∀ a c, h.2.2 a = some c → a < h.1) : (∀ i, i < D.1 → w.1 i < h.1) ∧ ∀ i, i < D.1 → isC (D.2 i) → w.2.1 i < h.1 := by
  refine ⟨fun i hi => ?_, fun i hi ci => ?_⟩
  · obtain ⟨κ, j, rest, -, e, -⟩ := hD.as hi
    exact hwf _ _ e
  · obtain ⟨⟨m, ps⟩, hy⟩ := ci
    have hx := hD.1 i hi
    unfold cIt at hx
    rw [hy] at hx
    cases m with
    | false =>
      obtain ⟨j, f, e1, e2, e3, -⟩ := hx
      exact hwf _ _ e3
    | true =>
      obtain ⟨j, f, g, e1, e2, e3, -⟩ := hx
      exact hwf _ _ e3
/-- what holds between the calls; c: calls so far -/
def LI (Z : hE) (E o lo c : Nat) (τ : tT) (h : hP) : Prop := ∃ D Tm l out ea tg th, CI Z E D Tm l out ea tg th c h ∧ TI D Tm l out ea tg th τ ∧ tR o τ h ∧ (∃ g, h.2.2 lo = some (64, .inr (1, g))) ∧ l.length ≤ c ∧ th ≤ c ∧ tg ≤ 600 ∧ h.1 ≤ Z.2.1.heap.size + 200 + 9300 * c ∧ h.2.1 ≤ 40000 + 110000 * c
theorem LI.mk {Z : hE} {E o lo c : Nat} {τ : tT} {h1 h2 : hP} {D : aD} {Tm : Nat → Option aT} {l out : List Nat} {ea : Int32} {tg th : Nat} {g : Nat → Value} (ci : CI Z E D Tm l out ea tg th c h1) (f : hFr tS h1 h2) (ti : TI D Tm l out ea tg th τ) (tr : tH o τ h1 h2) (hlo : h1.2.2 lo = some (64, .inr (1, g))) (b1 : l.length ≤ c) (b2 : th ≤ c) (b3 : tg ≤ 600) (b4 : h1.1 ≤ Z.2.1.heap.size + 200 + 9300 * c) (b5 : h1.2.1 ≤ 40000 + 110000 * c) : LI Z E o lo c τ h2 :=
  ⟨D, Tm, l, out, ea, tg, th, ci.kp (hFr.mono (fun _ z => Or.inr z) f), ti, tr.1, ⟨g, (f.2.2 _ _ hlo).1 (by rintro (z | z | z | z | z) <;> cases z)⟩, b1, b2, b3, by rw [tr.2.1]; exact b4, by rw [tr.2.2]; exact b5⟩
/-- a step of the law: the component's call with its catches, then the twin's -/
def JO (Z : hE) (MX MT : hM) (av bv : List Value) (E o lo c : Nat) (h : hP) : Prop := hCt Z MX 2047 (fun κ => κ < 900) av h (fun r h1 => ∃ k x, r = .inl (some (.int (nI k))) ∧ k ≤ 4 ∧ (∃ g, h1.2.2 lo = some (64, .inr (1, g)) ∧ (k = 0 → g 0 = .long x.toInt64)) ∧ (∃ fs, h1.2.2 o = some (3, .inl fs)) ∧ hCt Z MT 2047 tS bv h1 (fun r2 h2 => ∃ b τ', r2 = .inl (some (.int b)) ∧ τ'.1 0 = k ∧ (k = 0 → b = x) ∧ LI Z E o lo (c + 1) τ' h2))
/-- the heap behind a call is well-formed -/
theorem hCt.wf {Z : hE} {M : hM} {d : Nat} {S : Nat → Prop} {av : List Value} {h : hP} {K : hO → hP → Prop} (c : hCt Z M d S av h K) : hCt Z M d S av h (fun r h' => K r h' ∧ ∀ a c, h'.2.2 a = some c → a < h'.1) := by
  intro hZ
  have hM := c hZ
  intro p e x1 x2 x3 s m args below y1 y2 y3 y4
  obtain ⟨k, o, z1, z2, z3, z4⟩ := hM p e x1 x2 x3 s m args below y1 y2 y3 y4
  refine ⟨k, o, z1, z2, z3, ?_⟩
  rcases z4 with ⟨⟨v, h', g1, g2, g3, g4, g5⟩, z5⟩ | ⟨q, w1, E, ce, L, ⟨h', g2, g3, g4, g5⟩, w3⟩
  · exact Or.inl ⟨⟨v, h', g1, g2, g3, g4, g5, g2.wf⟩, z5⟩
  · exact Or.inr ⟨q, w1, E, ce, L, ⟨h', g2, g3, g4, g5, g2.wf⟩, w3⟩
/-- the calls' outcomes, put together: K the component's, with E1 .. its exceptions -/
theorem JO.of {Z : hE} {MX MT : hM} {av bv : List Value} {E o lo c : Nat} {τ : tT} {h : hP} {K : hO → hP → Prop} {S : Nat → Prop} {exs : List String} (hI : LI Z E o lo c τ h) (hS : ∀ κ, S κ → κ < 900 ∧ ¬ lwS κ) (hx : hCt Z MX 2047 (fun κ => κ = 64 ∨ S κ) av h (wrQ K S h lo exs)) (hl : exs.length ≤ 4)
    (hn : ∀ x h1, K (.inl (some (.int x))) h1 → hFr S h h1 → (∀ a c, h1.2.2 a = some c → a < h1.1) → ∃ D Tm l out ea tg th, CI Z E D Tm l out ea tg th (c + 1) h1 ∧ l.length ≤ c + 1 ∧ th ≤ c + 1 ∧ tg ≤ 600 ∧ h1.1 ≤ Z.2.1.heap.size + 200 + 9300 * (c + 1) ∧ h1.2.1 ≤ 40000 + 110000 * (c + 1) ∧ tC Z MT 2047 o bv τ (fun r2 τ' => r2 = some (.int x) ∧ τ'.1 0 = 0 ∧ TI D Tm l out ea tg th τ'))
    (he : ∀ j Ex h1, exs[j]? = some Ex → K (.inr Ex) h1 → hFr S h h1 → ∃ D Tm l out ea tg th, CI Z E D Tm l out ea tg th (c + 1) h1 ∧ l.length ≤ c + 1 ∧ th ≤ c + 1 ∧ tg ≤ 600 ∧ h1.1 ≤ Z.2.1.heap.size + 200 + 9300 * (c + 1) ∧ h1.2.1 ≤ 40000 + 110000 * (c + 1) ∧ tC Z MT 2047 o bv τ (fun r2 τ' => (∃ z, r2 = some (.int z)) ∧ τ'.1 0 = j + 1 ∧ TI D Tm l out ea tg th τ')) : JO Z MX MT av bv E o lo c h := by
  obtain ⟨-, -, -, -, -, -, -, -, -, hR, ⟨g00, hlo⟩, -⟩ := hI
  have nt : ∀ κ, tS κ → ¬ S κ := fun κ z y => (hS κ y).2 (Or.inr z)
  have n64 : ¬ S 64 := fun z => (hS 64 z).2 (Or.inl rfl)
  refine hCt.shr (hx.wf.wk (fun r h1 hqw fr => ⟨?_, hFr.mono (fun κ z => ?_) fr⟩))
  · obtain ⟨hq, hw⟩ := hqw
    rcases hq with ⟨x, h', g, g0, hk, fr', rfl, l0, e, ge⟩ | ⟨j, Ex, hj, hk, fr', rfl⟩
    · have hR' := hR.fr fr' nt
      obtain ⟨D, Tm, l, out, ea, tg, th, ci, b1, b2, b3, b4, b5, ct⟩ := hn x h' hk fr' (fun a c hc => by
        rw [e] at hw
        by_cases z : a = lo
        · rw [z]; exact hw lo _ (hSet_s _ _ _)
        · exact hw a c (by rw [hSet_n z]; exact hc))
      have fs : hFr (fun κ => κ = 64) h' h1 := by rw [e]; exact (hFr.rf h').set l0 rfl rfl
      have ci1 := ci.kp (hFr.mono (fun κ z => Or.inl z) fs)
      have hR1 : tR o τ h1 := hR'.fr fs (fun κ z y => by
        have y : κ = 64 := y
        rw [y] at z
        rcases z with z | z | z | z | z <;> cases z)
      have hl1 : h1.2.2 lo = some (64, .inr (1, g)) := by rw [e]; exact hSet_s _ _ _
      refine ⟨0, x, rfl, by omega, ⟨g, hl1, fun _ => ge⟩, ⟨_, hR1.1⟩, (ct h1 hR1).wk (fun r2 h2 hq2 fr2 => ?_)⟩
      obtain ⟨v, τ', e2, tr, q1, q2, q3⟩ := hq2
      exact ⟨x, τ', by rw [e2, q1], q2, fun _ => rfl, LI.mk ci1 fr2 q3 tr hl1 b1 b2 b3 (by rw [e]; exact b4) (by rw [e]; exact b5)⟩
    · have hR' := hR.fr fr' nt
      obtain ⟨D, Tm, l, out, ea, tg, th, ci, b1, b2, b3, b4, b5, ct⟩ := he j Ex h1 hj hk fr'
      have hl1 := (fr'.2.2 _ _ hlo).1 n64
      have hjl : j < exs.length := (List.getElem?_eq_some_iff.mp hj).1
      refine ⟨j + 1, 0, rfl, by omega, ⟨g00, hl1, fun z => by omega⟩, ⟨_, hR'.1⟩, (ct h1 hR').wk (fun r2 h2 hq2 fr2 => ?_)⟩
      obtain ⟨v, τ', e2, tr, ⟨z, q1⟩, q2, q3⟩ := hq2
      exact ⟨z, τ', by rw [e2, q1], q2, fun z => by omega, LI.mk ci fr2 q3 tr hl1 b1 b2 b3 b4 b5⟩
  · rcases z with z | z
    · rw [z]; decide
    · exact (hS κ z).1
