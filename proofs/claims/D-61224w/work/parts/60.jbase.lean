/-! CONTRACTS WITHOUT EXCEPTIONS; private methods of a superclass; frames by address -/
set_option maxRecDepth 100000
def jK (P : Option Value → hP → Prop) : hO → hP → Prop := fun r h' => ∃ v, r = .inl v ∧ P v h'
def jC (Z : hE) (M : hM) (d : Nat) (S : Nat → Prop) (av : List Value) (h : hP) (P : Option Value → hP → Prop) : Prop := hCt Z M d S av h (jK P)
/-- nothing is changed, the answer is x -/
def jP (Z : hE) (M : hM) (d : Nat) (av : List Value) (h : hP) (x : Option Value) : Prop := jC Z M d (fun _ => False) av h (fun v h' => v = x ∧ h' = h)
theorem jC.of {Z : hE} {M : hM} {d : Nat} {S : Nat → Prop} {av : List Value} {h : hP} {P : Option Value → hP → Prop} {ls : List (Nat × Value)} (hy : plainName M.2.1.cls = true) (hx : M.2.2.2.2 = []) (hn : (lg_sl av).length ≤ M.2.2.1) (hl : lv_args 0 av = ls) (body : ∀ X : hX, hG Z X M d S h (jK P) 0 ls [] h) : jC Z M d S av h P := hCt.of hy hx hn hl body
theorem jC.mono {Z : hE} {M : hM} {d : Nat} {S : Nat → Prop} {av : List Value} {h : hP} {P P' : Option Value → hP → Prop} (c : jC Z M d S av h P) (hp : ∀ v h', P v h' → P' v h') : jC Z M d S av h P' := hCt.mono c (fun _ _ ⟨v, e, p⟩ => ⟨v, e, hp _ _ p⟩)
/-- the frame is shown by the contract itself -/
theorem hCt.shr {Z : hE} {M : hM} {d : Nat} {S S' : Nat → Prop} {av : List Value} {h : hP} {K : hO → hP → Prop} (c : hCt Z M d S' av h (fun r h' => K r h' ∧ hFr S h h')) : hCt Z M d S av h K := by
  intro hZ
  have hM := c hZ
  intro p e x1 x2 x3 s m args below y1 y2 y3 y4
  obtain ⟨k, o, z1, z2, z3, z4⟩ := hM p e x1 x2 x3 s m args below y1 y2 y3 y4
  refine ⟨k, o, z1, z2, z3, ?_⟩
  rcases z4 with ⟨⟨v, h', g1, g2, g3, g4, g5⟩, z5⟩ | ⟨q, w1, E, ce, L, ⟨h', g2, g3, g4, g5⟩, w3⟩
  · exact Or.inl ⟨⟨v, h', g1, g2, g3, g5.2, g5.1⟩, z5⟩
  · exact Or.inr ⟨q, w1, E, ce, L, ⟨h', g2, g3, g5.2, g5.1⟩, w3⟩
theorem hFr.setN {S : Nat → Prop} {h1 h2 : hP} {a : Nat} {c : hC} (hf : hFr S h1 h2) (hw : ∀ a c, h1.2.2 a = some c → a < h1.1) (hn : h1.1 ≤ a) : hFr S h1 (hSet h2 a c) := by
  refine ⟨hf.1, hf.2.1, fun q c1 e => ?_⟩
  obtain ⟨f1, c', e', k'⟩ := hf.2.2 q c1 e
  have hq : q ≠ a := by have := hw q c1 e; omega
  exact ⟨fun hn => by rw [hSet_n hq]; exact f1 hn, c', by rw [hSet_n hq]; exact e', k'⟩
/-- of what was there only cells of A have changed (and kept their kinds) -/
def hFa (A : Nat → Prop) (h h' : hP) : Prop := h.1 ≤ h'.1 ∧ h.2.1 ≤ h'.2.1 ∧ ∀ q c, h.2.2 q = some c → (¬ A q → h'.2.2 q = some c) ∧ ∃ c', h'.2.2 q = some c' ∧ c'.1 = c.1
theorem hFa.rf {A : Nat → Prop} (h : hP) : hFa A h h := ⟨Nat.le_refl _, Nat.le_refl _, fun _ c e => ⟨fun _ => e, c, e, rfl⟩⟩
theorem hFa.tr {A : Nat → Prop} {a b c : hP} (x : hFa A a b) (y : hFa A b c) : hFa A a c := by
  refine ⟨Nat.le_trans x.1 y.1, Nat.le_trans x.2.1 y.2.1, fun q k e => ?_⟩
  obtain ⟨f1, c', e', k'⟩ := x.2.2 q k e
  obtain ⟨f2, c'', e'', k''⟩ := y.2.2 q c' e'
  exact ⟨fun hn => (y.2.2 q k (f1 hn)).1 hn, c'', e'', k''.trans k'⟩
theorem hFa.mono {A B : Nat → Prop} {a b : hP} (x : hFa A a b) (h : ∀ q, A q → B q) : hFa B a b := ⟨x.1, x.2.1, fun q k e => ⟨fun hn => (x.2.2 q k e).1 (fun z => hn (h q z)), (x.2.2 q k e).2⟩⟩
theorem hFa.set {A : Nat → Prop} {h : hP} {a : Nat} {c c0 : hC} (h0 : h.2.2 a = some c0) (hk : c.1 = c0.1) (hA : A a) : hFa A h (hSet h a c) := by
  refine ⟨Nat.le_refl _, Nat.le_refl _, fun q k e => ?_⟩
  by_cases z : q = a
  · subst z
    rw [h0] at e; cases e
    exact ⟨fun n => absurd hA n, c, hSet_s _ _ _, hk⟩
  · exact ⟨fun _ => by rw [hSet_n z]; exact e, k, by rw [hSet_n z]; exact e, rfl⟩
theorem hFa.new {A : Nat → Prop} {h : hP} {c : hC} {n : Nat} (hw : ∀ a c, h.2.2 a = some c → a < h.1) : hFa A h (hNew h c n) := by
  refine ⟨Nat.le_succ _, Nat.le_add_right _ _, fun q k e => ?_⟩
  have hq : q ≠ h.1 := Nat.ne_of_lt (hw q k e)
  exact ⟨fun _ => by rw [hNew_n hq]; exact e, k, by rw [hNew_n hq]; exact e, rfl⟩
/-- a frame by address is one by kind, where the addresses are new or their kinds may change -/
theorem hFr.fa {S A : Nat → Prop} {h1 h2 h3 : hP} (hf : hFr S h1 h2) (x : hFa A h2 h3) (hA : ∀ q c, A q → h1.2.2 q = some c → S c.1) : hFr S h1 h3 := by
  refine ⟨Nat.le_trans hf.1 x.1, Nat.le_trans hf.2.1 x.2.1, fun q c e => ?_⟩
  obtain ⟨f1, c', e', k'⟩ := hf.2.2 q c e
  obtain ⟨f2, c'', e'', k''⟩ := x.2.2 q c' e'
  refine ⟨fun hn => ?_, c'', e'', k''.trans k'⟩
  exact (x.2.2 q c (f1 hn)).1 (fun z => hn (hA q c z e))
/-- what selects a private method -/
def hSel (C : String) (y : MethodName) : Prop := ∀ Z : hE, hEnv Z → ∀ U : State, Z.2.1.WarmedH U.vm → ∀ args : Array Value, (Cond.selects C y y).before args U = true
theorem hSel.of {C : String} {y z : MethodName} (hcl : y.cls = z.cls) (hz : Cond.selects C z z ∈ lw_all) (hp : Cond.privateMethod y ∈ lw_tbl) (hg : hGw (Cond.privateMethod y) = true) (hi : Cond.instanceMethod y ∈ lw_all) (hy : y.cls ≠ "java/lang/invoke/MethodHandle" ∧ y.cls ≠ "java/lang/invoke/VarHandle") : hSel C y := by
  intro Z hZ U hW args
  obtain ⟨c, r, m, h1, -, h3, -, kP, h5, h6⟩ := Cond.selects_spec (hWord hZ hW (args := args) hz)
  obtain ⟨mk, methM, hnamed, hmethM, -, -⟩ := Cond.instanceMethod_spec (hWord hZ hW (args := args) hi)
  have hfound : U.methodFound? y.cls y.name y.desc = some mk := State.methodFound?_of_named hnamed hy
  have hcls : mk.cls = m.cls := by
    have e1 := findClass_of_methodNamed hnamed
    have e2 := findClass_of_methodNamed h3
    rw [hcl] at e1
    exact Option.some.inj (e1.symm.trans e2)
  have hsel : selectMethod {} U.vm c mk = .method mk := selectMethod_private hmethM (Cond.privateMethod_at (hGwW hZ hW (args := args) hp hg) mk methM hnamed hmethM)
  simp only [Cond.before, Cond.holds, Cond.value, h1, hfound, hnamed, hsel, hcls, h5]
  simp; exact h6
section JB
variable {Z : hE} {X : hX} {M : hM} {d : Nat} {S : Nat → Prop} {hin : hP} {K : hO → hP → Prop} {pc : Nat} {ls : List (Nat × Value)} {st : List Value} {h : hP}
variable {M' : hM} {S' : Nat → Prop} {K' : hO → hP → Prop} {As rest : List Value} {n idx κ b : Nat} {r : vw_C} {fs : List Value} {P : Option Value → hP → Prop}
/-- invokevirtual of a private method of the receiver's superclass -/
theorem g_invP {st0 : List Value} (hd : decode M.1 pc = .ok (.invokevirtual idx, 3)) (hb : h.2.2 b = some (κ, .inl fs)) (hr : hCl (κ % 100) = some r) (hc : hCt Z M' d S' (.ref b :: As) h K') (me : hMe M' n) (q1 : Cond.methodLink M.2.1.cls idx M'.2.1 ∈ lw_all) (q2 : Cond.instanceMethod M'.2.1 ∈ lw_all) (q3 : hSel r.1 M'.2.1) (hn : As.length = n) (hst : st0 = As.reverse ++ .ref b :: rest) (hw : (rest.map fun v => v.category).sum ≤ 8) (hS : ∀ κ, S' κ → S κ)
    (kn : ∀ v h', K' (.inl v) h' → hFr S' h h' → hG Z X M (d + 1) S hin K (pc + 3) ls (v.toList ++ rest) h')
    (kx : ∀ E h', K' (.inr E) h' → hFr S' h h' → hGX Z X M (d + 1) S hin K pc ls E h') : hG Z X M (d + 1) S hin K pc ls st0 h := by
  intro O F H locs la a1 a2 a3 a4 a5
  have hZ := O.1
  have hW := O.2.2.2.2.2.1
  have hts : ∀ w ∈ lw_all, w.before X.2.2.2.2.1 X.2.2.1 = true := fun w hw => hWord hZ hW hw
  have hM := hc hZ
  rw [me.ws] at hM
  obtain ⟨m1, m2, m3, m4, m5, m6, m7⟩ := me
  refine hAfter (av := (Value.ref b :: As).toArray) O F a2 a4 a5 hS (vx_runV (C := r.1) (Ts := lw_all) (As := As) (rest := rest) (n := n) (maxL := M'.2.2.1) (bytes := M'.1) (ret := M'.2.2.2.1) ⟨O.2.1, O.2.2.1, O.2.2.2.1, O.2.2.2.2.1, hts⟩ hM ⟨⟨rfl, rfl, (hRoom m4).1, (hRoom m4).2, hPay hZ hW m7, List.mem_cons_self, hts _ m7, hts _ m1, m2, hMe.len m3, hts _ q1⟩, hts _ q2, q3 Z hZ _ hW _⟩ (hPreV O a1 hb hr) rfl hn a5.1 hst (lv_room hw) hd (hFit (d := d + 1) a1 O.2.2.2.2.2.2.1 a2 F a3)) kn kx
theorem jk_n {Kn : Option Value → hP → Prop} (kk : ∀ v h', P v h' → hFr S' h h' → Kn v h') : ∀ v h', jK P (.inl v) h' → hFr S' h h' → Kn v h' := fun v h' hk fr => by
  obtain ⟨v', e, p⟩ := hk
  cases e
  exact kk v h' p fr
theorem jk_x {Kx : String → hP → Prop} : ∀ E h', jK P (.inr E) h' → hFr S' h h' → Kx E h' := fun E h' hk _ => by
  obtain ⟨v', e, _⟩ := hk
  cases e
theorem jk_e {x : Option Value} {Kn : Option Value → hP → Prop} (kk : Kn x h) : ∀ v h', jK (fun v h' => v = x ∧ h' = h) (.inl v) h' → hFr S' h h' → Kn v h' := fun v h' hk _ => by
  obtain ⟨v', e, e1, e2⟩ := hk
  cases e
  subst e1; subst e2
  exact kk
theorem jF : ∀ κ : Nat, (fun _ => False) κ → S κ := fun _ z => z.elim
end JB
