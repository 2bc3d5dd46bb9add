/-! COMPONENT 43: Parser.block -/
set_option maxRecDepth 100000
/-- the Parser's cell -/
abbrev pCl (E s p g : Nat) (pl tr ins : Value) : hC := (9, .inl [.ref E, .ref s, .int (nI p), .int (nI g), pl, tr, ins])
def pzS : Nat → Prop := fun κ => κ = 9 ∨ κ = 130 ∨ κ = 631 ∨ κ = 660
def pzX : Nat → Prop := fun κ => κ = 1 ∨ pzS κ
theorem pzS.t : cNT pzS := by
  intro κ hκ z
  simp only [List.mem_cons, List.not_mem_nil, or_false] at hκ
  rcases z with z | z | z | z <;> omega
theorem pzS.x {κ : Nat} (h : pzS κ) : pzX κ := Or.inr h
theorem pzS_no {κ : Nat} (h : κ ≠ 9 ∧ κ ≠ 130 ∧ κ ≠ 631 ∧ κ ≠ 660) : ¬ pzS κ := by
  rintro (z | z | z | z) <;> omega
/-- an object of a class of Parts -/
def pKd (h : hP) (a : Nat) : Prop := ∃ κ fs r, h.2.2 a = some (κ, .inl fs) ∧ hCl (κ % 100) = some r ∧ Cond.castable r.1 "java/lang/Object" ∈ lw_tbl ∧ Cond.castable r.1 "TemplateEngine$Part" ∈ lw_tbl ∧ (κ = 10 ∨ κ = 11 ∨ κ = 16 ∨ κ = 17 ∨ κ = 18)
theorem pKd.el {h : hP} {a : Nat} (x : pKd h a) : elK h a := by
  obtain ⟨κ, fs, r, e1, e2, e3, -⟩ := x
  exact ⟨_, r, e1, e2, e3⟩
theorem pKd.fr {S : Nat → Prop} {h h' : hP} {a : Nat} (f : hFr S h h') (n : cNT S) (x : pKd h a) : pKd h' a := by
  obtain ⟨κ, fs, r, e1, e2, e3, e4, e5⟩ := x
  refine ⟨κ, fs, r, (f.2.2 _ _ e1).1 ?_, e2, e3, e4, e5⟩
  rcases e5 with z | z | z | z | z <;> (show ¬ S κ; rw [z]; exact n _ (by decide))
/-- a fault: the machine comes to it too; errorAt is its place -/
def psX (l : List Nat) (E : Nat) (ev : Int32 → hC) (h : hP) (c s p : Nat) (st : tPs) : hO → hP → Prop := fun r h' => ∃ x gx Tx, r = .inr IAE ∧ tpFn (lF l) l.length st (some x, gx, Tx) ∧ h'.2.2 E = some (ev (nI x)) ∧ hFr pzX h h' ∧ h'.1 + 100 * p ≤ h.1 + 100 * l.length + c ∧ h'.2.1 + 1000 * p ≤ h.2.1 + 1000 * l.length + s
/-- after Parser.parts -/
def psQ (l : List Nat) (E P s : Nat) (ev : Int32 → hC) (h : hP) (n p g : Nat) (S : List Nat) (T : tTb) : hO → hP → Prop := fun r h' => cMn h h' ∧ (
  (∃ arr p1 g1 T1 pe, r = .inl (some (.ref arr)) ∧ tpTo (lF l) l.length (p, g, S, T) (p1, g1, S, T1) ∧ tInv l.length (p1, g1, S, T1) ∧ g ≤ g1 ∧ p ≤ p1 ∧ tE g T T1 ∧ hFr pzS h h' ∧ h'.1 + 100 * p ≤ h.1 + 100 * p1 + 30 ∧ h'.2.1 + 1000 * p ≤ h.2.1 + 1000 * p1 + 1000 ∧
     (∀ T' G, adm g g1 p1 T1 T' G → stpT T' G l.length g1 = pe → cPs h' (lF l) T' G l.length n p g pe g1 arr) ∧ (∃ k F, h'.2.2 arr = some (66, .inr (k, F))) ∧
     ((S = [] ∧ tkT (lF l) l.length p1 = none ∧ pe = l.length ∧ ∃ tr ins, h'.2.2 P = some (pCl E s l.length g1 (.int (-1)) tr ins)) ∨
      (S ≠ [] ∧ ∃ t w i κi, tkT (lF l) l.length p1 = some (.inr t) ∧ pe = t.1 ∧ enB w = true ∧ t.2.2.2.2 = enS w ∧ h'.2.2 P = some (pCl E s t.2.2.2.1 (g1 + 1) (.int (nI t.1)) (.int (nI 0)) (.ref i)) ∧ jSt h' κi i w ∧ kK κi))) ∨
  psX l E ev h 200 3000 p (p, g, S, T) r h')
/-- after Parser.part -/
def ptN (l : List Nat) (E P s : Nat) (h : hP) (n p g k : Nat) (S : List Nat) (T : tTb) (c c2 : Nat) : hO → hP → Prop := fun r h' => (∃ a p2 g2 T2 pl tr ins, r = .inl (some (.ref a)) ∧ tpTo (lF l) l.length (p, g, S, T) (p2, g2, S, T2) ∧ tInv l.length (p2, g2, S, T2) ∧ g < g2 ∧ p ≤ k ∧ k ≤ p2 ∧ (T2.1 g).1 = k ∧ tE g T T2 ∧ hFr pzS h h' ∧ h'.1 + c + 100 * k ≤ h.1 + 100 * p2 ∧ h'.2.1 + c2 + 1000 * k ≤ h.2.1 + 1000 * p2 ∧ h'.2.2 P = some (pCl E s p2 g2 pl tr ins) ∧ pKd h' a ∧
     ∀ T' G, adm g g2 p2 T2 T' G → cPart h' (lF l) T' G l.length (cPr h' (lF l) T' G l.length n) k g p2 g2 a)
def paQ (l : List Nat) (E P s : Nat) (ev : Int32 → hC) (h : hP) (n p g k : Nat) (S : List Nat) (T : tTb) (c c2 x x2 : Nat) : hO → hP → Prop := fun r h' => cMn h h' ∧ (ptN l E P s h n p g k S T c c2 r h' ∨ psX l E ev h x x2 p (p, g, S, T) r h')
theorem paQ.pre {l : List Nat} {E P s : Nat} {ev : Int32 → hC} {h0 h : hP} {n p g k : Nat} {S : List Nat} {T : tTb} {c c2 x x2 c' c2' x' x2' : Nat} {r : hO} {h' : hP} (q : paQ l E P s ev h n p g k S T c c2 x x2 r h') (f : hFr pzS h0 h) (m : cMn h0 h) (r1 : h.1 + c' ≤ h0.1 + c) (r2 : h.2.1 + c2' ≤ h0.2.1 + c2) (r3 : h.1 + x ≤ h0.1 + x') (r4 : h.2.1 + x2 ≤ h0.2.1 + x2') : paQ l E P s ev h0 n p g k S T c' c2' x' x2' r h' := by
  obtain ⟨m1, q⟩ := q
  refine ⟨m.tr m1, ?_⟩
  rcases q with ⟨a, p2, g2, T2, pl, tr, ins, y1, y2, y3, y4, y5, y6, y7, y8, y9, y10, y11, y12⟩ | ⟨z, gx, Tx, y1, y2, y3, y4, y5, y6⟩
  · exact Or.inl ⟨a, p2, g2, T2, pl, tr, ins, y1, y2, y3, y4, y5, y6, y7, y8, f.tr y9, by omega, by omega, y12⟩
  · exact Or.inr ⟨z, gx, Tx, y1, y2, y3, (hFr.mono (fun _ => pzS.x) f).tr y4, by omega, by omega⟩
/-- Parser.parts does its work -/
def psC (Z : hE) (l : List Nat) (E P s : Nat) (ev : Int32 → hC) (n D : Nat) : Prop := ∀ (h : hP) (p g : Nat) (S : List Nat) (T : tTb) (κ : Nat) (pl tr ins : Value) (bg ea : Int32), S.length + n = 4 → tInv l.length (p, g, S, T) → h.2.2 P = some (pCl E s p g pl tr ins) → jSt h κ s l → kK κ → h.2.2 E = some (ev ea) → (∀ b S', S = b :: S' → bg = nI (T.1 b).1) → h.1 + 100 * l.length + 3000 ≤ hLC Z + 100 * p → h.2.1 + 1000 * l.length + 61000 ≤ hLS + 1000 * p → hCt Z mX9_parts D pzX [.ref P, .int (nI S.length), .int bg] h (psQ l E P s ev h n p g S T)
theorem psX.pre {l : List Nat} {E : Nat} {ev : Int32 → hC} {h0 h : hP} {c s p c' s' p' : Nat} {st st' : tPs} {r : hO} {h' : hP} (x : psX l E ev h c s p st r h') (f : hFr pzX h0 h) (t : tpTo (lF l) l.length st' st) (r1 : h.1 + 100 * p' + c ≤ h0.1 + 100 * p + c') (r2 : h.2.1 + 1000 * p' + s ≤ h0.2.1 + 1000 * p + s') : psX l E ev h0 c' s' p' st' r h' := by
  obtain ⟨x, gx, Tx, e1, e2, e3, e4, e5, e6⟩ := x
  exact ⟨x, gx, Tx, e1, t.fin e2, e3, f.tr e4, by omega, by omega⟩
/-- a fault now -/
theorem psX.new {l : List Nat} {E k : Nat} {h0 h : hP} {c s p : Nat} {st : tPs} {e0 e1 e2 e3 e5 e6 e7 : Value} {ea : Int32} {gx : Nat} {Tx : tTb} (hE : h.2.2 E = some (eC e0 e1 e2 e3 ea e5 e6 e7)) (f : hFr pzX h0 h) (hwf : ∀ a c, h.2.2 a = some c → a < h.1) (t : tpFn (lF l) l.length st (some k, gx, Tx)) (r1 : h.1 + 1 + 100 * p ≤ h0.1 + 100 * l.length + c) (r2 : h.2.1 + 6 + 1000 * p ≤ h0.2.1 + 1000 * l.length + s) : psX l E (fun v => eC e0 e1 e2 e3 v e5 e6 e7) h0 c s p st (.inr IAE) (hNew (hSet h E (eC e0 e1 e2 e3 (nI k) e5 e6 e7)) (41, .inl []) 6) := by
  have hne : E ≠ (hSet h E (eC e0 e1 e2 e3 (nI k) e5 e6 e7)).1 := Nat.ne_of_lt (hwf _ _ hE)
  refine ⟨k, gx, Tx, rfl, t, (hNew_n hne).trans (hSet_s _ _ _), f.tr ?_, ?_, ?_⟩
  · have f1 : hFr pzX h (hSet h E (eC e0 e1 e2 e3 (nI k) e5 e6 e7)) := (hFr.rf h).set hE rfl (Or.inl rfl)
    refine f1.new (fun a c' hc' => ?_)
    by_cases z : a = E
    · rw [z]; exact hwf _ _ hE
    · rw [hSet_n z] at hc'; exact hwf _ _ hc'
  · simp only [hNew_1, hSet_1]; omega
  · simp only [hNew_2, hSet_2]; omega
theorem cMn.flt {E : Nat} {h : hP} {c c0 : hC} {k : Nat} (hE : h.2.2 E = some c0) (h0 : c0.1 = 1) (hc : c.1 = c0.1) (hwf : ∀ a c, h.2.2 a = some c → a < h.1) : cMn h (hNew (hSet h E c) (k, .inl []) 6) := by
  have f1 : hFr (fun κ => κ = 1) h (hSet h E c) := (hFr.rf h).set hE hc h0
  have f2 : hFr (fun κ => κ = 1) h (hNew (hSet h E c) (k, .inl []) 6) := f1.new (fun a c' hc' => by
    by_cases z : a = E
    · rw [z]; exact hwf _ _ hE
    · rw [hSet_n z] at hc'; exact hwf _ _ hc')
  exact cMn.ft f2 (by decide) (by decide) (by decide) (by decide) (by decide) (by decide)
/-- the block is closed: the table; what goes on from it goes on from the inner states -/
theorem adm.in1 {g g2 p2 g' p' : Nat} {T T2 T' : tTb} {t2 : tGt} {G : Nat} (x : adm g (g2 + 1) p2 ((tT1 T2 g2 t2).1, (tT1 T2 g2 t2).2.1, upO (upO (tT1 T2 g2 t2).2.2 g2 (some g)) g (some g2)) T' G) (hg : g < g') (h2 : g' ≤ g2) (hE : ∀ j, j < g' → T2.1 j = T.1 j) (hL : ∀ j, g + 1 ≤ j → j < g' → T2.2.1 j = T.2.1 j ∧ T2.2.2 j = T.2.2 j) (hp : p' ≤ ((tT1 T2 g2 t2).1 g').1) : adm (g + 1) g' p' T T' G := by
  obtain ⟨a, b, c, d⟩ := x
  refine ⟨by omega, fun j hj => ?_, fun j h0 hj => ?_, fun _ => by rw [b g' (by omega)]; exact hp⟩
  · rw [b j (by omega)]
    show upO T2.1 g2 t2 j = _
    rw [upO_n (by omega)]
    exact hE j hj
  · obtain ⟨c1, c2⟩ := c j (by omega) (by omega)
    obtain ⟨l1, l2⟩ := hL j h0 hj
    refine ⟨c1.trans ?_, c2.trans ?_⟩
    · show upO T2.2.1 g2 none j = _
      rw [upO_n (by omega)]
      exact l1
    · show upO (upO (upO T2.2.2 g2 none) g2 (some g)) g (some g2) j = _
      rw [upO_n (by omega), upO_n (by omega), upO_n (by omega)]
      exact l2
section BK
variable {Z : hE} {h : hP} {l xl : List Nat} {E P s b x κ κx n p g k fr q0 en so e : Nat} {S : List Nat} {T : tTb} {tr ins e0 e1 e2 e3 e5 e6 e7 : Value} {ea : Int32}
set_option maxHeartbeats 4000000 in
theorem pt_block (hn : S.length + n = 4) (IH : ∀ n', n = n' + 1 → psC Z l E P s (fun v => eC e0 e1 e2 e3 v e5 e6 e7) n' (e + 3 * n' + 13)) (inv : tInv l.length (p, g, S, T)) (hL : l.length ≤ 64) (hQ : h.2.2 P = some (pCl E s en (g + 1) (.int (nI k)) tr ins)) (hs : jSt h κ s l) (hκ : kK κ) (hE : h.2.2 E = some (eC e0 e1 e2 e3 ea e5 e6 e7)) (hb : jSt h 930 b (nmB3 so)) (h3 : 3 ≤ so ∧ so ≤ 5) (hx : jSt h κx x xl) (kx : kK κx)
    (hok : isEx (lF xl) xl.length 0 = true → tkT (lF l) l.length p = some (.inr (k, fr, q0, en, so)) ∧ exO (lF l) q0 (fr + (if so = 3 then 4 else 6)) = exO (lF xl) xl.length 0) (hno : ¬ isEx (lF xl) xl.length 0 = true → tkT (lF l) l.length p = some (.inl k)) (hen : k + xl.length + 8 ≤ en) (henN : en ≤ l.length) (hpk : p ≤ k) (r1 : h.1 + 100 * l.length + 2900 ≤ hLC Z + 100 * p) (r2 : h.2.1 + 1000 * l.length + 60400 ≤ hLS + 1000 * p) : hCt Z mX9_block (e + 3 * n + 11) pzX [.ref P, .ref b, .ref x, .int (nI S.length)] h (paQ l E P s (fun v => eC e0 e1 e2 e3 v e5 e6 e7) h n p g k S T 120 600 120 2000) := by
  refine hCt.shr (S' := kAll) ?_
  refine hCt.of pnX9 rfl (Nat.le_of_ble_eq_true rfl) rfl (fun X => ?_)
  generalize hKK : (fun r h' => paQ l E P s (fun v => eC e0 e1 e2 e3 v e5 e6 e7) h n p g k S T 120 600 120 2000 r h' ∧ hFr pzX h h') = KK
  have fX : ∀ r h', cMn h h' → psX l E (fun v => eC e0 e1 e2 e3 v e5 e6 e7) h 120 2000 p (p, g, S, T) r h' → KK r h' := fun r h' m z => by
    rw [← hKK]
    obtain ⟨x, gx, Tx, z1, z2, z3, z4, z5, z6⟩ := id z
    exact ⟨⟨m, Or.inr z⟩, z4⟩
  have fS : ∀ r h', cMn h h' → hFr pzS h h' → ptN l E P s h n p g k S T 120 600 r h' → KK r h' := fun r h' m f z => by
    rw [← hKK]
    exact ⟨⟨m, Or.inl z⟩, hFr.mono (fun _ => pzS.x) f⟩
  clear hKK
  have hg1 : 1 ≤ xl.length + 8 := by omega
  have no9 : ¬ pzS 1 := by rintro (z | z | z | z) <;> cases z
  have no30 : ∀ {κ}, kK κ → ¬ pzS κ := by
    intro κ hk
    rcases hk with z | z <;> rw [z] <;> (rintro (z | z | z | z) <;> cases z)
  have no60 : ¬ pzS 60 := by rintro (z | z | z | z) <;> cases z
  have no960 : ¬ pzS 960 := by rintro (z | z | z | z) <;> cases z
  have s130 : ∀ {h1 h2 : hP}, hFr (fun κ => κ = 130) h1 h2 → hFr pzS h1 h2 := fun f => hFr.mono (fun _ z => Or.inr (Or.inl z)) f
  have sF : ∀ {h1 h2 : hP}, hFr (fun _ => False) h1 h2 → hFr pzS h1 h2 := fun f => hFr.mono (fun _ z => z.elim) f
  have mF : ∀ {h1 h2 : hP}, hFr (jSS 6) h1 h2 → cMn h1 h2 := fun f => cMn.jss f (by decide)
  have s6 : ∀ {h1 h2 : hP}, hFr (jSS 6) h1 h2 → hFr pzS h1 h2 := fun f => hFr.mono (fun _ z => Or.inr (Or.inr z)) f
  -- the end of the block
  have tail : ∀ (h4 : hP) (A1 A2 a5 p2 g2 : Nat) (T4 : tTb) (t2 : tGt) (w2 : List Nat) (i2 κ2 : Nat), isEx (lF xl) xl.length 0 = true → cEx h4 (exO (lF xl) xl.length 0) a5 → tpTo (lF l) l.length (p, g, S, T) (p2, g2, g :: S, T4) → tInv l.length (p2, g2, g :: S, T4) → tkT (lF l) l.length p2 = some (.inr t2) → enB w2 = true → t2.2.2.2.2 = enS w2 → h4.2.2 P = some (pCl E s t2.2.2.2.1 (g2 + 1) (.int (nI t2.1)) (.int (nI 0)) (.ref i2)) → jSt h4 κ2 i2 w2 → kK κ2 → hFr pzS h h4 → cMn h h4 → h4.1 + 100 * k + 300 ≤ h.1 + 100 * p2 → h4.2.1 + 1000 * k + 1000 ≤ h.2.1 + 1000 * p2 → g < g2 → T4.1 g = (k, fr, q0, en, so) → (enS w2 = 6 → ∃ m, T4.2.1 g = some m) → tE g T T4 → (∃ na Fa, h4.2.2 A1 = some (66, .inr (na, Fa))) → (∃ na Fa, h4.2.2 A2 = some (66, .inr (na, Fa))) →
      (∀ T' G h5, hFr pzS h4 h5 → cMn h4 h5 → adm g (g2 + 1) t2.2.2.2.1 ((tT1 T4 g2 t2).1, (tT1 T4 g2 t2).2.1, upO (upO (tT1 T4 g2 t2).2.2 g2 (some g)) g (some g2)) T' G → (T'.2.1 g = none ∧ cPr h5 (lF l) T' G l.length n en (g + 1) t2.1 g2 A1 ∧ ∃ F, h5.2.2 A2 = some (66, .inr (0, F))) ∨ (∃ m1, T'.2.1 g = some m1 ∧ m1 < G ∧ (T'.1 m1).2.2.2.2 = 6 ∧ cPr h5 (lF l) T' G l.length n en (g + 1) (T'.1 m1).1 m1 A1 ∧ cPr h5 (lF l) T' G l.length n (T'.1 m1).2.2.2.1 (m1 + 1) t2.1 g2 A2)) →
      hG Z X mX9_block (e + 3 * n + 11) kAll h KK 71 [(0, .ref P), (1, .ref b), (2, .ref x), (3, .int (nI S.length)), (4, .int (nI k)), (5, .ref a5), (6, .ref A1), (7, .ref A2)] [] h4 := by
    intro h4 A1 A2 a5 p2 g2 T4 t2 w2 i2 κ2 hx5 cx to2 inv2 ht2 hen2 hso2 hP4 ji kκ2 f4 m4 c1 c2 hgg hTg hel hTE hA1 hA2 hh
    obtain ⟨hok1, hok2⟩ := hok hx5
    obtain ⟨tb1, tb2⟩ := tkT_ok ht2
    unfold tgOK at tb2
    have f4s := f4.1
    have hE4 := (f4.2.2 _ _ hE).1 no9
    have kwi := ji.cl
    have ji0 := ji
    obtain ⟨-, -, bwi, κbi, hsi, hzi, hswi, -⟩ := ji0
    refine g_aload_n (pc := 71) dX9_block_71 rfl rfl ?_
    refine g_get (pc := 72) (r := (RX9, TX9, 7)) 6 dX9_block_72 hP4 rfl (Nat.le_of_ble_eq_true rfl) q1022 (Or.inl rfl) rfl ?_
    refine g_new (pc := 75) (r := (RJ8, TJ8, 4)) (fs := [.null, .int (nI 0), .int (nI 0), .int (nI 0)]) 631 dX9_block_75 rfl (by decide) q1353 q190 q81 rfl (by first | omega | (simp only [hNew_1, hNew_2, hSet_1, hSet_2]; omega)) (by first | omega | (simp only [hNew_1, hNew_2, hSet_1, hSet_2]; omega)) (fun hwf4 => ?_)
    refine g_dup (pc := 78) dX9_block_78 rfl ?_
    have n5 := hNew_s h4 (631, .inl [.null, .int (nI 0), .int (nI 0), .int (nI 0)]) 4
    refine g_invI (pc := 79) dX9_block_79 (jc_sbInit0 (γ := 6) (e + 3 * n + 8) .null (.int (nI 0)) (nI 0) (nI 0) (by decide) n5 (by simp only [hNew_1]; omega) (by simp only [hNew_2]; omega)) meJ8_init rfl rfl q1354 q192 rfl rfl (Nat.le_of_ble_eq_true rfl) (fun κ z => by rcases z with z | z <;> rw [z] <;> exact Nat.le_of_ble_eq_true rfl) (jk_n (fun v h5 hp5 fr5 => ?_)) jk_x
    obtain ⟨rfl, e5'⟩ := hp5
    have hB5 : jSB h5 6 h4.1 16 [] := by rw [e5']; exact jSB.ini (by decide) (by omega) hwf4
    have z51 : h5.1 = h4.1 + 2 := by rw [e5']; rfl
    have z52 : h5.2.1 = h4.2.1 + 20 := by rw [e5']; rfl
    have f45 : hFr (jSS 6) h4 h5 := (hFr.mono (fun _ z => z.elim) ((hFr.rf (S := fun _ => False) h4).new hwf4)).tr fr5
    clear e5' fr5
    have hB50 := hB5
    obtain ⟨-, -, -, -, bb5, ml5, ff5, hb5, -⟩ := hB50
    refine g_ldcK (pc := 82) dX9_block_82 ksX9_169 (fun hk47 => ?_)
    refine g_invV (pc := 84) dX9_block_84 hb5 rfl (jc_append (γ := 6) (e + 3 * n + 5) 930 _ _ hB5 hk47 (by decide) (by omega) (by show _ + 2 * 1 ≤ _; omega)) meJ8_append q1356 q224 q225 rfl rfl (Nat.le_of_ble_eq_true rfl) (fun κ z => by rcases z with z | z <;> rw [z] <;> exact Nat.le_of_ble_eq_true rfl) (jk_n (fun v h6 hp6 fr6 => ?_)) jk_x
    obtain ⟨rfl, cap6, hB6, gr6⟩ := hp6
    obtain ⟨g61, g62, g63, g64⟩ := gr6
    have g62 : cap6 ≤ max 16 (2 * 1) := g62
    have f46 := f45.tr fr6
    have hb6s := hb.fr (f4.tr (s6 f46)) (by rintro (z | z | z | z) <;> cases z) no60 no960
    have hB60 := hB6
    obtain ⟨-, -, -, -, bb6, ml6, ff6, hb6, -⟩ := hB60
    have nml : (nmB3 so).length ≤ 4 := by
      have : so = 3 ∨ so = 4 ∨ so = 5 := by omega
      rcases this with z | z | z <;> rw [z] <;> decide
    refine g_aload_n (pc := 87) dX9_block_87 rfl rfl ?_
    refine g_invV (pc := 88) dX9_block_88 hb6 rfl (jc_append (γ := 6) (e + 3 * n + 5) 930 _ _ hB6 hb6s (by show 1 + _ ≤ _; omega) (by omega) (by show _ + 2 * (1 + _) ≤ _; omega)) meJ8_append q1356 q224 q225 rfl rfl (Nat.le_of_ble_eq_true rfl) (fun κ z => by rcases z with z | z <;> rw [z] <;> exact Nat.le_of_ble_eq_true rfl) (jk_n (fun v h7 hp7 fr7 => ?_)) jk_x
    obtain ⟨rfl, cap7, hB7, gr7⟩ := hp7
    obtain ⟨g71, g72, g73, g74⟩ := gr7
    have g72 : cap7 ≤ max cap6 (2 * (1 + (nmB3 so).length)) := g72
    have f47 := f46.tr fr7
    have hB70 := hB7
    obtain ⟨-, -, -, -, bb7, ml7, ff7, hb7, -⟩ := hB70
    have hl47 : ([] ++ [47] ++ nmB3 so).length = 1 + (nmB3 so).length := by rw [List.length_append]; rfl
    refine g_invV (pc := 91) dX9_block_91 hb7 rfl (jc_toString (γ := 6) (e + 3 * n + 5) hB7 (by omega) (by rw [hl47]; omega)) meJ8_toString q1357 q369 q370 rfl rfl (Nat.le_of_ble_eq_true rfl) jF (jk_n (fun v h8 hp8 fr8 => ?_)) jk_x
    obtain ⟨rfl, j8, rm8⟩ := hp8
    have rm81 := rm8.1
    have rm82 := rm8.2
    rw [hl47] at rm82
    have f48 : hFr (jSS 6) h4 h8 := f47.tr (hFr.mono (fun _ z => z.elim) fr8)
    have m48 := mF f48
    have f08 := f4.tr (s6 f48)
    have m08 := m4.tr m48
    have ji8 := ji.fr (s6 f48) (no30 kκ2) no60 no960
    have kwi8 := ji8.cl
    have ji80 := ji8
    obtain ⟨-, -, bwi8, κbi8, hsi8, hzi8, hswi8, -⟩ := ji80
    refine g_invV (pc := 94) dX9_block_94 hswi8 kwi8 (jc_equals (e + 3 * n + 9) 30 _ _ ji8 j8) meJ9_equals q1148 q965 q966 rfl rfl (Nat.le_of_ble_eq_true rfl) (by first | exact jF | exact fun _ z => z | assumption | (intro κ z; simp_all)) (jk_e ?_) jk_x
    have hE8 := (f08.2.2 _ _ hE).1 no9
    have hP8 := (f48.2.2 _ _ hP4).1 (by rintro (z | z) <;> cases z)
    have heq : (w2 = [] ++ [47] ++ nmB3 so) ↔ so + 4 = enS w2 := enS_end hen2 h3
    by_cases hq : so + 4 = enS w2
    · rw [decide_eq_true (heq.mpr hq)]
      refine g_if_ne (pc := 97) (tgt := 112) dX9_block_97 rfl (fun _ => ?_) (fun q_ => absurd q_ (by decide))
      refine g_new (pc := 112) (r := (RX17, TX17, 4)) (fs := [.null, .null, .null, .null]) 17 dX9_block_112 rfl (by decide) q1358 q1359 q114 rfl (by first | omega | (simp only [hNew_1, hNew_2, hSet_1, hSet_2]; omega)) (by first | omega | (simp only [hNew_1, hNew_2, hSet_1, hSet_2]; omega)) (fun hwf8 => ?_)
      refine g_dup (pc := 115) dX9_block_115 rfl ?_
      refine g_aload_n (pc := 116) dX9_block_116 rfl rfl ?_
      refine g_aload (pc := 117) dX9_block_117 rfl ?_
      refine g_aload (pc := 119) dX9_block_119 rfl ?_
      refine g_aload (pc := 121) dX9_block_121 rfl ?_
      have n9 := hNew_s h8 (17, .inl [.null, .null, .null, .null]) 4
      refine g_invIN (pc := 123) dX9_block_123 (ci_X17 (e + 3 * n + 8) _ _ _ _ _ _ _ _ n9) meX17_init rfl rfl q1360 q1361 rfl rfl (Nat.le_of_ble_eq_true rfl) (fun κ z => by rw [z]; exact Nat.le_of_ble_eq_true rfl) (jk_n (fun v h9 hp9 fr9 => ?_)) jk_x
      obtain ⟨rfl, rfl⟩ := hp9
      rw [hSet_New]
      have f89 : hFr (fun _ => False) h8 (hNew h8 (17, .inl [.ref b, .ref a5, .ref A1, .ref A2]) 4) := (hFr.rf h8).new hwf8
      have m89 := cMn.F f89
      have f49 := (s6 f48).tr (sF f89)
      refine g_aret (pc := 126) dX9_block_126 rfl (Or.inl ⟨_, rfl⟩) (Or.inr ⟨_, rfl⟩) ?_
      have hs7 : 7 ≤ t2.2.2.2.2 ∧ t2.2.2.2.2 ≤ 9 := by rw [hso2]; omega
      have stE := ts_end (S := S) (T := T4) ht2 hs7 hgg (by rw [hTg, hso2]; exact hq)
      have inv3 := tInv_step inv2 stE
      refine fS _ _ (m08.tr m89) (f08.tr (sF f89)) ⟨_, _, _, _, _, _, _, rfl, to2.trans (tpTo.one stE), inv3, by omega, hpk, by omega, ?_, ?_, f08.tr (sF f89), ?_, ?_, (f89.2.2 _ _ hP8).1 (fun z => z), ⟨17, _, (RX17, TX17, 4), hNew_s _ _ _, rfl, q2311, q1491, Or.inr (Or.inr (Or.inr (Or.inl rfl)))⟩, fun T' G hadm => ?_⟩
      · show ((tT1 T4 g2 t2).1 g).1 = k
        show (upO T4.1 g2 t2 g).1 = k
        rw [upO_n (by omega), hTg]
      · intro j hj
        obtain ⟨z1, z2, z3⟩ := hTE j hj
        refine ⟨?_, ?_, ?_⟩
        · show upO T4.1 g2 t2 j = _
          rw [upO_n (by omega)]; exact z1
        · show upO T4.2.1 g2 none j = _
          rw [upO_n (by omega)]; exact z2
        · show upO (upO (upO T4.2.2 g2 none) g2 (some g)) g (some g2) j = _
          rw [upO_n (by omega), upO_n (by omega), upO_n (by omega)]; exact z3
      · simp only [hNew_1]; omega
      · simp only [hNew_2]; omega
      · have ad := hadm
        obtain ⟨a1, a2, a3, a4⟩ := hadm
        have ag : T'.1 g = (k, fr, q0, en, so) := by
          rw [a2 g (by omega)]
          show upO T4.1 g2 t2 g = _
          rw [upO_n (by omega), hTg]
        have ag2 : T'.1 g2 = t2 := by
          rw [a2 g2 (by omega)]
          exact upO_s _ _ _
        obtain ⟨b1, b2⟩ := a3 g (by omega) (by omega)
        refine cPart.blk (t := (k, fr, q0, en, so)) (by omega) ag rfl h3 (hNew_s _ _ _) (hb.fr (f08.tr (sF f89)) (by rintro (z | z | z | z) <;> cases z) no60 no960) (by show cEx _ (exO (lF l) q0 (fr + (if so = 3 then 4 else 6))) a5; rw [hok2]; exact cx.kt f49 pzS.t.e (m48.tr m89)) ?_ (by omega) ag2 (by rw [hso2]; exact hq.symm) (hh T' G _ f49 (m48.tr m89) ad)
        rw [b2]
        exact upO_s _ _ _
    · rw [decide_eq_false (fun z => hq (heq.mp z))]
      refine g_if_ne (pc := 97) (tgt := 112) dX9_block_97 rfl (fun q_ => absurd rfl q_) (fun _ => ?_)
      refine g_aload_n (pc := 100) dX9_block_100 rfl rfl ?_
      refine g_get (pc := 101) (r := (RX9, TX9, 7)) 0 dX9_block_101 hP8 rfl (Nat.le_of_ble_eq_true rfl) q1015 (Or.inl rfl) rfl ?_
      refine g_aload_n (pc := 104) dX9_block_104 rfl rfl ?_
      refine g_get (pc := 105) (r := (RX9, TX9, 7)) 4 dX9_block_105 hP8 rfl (Nat.le_of_ble_eq_true rfl) q1020 (Or.inl rfl) rfl ?_
      refine g_invSN (pc := 108) dX9_block_108 (pt_fault (e + 3 * n + 3) (nI t2.1) hE8 (by omega) (by omega)) meX1_faultAt q1125 q1126 rfl rfl (Nat.le_of_ble_eq_true rfl) (fun κ z => by rw [z]; exact Nat.le_of_ble_eq_true rfl) (jk_n (fun v h9 hp9 fr9 => ?_)) jk_x
      obtain ⟨rfl, rfl, hwf9⟩ := hp9
      refine g_athrow (pc := 111) dX9_block_111 (hNew_s _ _ _) (by decide) rfl ?_
      refine gx_out (fun x hx => by cases hx) ?_
      refine fX _ _ (m08.tr (cMn.flt hE8 rfl rfl hwf9)) (psX.new hE8 (hFr.mono (fun _ => pzS.x) f08) hwf9 (gx := g2) (Tx := T4) (to2.fin (tpFn.one ?_)) (by omega) (by omega))
      by_cases h6 : enS w2 = 6
      · obtain ⟨mm, hmm⟩ := hel h6
        exact ts_else2 ht2 (by rw [hso2]; exact h6) hgg hmm
      · have := enS_le w2
        exact ts_endN ht2 (by rw [hso2]; omega) hgg (by rw [hTg, hso2]; exact hq)
  refine g_aload_n (pc := 0) dX9_block_0 rfl rfl ?_
  refine g_get (pc := 1) (r := (RX9, TX9, 7)) 4 dX9_block_1 hQ rfl (Nat.le_of_ble_eq_true rfl) q1020 (Or.inl rfl) rfl ?_
  refine g_istore (pc := 4) (ls' := [(0, _), (1, _), (2, _), (3, _), (4, _)]) dX9_block_4 (Nat.le_of_ble_eq_true rfl) rfl ?_
  refine g_aload_n (pc := 6) dX9_block_6 rfl rfl ?_
  refine g_aload_n (pc := 7) dX9_block_7 rfl rfl ?_
  refine g_invS (pc := 8) dX9_block_8 (pa_expr (e + 3 * n) hx kx (by omega) (by omega) (by omega)) meX9_expression q1158 q1159 rfl rfl (Nat.le_of_ble_eq_true rfl) (fun κ z => by rw [z]; exact Nat.le_of_ble_eq_true rfl) (jk_n (fun v h1 hp1 fr1 => ?_)) jk_x
  obtain ⟨rm1, m1, hp1⟩ := hp1
  have rm11 := rm1.1
  have rm12 := rm1.2
  have f1 := s130 fr1
  have hQ1 := (fr1.2.2 _ _ hQ).1 (by intro z; cases z)
  have hE1 := (fr1.2.2 _ _ hE).1 (by intro z; cases z)
  have hs1 := hs.fr f1 (no30 hκ) no60 no960
  rcases hp1 with ⟨rfl, hnx⟩ | ⟨a5, rfl, hx5, cx⟩
  ·
    refine g_invV (pc := 11) dX9_block_11 hQ1 rfl (pt_need (e + 3 * n + 2) (Or.inl rfl) hQ1 hE1 (by omega) (by omega)) meX9_need q1322 q1324 qs12 rfl rfl (Nat.le_of_ble_eq_true rfl) (fun κ z => by rw [z]; exact Nat.le_of_ble_eq_true rfl) (fun v h2 hp2 fr2 => ?_) (fun xx h2 hp2 fr2 => ?_)
    · rcases hp2 with ⟨c, z, -⟩ | ⟨-, z, -⟩ <;> cases z
    · rcases hp2 with ⟨c, z, -⟩ | ⟨-, z, rfl, hwf2⟩
      · cases z
      · cases z
        refine gx_out (fun x hx => by cases hx) ?_
        exact fX _ _ (m1.tr (cMn.flt hE1 rfl rfl hwf2)) (psX.new hE1 (hFr.mono (fun _ => pzS.x) f1) hwf2 (gx := g) (Tx := T) (tpFn.one (tpS_fl (hno hnx))) (by omega) (by omega))
  ·
    refine g_invV (pc := 11) dX9_block_11 hQ1 rfl (pt_need (e + 3 * n + 2) (Or.inr ⟨_, rfl⟩) hQ1 hE1 (by omega) (by omega)) meX9_need q1322 q1324 qs12 rfl rfl (Nat.le_of_ble_eq_true rfl) (fun κ z => by rw [z]; exact Nat.le_of_ble_eq_true rfl) (fun v h2 hp2 fr2 => ?_) (fun xx h2 hp2 fr2 => ?_)
    · rcases hp2 with ⟨c, z, z2, z3⟩ | ⟨z, -⟩
      · cases z
        cases z2
        have z3 := z3.symm
        subst z3
        obtain ⟨ht, hxo⟩ := hok hx5
        refine g_astore (pc := 14) (ls' := [(0, _), (1, _), (2, _), (3, _), (4, _), (5, _)]) dX9_block_14 (Nat.le_of_ble_eq_true rfl) rfl ?_
        refine g_iload_n (pc := 16) dX9_block_16 rfl rfl ?_
        refine g_iconst (pc := 17) (v := nI 4) dX9_block_17 rfl ?_
        refine g_icmp_neN (pc := 18) (tgt := 31) dX9_block_18 rfl (by omega) (by omega) (fun q18 => ?_) (fun q18 => ?_)
        · obtain ⟨n', rfl⟩ : ∃ n', n = n' + 1 := ⟨n - 1, by omega⟩
          have st1 := ts_open (g := g) (S := S) (T := T) ht h3 q18
          have inv1 := tInv_step inv st1
          rw [show e + 3 * (n' + 1) + 11 = e + 3 * n' + 13 + 1 by omega] at tail ⊢
          refine g_aload_n (pc := 31) dX9_block_31 rfl rfl ?_
          refine g_iload_n (pc := 32) dX9_block_32 rfl rfl ?_
          refine g_iconst (pc := 33) (v := nI 1) dX9_block_33 rfl ?_
          first | refine g_iaddN (pc := 34) dX9_block_34 ?_ | refine g_iadd (pc := 34) dX9_block_34 ?_
          refine g_iload (pc := 35) dX9_block_35 rfl ?_
          refine g_invV (pc := 37) dX9_block_37 hQ1 rfl (IH n' rfl h1 en (g + 1) (g :: S) _ κ _ _ _ (nI k) ea (by simp only [List.length_cons]; omega) inv1 hQ1 hs1 hκ hE1 (fun b' S' z => by cases z; show nI k = nI (upO T.1 g _ g).1; rw [upO_s]) (by omega) (by omega)) meX9_parts q1351 q1039 q1040 rfl rfl (Nat.le_of_ble_eq_true rfl) (fun κ z => by rcases z with z | z | z | z | z <;> rw [z] <;> exact Nat.le_of_ble_eq_true rfl) (fun v h2 hp2 fr2 => ?_) (fun xx h2 hp2 fr2 => ?_)
          · obtain ⟨m2, hp2⟩ := hp2
            rcases hp2 with ⟨A1, p1, g1, T2, pe, z, to1, inv2, hg1', hp1', hTE, f2, c1, c2, hps, ⟨na, Fa, hA1⟩, hfin⟩ | ⟨_, _, _, z, _⟩
            · cases z
              rcases hfin with ⟨z, _⟩ | ⟨-, t1, w1, i1, κ1, ht1, hpe, hen1, hso1, hP2, ji1, kκ1⟩
              · cases z
              · subst hpe
                have f02 := f1.tr f2
                have m02 := m1.tr m2
                have hTg2 : T2.1 g = (k, fr, q0, en, so) := ((hTE g (by omega)).1).trans (upO_s _ _ _)
                have hTo2 : T2.2.1 g = none := ((hTE g (by omega)).2.1).trans (upO_s _ _ _)
                have hTE2 : tE g T T2 := (tE.new T g _).tr hTE (by omega)
                obtain ⟨tb1, tb2⟩ := tkT_ok ht1
                unfold tgOK at tb2
                refine g_astore (pc := 40) (ls' := [(0, _), (1, _), (2, _), (3, _), (4, _), (5, _), (6, _)]) dX9_block_40 (Nat.le_of_ble_eq_true rfl) rfl ?_
                refine g_iconst (pc := 42) (v := nI 0) dX9_block_42 rfl ?_
                refine g_anew (pc := 43) (C := "TemplateEngine$Part") 66 0 dX9_block_43 rfl (by decide) rfl (by omega) q1352 q477 (by omega) (by omega) (fun hwf2 => ?_)
                have f23 : hFr (fun _ => False) h2 (hNew h2 (66, .inr (0, fun _ => .null)) 0) := (hFr.rf h2).new hwf2
                have n3 := hNew_s h2 (66, .inr (0, fun _ => .null)) 0
                have z31 : (hNew h2 (66, .inr (0, fun _ => .null)) 0).1 = h2.1 + 1 := rfl
                have z32 : (hNew h2 (66, .inr (0, fun _ => .null)) 0).2.1 = h2.2.1 := rfl
                generalize hNew h2 (66, .inr (0, fun _ => .null)) 0 = h3 at f23 n3 z31 z32 ⊢
                have m23 := cMn.F f23
                have f03 := f02.tr (sF f23)
                have hP3 := (f23.2.2 _ _ hP2).1 (fun z => z)
                have hE3 := (f03.2.2 _ _ hE).1 no9
                have hs3 := hs.fr f03 (no30 hκ) no60 no960
                have ji3 := ji1.fr f23 (fun z => z) (fun z => z) (fun z => z)
                have kw3 := ji3.cl
                have ji30 := ji3
                obtain ⟨-, -, bw3, κb3, hs13, hz13, hsw3, -⟩ := ji30
                refine g_astore (pc := 46) (ls' := [(0, _), (1, _), (2, _), (3, _), (4, _), (5, _), (6, _), (7, _)]) dX9_block_46 (Nat.le_of_ble_eq_true rfl) rfl ?_
                refine g_aload_n (pc := 48) dX9_block_48 rfl rfl ?_
                refine g_get (pc := 49) (r := (RX9, TX9, 7)) 6 dX9_block_49 hP3 rfl (Nat.le_of_ble_eq_true rfl) q1022 (Or.inl rfl) rfl ?_
                refine g_ldcK (pc := 52) dX9_block_52 ksX9_66 (fun hke => ?_)
                refine g_invV (pc := 54) dX9_block_54 hsw3 kw3 (jc_equals (e + 3 * n' + 12) 930 _ _ ji3 hke) meJ9_equals q1148 q965 q966 rfl rfl (Nat.le_of_ble_eq_true rfl) (by first | exact jF | exact fun _ z => z | assumption | (intro κ z; simp_all)) (jk_e ?_) jk_x
                have ad1 : ∀ {T4 T' : tTb} {t2 : tGt} {G p2 g2 : Nat}, adm g (g2 + 1) p2 ((tT1 T4 g2 t2).1, (tT1 T4 g2 t2).2.1, upO (upO (tT1 T4 g2 t2).2.2 g2 (some g)) g (some g2)) T' G → g1 ≤ g2 → (∀ j, j < g1 → T4.1 j = T2.1 j) → (∀ j, g + 1 ≤ j → j < g1 → T4.2.1 j = T2.2.1 j ∧ T4.2.2 j = T2.2.2 j) → (tT1 T4 g2 t2).1 g1 = t1 → T'.1 g1 = t1 ∧ cPs h2 (lF l) T' G l.length n' en (g + 1) t1.1 g1 A1 := by
                  intro T4 T' t2 G p2 g2 ad hg2 hE4 hL4 ht4
                  have e1 : T'.1 g1 = t1 := (ad.2.1 g1 (by omega)).trans ht4
                  refine ⟨e1, hps T' G (ad.in1 (by omega) hg2 hE4 hL4 (by rw [ht4]; exact tb1)) ?_⟩
                  unfold stpT
                  have := ad.1
                  rw [if_pos (by omega), e1]
                by_cases hel : w1 = [101, 108, 115, 101]
                · rw [decide_eq_true hel]
                  refine g_if_eq (pc := 57) (tgt := 71) dX9_block_57 rfl (fun q_ => absurd q_ (by decide)) (fun _ => ?_)
                  have hs6 : t1.2.2.2.2 = 6 := by rw [hso1]; exact (enS_else hen1).mpr hel
                  have st2 := ts_else (S := S) (g := g1) ht1 hs6 (b := g) (by omega) hTo2
                  have inv3 := tInv_step inv2 st2
                  have u1 : ∀ j, j < g1 → upO T2.1 g1 t1 j = T2.1 j := fun j hj => upO_n (by omega)
                  refine g_aload_n (pc := 60) dX9_block_60 rfl rfl ?_
                  refine g_iload_n (pc := 61) dX9_block_61 rfl rfl ?_
                  refine g_iconst (pc := 62) (v := nI 1) dX9_block_62 rfl ?_
                  first | refine g_iaddN (pc := 63) dX9_block_63 ?_ | refine g_iadd (pc := 63) dX9_block_63 ?_
                  refine g_iload (pc := 64) dX9_block_64 rfl ?_
                  refine g_invV (pc := 66) dX9_block_66 hP3 rfl (IH n' rfl h3 _ (g1 + 1) (g :: S) _ κ _ _ _ (nI k) ea (by simp only [List.length_cons]; omega) inv3 hP3 hs3 hκ hE3 (fun b' S' z => by cases z; show nI k = nI (upO T2.1 g1 t1 g).1; rw [upO_n (by omega), hTg2]) (by omega) (by omega)) meX9_parts q1351 q1039 q1040 rfl rfl (Nat.le_of_ble_eq_true rfl) (fun κ z => by rcases z with z | z | z | z | z <;> rw [z] <;> exact Nat.le_of_ble_eq_true rfl) (fun v h4 hp4 fr4 => ?_) (fun xx h4 hp4 fr4 => ?_)
                  · obtain ⟨m4, hp4⟩ := hp4
                    rcases hp4 with ⟨A2, p2, g2, T4, pe2, z, to2, inv4, hg2', hp2', hTE4, f4, c41, c42, hps2, ⟨na2, Fa2, hA2⟩, hfin⟩ | ⟨_, _, _, z, _⟩
                    · cases z
                      rcases hfin with ⟨z, _⟩ | ⟨-, t2, w2, i2, κ2, ht2, hpe, hen2, hso2, hP4, ji2, kκ2⟩
                      · cases z
                      · subst hpe
                        have f24 := (sF f23).tr f4
                        have m24 := m23.tr m4
                        have q1 : ∀ j, j < g1 + 1 → T4.1 j = upO T2.1 g1 t1 j := fun j hj => (hTE4 j hj).1
                        have q2 : ∀ j, j < g1 + 1 → T4.2.1 j = upO (upO T2.2.1 g1 none) g (some g1) j := fun j hj => (hTE4 j hj).2.1
                        have q3 : ∀ j, j < g1 + 1 → T4.2.2 j = upO (upO T2.2.2 g1 none) g1 (some g) j := fun j hj => (hTE4 j hj).2.2
                        have q21 : T4.2.1 g = some g1 := (q2 g (by omega)).trans (upO_s _ _ _)
                        have q11 : T4.1 g1 = t1 := (q1 g1 (by omega)).trans (upO_s _ _ _)
                        obtain ⟨tb3, tb4⟩ := tkT_ok ht2
                        refine g_astore (pc := 69) (ls' := [(0, _), (1, _), (2, _), (3, _), (4, _), (5, _), (6, _), (7, _)]) dX9_block_69 (Nat.le_of_ble_eq_true rfl) rfl ?_
                        refine tail h4 A1 A2 a5 p2 g2 T4 t2 w2 i2 κ2 hx5 (cx.kt (f2.tr f24) pzS.t.e (m2.tr m24)) ((((tpTo.one st1).trans to1).trans (tpTo.one st2)).trans to2) inv4 ht2 hen2 hso2 hP4 ji2 kκ2 (f03.tr f4) ((m02.tr m23).tr m4) (by omega) (by omega) (by omega) ?_ (fun _ => ⟨g1, q21⟩) ?_ ⟨na, Fa, (f24.2.2 _ _ hA1).1 (by rintro (z | z | z | z) <;> cases z)⟩ ⟨na2, Fa2, hA2⟩ (fun T' G h5 f45 m45 ad => ?_)
                        · rw [q1 g (by omega), upO_n (by omega), hTg2]
                        · intro j hj
                          obtain ⟨y1, y2, y3⟩ := hTE2 j hj
                          refine ⟨?_, ?_, ?_⟩
                          · rw [q1 j (by omega), upO_n (by omega)]; exact y1
                          · rw [q2 j (by omega), upO_n (by omega), upO_n (by omega)]; exact y2
                          · rw [q3 j (by omega), upO_n (by omega), upO_n (by omega)]; exact y3
                        · have adG := ad.1
                          obtain ⟨e1, hc1⟩ := ad1 ad (by omega) (fun j hj => (q1 j (by omega)).trans (upO_n (by omega))) (fun j hj0 hj => ⟨by rw [q2 j (by omega), upO_n (by omega), upO_n (by omega)], by rw [q3 j (by omega), upO_n (by omega), upO_n (by omega)]⟩) (by show upO T4.1 g2 t2 g1 = t1; rw [upO_n (by omega)]; exact q11)
                          refine Or.inr ⟨g1, ?_, by omega, by rw [e1]; exact hs6, by rw [e1]; exact hc1.kt (f24.tr f45) pzS.t (m24.tr m45), ?_⟩
                          · rw [(ad.2.2.1 g (by omega) (by omega)).1]
                            show upO T4.2.1 g2 none g = _
                            rw [upO_n (by omega)]
                            exact q21
                          · rw [e1]
                            have adm2 : adm (g + 1) g2 p2 T4 T' G := ad.in1 (by omega) (by omega) (fun _ _ => rfl) (fun _ _ _ => ⟨rfl, rfl⟩) (by show p2 ≤ (upO T4.1 g2 t2 g2).1; rw [upO_s]; exact tb3)
                            have hc2 := hps2 T' G (adm2.lo (by omega)) (by
                              unfold stpT
                              rw [if_pos (by omega), ad.2.1 g2 (by omega)]
                              show (upO T4.1 g2 t2 g2).1 = _
                              rw [upO_s])
                            exact hc2.kt f45 pzS.t m45
                    · cases z
                  · obtain ⟨m4, hp4⟩ := hp4
                    rcases hp4 with ⟨A2, p2, g2, T4, pe2, z, -⟩ | hx4
                    · cases z
                    · refine gx_out (fun x hx => by cases hx) ?_
                      exact fX _ _ ((m02.tr m23).tr m4) (hx4.pre (hFr.mono (fun _ => pzS.x) f03) (((tpTo.one st1).trans to1).trans (tpTo.one st2)) (by omega) (by omega))
                · rw [decide_eq_false hel]
                  refine g_if_eq (pc := 57) (tgt := 71) dX9_block_57 rfl (fun _ => ?_) (fun q_ => absurd rfl q_)
                  refine tail h3 A1 h2.1 a5 p1 g1 T2 t1 w1 i1 κ1 hx5 (cx.kt (f2.tr (sF f23)) pzS.t.e (m2.tr m23)) ((tpTo.one st1).trans to1) inv2 ht1 hen1 hso1 hP3 ji3 kκ1 f03 (m02.tr m23) (by omega) (by omega) (by omega) hTg2 (fun z => absurd ((enS_else hen1).mp z) hel) hTE2 ⟨na, Fa, (f23.2.2 _ _ hA1).1 (fun z => z)⟩ ⟨0, _, n3⟩ (fun T' G h5 f35 m35 ad => ?_)
                  have adG := ad.1
                  obtain ⟨e1, hc1⟩ := ad1 ad (by omega) (fun _ _ => rfl) (fun _ _ _ => ⟨rfl, rfl⟩) (by show upO T2.1 g1 t1 g1 = t1; exact upO_s _ _ _)
                  refine Or.inl ⟨?_, hc1.kt ((sF f23).tr f35) pzS.t (m23.tr m35), _, (f35.2.2 _ _ n3).1 (by rintro (z | z | z | z) <;> cases z)⟩
                  rw [(ad.2.2.1 g (by omega) (by omega)).1]
                  show upO T2.2.1 g1 none g = _
                  rw [upO_n (by omega)]
                  exact hTo2
            · cases z
          · obtain ⟨m2, hp2⟩ := hp2
            rcases hp2 with ⟨A1, p1, g1, T2, pe, z, -⟩ | hx2
            · cases z
            · refine gx_out (fun x hx => by cases hx) ?_
              exact fX _ _ (m1.tr m2) (hx2.pre (hFr.mono (fun _ => pzS.x) f1) (tpTo.one st1) (by omega) (by omega))
        · refine g_aload_n (pc := 21) dX9_block_21 rfl rfl ?_
          refine g_get (pc := 22) (r := (RX9, TX9, 7)) 0 dX9_block_22 hQ1 rfl (Nat.le_of_ble_eq_true rfl) q1015 (Or.inl rfl) rfl ?_
          refine g_iload (pc := 25) dX9_block_25 rfl ?_
          refine g_invSN (pc := 27) dX9_block_27 (pt_fault (e + 3 * n + 3) (nI k) hE1 (by omega) (by omega)) meX1_faultAt q1125 q1126 rfl rfl (Nat.le_of_ble_eq_true rfl) (fun κ z => by rw [z]; exact Nat.le_of_ble_eq_true rfl) (jk_n (fun v h9 hp9 fr9 => ?_)) jk_x
          obtain ⟨rfl, rfl, hwf9⟩ := hp9
          refine g_athrow (pc := 30) dX9_block_30 (hNew_s _ _ _) (by decide) rfl ?_
          refine gx_out (fun x hx => by cases hx) ?_
          exact fX _ _ (m1.tr (cMn.flt hE1 rfl rfl hwf9)) (psX.new hE1 (hFr.mono (fun _ => pzS.x) f1) hwf9 (gx := g) (Tx := T) (tpFn.one (ts_open4 ht h3 q18)) (by omega) (by omega))
      · cases z
    · rcases hp2 with ⟨c, -, z, -⟩ | ⟨z, -⟩ <;> cases z
end BK
