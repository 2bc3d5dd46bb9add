/-! COMPONENT 19: Rendering: tag; contexts: with -/
set_option maxRecDepth 100000
def NSEE : String := "java/util/NoSuchElementException"
def AEX : String := "java/lang/ArithmeticException"
/-- what a rendering may change -/
def rS (g : Nat) : Nat → Prop := fun κ => κ = 19 ∨ κ = 20 ∨ jSS g κ ∨ eKd κ
theorem cNS.rS {g : Nat} (hg : g = 2 ∨ g = 3) : cNS (rS g) := by
  intro κ hκ z
  simp only [List.mem_cons, List.not_mem_nil, or_false] at hκ
  rcases z with z | z | (z | z) | z | z | (z | z) | (z | z) <;> omega
theorem rS_e {g : Nat} : ∀ κ, eKd κ → rS g κ := fun κ z => Or.inr (Or.inr (Or.inr z))
theorem rS_g {g : Nat} : ∀ κ, jSS g κ → rS g κ := fun κ z => Or.inr (Or.inr (Or.inl z))
theorem rS_4 {g : Nat} : ∀ κ, jSS 4 κ → rS g κ := fun κ z => rS_e κ (eKd_4 κ z)
theorem cNS.one {n : Nat} (h : n = 19 ∨ n = 20) : cNS (fun κ => κ = n) := by
  intro κ hκ z
  simp only [List.mem_cons, List.not_mem_nil, or_false] at hκ
  omega
/-- fixed in one rendering: the engine, the Rendering, its three Outputs, the kinds of out, the room -/
abbrev rE : Type := Nat × Nat × Nat × Nat × Nat × Nat × Nat × Nat
/-- where the rendering is, in the heap; k = (engine, Rendering, out, first, second, kinds of out, room) -/
def rR (D : aD) (w : cW) (k : rE) (CA : Nat → Nat) (m : Nat) (C : List aV) (out : List Nat) (seen sb dep : Nat) (h : hP) : Prop := ∃ c0 c1 c2 l1 l2, cO h k.2.2.2.2.2.1 k.2.2.1 c0 out ∧ cO h 4 k.2.2.2.1 c1 l1 ∧ cO h 5 k.2.2.2.2.1 c2 l2 ∧ cCh D w CA m k.2.2.2.1 k.2.2.2.2.1 C h ∧ h.2.2 k.2.1 = some (19, .inl [.ref k.1, .ref k.2.2.1, .int (nI seen), .int (nI dep)]) ∧ seen ≤ 600 ∧ h.1 ≤ k.2.2.2.2.2.2.1 + c0 + c1 + c2 + 3 * sb + m ∧ sb ≤ seen ∧ h.2.1 ≤ k.2.2.2.2.2.2.2 + 2 * c0 + 2 * c1 + 2 * c2 + 80 * sb + 5 * m
/-- the same over a change of other cells -/
theorem rR.fr {D : aD} {w : cW} {k : rE} {CA : Nat → Nat} {m : Nat} {C : List aV} {out : List Nat} {seen sb dep : Nat} {h h' : hP} {S : Nat → Prop} (f : hFr S h h') (n : cNS S) (mn : cMn h h') (h19 : ¬ S 19) (h20 : ¬ S 20) (hg : ∀ γ, 2 ≤ γ → γ ≤ 5 → ¬ S (100 * γ + 2) ∧ ¬ S (100 * γ + 31) ∧ ¬ S (100 * γ + 60)) (hk : k.2.2.2.2.2.1 = 2 ∨ k.2.2.2.2.2.1 = 3) (e1 : h'.1 = h.1) (e2 : h'.2.1 = h.2.1) (x : rR D w k CA m C out seen sb dep h) : rR D w k CA m C out seen sb dep h' := by
  obtain ⟨c0, c1, c2, l1, l2, x1, x2, x3, x4, x5, x6, x7, x8, x9⟩ := x
  have g0 := hg k.2.2.2.2.2.1 (by omega) (by omega)
  have g4 := hg 4 (by omega) (by omega)
  have g5 := hg 5 (by omega) (by omega)
  exact ⟨c0, c1, c2, l1, l2, x1.fr f g0.1 g0.2.1 g0.2.2, x2.fr f g4.1 g4.2.1 g4.2.2, x3.fr f g5.1 g5.2.1 g5.2.2, x4.kp f n mn h20, (f.2.2 _ _ x5).1 h19, x6, by omega, x8, by omega⟩
section CR
variable {Z : hE} {h : hP} {D : aD} {w : cW} {k : rE} {CA : Nat → Nat} {m : Nat} {C : List aV} {out : List Nat} {seen sb dep : Nat}
theorem rt_tag (d : Nat) (hk : k.2.2.2.2.2.1 = 2 ∨ k.2.2.2.2.2.1 = 3) (hr : rR D w k CA m C out seen sb dep h) (l1 : h.1 + 1 ≤ hLC Z) (l2 : h.2.1 + 6 ≤ hLS) : hCt Z mX19_tag (d + 7) (fun κ => κ = 19) [.ref k.2.1] h (fun r h' => (r = .inl none ∧ seen < 600 ∧ rR D w k CA m C out (seen + 1) sb dep h' ∧ h'.1 = h.1 ∧ h'.2.1 = h.2.1) ∨ (r = .inr ISE ∧ seen = 600 ∧ jRm h h' 1 6)) := by
  obtain ⟨c0, c1, c2, l1', l2', x1, x2, x3, x4, x5, x6, x7, x8, x9⟩ := hr
  refine hCt.of pnX19 rfl (Nat.le_of_ble_eq_true rfl) rfl (fun X => ?_)
  refine g_aload_n (pc := 0) dX19_tag_0 rfl rfl ?_
  refine g_get (pc := 1) (r := (RX19, TX19, 4)) 2 dX19_tag_1 x5 rfl (Nat.le_of_ble_eq_true rfl) q1431 (Or.inl rfl) rfl ?_
  refine g_sipush (pc := 4) (v := nI 600) dX19_tag_4 rfl ?_
  refine g_icmp_neN (pc := 7) (tgt := 18) dX19_tag_7 rfl (by omega) (by omega) (fun c7 => ?_) (fun c7 => ?_)
  · refine g_aload_n (pc := 18) dX19_tag_18 rfl rfl ?_
    refine g_dup (pc := 19) dX19_tag_19 rfl ?_
    refine g_get (pc := 20) (r := (RX19, TX19, 4)) 2 dX19_tag_20 x5 rfl (Nat.le_of_ble_eq_true rfl) q1431 (Or.inl rfl) rfl ?_
    refine g_iconst (pc := 23) (v := nI 1) dX19_tag_23 rfl ?_
    first | refine g_iaddN (pc := 24) dX19_tag_24 ?_ | refine g_iadd (pc := 24) dX19_tag_24 ?_
    refine g_put (pc := 25) (r := (RX19, TX19, 4)) 2 dX19_tag_25 x5 rfl (Nat.le_of_ble_eq_true rfl) q1431 (Or.inl rfl) rfl (by decide) rfl (tyX19_ok 2 (Nat.le_of_ble_eq_true rfl)) rfl rfl ?_
    refine g_vret (pc := 28) dX19_tag_28 rfl ?_
    have fr : hFr (fun κ => κ = 19) h (hSet h k.2.1 (19, .inl [.ref k.1, .ref k.2.2.1, .int (nI (seen + 1)), .int (nI dep)])) := (hFr.rf h).set x5 rfl rfl
    have mn := cMn.fr fr (cNS.one (Or.inl rfl)) (by decide) (by decide)
    refine Or.inl ⟨rfl, by omega, ⟨c0, c1, c2, l1', l2', x1.fr fr (by show ¬ (_ = 19); omega) (by show ¬ (_ = 19); omega) (by show ¬ (_ = 19); omega), x2.fr fr (by decide) (by decide) (by decide), x3.fr fr (by decide) (by decide) (by decide), x4.kp fr (cNS.one (Or.inl rfl)) mn (by decide), hSet_s _ _ _, by omega, x7, by omega, x9⟩, rfl, rfl⟩
  · refine g_make0 (pc := 10) 42 dX19_tag_10 dX19_tag_13 dX19_tag_14 xX19_26 x_st rfl (by decide) rfl rfl (Nat.le_of_ble_eq_true rfl) l1 (by omega) (fun hwf => ?_)
    refine g_athrow (pc := 17) dX19_tag_17 (hNew_s _ _ _) (by decide) rfl ?_
    refine gx_out (fun x hx => by cases hx) ?_
    exact Or.inr ⟨rfl, c7, ⟨Nat.le_refl _, Nat.le_refl _⟩⟩
end CR
