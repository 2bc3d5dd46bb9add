/-! LAW 5: the calls, both sides together (2) -/
set_option maxRecDepth 100000
section JU
variable {Z : hE} {E o lo c : Nat} {τ : tT} {h : hP}
theorem rm_sl {a b c s : Nat} (hs : s ≤ 110000) (h1 : a ≤ b + s) (h2 : b ≤ 40000 + 110000 * c) : a ≤ 40000 + 110000 * (c + 1) := by
  rw [Nat.mul_succ, ← Nat.add_assoc]
  exact Nat.le_trans h1 (Nat.add_le_add h2 hs)
theorem jo_text (hI : LI Z E o lo c τ h) (hc : c < 64) (hwf : ∀ a c, h.2.2 a = some c → a < h.1) : JO Z mX0_text mX3_text [.ref E, .ref lo] [.ref o] E o lo c h := by
  obtain ⟨rm1, rm2⟩ := hI.rm hc
  obtain ⟨D, Tm, l, out, ea, tg, th, ⟨w, dl, el, ta, ln, rd, sr, c0, co, γ, cj, hc0, hγ, hsr⟩, ti, hR, ⟨g, hlo⟩, b1, b2, b3, b4, b5⟩ := id hI
  obtain ⟨x1, x2, x3, x4, x5, x6, x7⟩ := id cj
  have h60 := x3.2.2.2.2.2.1
  have hD := ti.1
  have t4 : τ.1 4 = D.1 := hD.1
  obtain ⟨xs, cap, hA, hxl, hxw⟩ := id x2
  obtain ⟨w1, w2⟩ := x3.lo hwf
  have t2 := ti.2.2.1
  have a5 := ti.2.2.2.2.1
  have tct := tc_text (Z := Z) (o := o) (τ := τ) 2045 D hD l.length t2 (by omega) (fun i hi => by rw [ti.2.2.2.1 i hi]; exact a5 _ (getD_mem (d := 0) hi))
  rw [ti.ln] at tct
  refine JO.of hI (S := fun κ => κ = 1 ∨ κ = 32 ∨ κ = 65 ∨ jSS 1 κ) ?_ (xw_text 2046 x1 hlo (en_text 2037 x1 hA x5 (by omega) (by omega) (by omega) (by omega)) ?_ ?_) (by decide) ?_ ?_
  · rintro κ (z | z | z | z | z) <;> (rw [z]; exact ⟨by decide, by rintro (y | y | y | y | y | y) <;> cases y⟩)
  · rintro (z | z | z | z | z) <;> cases z
  · rintro r h' (⟨-, z, -⟩ | ⟨-, z, -⟩)
    · exact Or.inl ⟨_, z⟩
    · exact Or.inr ⟨_, mm0, z⟩
  · intro x h1 hk fr hw1
    rcases hk with ⟨z1, z, ⟨e', cap', A'⟩, ⟨s, c1, js⟩, k1, k3, k4⟩ | ⟨-, z, -⟩
    · cases z
      have k41 := k4.1
      have k42 := k4.2
      have mn : cMn h h1 := cMn.ft k3 (by rintro (z | z | z | z) <;> cases z) (by rintro (z | z | z | z) <;> cases z) (by rintro (z | z | z | z) <;> cases z) (by rintro (z | z | z | z) <;> cases z) (by rintro (z | z | z | z) <;> cases z) (by rintro (z | z | z | z) <;> cases z)
      have tx : txt h1 h.1 l := fun n => by
        cases n with
        | zero => exact ⟨_, s, 30, _, c1, js, Or.inl rfl, by omega⟩
        | succ n => exact ⟨_, s, 30, _, c1, js, Or.inl rfl, by omega, Or.inl rfl⟩
      have hD1 : cD (dNew D (.inr (.inl l))) (upO w.1 D.1 h.1, upO w.2.1 D.1 h.1, upO w.2.2 D.1 h.1) h1 sr := by
        refine cD.nw (x3.kt k3 (by intro κ hκ z; rcases z with z | z | z | z <;> (rw [z] at hκ; revert hκ; decide)) mn) (by omega) (fun i hi z => by have := w1 i hi; omega) (fun i hi ci z => by have := w2 i hi ci; omega) (fun i hi ci z => by have := x7 i hi ci; omega) rfl ?_
        unfold cIt
        rw [show (dNew D (.inr (.inl l))).2 D.1 = .inr (.inl l) from if_pos rfl]
        refine ⟨by rw [upO_s]; exact tx, 0, s, .null, Nat.zero_le _, by rw [upO_s]; exact c1⟩
      refine ⟨dNew D (.inr (.inl l)), Tm, [], out, ea, tg, th, ⟨(upO w.1 D.1 h.1, upO w.2.1 D.1 h.1, upO w.2.2 D.1 h.1), dl, e', ta, ln, rd, sr, c0, co, γ, ⟨(k3.2.2 _ _ x1).1 (by rintro (z | z | z | z) <;> cases z), ⟨xs ++ [h.1], cap', A', by rw [List.length_append, hxl]; rfl, fun i hi => ?_⟩, hD1, x4.kt k3 (by intro κ hκ z; rcases z with z | z | z | z <;> (rw [z] at hκ; revert hκ; decide)) (by rintro (z | z | z | z) <;> cases z) mn, k1, ?_, fun i hi ci => ?_⟩, hc0, hγ, by omega⟩, Nat.zero_le _, by omega, b3, by omega, by omega, ?_⟩
      · have hi : i < D.1 + 1 := hi
        show (xs ++ [h.1]).getD i 0 = upO w.1 D.1 h.1 i
        by_cases z : i = D.1
        · rw [z, upO_s, ← hxl, List.getD_eq_getElem?_getD, List.getElem?_append_right (Nat.le_refl _), Nat.sub_self]
          rfl
        · rw [upO_n z, List.getD_eq_getElem?_getD, List.getElem?_append_left (by omega), ← List.getD_eq_getElem?_getD]
          exact hxw i (by omega)
      · rcases hγ with rfl | rfl <;> exact x6.fr k3 (by rintro (z | z | z | z) <;> cases z) (by rintro (z | z | z | z) <;> cases z) (by rintro (z | z | z | z) <;> cases z)
      · have hi : i < D.1 + 1 := hi
        show upO w.2.2 D.1 h.1 i < h1.1
        by_cases z : i = D.1
        · rw [z, upO_s]
          exact hw1 _ _ c1
        · rw [upO_n z]
          rw [show (dNew D (.inr (.inl l))).2 i = D.2 i from if_neg z] at ci
          exact Nat.lt_of_lt_of_le (x7 i (by omega) ci) k3.1
      · refine tct.mono (fun v τ' hp => ?_)
        rw [if_neg (by omega)] at hp
        obtain ⟨p1, p2, p3, p4⟩ := hp
        refine ⟨by rw [p1, hxl], by rw [p2]; rfl, ti.up p3 (fun k hk => by simp at hk; omega) p4 (Or.inr ⟨rfl, by rw [p2]; rfl⟩) (by rw [p2]; rfl) (by rw [p2]; rfl) (by rw [p2]; exact ti.2.2.2.2.2.2.2.2.2.1)⟩
    · cases z
  · intro j Ex h1 hj hk fr
    rcases hk with ⟨-, z, -⟩ | ⟨z1, z, k1, k2, k3⟩
    · cases z
    · cases z
      have k31 := k3.1
      have k32 := k3.2
      have hj0 : j = 0 := by
        rcases j with _ | j
        · rfl
        · exact absurd hj (by simp)
      subst hj0
      refine ⟨D, Tm, l, out, ea, tg, th + 1, ⟨w, dl, el, ta, ln, rd, sr, c0, co, γ, cj.thr hγ k1 k2, hc0, hγ, by omega⟩, by omega, by omega, b3, by omega, by omega, ?_⟩
      refine tct.mono (fun v τ' hp => ?_)
      rw [if_pos (by omega)] at hp
      obtain ⟨p1, rfl⟩ := hp
      exact ⟨⟨_, p1⟩, rf_code, ti.rf 1⟩
theorem jo_at (a : Int32) (hI : LI Z E o lo c τ h) (hc : c < 64) : JO Z mX0_at mX3_at [.ref E, .int a, .ref lo] [.ref o, .int a] E o lo c h := by
  obtain ⟨rm1, rm2⟩ := hI.rm hc
  obtain ⟨D, Tm, l, out, ea, tg, th, ⟨w, dl, el, ta, ln, rd, sr, c0, co, γ, cj, hc0, hγ, hsr⟩, ti, hR, ⟨g, hlo⟩, b1, b2, b3, b4, b5⟩ := id hI
  obtain ⟨x1, x2, x3, x4, x5, x6, x7⟩ := id cj
  have h60 := x3.2.2.2.2.2.1
  have hD := ti.1
  have t4 : τ.1 4 = D.1 := hD.1
  have t35 := ti.2.2.2.2.2.1
  have ho := ti.2.2.2.2.2.2.1
  refine JO.of hI (S := fun κ => κ = 1) ?_ (xw_at 2046 x1 hlo (en_at 2038 γ co out a x1 x6 (by omega) (by omega)) ?_ ?_) (by decide) ?_ ?_
  · rintro κ z; (rw [z]; exact ⟨by decide, by rintro (y | y | y | y | y | y) <;> cases y⟩)
  · intro z; cases z
  · rintro r h' (⟨-, -, z, -⟩ | ⟨-, z, -⟩)
    · exact Or.inl ⟨_, z⟩
    · exact Or.inr ⟨_, mm0, z⟩
  · intro x h1 hk fr hw1
    rcases hk with ⟨z1, z2, z, e⟩ | ⟨-, z, -⟩
    · cases z
      subst e
      refine ⟨D, Tm, l, out, ea, tg, th, ⟨w, dl, el, ta, ln, rd, sr, c0, co, γ, cj, hc0, hγ, by omega⟩, by omega, by omega, b3, by omega, by omega, ?_⟩
      refine (tc_at (τ := τ) 2046 a (by omega)).mono (fun v τ' hp => ?_)
      rcases hp with ⟨y, -⟩ | ⟨k, hk, rfl, y2, rfl⟩
      · exact absurd ⟨z1, by rw [t35]; exact z2⟩ y
      · rw [toN (a := k) (by omega) rfl]
        exact ⟨by rw [y2, ti.2.2.2.2.2.2.2.1 k (by omega)], rfl, ti.fn0⟩
    · cases z
  · intro j Ex h1 hj hk fr
    rcases hk with ⟨-, -, z, -⟩ | ⟨z1, z, k1, k2, k3⟩
    · cases z
    · cases z
      have k31 := k3.1
      have k32 := k3.2
      have hj0 : j = 0 := by
        rcases j with _ | j
        · rfl
        · exact absurd hj (by simp)
      subst hj0
      refine ⟨D, Tm, l, out, ea, tg, th + 1, ⟨w, dl, el, ta, ln, rd, sr, c0, co, γ, cj.thr hγ k1 k2, hc0, hγ, by omega⟩, by omega, by omega, b3, by omega, by omega, ?_⟩
      refine (tc_at (τ := τ) 2046 a (by omega)).mono (fun v τ' hp => ?_)
      rcases hp with ⟨y, y2, rfl⟩ | ⟨k, hk, rfl, y2, -⟩
      · exact ⟨⟨_, y2⟩, rf_code, ti.rf 1⟩
      · exact absurd ⟨by rw [nI_toInt (by omega)]; omega, by rw [nI_toInt (by omega)]; omega⟩ z1
theorem jo_kind (a : Int32) (hI : LI Z E o lo c τ h) (hc : c < 64) : JO Z mX0_kind mX3_kind [.ref E, .int a, .ref lo] [.ref o, .int a] E o lo c h := by
  obtain ⟨rm1, rm2⟩ := hI.rm hc
  obtain ⟨D, Tm, l, out, ea, tg, th, ⟨w, dl, el, ta, ln, rd, sr, c0, co, γ, cj, hc0, hγ, hsr⟩, ti, hR, ⟨g, hlo⟩, b1, b2, b3, b4, b5⟩ := id hI
  obtain ⟨x1, x2, x3, x4, x5, x6, x7⟩ := id cj
  have h60 := x3.2.2.2.2.2.1
  have hD := ti.1
  have t4 : τ.1 4 = D.1 := hD.1
  have t35 := ti.2.2.2.2.2.1
  have ho := ti.2.2.2.2.2.2.1
  refine JO.of hI (S := fun κ => κ = 1) ?_ (xw_kind 2046 x1 hlo (en_kind 2037 a x1 x2 x3 (by omega) (by omega)) ?_ ?_) (by decide) ?_ ?_
  · rintro κ z; (rw [z]; exact ⟨by decide, by rintro (y | y | y | y | y | y) <;> cases y⟩)
  · intro z; cases z
  · rintro r h' (⟨-, -, z, -⟩ | ⟨-, z, -⟩)
    · exact Or.inl ⟨_, z⟩
    · exact Or.inr ⟨_, mm0, z⟩
  · intro x h1 hk fr hw1
    rcases hk with ⟨z1, z2, z, e⟩ | ⟨-, z, -⟩
    · cases z
      subst e
      refine ⟨D, Tm, l, out, ea, tg, th, ⟨w, dl, el, ta, ln, rd, sr, c0, co, γ, cj, hc0, hγ, by omega⟩, by omega, by omega, b3, by omega, by omega, ?_⟩
      refine (tc_kind (τ := τ) 2046 a (by omega)).mono (fun v τ' hp => ?_)
      rcases hp with ⟨y, -⟩ | ⟨k, hk, rfl, y2, rfl⟩
      · exact absurd ⟨z1, by rw [t4]; exact z2⟩ y
      · rw [toN (a := k) (by omega) rfl]
        have kk := (hD.2.2 k (by omega)).1
        refine ⟨?_, rfl, ti.fn0⟩
        rw [y2]
        congr 3
        unfold aVof
        cases ey : D.2 k with
        | inl v => rw [ey] at kk; exact kk.1
        | inr y =>
          cases y with
          | inl s => rw [ey] at kk; exact kk.1
          | inr p =>
            obtain ⟨m, ps⟩ := p
            rw [ey] at kk
            show _ = (if isLs (D.2 k) = true then 2 else 3)
            rw [ey, kk.1]
            cases m <;> rfl
    · cases z
  · intro j Ex h1 hj hk fr
    rcases hk with ⟨-, -, z, -⟩ | ⟨z1, z, k1, k2, k3⟩
    · cases z
    · cases z
      have k31 := k3.1
      have k32 := k3.2
      have hj0 : j = 0 := by
        rcases j with _ | j
        · rfl
        · exact absurd hj (by simp)
      subst hj0
      refine ⟨D, Tm, l, out, ea, tg, th + 1, ⟨w, dl, el, ta, ln, rd, sr, c0, co, γ, cj.thr hγ k1 k2, hc0, hγ, by omega⟩, by omega, by omega, b3, by omega, by omega, ?_⟩
      refine (tc_kind (τ := τ) 2046 a (by omega)).mono (fun v τ' hp => ?_)
      rcases hp with ⟨y, y2, rfl⟩ | ⟨k, hk, rfl, y2, -⟩
      · exact ⟨⟨_, y2⟩, rf_code, ti.rf 1⟩
      · exact absurd ⟨by rw [nI_toInt (by omega)]; omega, by rw [nI_toInt (by omega)]; omega⟩ z1
theorem jo_size (a : Int32) (hI : LI Z E o lo c τ h) (hc : c < 64) : JO Z mX0_size mX3_size [.ref E, .int a, .ref lo] [.ref o, .int a] E o lo c h := by
  obtain ⟨rm1, rm2⟩ := hI.rm hc
  obtain ⟨D, Tm, l, out, ea, tg, th, ⟨w, dl, el, ta, ln, rd, sr, c0, co, γ, cj, hc0, hγ, hsr⟩, ti, hR, ⟨g, hlo⟩, b1, b2, b3, b4, b5⟩ := id hI
  obtain ⟨x1, x2, x3, x4, x5, x6, x7⟩ := id cj
  have h60 := x3.2.2.2.2.2.1
  have hD := ti.1
  have t4 : τ.1 4 = D.1 := hD.1
  have t35 := ti.2.2.2.2.2.1
  have ho := ti.2.2.2.2.2.2.1
  refine JO.of hI (S := fun κ => κ = 1) ?_ (xw_size 2046 x1 hlo (en_size 2037 a x1 x2 x3 (by omega) (by omega)) ?_ ?_) (by decide) ?_ ?_
  · rintro κ z; (rw [z]; exact ⟨by decide, by rintro (y | y | y | y | y | y) <;> cases y⟩)
  · intro z; cases z
  · rintro r h' (⟨-, -, z, -⟩ | ⟨-, z, -⟩)
    · exact Or.inl ⟨_, z⟩
    · exact Or.inr ⟨_, mm0, z⟩
  · intro x h1 hk fr hw1
    rcases hk with ⟨z1, z2, z, e⟩ | ⟨-, z, -⟩
    · cases z
      subst e
      refine ⟨D, Tm, l, out, ea, tg, th, ⟨w, dl, el, ta, ln, rd, sr, c0, co, γ, cj, hc0, hγ, by omega⟩, by omega, by omega, b3, by omega, by omega, ?_⟩
      refine (tc_size (τ := τ) 2042 a D hD x3.2.2.2.2.2.2).mono (fun v τ' hp => ?_)
      rcases hp with ⟨y, -⟩ | ⟨k, hk, rfl, y2, y3, y4, y5, y6, y7, y8⟩
      · exact absurd ⟨z1, z2⟩ y
      · rw [toN (a := k) (by omega) rfl]
        exact ⟨y2, y4, ti.hk y3 (by rw [y7]; exact t35) ho (fun i hi => by rw [y8 i]; exact ti.2.2.2.2.2.2.2.1 i hi) (by rw [y6]; exact ti.2.2.2.2.2.2.2.2.1) (by rw [y5]; exact ti.2.2.2.2.2.2.2.2.2.1)⟩
    · cases z
  · intro j Ex h1 hj hk fr
    rcases hk with ⟨-, -, z, -⟩ | ⟨z1, z, k1, k2, k3⟩
    · cases z
    · cases z
      have k31 := k3.1
      have k32 := k3.2
      have hj0 : j = 0 := by
        rcases j with _ | j
        · rfl
        · exact absurd hj (by simp)
      subst hj0
      refine ⟨D, Tm, l, out, ea, tg, th + 1, ⟨w, dl, el, ta, ln, rd, sr, c0, co, γ, cj.thr hγ k1 k2, hc0, hγ, by omega⟩, by omega, by omega, b3, by omega, by omega, ?_⟩
      refine (tc_size (τ := τ) 2042 a D hD x3.2.2.2.2.2.2).mono (fun v τ' hp => ?_)
      rcases hp with ⟨y, y2, rfl⟩ | ⟨k, hk, rfl, -⟩
      · exact ⟨y2, rf_code, ti.rf 1⟩
      · exact absurd ⟨by rw [nI_toInt (by omega)]; omega, by rw [nI_toInt (by omega)]; omega⟩ z1
theorem jo_add (a1 a2 : Int32) (hI : LI Z E o lo c τ h) (hc : c < 64) : JO Z mX0_add mX3_add [.ref E, .int a1, .int a2, .ref lo] [.ref o, .int a1, .int a2] E o lo c h := by
  obtain ⟨rm1, rm2⟩ := hI.rm hc
  obtain ⟨D, Tm, l, out, ea, tg, th, ⟨w, dl, el, ta, ln, rd, sr, c0, co, γ, cj, hc0, hγ, hsr⟩, ti, hR, ⟨g, hlo⟩, b1, b2, b3, b4, b5⟩ := id hI
  obtain ⟨x1, x2, x3, x4, x5, x6, x7⟩ := id cj
  have h60 := x3.2.2.2.2.2.1
  have hD := ti.1
  have t4 : τ.1 4 = D.1 := hD.1
  refine JO.of hI (S := adA) ?_ (xw_add 2046 x1 hlo (en_add 1976 a1 a2 x1 x2 x3 (by omega) (by omega) (by omega)) ?_ ?_) (by decide) ?_ ?_
  · rintro κ (z | (z | z | z | z) | z) <;> (rw [z]; exact ⟨by decide, by rintro (y | y | y | y | y | y) <;> cases y⟩)
  · rintro (z | (z | z | z | z) | z) <;> cases z
  · rintro r h' (⟨-, z, -⟩ | ⟨a, b, -, -, -, -, -, -, sr', -, ⟨-, z, -⟩ | ⟨-, -, -, z, -⟩ | ⟨-, -, -, z, -⟩⟩)
    · exact Or.inr ⟨_, mm0, z⟩
    · exact Or.inr ⟨_, mm1, z⟩
    · exact Or.inr ⟨_, mm2, z⟩
    · exact Or.inl ⟨_, z⟩
  · intro x h1 hk fr hw1
    rcases hk with ⟨-, z, -⟩ | ⟨a, b, ha, hb, rfl, rfl, rm, kT, sr', hs', ⟨-, z, -⟩ | ⟨-, -, -, z, -⟩ | ⟨u1, u2, u3, z, k1, k2⟩⟩
    · cases z
    · cases z
    · cases z
    · cases z
      have r1 := rm.1
      have r2 := rm.2
      refine ⟨dAdd D a b, Tm, l, out, ea, tg, th, ⟨w, dl, el, ta, ln, rd, sr', c0, co, γ, ⟨k1, ?_, k2, kT ta Tm x4, x5.fr fr (by rintro (z | (z | z | z | z) | z) <;> cases z) (by rintro (z | (z | z | z | z) | z) <;> cases z), ?_, fun i hi ci => ?_⟩, hc0, hγ, by omega⟩, by omega, by omega, b3, by omega, by omega, ?_⟩
      · obtain ⟨xs, cap, hA, hxl, hxw⟩ := x2.fr fr (by rintro (z | (z | z | z | z) | z) <;> cases z) (by rintro (z | (z | z | z | z) | z) <;> cases z) (by rintro (z | (z | z | z | z) | z) <;> cases z)
        exact ⟨xs, cap, hA, hxl, hxw⟩
      · rcases hγ with rfl | rfl <;> exact x6.fr fr (by rintro (z | (z | z | z | z) | z) <;> cases z) (by rintro (z | (z | z | z | z) | z) <;> cases z) (by rintro (z | (z | z | z | z) | z) <;> cases z)
      · refine Nat.lt_of_lt_of_le (x7 i hi ?_) fr.1
        by_cases z : i = a
        · rw [z, isLs_eq u1]; exact ⟨_, rfl⟩
        · rw [show (dAdd D a b).2 i = D.2 i from if_neg z] at ci
          exact ci
      · refine (tc_add (τ := τ) 2046 (nI a) (nI b) D hD).mono (fun v τ' hp => ?_)
        obtain ⟨p0, hp⟩ := hp
        rcases hp with ⟨y, -⟩ | ⟨a', b', ha', hb', ea', eb', hp⟩
        · exact absurd ⟨⟨by rw [nI_toInt (by omega)]; omega, by rw [nI_toInt (by omega)]; omega⟩, by rw [nI_toInt (by omega)]; omega, by rw [nI_toInt (by omega)]; omega⟩ y
        · have q1 := (nI_q (a := a) (b := a') (by omega) (by omega)).mp ea'
          have q2 := (nI_q (a := b) (b := b') (by omega) (by omega)).mp eb'
          subst q1; subst q2
          rcases hp with ⟨y, -⟩ | ⟨-, -, y, -⟩ | ⟨-, -, -, y1, y2, y3, y4⟩
          · rcases y with y | y
            · rw [u1] at y; cases y
            · exact absurd y u2
          · omega
          · exact ⟨y1, by rw [y2]; rfl, ti.up y3 (fun k hk => by simp at hk; omega) y4 (Or.inl ⟨rfl, by rw [y2]; rfl⟩) (by rw [y2]; rfl) (by rw [y2]; rfl) (by rw [y2]; exact ti.2.2.2.2.2.2.2.2.2.1)⟩
  · intro j Ex h1 hj hk fr
    rcases hk with ⟨z1, z, k1, k2, k3⟩ | ⟨a, b, ha, hb, rfl, rfl, rm, kT, sr', hs', ⟨u1, z, k1, k2⟩ | ⟨u1, u2, u3, z, k1, k2⟩ | ⟨-, -, -, z, -⟩⟩
    · cases z
      have k31 := k3.1
      have k32 := k3.2
      have hj0 : j = 0 := by
        rcases j with _ | _ | _ | j
        · rfl
        · exact absurd (Option.some.inj hj) (by decide)
        · exact absurd (Option.some.inj hj) (by decide)
        · exact absurd hj (by simp)
      subst hj0
      refine ⟨D, Tm, l, out, ea, tg, th + 1, ⟨w, dl, el, ta, ln, rd, sr, c0, co, γ, cj.thr hγ k1 k2, hc0, hγ, by omega⟩, by omega, by omega, b3, by omega, by omega, ?_⟩
      refine (tc_add (τ := τ) 2046 a1 a2 D hD).mono (fun v τ' hp => ?_)
      obtain ⟨p0, hp⟩ := hp
      rcases hp with ⟨y, rfl⟩ | ⟨a', b', ha', hb', rfl, rfl, hp⟩
      · exact ⟨p0, rf_code, ti.rf 1⟩
      · exact absurd ⟨⟨by rw [nI_toInt (by omega)]; omega, by rw [nI_toInt (by omega)]; omega⟩, by rw [nI_toInt (by omega)]; omega, by rw [nI_toInt (by omega)]; omega⟩ z1
    · cases z
      have r1 := rm.1
      have r2 := rm.2
      have hj0 : j = 1 := by
        rcases j with _ | _ | _ | j
        · exact absurd (Option.some.inj hj) (by decide)
        · rfl
        · exact absurd (Option.some.inj hj) (by decide)
        · exact absurd hj (by simp)
      subst hj0
      refine ⟨D, Tm, l, out, ea, tg, th + 1, ⟨w, dl, el, ta, ln, rd, sr', c0, co, γ, ⟨k1, x2.fr fr (by rintro (z | (z | z | z | z) | z) <;> cases z) (by rintro (z | (z | z | z | z) | z) <;> cases z) (by rintro (z | (z | z | z | z) | z) <;> cases z), k2, kT ta Tm x4, x5.fr fr (by rintro (z | (z | z | z | z) | z) <;> cases z) (by rintro (z | (z | z | z | z) | z) <;> cases z), ?_, fun i hi ci => Nat.lt_of_lt_of_le (x7 i hi ci) fr.1⟩, hc0, hγ, by omega⟩, by omega, by omega, b3, by omega, by omega, ?_⟩
      · rcases hγ with rfl | rfl <;> exact x6.fr fr (by rintro (z | (z | z | z | z) | z) <;> cases z) (by rintro (z | (z | z | z | z) | z) <;> cases z) (by rintro (z | (z | z | z | z) | z) <;> cases z)
      · refine (tc_add (τ := τ) 2046 (nI a) (nI b) D hD).mono (fun v τ' hp => ?_)
        obtain ⟨p0, hp⟩ := hp
        rcases hp with ⟨y, -⟩ | ⟨a', b', ha', hb', ea', eb', hp⟩
        · exact absurd ⟨⟨by rw [nI_toInt (by omega)]; omega, by rw [nI_toInt (by omega)]; omega⟩, by rw [nI_toInt (by omega)]; omega, by rw [nI_toInt (by omega)]; omega⟩ y
        · have q1 := (nI_q (a := a) (b := a') (by omega) (by omega)).mp ea'
          have q2 := (nI_q (a := b) (b := b') (by omega) (by omega)).mp eb'
          subst q1; subst q2
          rcases hp with ⟨-, y2, y3⟩ | ⟨y1, y2, -⟩ | ⟨y1, y2, -⟩
          · exact ⟨p0, by rw [y2]; exact rf_code, ti.rfa y2 y3⟩
          · rcases u1 with u | u
            · rw [y1] at u; cases u
            · exact absurd u y2
          · rcases u1 with u | u
            · rw [y1] at u; cases u
            · exact absurd u y2
    · cases z
      have r1 := rm.1
      have r2 := rm.2
      have hj0 : j = 2 := by
        rcases j with _ | _ | _ | j
        · exact absurd (Option.some.inj hj) (by decide)
        · exact absurd (Option.some.inj hj) (by decide)
        · rfl
        · exact absurd hj (by simp)
      subst hj0
      refine ⟨D, Tm, l, out, ea, tg, th + 1, ⟨w, dl, el, ta, ln, rd, sr', c0, co, γ, ⟨k1, x2.fr fr (by rintro (z | (z | z | z | z) | z) <;> cases z) (by rintro (z | (z | z | z | z) | z) <;> cases z) (by rintro (z | (z | z | z | z) | z) <;> cases z), k2, kT ta Tm x4, x5.fr fr (by rintro (z | (z | z | z | z) | z) <;> cases z) (by rintro (z | (z | z | z | z) | z) <;> cases z), ?_, fun i hi ci => Nat.lt_of_lt_of_le (x7 i hi ci) fr.1⟩, hc0, hγ, by omega⟩, by omega, by omega, b3, by omega, by omega, ?_⟩
      · rcases hγ with rfl | rfl <;> exact x6.fr fr (by rintro (z | (z | z | z | z) | z) <;> cases z) (by rintro (z | (z | z | z | z) | z) <;> cases z) (by rintro (z | (z | z | z | z) | z) <;> cases z)
      · refine (tc_add (τ := τ) 2046 (nI a) (nI b) D hD).mono (fun v τ' hp => ?_)
        obtain ⟨p0, hp⟩ := hp
        rcases hp with ⟨y, -⟩ | ⟨a', b', ha', hb', ea', eb', hp⟩
        · exact absurd ⟨⟨by rw [nI_toInt (by omega)]; omega, by rw [nI_toInt (by omega)]; omega⟩, by rw [nI_toInt (by omega)]; omega, by rw [nI_toInt (by omega)]; omega⟩ y
        · have q1 := (nI_q (a := a) (b := a') (by omega) (by omega)).mp ea'
          have q2 := (nI_q (a := b) (b := b') (by omega) (by omega)).mp eb'
          subst q1; subst q2
          rcases hp with ⟨y, -⟩ | ⟨-, -, -, y2, y3⟩ | ⟨-, -, y, -⟩
          · rcases y with y | y
            · rw [u1] at y; cases y
            · exact absurd y u2
          · exact ⟨p0, by rw [y2]; exact rf_code, ti.rfa y2 y3⟩
          · omega
    · cases z
theorem jo_put (a1 a2 : Int32) (hI : LI Z E o lo c τ h) (hc : c < 64) : JO Z mX0_put mX3_put [.ref E, .int a1, .int a2, .ref lo] [.ref o, .int a1, .int a2] E o lo c h := by
  obtain ⟨rm1, rm2⟩ := hI.rm hc
  obtain ⟨D, Tm, l, out, ea, tg, th, ⟨w, dl, el, ta, ln, rd, sr, c0, co, γ, cj, hc0, hγ, hsr⟩, ti, hR, ⟨g, hlo⟩, b1, b2, b3, b4, b5⟩ := id hI
  obtain ⟨x1, x2, x3, x4, x5, x6, x7⟩ := id cj
  have h60 := x3.2.2.2.2.2.1
  have hD := ti.1
  have t4 : τ.1 4 = D.1 := hD.1
  have t2 := ti.2.2.1
  have a5 := ti.2.2.2.2.1
  have tcp : ∀ m x, tC Z mX3_put 2047 o [.ref o, .int m, .int x] τ (ptQ D l m x τ) := fun m x => by
    have := tc_put (Z := Z) (o := o) (τ := τ) 2045 m x D hD l.length t2 (by omega) (fun i hi => by rw [ti.2.2.2.1 i hi]; exact a5 _ (getD_mem (d := 0) hi))
    rw [ti.ln] at this
    exact this
  refine JO.of hI (S := adS) ?_ (xw_put 2046 x1 hlo (en_put 1976 a1 a2 x1 x2 x3 x5 (by omega) (by omega) (by omega) (by omega)) ?_ ?_) (by decide) ?_ ?_
  · rintro κ (z | (z | z | z | z) | z | z | z | z) <;> (rw [z]; exact ⟨by decide, by rintro (y | y | y | y | y | y) <;> cases y⟩)
  · rintro (z | (z | z | z | z) | z | z | z | z) <;> cases z
  · rintro r h' (⟨-, z, -⟩ | ⟨a, b, -, -, -, -, -, -, sr', -, ⟨-, z, -⟩ | ⟨-, -, -, -, -, z, -⟩ | ⟨-, -, -, -, z, -⟩⟩)
    · exact Or.inr ⟨_, mm0, z⟩
    · exact Or.inr ⟨_, mm1, z⟩
    · exact Or.inr ⟨_, mm2, z⟩
    · exact Or.inl ⟨_, z⟩
  · intro x h1 hk fr hw1
    rcases hk with ⟨-, z, -⟩ | ⟨a, b, ha, hb, rfl, rfl, rm, kT, sr', hs', ⟨-, z, -⟩ | ⟨-, -, -, -, -, z, -⟩ | ⟨u1, u2, u3, u4, z, k1, k2, k5⟩⟩
    · cases z
    · cases z
    · cases z
    · cases z
      have r1 := rm.1
      have r2 := rm.2
      refine ⟨dPut D a l b, Tm, [], out, ea, tg, th, ⟨w, dl, el, ta, ln, rd, sr', c0, co, γ, ⟨k1, ?_, k2, kT ta Tm x4, k5, ?_, fun i hi ci => ?_⟩, hc0, hγ, by omega⟩, Nat.zero_le _, by omega, b3, by omega, by omega, ?_⟩
      · obtain ⟨xs, cap, hA, hxl, hxw⟩ := x2.fr fr (by rintro (z | (z | z | z | z) | z | z | z | z) <;> cases z) (by rintro (z | (z | z | z | z) | z | z | z | z) <;> cases z) (by rintro (z | (z | z | z | z) | z | z | z | z) <;> cases z)
        exact ⟨xs, cap, hA, hxl, hxw⟩
      · rcases hγ with rfl | rfl <;> exact x6.fr fr (by rintro (z | (z | z | z | z) | z | z | z | z) <;> cases z) (by rintro (z | (z | z | z | z) | z | z | z | z) <;> cases z) (by rintro (z | (z | z | z | z) | z | z | z | z) <;> cases z)
      · refine Nat.lt_of_lt_of_le (x7 i hi ?_) fr.1
        by_cases z : i = a
        · rw [z, isMp_eq u1]; exact ⟨_, rfl⟩
        · rw [show (dPut D a l b).2 i = D.2 i from if_neg z] at ci
          exact ci
      · refine (tcp (nI a) (nI b)).mono (fun v τ' hp => ?_)
        obtain ⟨p0, hp⟩ := hp
        rcases hp with ⟨y, -⟩ | ⟨a', b', ha', hb', ea', eb', hp⟩
        · exact absurd ⟨⟨by rw [nI_toInt (by omega)]; omega, by rw [nI_toInt (by omega)]; omega⟩, by rw [nI_toInt (by omega)]; omega, by rw [nI_toInt (by omega)]; omega⟩ y
        · have q1 := (nI_q (a := a) (b := a') (by omega) (by omega)).mp ea'
          have q2 := (nI_q (a := b) (b := b') (by omega) (by omega)).mp eb'
          subst q1; subst q2
          rcases hp with ⟨y, -⟩ | ⟨-, -, -, y1, y2, -⟩ | ⟨-, -, -, -, y1, y2, y3, y4⟩
          · rcases y with y | y | y
            · rw [u1] at y; cases y
            · exact absurd y u2
            · exact absurd u3 y
          · exact absurd ⟨y1, y2⟩ u4
          · exact ⟨y1, by rw [y2]; rfl, ti.up y3 (fun k hk => by simp at hk; omega) y4 (Or.inr ⟨rfl, by rw [y2]; rfl⟩) (by rw [y2]; rfl) (by rw [y2]; rfl) (by rw [y2]; exact ti.2.2.2.2.2.2.2.2.2.1)⟩
  · intro j Ex h1 hj hk fr
    rcases hk with ⟨z1, z, k1, k2, k3⟩ | ⟨a, b, ha, hb, rfl, rfl, rm, kT, sr', hs', ⟨u1, z, k1, k2, k5⟩ | ⟨u1, u2, u3, u4, u5, z, k1, k2, k5⟩ | ⟨-, -, -, -, z, -⟩⟩
    · cases z
      have k31 := k3.1
      have k32 := k3.2
      have hj0 : j = 0 := by
        rcases j with _ | _ | _ | j
        · rfl
        · exact absurd (Option.some.inj hj) (by decide)
        · exact absurd (Option.some.inj hj) (by decide)
        · exact absurd hj (by simp)
      subst hj0
      refine ⟨D, Tm, l, out, ea, tg, th + 1, ⟨w, dl, el, ta, ln, rd, sr, c0, co, γ, cj.thr hγ k1 k2, hc0, hγ, by omega⟩, by omega, by omega, b3, by omega, by omega, ?_⟩
      refine (tcp a1 a2).mono (fun v τ' hp => ?_)
      obtain ⟨p0, hp⟩ := hp
      rcases hp with ⟨y, rfl⟩ | ⟨a', b', ha', hb', rfl, rfl, hp⟩
      · exact ⟨p0, rf_code, ti.rf 1⟩
      · exact absurd ⟨⟨by rw [nI_toInt (by omega)]; omega, by rw [nI_toInt (by omega)]; omega⟩, by rw [nI_toInt (by omega)]; omega, by rw [nI_toInt (by omega)]; omega⟩ z1
    · cases z
      have r1 := rm.1
      have r2 := rm.2
      have hj0 : j = 1 := by
        rcases j with _ | _ | _ | j
        · exact absurd (Option.some.inj hj) (by decide)
        · rfl
        · exact absurd (Option.some.inj hj) (by decide)
        · exact absurd hj (by simp)
      subst hj0
      refine ⟨D, Tm, l, out, ea, tg, th + 1, ⟨w, dl, el, ta, ln, rd, sr', c0, co, γ, ⟨k1, x2.fr fr (by rintro (z | (z | z | z | z) | z | z | z | z) <;> cases z) (by rintro (z | (z | z | z | z) | z | z | z | z) <;> cases z) (by rintro (z | (z | z | z | z) | z | z | z | z) <;> cases z), k2, kT ta Tm x4, k5, ?_, fun i hi ci => Nat.lt_of_lt_of_le (x7 i hi ci) fr.1⟩, hc0, hγ, by omega⟩, by omega, by omega, b3, by omega, by omega, ?_⟩
      · rcases hγ with rfl | rfl <;> exact x6.fr fr (by rintro (z | (z | z | z | z) | z | z | z | z) <;> cases z) (by rintro (z | (z | z | z | z) | z | z | z | z) <;> cases z) (by rintro (z | (z | z | z | z) | z | z | z | z) <;> cases z)
      · refine (tcp (nI a) (nI b)).mono (fun v τ' hp => ?_)
        obtain ⟨p0, hp⟩ := hp
        rcases hp with ⟨y, -⟩ | ⟨a', b', ha', hb', ea', eb', hp⟩
        · exact absurd ⟨⟨by rw [nI_toInt (by omega)]; omega, by rw [nI_toInt (by omega)]; omega⟩, by rw [nI_toInt (by omega)]; omega, by rw [nI_toInt (by omega)]; omega⟩ y
        · have q1 := (nI_q (a := a) (b := a') (by omega) (by omega)).mp ea'
          have q2 := (nI_q (a := b) (b := b') (by omega) (by omega)).mp eb'
          subst q1; subst q2
          rcases hp with ⟨-, y2, y3⟩ | ⟨y1, y2, y3, -⟩ | ⟨y1, y2, y3, -⟩
          · exact ⟨p0, by rw [y2]; exact rf_code, ti.rfa y2 y3⟩
          · rcases u1 with u | u | u
            · rw [y1] at u; cases u
            · exact absurd u y2
            · exact absurd y3 u
          · rcases u1 with u | u | u
            · rw [y1] at u; cases u
            · exact absurd u y2
            · exact absurd y3 u
    · cases z
      have r1 := rm.1
      have r2 := rm.2
      have hj0 : j = 2 := by
        rcases j with _ | _ | _ | j
        · exact absurd (Option.some.inj hj) (by decide)
        · exact absurd (Option.some.inj hj) (by decide)
        · rfl
        · exact absurd hj (by simp)
      subst hj0
      refine ⟨D, Tm, l, out, ea, tg, th + 1, ⟨w, dl, el, ta, ln, rd, sr', c0, co, γ, ⟨k1, x2.fr fr (by rintro (z | (z | z | z | z) | z | z | z | z) <;> cases z) (by rintro (z | (z | z | z | z) | z | z | z | z) <;> cases z) (by rintro (z | (z | z | z | z) | z | z | z | z) <;> cases z), k2, kT ta Tm x4, k5, ?_, fun i hi ci => Nat.lt_of_lt_of_le (x7 i hi ci) fr.1⟩, hc0, hγ, by omega⟩, by omega, by omega, b3, by omega, by omega, ?_⟩
      · rcases hγ with rfl | rfl <;> exact x6.fr fr (by rintro (z | (z | z | z | z) | z | z | z | z) <;> cases z) (by rintro (z | (z | z | z | z) | z | z | z | z) <;> cases z) (by rintro (z | (z | z | z | z) | z | z | z | z) <;> cases z)
      · refine (tcp (nI a) (nI b)).mono (fun v τ' hp => ?_)
        obtain ⟨p0, hp⟩ := hp
        rcases hp with ⟨y, -⟩ | ⟨a', b', ha', hb', ea', eb', hp⟩
        · exact absurd ⟨⟨by rw [nI_toInt (by omega)]; omega, by rw [nI_toInt (by omega)]; omega⟩, by rw [nI_toInt (by omega)]; omega, by rw [nI_toInt (by omega)]; omega⟩ y
        · have q1 := (nI_q (a := a) (b := a') (by omega) (by omega)).mp ea'
          have q2 := (nI_q (a := b) (b := b') (by omega) (by omega)).mp eb'
          subst q1; subst q2
          rcases hp with ⟨y, -⟩ | ⟨-, -, -, -, -, y2, y3⟩ | ⟨-, -, -, y, -⟩
          · rcases y with y | y | y
            · rw [u1] at y; cases y
            · exact absurd y u2
            · exact absurd u3 y
          · exact ⟨p0, by rw [y2]; exact rf_code, ti.rfa y2 y3⟩
          · exact absurd ⟨u4, u5⟩ y
    · cases z
theorem jo_compile (a : Int32) (hI : LI Z E o lo c τ h) (hc : c < 64) : JO Z mX0_compile mX3_compile [.ref E, .int a, .ref lo] [.ref o, .int a] E o lo c h := by
  obtain ⟨rm1, rm2⟩ := hI.rm hc
  obtain ⟨D, Tm, l, out, ea, tg, th, ⟨w, dl, el, ta, ln, rd, sr, c0, co, γ, cj, hc0, hγ, hsr⟩, ti, hR, ⟨g, hlo⟩, b1, b2, b3, b4, b5⟩ := id hI
  obtain ⟨x1, x2, x3, x4, x5, x6, x7⟩ := id cj
  have h60 := x3.2.2.2.2.2.1
  have hD := ti.1
  have t4 : τ.1 4 = D.1 := hD.1
  have t2 := ti.2.2.1
  have a5 := ti.2.2.2.2.1
  have tB := ti.2.1.2.2.2
  refine JO.of hI (S := cmS) ?_ (xw_compile 2046 x1 hlo (en_compile 2006 a x1 x5 (by omega) x4 (by omega) (by omega)) ?_ ?_) (by decide) ?_ ?_
  · rintro κ (z | (z | z) | z | z | z | z | z) <;> (rw [z]; exact ⟨by decide, by rintro (y | y | y | y | y | y) <;> cases y⟩)
  · rintro (z | (z | z) | z | z | z | z | z) <;> cases z
  · rintro r h' (⟨-, z, -⟩ | ⟨-, -, -, -, er, G, T, -, ⟨-, z, -⟩ | ⟨x, -, z, -⟩⟩)
    · exact Or.inr ⟨_, mm0, z⟩
    · exact Or.inl ⟨_, z⟩
    · exact Or.inr ⟨_, mm1, z⟩
  · intro x h1 hk fr hw1
    rcases hk with ⟨-, z, -⟩ | ⟨hk4, mn, k1, rm, er, G, T, fn, ⟨e0, z, k2, k3⟩ | ⟨x, -, z, -⟩⟩
    · cases z
    · cases z
      subst e0
      have r1 := rm.1
      have r2 := rm.2
      obtain ⟨i, hi, rfl, ei⟩ := in_nI (n := 4) (by decide) hk4
      rw [ei] at k3
      refine ⟨D, tmU Tm i (l.length, lF l, G, T), [], out, -1, tg, th, ⟨w, dl, el, ta, ln, rd, sr, c0, co, γ, ⟨k2, x2.fr fr (by rintro (z | (z | z) | z | z | z | z | z) <;> cases z) (by rintro (z | (z | z) | z | z | z | z | z) <;> cases z) (by rintro (z | (z | z) | z | z | z | z | z) <;> cases z), x3.kt fr (by intro κ hκ z; rcases z with z | (z | z) | z | z | z | z | z <;> (rw [z] at hκ; revert hκ; decide)) mn, k3, k1, ?_, fun i hi ci => Nat.lt_of_lt_of_le (x7 i hi ci) fr.1⟩, hc0, hγ, by omega⟩, Nat.zero_le _, by omega, b3, by omega, rm_sl (by decide) r2 b5, ?_⟩
      · rcases hγ with rfl | rfl <;> exact x6.fr fr (by rintro (z | (z | z) | z | z | z | z | z) <;> cases z) (by rintro (z | (z | z) | z | z | z | z | z) <;> cases z) (by rintro (z | (z | z) | z | z | z | z | z) <;> cases z)
      · obtain ⟨m, hm⟩ := id fn
        refine (tc_compile (τ := τ) 2039 i l.length m (lF l) (none, G, T) hi t2 (by omega) ti.2.2.2.1 (fun j hj => by have := a5 _ (getD_mem (d := 0) hj); show l.getD j 0 < _; omega) tB hm).mono (fun v τ' hp => ?_)
        exact ti.cm hi (by omega) fn hp.1 hp.2
    · cases z
  · intro j Ex h1 hj hk fr
    rcases hk with ⟨z1, z, k1, k2, k3⟩ | ⟨hk4, mn, k1, rm, er, G, T, fn, ⟨e0, z, -⟩ | ⟨x, e0, z, k2, k3⟩⟩
    · cases z
      have k31 := k3.1
      have k32 := k3.2
      have hj0 : j = 0 := by
        rcases j with _ | _ | j
        · rfl
        · exact absurd (Option.some.inj hj) (by decide)
        · exact absurd hj (by simp)
      subst hj0
      refine ⟨D, Tm, l, out, ea, tg, th + 1, ⟨w, dl, el, ta, ln, rd, sr, c0, co, γ, cj.thr hγ k1 k2, hc0, hγ, by omega⟩, by omega, by omega, b3, by omega, by omega, ?_⟩
      refine (tc_compileX (τ := τ) 2046 a (by omega)).mono (fun v τ' hp => ?_)
      obtain ⟨p1, rfl⟩ := hp
      exact ⟨⟨_, p1⟩, rf_code, ti.rf 1⟩
    · cases z
    · cases z
      subst e0
      have r1 := rm.1
      have r2 := rm.2
      obtain ⟨i, hi, rfl, ei⟩ := in_nI (n := 4) (by decide) hk4
      have hj0 : j = 1 := by
        rcases j with _ | _ | j
        · exact absurd (Option.some.inj hj) (by decide)
        · rfl
        · exact absurd hj (by simp)
      subst hj0
      refine ⟨D, Tm, [], out, nI x, tg, th + 1, ⟨w, dl, el, ta, ln, rd, sr, c0, co, γ, ⟨k2, x2.fr fr (by rintro (z | (z | z) | z | z | z | z | z) <;> cases z) (by rintro (z | (z | z) | z | z | z | z | z) <;> cases z) (by rintro (z | (z | z) | z | z | z | z | z) <;> cases z), x3.kt fr (by intro κ hκ z; rcases z with z | (z | z) | z | z | z | z | z <;> (rw [z] at hκ; revert hκ; decide)) mn, k3, k1, ?_, fun i hi ci => Nat.lt_of_lt_of_le (x7 i hi ci) fr.1⟩, hc0, hγ, by omega⟩, Nat.zero_le _, by omega, b3, by omega, rm_sl (by decide) r2 b5, ?_⟩
      · rcases hγ with rfl | rfl <;> exact x6.fr fr (by rintro (z | (z | z) | z | z | z | z | z) <;> cases z) (by rintro (z | (z | z) | z | z | z | z | z) <;> cases z) (by rintro (z | (z | z) | z | z | z | z | z) <;> cases z)
      · obtain ⟨m, hm⟩ := id fn
        refine (tc_compile (τ := τ) 2039 i l.length m (lF l) (some x, G, T) hi t2 (by omega) ti.2.2.2.1 (fun j hj => by have := a5 _ (getD_mem (d := 0) hj); show l.getD j 0 < _; omega) tB hm).mono (fun v τ' hp => ?_)
        obtain ⟨q1, q2, q3⟩ := ti.cx hp.1 hp.2
        exact ⟨⟨_, q1⟩, q2, q3⟩
theorem rnS_lt {γ : Nat} (hγ : γ = 2 ∨ γ = 3) : ∀ κ, rnS γ κ → κ < 900 ∧ ¬ lwS κ := by
  rintro κ (z | z | z | (z | z) | z | z | (z | z) | (z | z)) <;> (refine ⟨by omega, ?_⟩; rintro (y | y | y | y | y | y) <;> omega)
/-- the other kind of Output -/
def oth (γ : Nat) : Nat := 5 - γ
theorem rn_no {γ κ : Nat} (hγ : γ = 2 ∨ γ = 3) (h : κ ∈ [5, 7, 8, 10, 11, 12, 13, 14, 15, 16, 17, 18, 21, 30, 32, 60, 65, 66, 67, 68, 69, 131, 160, 169, 905, 930, 960, 965]) : ¬ rnS γ κ := by
  simp only [List.mem_cons, List.not_mem_nil, or_false] at h
  rintro (z | z | z | (z | z) | z | z | (z | z) | (z | z)) <;> omega
set_option maxHeartbeats 4000000 in
theorem jo_render (a1 a2 : Int32) (hI : LI Z E o lo c τ h) (hc : c < 64) : JO Z mX0_render mX3_render [.ref E, .int a1, .int a2, .ref lo] [.ref o, .int a1, .int a2] E o lo c h := by
  obtain ⟨rm1, rm2⟩ := hI.rm hc
  obtain ⟨D, Tm, l, out, ea, tg, th, ⟨w, dl, el, ta, ln, rd, sr, c0, co, γ, cj, hc0, hγ, hsr⟩, ti, hR, ⟨g, hlo⟩, b1, b2, b3, b4, b5⟩ := id hI
  obtain ⟨x1, x2, x3, x4, x5, x6, x7⟩ := id cj
  have h60 := x3.2.2.2.2.2.1
  have hD := ti.1
  have t4 : τ.1 4 = D.1 := hD.1
  have hg' : oth γ = 2 ∨ oth γ = 3 := by unfold oth; omega
  have og : ∀ {h1}, hFr (rnS (oth γ)) h h1 → cO h1 γ rd co out := fun f => by
    have no : ∀ κ, κ = 100 * γ + 2 ∨ κ = 100 * γ + 31 ∨ κ = 100 * γ + 60 → ¬ rnS (oth γ) κ := by
      intro κ hκ z
      unfold oth at z
      rcases z with z | z | z | (z | z) | z | z | (z | z) | (z | z) <;> omega
    exact x6.fr f (no _ (Or.inl rfl)) (no _ (Or.inr (Or.inl rfl))) (no _ (Or.inr (Or.inr rfl)))
  have cn : ∀ {h1 : hP} {co' : Nat} {out' : List Nat} {γ' rd' tg' th' : Nat}, hFr (rnS (oth γ)) h h1 → cMn h h1 → h1.2.2 E = some (eF dl ta ln rd' ea tg' th' sr) → cO h1 γ' rd' co' out' → CJ Z E D w dl el ta ln rd' sr c0 co' γ' Tm l out' ea tg' th' h1 := fun {h1 co' out' γ' rd' tg' th'} f mn hE hO =>
    ⟨hE, x2.fr f (rn_no hg' (by decide)) (rn_no hg' (by decide)) (rn_no hg' (by decide)), x3.kt f (fun κ hκ => rn_no hg' ((by decide : ∀ κ ∈ [5, 7, 8, 21, 30, 60, 68, 69, 905, 930, 960], κ ∈ [5, 7, 8, 10, 11, 12, 13, 14, 15, 16, 17, 18, 21, 30, 32, 60, 65, 66, 67, 68, 69, 131, 160, 169, 905, 930, 960, 965]) κ hκ)) mn, x4.kt f (fun κ hκ => rn_no hg' ((by decide : ∀ κ ∈ [5, 10, 11, 12, 13, 14, 15, 16, 17, 18, 30, 60, 66, 169, 930, 960], κ ∈ [5, 7, 8, 10, 11, 12, 13, 14, 15, 16, 17, 18, 21, 30, 32, 60, 65, 66, 67, 68, 69, 131, 160, 169, 905, 930, 960, 965]) κ hκ)) (rn_no hg' (by decide)) mn, x5.fr f (rn_no hg' (by decide)) (rn_no hg' (by decide)), hO, fun i hi ci => Nat.lt_of_lt_of_le (x7 i hi ci) f.1⟩
  have t35 := ti.2.2.2.2.2.1
  have hol := ti.2.2.2.2.2.2.1
  refine JO.of hI (S := rnS (oth γ)) (rnS_lt hg') (xw_render 2046 x1 hlo (en_render 1845 a1 a2 hg' x1 x2 x4 x3 (by omega) (by omega)) ?_ ?_) (by decide) ?_ ?_
  · intro z
    exact ((rnS_lt hg') 64 z).2 (Or.inl rfl)
  · rintro r h' (⟨-, z, -⟩ | ⟨-, -, z, -⟩ | ⟨-, -, -, ⟨_, _, _, _, z, -⟩ | ⟨qe, Ex, z, hx, -⟩⟩)
    · exact Or.inr ⟨_, mm0, z⟩
    · exact Or.inr ⟨_, mm1, z⟩
    · exact Or.inl ⟨_, z⟩
    · rcases hx with ⟨-, e⟩ | ⟨-, e⟩ | ⟨-, e⟩
      · exact Or.inr ⟨_, mm1, by rw [z, e]⟩
      · exact Or.inr ⟨_, mm2, by rw [z, e]⟩
      · exact Or.inr ⟨_, mm3, by rw [z, e]⟩
  · intro x h1 hk fr hw1
    rcases hk with ⟨-, z, -⟩ | ⟨-, -, z, -⟩ | ⟨hk4, ⟨A, hA⟩, hx, ⟨oa, co', out', seen, z, mf, hO, hs6, mn, hE1, rm⟩ | ⟨_, _, z, -⟩⟩
    · cases z
    · cases z
    · cases z
      have r1 := rm.1
      have r2 := rm.2
      obtain ⟨i, hi, rfl, ei⟩ := in_nI (n := 4) (by decide) hk4
      obtain ⟨y, hy, rfl, ey⟩ := in_nI h60 hx
      rw [ei] at hA
      rw [ei, ey] at mf
      refine ⟨D, Tm, l, out', ea, seen, th, ⟨w, dl, el, ta, ln, oa, sr, c0, co', oth γ, cn fr mn hE1 hO, hc0, hg', by omega⟩, by omega, by omega, hs6, by omega, rm_sl (by decide) r2 b5, ?_⟩
      refine (tc_render (τ := τ) 2037 i y hi Tm D ti.2.1 hD x3.2.2.2.2.2.2 A hA hy (.inr (out', seen)) mf (fun e he => by cases he)).mono (fun v τ' hp => ?_)
      obtain ⟨p1, p2, p3, p4, p5, p6, p7, p8⟩ := hp
      exact ⟨p2, p3, ti.hk p1 p6 p7 p8 p5 (p4.trans ti.2.2.2.2.2.2.2.2.2.1)⟩
    · cases z
  · intro j Ex h1 hj hk fr
    rcases hk with ⟨z1, z, k1, k2, k3⟩ | ⟨hk4, hno, z, k1, k2, k3⟩ | ⟨hk4, ⟨A, hA⟩, hx, ⟨_, _, _, _, z, -⟩ | ⟨qe, Ex', z, hex, mf, mn, hE1, rm⟩⟩
    · cases z
      have k31 := k3.1
      have k32 := k3.2
      have hj0 : j = 0 := by
        rcases j with _ | _ | _ | _ | j
        · rfl
        · exact absurd (Option.some.inj hj) (by decide)
        · exact absurd (Option.some.inj hj) (by decide)
        · exact absurd (Option.some.inj hj) (by decide)
        · exact absurd hj (by simp)
      subst hj0
      refine ⟨D, Tm, l, out, ea, tg, th + 1, ⟨w, dl, el, ta, ln, rd, sr, c0, co, γ, cj.thr hγ k1 k2, hc0, hγ, by omega⟩, by omega, by omega, b3, by omega, by omega, ?_⟩
      refine (tc_renderX (τ := τ) 2046 a1 a2 (by omega)).mono (fun v τ' hp => ?_)
      obtain ⟨p0, rfl⟩ := hp
      exact ⟨p0, rf_code, ti.rf 1⟩
    · cases z
      have k31 := k3.1
      have k32 := k3.2
      have hj0 : j = 1 := by
        rcases j with _ | _ | _ | _ | j
        · exact absurd (Option.some.inj hj) (by decide)
        · rfl
        · exact absurd (Option.some.inj hj) (by decide)
        · exact absurd (Option.some.inj hj) (by decide)
        · exact absurd hj (by simp)
      subst hj0
      refine ⟨D, Tm, l, out, ea, tg, th + 1, ⟨w, dl, el, ta, ln, rd, sr, c0, co, γ, cj.thr hγ k1 k2, hc0, hγ, by omega⟩, by omega, by omega, b3, by omega, by omega, ?_⟩
      obtain ⟨i, hi, rfl, ei⟩ := in_nI (n := 4) (by decide) hk4
      rw [ei] at hno
      refine (tc_renderN (τ := τ) 2046 i a2 hi Tm D ti.2.1 hD hno).mono (fun v τ' hp => ?_)
      obtain ⟨p0, rfl⟩ := hp
      exact ⟨p0, rf_code, ti.rf 2⟩
    · cases z
    · cases z
      have r1 := rm.1
      have r2 := rm.2
      obtain ⟨i, hi, rfl, ei⟩ := in_nI (n := 4) (by decide) hk4
      obtain ⟨y, hy, rfl, ey⟩ := in_nI h60 hx
      rw [ei] at hA
      rw [ei, ey] at mf
      have hq : qe = j + 1 ∧ 0 < qe ∧ qe < 5 := by
        rcases hex with ⟨e1, e2⟩ | ⟨e1, e2⟩ | ⟨e1, e2⟩
        · subst e2
          have hj0 : j = 1 := by
            rcases j with _ | _ | _ | _ | j
            · exact absurd (Option.some.inj hj) (by decide)
            · rfl
            · exact absurd (Option.some.inj hj) (by decide)
            · exact absurd (Option.some.inj hj) (by decide)
            · exact absurd hj (by simp)
          subst hj0
          omega
        · subst e2
          have hj0 : j = 2 := by
            rcases j with _ | _ | _ | _ | j
            · exact absurd (Option.some.inj hj) (by decide)
            · exact absurd (Option.some.inj hj) (by decide)
            · rfl
            · exact absurd (Option.some.inj hj) (by decide)
            · exact absurd hj (by simp)
          subst hj0
          omega
        · subst e2
          have hj0 : j = 3 := by
            rcases j with _ | _ | _ | _ | j
            · exact absurd (Option.some.inj hj) (by decide)
            · exact absurd (Option.some.inj hj) (by decide)
            · exact absurd (Option.some.inj hj) (by decide)
            · rfl
            · exact absurd hj (by simp)
          subst hj0
          omega
      refine ⟨D, Tm, l, out, ea, tg, th + 1, ⟨w, dl, el, ta, ln, rd, sr, c0, co, γ, cn fr mn hE1 (og fr), hc0, hγ, by omega⟩, by omega, by omega, b3, by omega, rm_sl (by decide) r2 b5, ?_⟩
      refine (tc_render (τ := τ) 2037 i y hi Tm D ti.2.1 hD x3.2.2.2.2.2.2 A hA hy (.inl qe) mf (fun e he => by cases he; omega)).mono (fun v τ' hp => ?_)
      obtain ⟨p1, p0, p2, p3, p4, p5, p6⟩ := hp
      exact ⟨p0, by rw [p2]; exact hq.1, ti.hk p1 (p5.trans t35) hol (fun i' hi' => (p6 i').trans (ti.2.2.2.2.2.2.2.1 i' hi')) (p4.trans ti.2.2.2.2.2.2.2.2.1) (by rw [p3, ti.2.2.2.2.2.2.2.2.2.1])⟩
end JU
