/-! LAW 4: the calls, both sides together -/
set_option maxRecDepth 100000
section JT
variable {Z : hE} {E o lo c : Nat} {τ : tT} {h : hP}
/-- the room at a call -/
theorem LI.rm (hI : LI Z E o lo c τ h) (hc : c < 64) : h.1 + 9600 ≤ hLC Z ∧ h.2.1 + 130000 ≤ hLS := by
  obtain ⟨-, -, -, -, -, -, -, -, -, -, -, -, -, -, b4, b5⟩ := hI
  unfold hLC hLS
  omega
theorem in_D {D : aD} {x : Int32} : inR D x ↔ (0 ≤ x.toInt ∧ x.toInt < D.1) := Iff.rfl
theorem toN {x : Int32} {a : Nat} (ha : a ≤ 1000) (h : x = nI a) : x.toInt.toNat = a := by rw [h, nI_toInt (by omega), Int.toNat_natCast]
theorem jo_type (a : Int32) (hI : LI Z E o lo c τ h) (hc : c < 64) : JO Z mX0_type mX3_type [.ref E, .int a, .ref lo] [.ref o, .int a] E o lo c h := by
  obtain ⟨rm1, rm2⟩ := hI.rm hc
  obtain ⟨D, Tm, l, out, ea, tg, th, ⟨w, dl, el, ta, ln, rd, sr, c0, co, γ, cj, hc0, hγ, hsr⟩, ti, hR, ⟨g, hlo⟩, b1, b2, b3, b4, b5⟩ := id hI
  obtain ⟨x1, x2, x3, x4, x5, x6, x7⟩ := id cj
  have h60 := x3.2.2.2.2.2.1
  have hD := ti.1
  have t4 : τ.1 4 = D.1 := hD.1
  have t2 := ti.2.2.1
  refine JO.of hI (S := fun κ => κ = 1 ∨ jSS 1 κ) ?_ (xw_type 2046 x1 hlo (en_type 2038 c0 l a x1 x5 (by omega) hc0.1 hc0.2 (by omega) (by omega)) ?_ ?_) (by decide) ?_ ?_
  · rintro κ (z | z | z) <;> (rw [z]; exact ⟨by decide, by rintro (y | y | y | y | y | y) <;> cases y⟩)
  · rintro (z | z | z) <;> cases z
  · rintro r h' (⟨-, -, z, -⟩ | ⟨-, z, -⟩)
    · exact Or.inl ⟨_, z⟩
    · exact Or.inr ⟨_, mm0, z⟩
  · intro x h1 hk fr hw1
    rcases hk with ⟨z1, z2, z, cap', k1, k2, k3⟩ | ⟨-, z, -⟩
    · cases z
      have hlen : (l ++ [a.toInt.toNat]).length = l.length + 1 := by rw [List.length_append]; rfl
      have mn : cMn h h1 := cMn.j1 k3
      refine ⟨D, Tm, l ++ [a.toInt.toNat], out, ea, tg, th, ⟨w, dl, el, ta, ln, rd, sr, cap', co, γ, ⟨(k3.2.2 _ _ x1).1 (by rintro (z | z) <;> cases z), x2.fr k3 (by rintro (z | z) <;> cases z) (by rintro (z | z) <;> cases z) (by rintro (z | z) <;> cases z), x3.kt k3 (by intro κ hκ z; rcases z with z | z <;> (rw [z] at hκ; revert hκ; decide)) mn, x4.kt k3 (by intro κ hκ z; rcases z with z | z <;> (rw [z] at hκ; revert hκ; decide)) (by rintro (z | z) <;> cases z) mn, k1, ?_, fun i hi ci => Nat.lt_of_lt_of_le (x7 i hi ci) k3.1⟩, ?_, hγ, by omega⟩, by omega, by omega, b3, ?_, ?_, ?_⟩
      · rcases hγ with rfl | rfl <;> exact x6.fr k3 (by rintro (z | z) <;> cases z) (by rintro (z | z) <;> cases z) (by rintro (z | z) <;> cases z)
      · obtain ⟨g1, g2, g3, g4⟩ := k2
        omega
      · obtain ⟨g1, g2, g3, g4⟩ := k2
        omega
      · obtain ⟨g1, g2, g3, g4⟩ := k2
        omega
      · refine (tc_type (τ := τ) 2046 a (by omega)).mono (fun v τ' hp => ?_)
        rcases hp with ⟨y, -⟩ | ⟨k, hk, rfl, y2, rfl⟩
        · exact absurd ⟨z1, z2⟩ y
        · rw [toN (a := k) (by omega) rfl]
          exact ⟨by rw [y2, t2], rfl, ti.ty hk⟩
    · cases z
  · intro j Ex h1 hj hk fr
    rcases hk with ⟨-, -, z, -⟩ | ⟨z1, z, k1, k2, k3⟩
    · cases z
    · cases z
      have k31 := k3.1
      have k32 := k3.2
      have hj0 : j = 0 := by
        rcases j with _ | _ | j
        · rfl
        · exact absurd (Option.some.inj hj) (by decide)
        · exact absurd hj (by simp)
      subst hj0
      refine ⟨D, Tm, l, out, ea, tg, th + 1, ⟨w, dl, el, ta, ln, rd, sr, c0, co, γ, cj.thr hγ k1 k2, hc0, hγ, by omega⟩, by omega, by omega, b3, by omega, by omega, ?_⟩
      refine (tc_type (τ := τ) 2046 a (by omega)).mono (fun v τ' hp => ?_)
      rcases hp with ⟨y, y2, rfl⟩ | ⟨k, hk, rfl, y2, -⟩
      · exact ⟨⟨_, y2⟩, rf_code, ti.rf 1⟩
      · exact absurd ⟨by rw [nI_toInt (by omega)]; omega, by rw [nI_toInt (by omega)]; omega⟩ z1
theorem jo_number (a : Int32) (hI : LI Z E o lo c τ h) (hc : c < 64) (hwf : ∀ a c, h.2.2 a = some c → a < h.1) : JO Z mX0_number mX3_number [.ref E, .int a, .ref lo] [.ref o, .int a] E o lo c h := by
  obtain ⟨rm1, rm2⟩ := hI.rm hc
  obtain ⟨D, Tm, l, out, ea, tg, th, ⟨w, dl, el, ta, ln, rd, sr, c0, co, γ, cj, hc0, hγ, hsr⟩, ti, hR, ⟨g, hlo⟩, b1, b2, b3, b4, b5⟩ := id hI
  obtain ⟨x1, x2, x3, x4, x5, x6, x7⟩ := id cj
  have h60 := x3.2.2.2.2.2.1
  have hD := ti.1
  have t4 : τ.1 4 = D.1 := hD.1
  obtain ⟨xs, cap, hA, hxl, hxw⟩ := id x2
  obtain ⟨w1, w2⟩ := x3.lo hwf
  refine JO.of hI (S := fun κ => κ = 1 ∨ κ = 32 ∨ κ = 65) ?_ (xw_number 2046 x1 hlo (en_number 2037 a x1 hA (by omega) (by omega) (by omega)) ?_ ?_) (by decide) ?_ ?_
  · rintro κ (z | z | z) <;> (rw [z]; exact ⟨by decide, by rintro (y | y | y | y | y | y) <;> cases y⟩)
  · rintro (z | z | z) <;> cases z
  · rintro r h' (⟨-, z, -⟩ | ⟨-, z, -⟩)
    · exact Or.inl ⟨_, z⟩
    · exact Or.inr ⟨_, mm0, z⟩
  · intro x h1 hk fr hw1
    rcases hk with ⟨z1, z, ⟨e', cap', A'⟩, hC, k3, k4⟩ | ⟨-, z, -⟩
    · cases z
      have k41 := k4.1
      have k42 := k4.2
      have mn : cMn h h1 := cMn.ft k3 (by decide) (by decide) (by decide) (by decide) (by decide) (by decide)
      have c1 := hC _ mm0
      have hD1 : cD (dNew D (.inl a)) (upO w.1 D.1 h.1, upO w.2.1 D.1 h.1, upO w.2.2 D.1 h.1) h1 sr := by
        refine cD.nw (x3.kt k3 (by intro κ hκ z; rcases z with z | z <;> (rw [z] at hκ; revert hκ; decide)) mn) (by omega) (fun i hi z => by have := w1 i hi; omega) (fun i hi ci z => by have := w2 i hi ci; omega) (fun i hi ci z => by have := x7 i hi ci; omega) rfl ?_
        unfold cIt
        rw [show (dNew D (.inl a)).2 D.1 = (.inl a) from if_pos rfl]
        exact ⟨0, Nat.zero_le _, by rw [upO_s]; exact c1⟩
      refine ⟨dNew D (.inl a), Tm, l, out, ea, tg, th, ⟨(upO w.1 D.1 h.1, upO w.2.1 D.1 h.1, upO w.2.2 D.1 h.1), dl, e', ta, ln, rd, sr, c0, co, γ, ⟨(k3.2.2 _ _ x1).1 (by rintro (z | z) <;> cases z), ⟨xs ++ [h.1], cap', A', by rw [List.length_append, hxl]; rfl, fun i hi => ?_⟩, hD1, x4.kt k3 (by intro κ hκ z; rcases z with z | z <;> (rw [z] at hκ; revert hκ; decide)) (by decide) mn, x5.fr k3 (by decide) (by decide), ?_, fun i hi ci => ?_⟩, hc0, hγ, by omega⟩, by omega, by omega, b3, by omega, by omega, ?_⟩
      · have hi : i < D.1 + 1 := hi
        show (xs ++ [h.1]).getD i 0 = upO w.1 D.1 h.1 i
        by_cases z : i = D.1
        · rw [z, upO_s, ← hxl, List.getD_eq_getElem?_getD, List.getElem?_append_right (Nat.le_refl _), Nat.sub_self]
          rfl
        · rw [upO_n z, List.getD_eq_getElem?_getD, List.getElem?_append_left (by omega), ← List.getD_eq_getElem?_getD]
          exact hxw i (by omega)
      · rcases hγ with rfl | rfl <;> exact x6.fr k3 (by decide) (by decide) (by decide)
      · have hi : i < D.1 + 1 := hi
        show upO w.2.2 D.1 h.1 i < h1.1
        by_cases z : i = D.1
        · rw [z, upO_s]
          exact hw1 _ _ c1
        · rw [upO_n z]
          rw [show (dNew D (.inl a)).2 i = D.2 i from if_neg z] at ci
          exact Nat.lt_of_lt_of_le (x7 i (by omega) ci) k3.1
      · refine (tc_number (τ := τ) 2045 a (by omega)).mono (fun v τ' hp => ?_)
        rw [if_neg (by omega)] at hp
        obtain ⟨p1, rfl⟩ := hp
        refine ⟨by rw [p1, t4, hxl], rfl, ti.up (B := [8, 9]) ((((tFa.refl [8, 9] τ).an (by decide)).ai (by decide)).fn.fn) (fun k hk => by simp at hk; omega) (tD_mk hD (by omega) rfl (fun τ1 q1 q2 q3 => ?_)) (Or.inl ⟨rfl, rfl⟩) rfl rfl ti.2.2.2.2.2.2.2.2.2.1⟩
        exact ⟨q1, q2⟩
    · cases z
  · intro j Ex h1 hj hk fr
    rcases hk with ⟨-, z, -⟩ | ⟨z1, z, k1, k2, k3⟩
    · cases z
    · cases z
      have k31 := k3.1
      have k32 := k3.2
      have hj0 : j = 0 := by
        rcases j with _ | j
        · rfl
        · exact absurd hj (by simp)
      subst hj0
      refine ⟨D, Tm, l, out, ea, tg, th + 1, ⟨w, dl, el, ta, ln, rd, sr, c0, co, γ, cj.thr hγ k1 k2, hc0, hγ, by omega⟩, by omega, by omega, b3, by omega, by omega, ?_⟩
      refine (tc_number (τ := τ) 2045 a (by omega)).mono (fun v τ' hp => ?_)
      rw [if_pos (by omega)] at hp
      obtain ⟨p1, rfl⟩ := hp
      exact ⟨⟨_, p1⟩, rf_code, ti.rf 1⟩
theorem jo_list (hI : LI Z E o lo c τ h) (hc : c < 64) (hwf : ∀ a c, h.2.2 a = some c → a < h.1) : JO Z mX0_list mX3_list [.ref E, .ref lo] [.ref o] E o lo c h := by
  obtain ⟨rm1, rm2⟩ := hI.rm hc
  obtain ⟨D, Tm, l, out, ea, tg, th, ⟨w, dl, el, ta, ln, rd, sr, c0, co, γ, cj, hc0, hγ, hsr⟩, ti, hR, ⟨g, hlo⟩, b1, b2, b3, b4, b5⟩ := id hI
  obtain ⟨x1, x2, x3, x4, x5, x6, x7⟩ := id cj
  have h60 := x3.2.2.2.2.2.1
  have hD := ti.1
  have t4 : τ.1 4 = D.1 := hD.1
  obtain ⟨xs, cap, hA, hxl, hxw⟩ := id x2
  obtain ⟨w1, w2⟩ := x3.lo hwf
  refine JO.of hI (S := fun κ => κ = 1 ∨ κ = 32 ∨ κ = 65) ?_ (xw_list 2046 x1 hlo (en_list 2037 x1 hA (by omega) (by omega) (by omega)) ?_ ?_) (by decide) ?_ ?_
  · rintro κ (z | z | z) <;> (rw [z]; exact ⟨by decide, by rintro (y | y | y | y | y | y) <;> cases y⟩)
  · rintro (z | z | z) <;> cases z
  · rintro r h' (⟨-, z, -⟩ | ⟨-, z, -⟩)
    · exact Or.inl ⟨_, z⟩
    · exact Or.inr ⟨_, mm0, z⟩
  · intro x h1 hk fr hw1
    rcases hk with ⟨z1, z, ⟨e', cap', A'⟩, hC, k3, k4⟩ | ⟨-, z, -⟩
    · cases z
      have k41 := k4.1
      have k42 := k4.2
      have mn : cMn h h1 := cMn.ft k3 (by decide) (by decide) (by decide) (by decide) (by decide) (by decide)
      have c1 := hC _ mm0
      have c2 := hC _ mm1
      have hD1 : cD (dNew D (.inr (.inr (false, [])))) (upO w.1 D.1 h.1, upO w.2.1 D.1 (h.1 + 1), upO w.2.2 D.1 h.1) h1 sr := by
        refine cD.nw (x3.kt k3 (by intro κ hκ z; rcases z with z | z <;> (rw [z] at hκ; revert hκ; decide)) mn) (by omega) (fun i hi z => by have := w1 i hi; omega) (fun i hi ci z => by have := w2 i hi ci; omega) (fun i hi ci z => by have := x7 i hi ci; omega) rfl ?_
        unfold cIt
        rw [show (dNew D (.inr (.inr (false, [])))).2 D.1 = (.inr (.inr (false, []))) from if_pos rfl]
        exact ⟨0, _, Nat.zero_le _, by rw [upO_s, upO_s]; exact c1, by rw [upO_s]; exact c2, Nat.zero_le _, fun i hi => absurd hi (Nat.not_lt_zero _)⟩
      refine ⟨dNew D (.inr (.inr (false, []))), Tm, l, out, ea, tg, th, ⟨(upO w.1 D.1 h.1, upO w.2.1 D.1 (h.1 + 1), upO w.2.2 D.1 h.1), dl, e', ta, ln, rd, sr, c0, co, γ, ⟨(k3.2.2 _ _ x1).1 (by rintro (z | z) <;> cases z), ⟨xs ++ [h.1], cap', A', by rw [List.length_append, hxl]; rfl, fun i hi => ?_⟩, hD1, x4.kt k3 (by intro κ hκ z; rcases z with z | z <;> (rw [z] at hκ; revert hκ; decide)) (by decide) mn, x5.fr k3 (by decide) (by decide), ?_, fun i hi ci => ?_⟩, hc0, hγ, by omega⟩, by omega, by omega, b3, by omega, by omega, ?_⟩
      · have hi : i < D.1 + 1 := hi
        show (xs ++ [h.1]).getD i 0 = upO w.1 D.1 h.1 i
        by_cases z : i = D.1
        · rw [z, upO_s, ← hxl, List.getD_eq_getElem?_getD, List.getElem?_append_right (Nat.le_refl _), Nat.sub_self]
          rfl
        · rw [upO_n z, List.getD_eq_getElem?_getD, List.getElem?_append_left (by omega), ← List.getD_eq_getElem?_getD]
          exact hxw i (by omega)
      · rcases hγ with rfl | rfl <;> exact x6.fr k3 (by decide) (by decide) (by decide)
      · have hi : i < D.1 + 1 := hi
        show upO w.2.2 D.1 h.1 i < h1.1
        by_cases z : i = D.1
        · rw [z, upO_s]
          exact hw1 _ _ c1
        · rw [upO_n z]
          rw [show (dNew D (.inr (.inr (false, [])))).2 i = D.2 i from if_neg z] at ci
          exact Nat.lt_of_lt_of_le (x7 i (by omega) ci) k3.1
      · refine (tc_list (τ := τ) 2045 (by omega)).mono (fun v τ' hp => ?_)
        rw [if_neg (by omega)] at hp
        obtain ⟨p1, rfl⟩ := hp
        refine ⟨by rw [p1, t4, hxl], rfl, ti.up (B := [8, 9]) ((((tFa.refl [8, 9] τ).an (by decide)).ai (by decide)).fn.fn) (fun k hk => by simp at hk; omega) (tD_mk hD (by omega) rfl (fun τ1 q1 q2 q3 => ?_)) (Or.inl ⟨rfl, rfl⟩) rfl rfl ti.2.2.2.2.2.2.2.2.2.1⟩
        exact ⟨q1, q2, Nat.zero_le _, fun i hi => absurd hi (Nat.not_lt_zero _), fun z => by cases z⟩
    · cases z
  · intro j Ex h1 hj hk fr
    rcases hk with ⟨-, z, -⟩ | ⟨z1, z, k1, k2, k3⟩
    · cases z
    · cases z
      have k31 := k3.1
      have k32 := k3.2
      have hj0 : j = 0 := by
        rcases j with _ | j
        · rfl
        · exact absurd hj (by simp)
      subst hj0
      refine ⟨D, Tm, l, out, ea, tg, th + 1, ⟨w, dl, el, ta, ln, rd, sr, c0, co, γ, cj.thr hγ k1 k2, hc0, hγ, by omega⟩, by omega, by omega, b3, by omega, by omega, ?_⟩
      refine (tc_list (τ := τ) 2045 (by omega)).mono (fun v τ' hp => ?_)
      rw [if_pos (by omega)] at hp
      obtain ⟨p1, rfl⟩ := hp
      exact ⟨⟨_, p1⟩, rf_code, ti.rf 1⟩
theorem jo_map (hI : LI Z E o lo c τ h) (hc : c < 64) (hwf : ∀ a c, h.2.2 a = some c → a < h.1) : JO Z mX0_map mX3_map [.ref E, .ref lo] [.ref o] E o lo c h := by
  obtain ⟨rm1, rm2⟩ := hI.rm hc
  obtain ⟨D, Tm, l, out, ea, tg, th, ⟨w, dl, el, ta, ln, rd, sr, c0, co, γ, cj, hc0, hγ, hsr⟩, ti, hR, ⟨g, hlo⟩, b1, b2, b3, b4, b5⟩ := id hI
  obtain ⟨x1, x2, x3, x4, x5, x6, x7⟩ := id cj
  have h60 := x3.2.2.2.2.2.1
  have hD := ti.1
  have t4 : τ.1 4 = D.1 := hD.1
  obtain ⟨xs, cap, hA, hxl, hxw⟩ := id x2
  obtain ⟨w1, w2⟩ := x3.lo hwf
  refine JO.of hI (S := fun κ => κ = 1 ∨ κ = 32 ∨ κ = 65) ?_ (xw_map 2046 x1 hlo (en_map 2037 x1 hA (by omega) (by omega) (by omega)) ?_ ?_) (by decide) ?_ ?_
  · rintro κ (z | z | z) <;> (rw [z]; exact ⟨by decide, by rintro (y | y | y | y | y | y) <;> cases y⟩)
  · rintro (z | z | z) <;> cases z
  · rintro r h' (⟨-, z, -⟩ | ⟨-, z, -⟩)
    · exact Or.inl ⟨_, z⟩
    · exact Or.inr ⟨_, mm0, z⟩
  · intro x h1 hk fr hw1
    rcases hk with ⟨z1, z, ⟨e', cap', A'⟩, hC, k3, k4⟩ | ⟨-, z, -⟩
    · cases z
      have k41 := k4.1
      have k42 := k4.2
      have mn : cMn h h1 := cMn.ft k3 (by decide) (by decide) (by decide) (by decide) (by decide) (by decide)
      have c1 := hC _ mm0
      have c2 := hC _ mm1
      have c3 := hC _ mm2
      have hD1 : cD (dNew D (.inr (.inr (true, [])))) (upO w.1 D.1 h.1, upO w.2.1 D.1 (h.1 + 1), upO w.2.2 D.1 (h.1 + 2)) h1 sr := by
        refine cD.nw (x3.kt k3 (by intro κ hκ z; rcases z with z | z <;> (rw [z] at hκ; revert hκ; decide)) mn) (by omega) (fun i hi z => by have := w1 i hi; omega) (fun i hi ci z => by have := w2 i hi ci; omega) (fun i hi ci z => by have := x7 i hi ci; omega) rfl ?_
        unfold cIt
        rw [show (dNew D (.inr (.inr (true, [])))).2 D.1 = (.inr (.inr (true, []))) from if_pos rfl]
        exact ⟨0, _, _, Nat.zero_le _, by rw [upO_s, upO_s, upO_s]; exact c1, by rw [upO_s]; exact c2, Nat.zero_le _, fun i hi => absurd hi (Nat.not_lt_zero _), by rw [upO_s]; exact c3, fun i hi => absurd hi (Nat.not_lt_zero _)⟩
      refine ⟨dNew D (.inr (.inr (true, []))), Tm, l, out, ea, tg, th, ⟨(upO w.1 D.1 h.1, upO w.2.1 D.1 (h.1 + 1), upO w.2.2 D.1 (h.1 + 2)), dl, e', ta, ln, rd, sr, c0, co, γ, ⟨(k3.2.2 _ _ x1).1 (by rintro (z | z) <;> cases z), ⟨xs ++ [h.1], cap', A', by rw [List.length_append, hxl]; rfl, fun i hi => ?_⟩, hD1, x4.kt k3 (by intro κ hκ z; rcases z with z | z <;> (rw [z] at hκ; revert hκ; decide)) (by decide) mn, x5.fr k3 (by decide) (by decide), ?_, fun i hi ci => ?_⟩, hc0, hγ, by omega⟩, by omega, by omega, b3, by omega, by omega, ?_⟩
      · have hi : i < D.1 + 1 := hi
        show (xs ++ [h.1]).getD i 0 = upO w.1 D.1 h.1 i
        by_cases z : i = D.1
        · rw [z, upO_s, ← hxl, List.getD_eq_getElem?_getD, List.getElem?_append_right (Nat.le_refl _), Nat.sub_self]
          rfl
        · rw [upO_n z, List.getD_eq_getElem?_getD, List.getElem?_append_left (by omega), ← List.getD_eq_getElem?_getD]
          exact hxw i (by omega)
      · rcases hγ with rfl | rfl <;> exact x6.fr k3 (by decide) (by decide) (by decide)
      · have hi : i < D.1 + 1 := hi
        show upO w.2.2 D.1 (h.1 + 2) i < h1.1
        by_cases z : i = D.1
        · rw [z, upO_s]
          exact hw1 _ _ c3
        · rw [upO_n z]
          rw [show (dNew D (.inr (.inr (true, [])))).2 i = D.2 i from if_neg z] at ci
          exact Nat.lt_of_lt_of_le (x7 i (by omega) ci) k3.1
      · refine (tc_map (τ := τ) 2045 (by omega)).mono (fun v τ' hp => ?_)
        rw [if_neg (by omega)] at hp
        obtain ⟨p1, rfl⟩ := hp
        refine ⟨by rw [p1, t4, hxl], rfl, ti.up (B := [8, 9]) ((((tFa.refl [8, 9] τ).an (by decide)).ai (by decide)).fn.fn) (fun k hk => by simp at hk; omega) (tD_mk hD (by omega) rfl (fun τ1 q1 q2 q3 => ?_)) (Or.inl ⟨rfl, rfl⟩) rfl rfl ti.2.2.2.2.2.2.2.2.2.1⟩
        exact ⟨q1, q2, Nat.zero_le _, fun i hi => absurd hi (Nat.not_lt_zero _), fun _ i hi => absurd hi (Nat.not_lt_zero _)⟩
    · cases z
  · intro j Ex h1 hj hk fr
    rcases hk with ⟨-, z, -⟩ | ⟨z1, z, k1, k2, k3⟩
    · cases z
    · cases z
      have k31 := k3.1
      have k32 := k3.2
      have hj0 : j = 0 := by
        rcases j with _ | j
        · rfl
        · exact absurd hj (by simp)
      subst hj0
      refine ⟨D, Tm, l, out, ea, tg, th + 1, ⟨w, dl, el, ta, ln, rd, sr, c0, co, γ, cj.thr hγ k1 k2, hc0, hγ, by omega⟩, by omega, by omega, b3, by omega, by omega, ?_⟩
      refine (tc_map (τ := τ) 2045 (by omega)).mono (fun v τ' hp => ?_)
      rw [if_pos (by omega)] at hp
      obtain ⟨p1, rfl⟩ := hp
      exact ⟨⟨_, p1⟩, rf_code, ti.rf 1⟩
end JT
