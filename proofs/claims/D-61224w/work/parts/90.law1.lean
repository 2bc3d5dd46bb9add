/-! LAW 1: the calls of the component, with their catches -/
set_option maxRecDepth 100000
/-- an int, or one of these exceptions -/
def wrK (exs : List String) (r : hO) : Prop := (∃ x, r = .inl (some (.int x))) ∨ ∃ Ex, Ex ∈ exs ∧ r = .inr Ex
/-- after such a call -/
def wrQ (K : hO → hP → Prop) (S : Nat → Prop) (h : hP) (lo : Nat) (exs : List String) : hO → hP → Prop := fun r h' =>
  (∃ x h1 g g0, K (.inl (some (.int x))) h1 ∧ hFr S h h1 ∧ r = .inl (some (.int (nI 0))) ∧ h1.2.2 lo = some (64, .inr (1, g0)) ∧ h' = hSet h1 lo (64, .inr (1, g)) ∧ g 0 = .long x.toInt64) ∨
  (∃ j Ex, exs[j]? = some Ex ∧ K (.inr Ex) h' ∧ hFr S h h' ∧ r = .inl (some (.int (nI (j + 1)))))
section LW
variable {Z : hE} {h : hP} {K : hO → hP → Prop} {S : Nat → Prop} {E lo : Nat} {fs : List Value} {f : Nat → Value}
theorem xw_type (d : Nat) {a1 : Int32} (hE : h.2.2 E = some (1, .inl fs)) (hlo : h.2.2 lo = some (64, .inr (1, f))) (c : hCt Z mX1_type d S [.ref E, .int a1] h K) (h64 : ¬ S 64) (hK : ∀ r h', K r h' → wrK [IAE, ISE] r) : hCt Z mX0_type (d + 1) (fun κ => κ = 64 ∨ S κ) [.ref E, .int a1, .ref lo] h (wrQ K S h lo [IAE, ISE]) := by
  refine hCt.ofH pnX0 _ _ rfl (Nat.le_of_ble_eq_true rfl) rfl (fun X => ?_)
  refine g_aload_n (pc := 0) dX0_type_0 rfl rfl ?_
  refine g_iconst (pc := 1) (v := nI 0) dX0_type_1 rfl ?_
  refine g_aload_n (pc := 2) dX0_type_2 rfl rfl ?_
  refine g_iload_n (pc := 3) dX0_type_3 rfl rfl ?_
  refine g_invV (pc := 4) dX0_type_4 hE rfl c meX1_type q543 q544 q545 rfl rfl (Nat.le_of_ble_eq_true rfl) (fun κ z => Or.inr z) (fun v h1 hk fr => ?_) (fun xx h1 hk fr => ?_)
  · rcases hK _ _ hk with ⟨x, z⟩ | ⟨Ex, _, z⟩
    · cases z
      have hlo1 := (fr.2.2 _ _ hlo).1 h64
      refine g_i2l (pc := 7) dX0_type_7 ?_
      refine g_last (pc := 8) 0 dX0_type_8 hlo1 rfl (by decide) rfl (by decide) (Or.inl rfl) ?_
      refine g_goto (pc := 9) (tgt := 18) dX0_type_9 rfl ?_
      refine g_iconst (pc := 18) (v := nI 0) dX0_type_18 rfl ?_
      exact g_iret (pc := 19) dX0_type_19 rfl (Or.inl ⟨x, h1, _, _, hk, fr, rfl, hlo1, rfl, if_pos rfl⟩)
    · cases z
  · rcases hK _ _ hk with ⟨x, z⟩ | ⟨Ex, hm, z⟩
    · cases z
    · cases z
      simp only [List.mem_cons, List.not_mem_nil, or_false] at hm
      rcases hm with rfl | rfl
      · refine gx_catch (E := IAE) (name := "java/lang/IllegalArgumentException") [] ⟨0, 9, 12, 13⟩ [⟨0, 9, 15, 15⟩] rfl (fun z hz => by cases hz) rfl (by decide) q541 q146 (fun qq => ?_)
        show hG Z X mX0_type (d + 1) _ h _ 12 _ _ h1
        refine g_astore_n (pc := 12) (ls' := [(0, _), (1, _), (2, _), (3, _)]) dX0_type_12 rfl (Nat.le_of_ble_eq_true rfl) rfl ?_
        refine g_iconst (pc := 13) (v := nI 1) dX0_type_13 rfl ?_
        exact g_iret (pc := 14) dX0_type_14 rfl (Or.inr ⟨0, _, rfl, hk, fr, rfl⟩)
      · refine gx_catch (E := ISE) (name := "java/lang/IllegalStateException") [⟨0, 9, 12, 13⟩] ⟨0, 9, 15, 15⟩ [] rfl (fun z hz => by
          rw [List.mem_singleton] at hz
          subst hz
          exact Or.inr ⟨by decide, _, q541, hLeafOf (by decide +kernel)⟩) rfl (by decide) q542 q568 (fun qq => ?_)
        show hG Z X mX0_type (d + 1) _ h _ 15 _ _ h1
        refine g_astore_n (pc := 15) (ls' := [(0, _), (1, _), (2, _), (3, _)]) dX0_type_15 rfl (Nat.le_of_ble_eq_true rfl) rfl ?_
        refine g_iconst (pc := 16) (v := nI 2) dX0_type_16 rfl ?_
        exact g_iret (pc := 17) dX0_type_17 rfl (Or.inr ⟨1, _, rfl, hk, fr, rfl⟩)
theorem xw_number (d : Nat) {a1 : Int32} (hE : h.2.2 E = some (1, .inl fs)) (hlo : h.2.2 lo = some (64, .inr (1, f))) (c : hCt Z mX1_number d S [.ref E, .int a1] h K) (h64 : ¬ S 64) (hK : ∀ r h', K r h' → wrK [ISE] r) : hCt Z mX0_number (d + 1) (fun κ => κ = 64 ∨ S κ) [.ref E, .int a1, .ref lo] h (wrQ K S h lo [ISE]) := by
  refine hCt.ofH pnX0 _ _ rfl (Nat.le_of_ble_eq_true rfl) rfl (fun X => ?_)
  refine g_aload_n (pc := 0) dX0_number_0 rfl rfl ?_
  refine g_iconst (pc := 1) (v := nI 0) dX0_number_1 rfl ?_
  refine g_aload_n (pc := 2) dX0_number_2 rfl rfl ?_
  refine g_iload_n (pc := 3) dX0_number_3 rfl rfl ?_
  refine g_invV (pc := 4) dX0_number_4 hE rfl c meX1_number q606 q607 q608 rfl rfl (Nat.le_of_ble_eq_true rfl) (fun κ z => Or.inr z) (fun v h1 hk fr => ?_) (fun xx h1 hk fr => ?_)
  · rcases hK _ _ hk with ⟨x, z⟩ | ⟨Ex, _, z⟩
    · cases z
      have hlo1 := (fr.2.2 _ _ hlo).1 h64
      refine g_i2l (pc := 7) dX0_number_7 ?_
      refine g_last (pc := 8) 0 dX0_number_8 hlo1 rfl (by decide) rfl (by decide) (Or.inl rfl) ?_
      refine g_goto (pc := 9) (tgt := 15) dX0_number_9 rfl ?_
      refine g_iconst (pc := 15) (v := nI 0) dX0_number_15 rfl ?_
      exact g_iret (pc := 16) dX0_number_16 rfl (Or.inl ⟨x, h1, _, _, hk, fr, rfl, hlo1, rfl, if_pos rfl⟩)
    · cases z
  · rcases hK _ _ hk with ⟨x, z⟩ | ⟨Ex, hm, z⟩
    · cases z
    · cases z
      simp only [List.mem_cons, List.not_mem_nil, or_false] at hm
      rcases hm with rfl
      · refine gx_catch (E := ISE) (name := "java/lang/IllegalStateException") [] ⟨0, 9, 12, 15⟩ [] rfl (fun z hz => by cases hz) rfl (by decide) q542 q568 (fun qq => ?_)
        show hG Z X mX0_number (d + 1) _ h _ 12 _ _ h1
        refine g_astore_n (pc := 12) (ls' := [(0, _), (1, _), (2, _), (3, _)]) dX0_number_12 rfl (Nat.le_of_ble_eq_true rfl) rfl ?_
        refine g_iconst (pc := 13) (v := nI 1) dX0_number_13 rfl ?_
        exact g_iret (pc := 14) dX0_number_14 rfl (Or.inr ⟨0, _, rfl, hk, fr, rfl⟩)
theorem xw_text (d : Nat) (hE : h.2.2 E = some (1, .inl fs)) (hlo : h.2.2 lo = some (64, .inr (1, f))) (c : hCt Z mX1_text d S [.ref E] h K) (h64 : ¬ S 64) (hK : ∀ r h', K r h' → wrK [ISE] r) : hCt Z mX0_text (d + 1) (fun κ => κ = 64 ∨ S κ) [.ref E, .ref lo] h (wrQ K S h lo [ISE]) := by
  refine hCt.ofH pnX0 _ _ rfl (Nat.le_of_ble_eq_true rfl) rfl (fun X => ?_)
  refine g_aload_n (pc := 0) dX0_text_0 rfl rfl ?_
  refine g_iconst (pc := 1) (v := nI 0) dX0_text_1 rfl ?_
  refine g_aload_n (pc := 2) dX0_text_2 rfl rfl ?_
  refine g_invV (pc := 3) dX0_text_3 hE rfl c meX1_text q697 q698 q699 rfl rfl (Nat.le_of_ble_eq_true rfl) (fun κ z => Or.inr z) (fun v h1 hk fr => ?_) (fun xx h1 hk fr => ?_)
  · rcases hK _ _ hk with ⟨x, z⟩ | ⟨Ex, _, z⟩
    · cases z
      have hlo1 := (fr.2.2 _ _ hlo).1 h64
      refine g_i2l (pc := 6) dX0_text_6 ?_
      refine g_last (pc := 7) 0 dX0_text_7 hlo1 rfl (by decide) rfl (by decide) (Or.inl rfl) ?_
      refine g_goto (pc := 8) (tgt := 14) dX0_text_8 rfl ?_
      refine g_iconst (pc := 14) (v := nI 0) dX0_text_14 rfl ?_
      exact g_iret (pc := 15) dX0_text_15 rfl (Or.inl ⟨x, h1, _, _, hk, fr, rfl, hlo1, rfl, if_pos rfl⟩)
    · cases z
  · rcases hK _ _ hk with ⟨x, z⟩ | ⟨Ex, hm, z⟩
    · cases z
    · cases z
      simp only [List.mem_cons, List.not_mem_nil, or_false] at hm
      rcases hm with rfl
      · refine gx_catch (E := ISE) (name := "java/lang/IllegalStateException") [] ⟨0, 8, 11, 15⟩ [] rfl (fun z hz => by cases hz) rfl (by decide) q542 q568 (fun qq => ?_)
        show hG Z X mX0_text (d + 1) _ h _ 11 _ _ h1
        refine g_astore_n (pc := 11) (ls' := [(0, _), (1, _), (2, _)]) dX0_text_11 rfl (Nat.le_of_ble_eq_true rfl) rfl ?_
        refine g_iconst (pc := 12) (v := nI 1) dX0_text_12 rfl ?_
        exact g_iret (pc := 13) dX0_text_13 rfl (Or.inr ⟨0, _, rfl, hk, fr, rfl⟩)
theorem xw_list (d : Nat) (hE : h.2.2 E = some (1, .inl fs)) (hlo : h.2.2 lo = some (64, .inr (1, f))) (c : hCt Z mX1_list d S [.ref E] h K) (h64 : ¬ S 64) (hK : ∀ r h', K r h' → wrK [ISE] r) : hCt Z mX0_list (d + 1) (fun κ => κ = 64 ∨ S κ) [.ref E, .ref lo] h (wrQ K S h lo [ISE]) := by
  refine hCt.ofH pnX0 _ _ rfl (Nat.le_of_ble_eq_true rfl) rfl (fun X => ?_)
  refine g_aload_n (pc := 0) dX0_list_0 rfl rfl ?_
  refine g_iconst (pc := 1) (v := nI 0) dX0_list_1 rfl ?_
  refine g_aload_n (pc := 2) dX0_list_2 rfl rfl ?_
  refine g_invV (pc := 3) dX0_list_3 hE rfl c meX1_list q787 q788 q789 rfl rfl (Nat.le_of_ble_eq_true rfl) (fun κ z => Or.inr z) (fun v h1 hk fr => ?_) (fun xx h1 hk fr => ?_)
  · rcases hK _ _ hk with ⟨x, z⟩ | ⟨Ex, _, z⟩
    · cases z
      have hlo1 := (fr.2.2 _ _ hlo).1 h64
      refine g_i2l (pc := 6) dX0_list_6 ?_
      refine g_last (pc := 7) 0 dX0_list_7 hlo1 rfl (by decide) rfl (by decide) (Or.inl rfl) ?_
      refine g_goto (pc := 8) (tgt := 14) dX0_list_8 rfl ?_
      refine g_iconst (pc := 14) (v := nI 0) dX0_list_14 rfl ?_
      exact g_iret (pc := 15) dX0_list_15 rfl (Or.inl ⟨x, h1, _, _, hk, fr, rfl, hlo1, rfl, if_pos rfl⟩)
    · cases z
  · rcases hK _ _ hk with ⟨x, z⟩ | ⟨Ex, hm, z⟩
    · cases z
    · cases z
      simp only [List.mem_cons, List.not_mem_nil, or_false] at hm
      rcases hm with rfl
      · refine gx_catch (E := ISE) (name := "java/lang/IllegalStateException") [] ⟨0, 8, 11, 15⟩ [] rfl (fun z hz => by cases hz) rfl (by decide) q542 q568 (fun qq => ?_)
        show hG Z X mX0_list (d + 1) _ h _ 11 _ _ h1
        refine g_astore_n (pc := 11) (ls' := [(0, _), (1, _), (2, _)]) dX0_list_11 rfl (Nat.le_of_ble_eq_true rfl) rfl ?_
        refine g_iconst (pc := 12) (v := nI 1) dX0_list_12 rfl ?_
        exact g_iret (pc := 13) dX0_list_13 rfl (Or.inr ⟨0, _, rfl, hk, fr, rfl⟩)
theorem xw_map (d : Nat) (hE : h.2.2 E = some (1, .inl fs)) (hlo : h.2.2 lo = some (64, .inr (1, f))) (c : hCt Z mX1_map d S [.ref E] h K) (h64 : ¬ S 64) (hK : ∀ r h', K r h' → wrK [ISE] r) : hCt Z mX0_map (d + 1) (fun κ => κ = 64 ∨ S κ) [.ref E, .ref lo] h (wrQ K S h lo [ISE]) := by
  refine hCt.ofH pnX0 _ _ rfl (Nat.le_of_ble_eq_true rfl) rfl (fun X => ?_)
  refine g_aload_n (pc := 0) dX0_map_0 rfl rfl ?_
  refine g_iconst (pc := 1) (v := nI 0) dX0_map_1 rfl ?_
  refine g_aload_n (pc := 2) dX0_map_2 rfl rfl ?_
  refine g_invV (pc := 3) dX0_map_3 hE rfl c meX1_map q817 q818 q819 rfl rfl (Nat.le_of_ble_eq_true rfl) (fun κ z => Or.inr z) (fun v h1 hk fr => ?_) (fun xx h1 hk fr => ?_)
  · rcases hK _ _ hk with ⟨x, z⟩ | ⟨Ex, _, z⟩
    · cases z
      have hlo1 := (fr.2.2 _ _ hlo).1 h64
      refine g_i2l (pc := 6) dX0_map_6 ?_
      refine g_last (pc := 7) 0 dX0_map_7 hlo1 rfl (by decide) rfl (by decide) (Or.inl rfl) ?_
      refine g_goto (pc := 8) (tgt := 14) dX0_map_8 rfl ?_
      refine g_iconst (pc := 14) (v := nI 0) dX0_map_14 rfl ?_
      exact g_iret (pc := 15) dX0_map_15 rfl (Or.inl ⟨x, h1, _, _, hk, fr, rfl, hlo1, rfl, if_pos rfl⟩)
    · cases z
  · rcases hK _ _ hk with ⟨x, z⟩ | ⟨Ex, hm, z⟩
    · cases z
    · cases z
      simp only [List.mem_cons, List.not_mem_nil, or_false] at hm
      rcases hm with rfl
      · refine gx_catch (E := ISE) (name := "java/lang/IllegalStateException") [] ⟨0, 8, 11, 15⟩ [] rfl (fun z hz => by cases hz) rfl (by decide) q542 q568 (fun qq => ?_)
        show hG Z X mX0_map (d + 1) _ h _ 11 _ _ h1
        refine g_astore_n (pc := 11) (ls' := [(0, _), (1, _), (2, _)]) dX0_map_11 rfl (Nat.le_of_ble_eq_true rfl) rfl ?_
        refine g_iconst (pc := 12) (v := nI 1) dX0_map_12 rfl ?_
        exact g_iret (pc := 13) dX0_map_13 rfl (Or.inr ⟨0, _, rfl, hk, fr, rfl⟩)
theorem xw_add (d : Nat) {a1 : Int32} {a2 : Int32} (hE : h.2.2 E = some (1, .inl fs)) (hlo : h.2.2 lo = some (64, .inr (1, f))) (c : hCt Z mX1_add d S [.ref E, .int a1, .int a2] h K) (h64 : ¬ S 64) (hK : ∀ r h', K r h' → wrK [NSEE, IAE, ISE] r) : hCt Z mX0_add (d + 1) (fun κ => κ = 64 ∨ S κ) [.ref E, .int a1, .int a2, .ref lo] h (wrQ K S h lo [NSEE, IAE, ISE]) := by
  refine hCt.ofH pnX0 _ _ rfl (Nat.le_of_ble_eq_true rfl) rfl (fun X => ?_)
  refine g_aload_n (pc := 0) dX0_add_0 rfl rfl ?_
  refine g_iconst (pc := 1) (v := nI 0) dX0_add_1 rfl ?_
  refine g_aload_n (pc := 2) dX0_add_2 rfl rfl ?_
  refine g_iload_n (pc := 3) dX0_add_3 rfl rfl ?_
  refine g_iload_n (pc := 4) dX0_add_4 rfl rfl ?_
  refine g_invV (pc := 5) dX0_add_5 hE rfl c meX1_add q840 q841 q842 rfl rfl (Nat.le_of_ble_eq_true rfl) (fun κ z => Or.inr z) (fun v h1 hk fr => ?_) (fun xx h1 hk fr => ?_)
  · rcases hK _ _ hk with ⟨x, z⟩ | ⟨Ex, _, z⟩
    · cases z
      have hlo1 := (fr.2.2 _ _ hlo).1 h64
      refine g_i2l (pc := 8) dX0_add_8 ?_
      refine g_last (pc := 9) 0 dX0_add_9 hlo1 rfl (by decide) rfl (by decide) (Or.inl rfl) ?_
      refine g_goto (pc := 10) (tgt := 25) dX0_add_10 rfl ?_
      refine g_iconst (pc := 25) (v := nI 0) dX0_add_25 rfl ?_
      exact g_iret (pc := 26) dX0_add_26 rfl (Or.inl ⟨x, h1, _, _, hk, fr, rfl, hlo1, rfl, if_pos rfl⟩)
    · cases z
  · rcases hK _ _ hk with ⟨x, z⟩ | ⟨Ex, hm, z⟩
    · cases z
    · cases z
      simp only [List.mem_cons, List.not_mem_nil, or_false] at hm
      rcases hm with rfl | rfl | rfl
      · refine gx_catch (E := NSEE) (name := "java/util/NoSuchElementException") [] ⟨0, 10, 13, 34⟩ [⟨0, 10, 17, 13⟩, ⟨0, 10, 21, 15⟩] rfl (fun z hz => by cases hz) rfl (by decide) q839 q854 (fun qq => ?_)
        show hG Z X mX0_add (d + 1) _ h _ 13 _ _ h1
        refine g_astore (pc := 13) (ls' := [(0, _), (1, _), (2, _), (3, _), (4, _)]) dX0_add_13 (Nat.le_of_ble_eq_true rfl) rfl ?_
        refine g_iconst (pc := 15) (v := nI 1) dX0_add_15 rfl ?_
        exact g_iret (pc := 16) dX0_add_16 rfl (Or.inr ⟨0, _, rfl, hk, fr, rfl⟩)
      · refine gx_catch (E := IAE) (name := "java/lang/IllegalArgumentException") [⟨0, 10, 13, 34⟩] ⟨0, 10, 17, 13⟩ [⟨0, 10, 21, 15⟩] rfl (fun z hz => by
          rw [List.mem_singleton] at hz
          subst hz
          exact Or.inr ⟨by decide, _, q839, hLeafOf (by decide +kernel)⟩) rfl (by decide) q541 q146 (fun qq => ?_)
        show hG Z X mX0_add (d + 1) _ h _ 17 _ _ h1
        refine g_astore (pc := 17) (ls' := [(0, _), (1, _), (2, _), (3, _), (4, _)]) dX0_add_17 (Nat.le_of_ble_eq_true rfl) rfl ?_
        refine g_iconst (pc := 19) (v := nI 2) dX0_add_19 rfl ?_
        exact g_iret (pc := 20) dX0_add_20 rfl (Or.inr ⟨1, _, rfl, hk, fr, rfl⟩)
      · refine gx_catch (E := ISE) (name := "java/lang/IllegalStateException") [⟨0, 10, 13, 34⟩, ⟨0, 10, 17, 13⟩] ⟨0, 10, 21, 15⟩ [] rfl (fun z hz => by
          rcases List.mem_cons.mp hz with e | hz
          · subst e
            exact Or.inr ⟨by decide, _, q839, hLeafOf (by decide +kernel)⟩
          rw [List.mem_singleton] at hz
          subst hz
          exact Or.inr ⟨by decide, _, q541, hLeafOf (by decide +kernel)⟩) rfl (by decide) q542 q568 (fun qq => ?_)
        show hG Z X mX0_add (d + 1) _ h _ 21 _ _ h1
        refine g_astore (pc := 21) (ls' := [(0, _), (1, _), (2, _), (3, _), (4, _)]) dX0_add_21 (Nat.le_of_ble_eq_true rfl) rfl ?_
        refine g_iconst (pc := 23) (v := nI 3) dX0_add_23 rfl ?_
        exact g_iret (pc := 24) dX0_add_24 rfl (Or.inr ⟨2, _, rfl, hk, fr, rfl⟩)
theorem xw_put (d : Nat) {a1 : Int32} {a2 : Int32} (hE : h.2.2 E = some (1, .inl fs)) (hlo : h.2.2 lo = some (64, .inr (1, f))) (c : hCt Z mX1_put d S [.ref E, .int a1, .int a2] h K) (h64 : ¬ S 64) (hK : ∀ r h', K r h' → wrK [NSEE, IAE, ISE] r) : hCt Z mX0_put (d + 1) (fun κ => κ = 64 ∨ S κ) [.ref E, .int a1, .int a2, .ref lo] h (wrQ K S h lo [NSEE, IAE, ISE]) := by
  refine hCt.ofH pnX0 _ _ rfl (Nat.le_of_ble_eq_true rfl) rfl (fun X => ?_)
  refine g_aload_n (pc := 0) dX0_put_0 rfl rfl ?_
  refine g_iconst (pc := 1) (v := nI 0) dX0_put_1 rfl ?_
  refine g_aload_n (pc := 2) dX0_put_2 rfl rfl ?_
  refine g_iload_n (pc := 3) dX0_put_3 rfl rfl ?_
  refine g_iload_n (pc := 4) dX0_put_4 rfl rfl ?_
  refine g_invV (pc := 5) dX0_put_5 hE rfl c meX1_put q933 q934 q935 rfl rfl (Nat.le_of_ble_eq_true rfl) (fun κ z => Or.inr z) (fun v h1 hk fr => ?_) (fun xx h1 hk fr => ?_)
  · rcases hK _ _ hk with ⟨x, z⟩ | ⟨Ex, _, z⟩
    · cases z
      have hlo1 := (fr.2.2 _ _ hlo).1 h64
      refine g_i2l (pc := 8) dX0_put_8 ?_
      refine g_last (pc := 9) 0 dX0_put_9 hlo1 rfl (by decide) rfl (by decide) (Or.inl rfl) ?_
      refine g_goto (pc := 10) (tgt := 25) dX0_put_10 rfl ?_
      refine g_iconst (pc := 25) (v := nI 0) dX0_put_25 rfl ?_
      exact g_iret (pc := 26) dX0_put_26 rfl (Or.inl ⟨x, h1, _, _, hk, fr, rfl, hlo1, rfl, if_pos rfl⟩)
    · cases z
  · rcases hK _ _ hk with ⟨x, z⟩ | ⟨Ex, hm, z⟩
    · cases z
    · cases z
      simp only [List.mem_cons, List.not_mem_nil, or_false] at hm
      rcases hm with rfl | rfl | rfl
      · refine gx_catch (E := NSEE) (name := "java/util/NoSuchElementException") [] ⟨0, 10, 13, 34⟩ [⟨0, 10, 17, 13⟩, ⟨0, 10, 21, 15⟩] rfl (fun z hz => by cases hz) rfl (by decide) q839 q854 (fun qq => ?_)
        show hG Z X mX0_put (d + 1) _ h _ 13 _ _ h1
        refine g_astore (pc := 13) (ls' := [(0, _), (1, _), (2, _), (3, _), (4, _)]) dX0_put_13 (Nat.le_of_ble_eq_true rfl) rfl ?_
        refine g_iconst (pc := 15) (v := nI 1) dX0_put_15 rfl ?_
        exact g_iret (pc := 16) dX0_put_16 rfl (Or.inr ⟨0, _, rfl, hk, fr, rfl⟩)
      · refine gx_catch (E := IAE) (name := "java/lang/IllegalArgumentException") [⟨0, 10, 13, 34⟩] ⟨0, 10, 17, 13⟩ [⟨0, 10, 21, 15⟩] rfl (fun z hz => by
          rw [List.mem_singleton] at hz
          subst hz
          exact Or.inr ⟨by decide, _, q839, hLeafOf (by decide +kernel)⟩) rfl (by decide) q541 q146 (fun qq => ?_)
        show hG Z X mX0_put (d + 1) _ h _ 17 _ _ h1
        refine g_astore (pc := 17) (ls' := [(0, _), (1, _), (2, _), (3, _), (4, _)]) dX0_put_17 (Nat.le_of_ble_eq_true rfl) rfl ?_
        refine g_iconst (pc := 19) (v := nI 2) dX0_put_19 rfl ?_
        exact g_iret (pc := 20) dX0_put_20 rfl (Or.inr ⟨1, _, rfl, hk, fr, rfl⟩)
      · refine gx_catch (E := ISE) (name := "java/lang/IllegalStateException") [⟨0, 10, 13, 34⟩, ⟨0, 10, 17, 13⟩] ⟨0, 10, 21, 15⟩ [] rfl (fun z hz => by
          rcases List.mem_cons.mp hz with e | hz
          · subst e
            exact Or.inr ⟨by decide, _, q839, hLeafOf (by decide +kernel)⟩
          rw [List.mem_singleton] at hz
          subst hz
          exact Or.inr ⟨by decide, _, q541, hLeafOf (by decide +kernel)⟩) rfl (by decide) q542 q568 (fun qq => ?_)
        show hG Z X mX0_put (d + 1) _ h _ 21 _ _ h1
        refine g_astore (pc := 21) (ls' := [(0, _), (1, _), (2, _), (3, _), (4, _)]) dX0_put_21 (Nat.le_of_ble_eq_true rfl) rfl ?_
        refine g_iconst (pc := 23) (v := nI 3) dX0_put_23 rfl ?_
        exact g_iret (pc := 24) dX0_put_24 rfl (Or.inr ⟨2, _, rfl, hk, fr, rfl⟩)
theorem xw_compile (d : Nat) {a1 : Int32} (hE : h.2.2 E = some (1, .inl fs)) (hlo : h.2.2 lo = some (64, .inr (1, f))) (c : hCt Z mX1_compile d S [.ref E, .int a1] h K) (h64 : ¬ S 64) (hK : ∀ r h', K r h' → wrK [IOOB, IAE] r) : hCt Z mX0_compile (d + 1) (fun κ => κ = 64 ∨ S κ) [.ref E, .int a1, .ref lo] h (wrQ K S h lo [IOOB, IAE]) := by
  refine hCt.ofH pnX0 _ _ rfl (Nat.le_of_ble_eq_true rfl) rfl (fun X => ?_)
  refine g_aload_n (pc := 0) dX0_compile_0 rfl rfl ?_
  refine g_iconst (pc := 1) (v := nI 0) dX0_compile_1 rfl ?_
  refine g_aload_n (pc := 2) dX0_compile_2 rfl rfl ?_
  refine g_iload_n (pc := 3) dX0_compile_3 rfl rfl ?_
  refine g_invVX (pc := 4) dX0_compile_4 hE rfl c meX1_compile q983 q984 q985 rfl rfl (Nat.le_of_ble_eq_true rfl) (fun κ z => Or.inr z) (fun v h1 hk fr => ?_) (fun xx h1 hk fr => ?_)
  · rcases hK _ _ hk with ⟨x, z⟩ | ⟨Ex, _, z⟩
    · cases z
      have hlo1 := (fr.2.2 _ _ hlo).1 h64
      refine g_i2l (pc := 7) dX0_compile_7 ?_
      refine g_last (pc := 8) 0 dX0_compile_8 hlo1 rfl (by decide) rfl (by decide) (Or.inl rfl) ?_
      refine g_goto (pc := 9) (tgt := 18) dX0_compile_9 rfl ?_
      refine g_iconst (pc := 18) (v := nI 0) dX0_compile_18 rfl ?_
      exact g_iret (pc := 19) dX0_compile_19 rfl (Or.inl ⟨x, h1, _, _, hk, fr, rfl, hlo1, rfl, if_pos rfl⟩)
    · cases z
  · rcases hK _ _ hk with ⟨x, z⟩ | ⟨Ex, hm, z⟩
    · cases z
    · cases z
      simp only [List.mem_cons, List.not_mem_nil, or_false] at hm
      rcases hm with rfl | rfl
      · refine gx_catch (E := IOOB) (name := "java/lang/IndexOutOfBoundsException") [] ⟨0, 9, 12, 42⟩ [⟨0, 9, 15, 13⟩] rfl (fun z hz => by cases hz) rfl (by decide) q980 q996 (fun qq => ?_)
        show hG Z X mX0_compile (d + 1) _ h _ 12 _ _ h1
        refine g_astore_n (pc := 12) (ls' := [(0, _), (1, _), (2, _), (3, _)]) dX0_compile_12 rfl (Nat.le_of_ble_eq_true rfl) rfl ?_
        refine g_iconst (pc := 13) (v := nI 1) dX0_compile_13 rfl ?_
        exact g_iret (pc := 14) dX0_compile_14 rfl (Or.inr ⟨0, _, rfl, hk, fr, rfl⟩)
      · refine gx_catch (E := IAE) (name := "java/lang/IllegalArgumentException") [⟨0, 9, 12, 42⟩] ⟨0, 9, 15, 13⟩ [] rfl (fun z hz => by
          rw [List.mem_singleton] at hz
          subst hz
          exact Or.inr ⟨by decide, _, q980, hLeafOf (by decide +kernel)⟩) rfl (by decide) q541 q146 (fun qq => ?_)
        show hG Z X mX0_compile (d + 1) _ h _ 15 _ _ h1
        refine g_astore_n (pc := 15) (ls' := [(0, _), (1, _), (2, _), (3, _)]) dX0_compile_15 rfl (Nat.le_of_ble_eq_true rfl) rfl ?_
        refine g_iconst (pc := 16) (v := nI 2) dX0_compile_16 rfl ?_
        exact g_iret (pc := 17) dX0_compile_17 rfl (Or.inr ⟨1, _, rfl, hk, fr, rfl⟩)
theorem xw_render (d : Nat) {a1 : Int32} {a2 : Int32} (hE : h.2.2 E = some (1, .inl fs)) (hlo : h.2.2 lo = some (64, .inr (1, f))) (c : hCt Z mX1_render d S [.ref E, .int a1, .int a2] h K) (h64 : ¬ S 64) (hK : ∀ r h', K r h' → wrK [IOOB, NSEE, AEX, ISE] r) : hCt Z mX0_render (d + 1) (fun κ => κ = 64 ∨ S κ) [.ref E, .int a1, .int a2, .ref lo] h (wrQ K S h lo [IOOB, NSEE, AEX, ISE]) := by
  refine hCt.ofH pnX0 _ _ rfl (Nat.le_of_ble_eq_true rfl) rfl (fun X => ?_)
  refine g_aload_n (pc := 0) dX0_render_0 rfl rfl ?_
  refine g_iconst (pc := 1) (v := nI 0) dX0_render_1 rfl ?_
  refine g_aload_n (pc := 2) dX0_render_2 rfl rfl ?_
  refine g_iload_n (pc := 3) dX0_render_3 rfl rfl ?_
  refine g_iload_n (pc := 4) dX0_render_4 rfl rfl ?_
  refine g_invV (pc := 5) dX0_render_5 hE rfl c meX1_render q1409 q1410 q1411 rfl rfl (Nat.le_of_ble_eq_true rfl) (fun κ z => Or.inr z) (fun v h1 hk fr => ?_) (fun xx h1 hk fr => ?_)
  · rcases hK _ _ hk with ⟨x, z⟩ | ⟨Ex, _, z⟩
    · cases z
      have hlo1 := (fr.2.2 _ _ hlo).1 h64
      refine g_i2l (pc := 8) dX0_render_8 ?_
      refine g_last (pc := 9) 0 dX0_render_9 hlo1 rfl (by decide) rfl (by decide) (Or.inl rfl) ?_
      refine g_goto (pc := 10) (tgt := 29) dX0_render_10 rfl ?_
      refine g_iconst (pc := 29) (v := nI 0) dX0_render_29 rfl ?_
      exact g_iret (pc := 30) dX0_render_30 rfl (Or.inl ⟨x, h1, _, _, hk, fr, rfl, hlo1, rfl, if_pos rfl⟩)
    · cases z
  · rcases hK _ _ hk with ⟨x, z⟩ | ⟨Ex, hm, z⟩
    · cases z
    · cases z
      simp only [List.mem_cons, List.not_mem_nil, or_false] at hm
      rcases hm with rfl | rfl | rfl | rfl
      · refine gx_catch (E := IOOB) (name := "java/lang/IndexOutOfBoundsException") [] ⟨0, 10, 13, 42⟩ [⟨0, 10, 17, 34⟩, ⟨0, 10, 21, 47⟩, ⟨0, 10, 25, 15⟩] rfl (fun z hz => by cases hz) rfl (by decide) q980 q996 (fun qq => ?_)
        show hG Z X mX0_render (d + 1) _ h _ 13 _ _ h1
        refine g_astore (pc := 13) (ls' := [(0, _), (1, _), (2, _), (3, _), (4, _)]) dX0_render_13 (Nat.le_of_ble_eq_true rfl) rfl ?_
        refine g_iconst (pc := 15) (v := nI 1) dX0_render_15 rfl ?_
        exact g_iret (pc := 16) dX0_render_16 rfl (Or.inr ⟨0, _, rfl, hk, fr, rfl⟩)
      · refine gx_catch (E := NSEE) (name := "java/util/NoSuchElementException") [⟨0, 10, 13, 42⟩] ⟨0, 10, 17, 34⟩ [⟨0, 10, 21, 47⟩, ⟨0, 10, 25, 15⟩] rfl (fun z hz => by
          rw [List.mem_singleton] at hz
          subst hz
          exact Or.inr ⟨by decide, _, q980, hLeafOf (by decide +kernel)⟩) rfl (by decide) q839 q854 (fun qq => ?_)
        show hG Z X mX0_render (d + 1) _ h _ 17 _ _ h1
        refine g_astore (pc := 17) (ls' := [(0, _), (1, _), (2, _), (3, _), (4, _)]) dX0_render_17 (Nat.le_of_ble_eq_true rfl) rfl ?_
        refine g_iconst (pc := 19) (v := nI 2) dX0_render_19 rfl ?_
        exact g_iret (pc := 20) dX0_render_20 rfl (Or.inr ⟨1, _, rfl, hk, fr, rfl⟩)
      · refine gx_catch (E := AEX) (name := "java/lang/ArithmeticException") [⟨0, 10, 13, 42⟩, ⟨0, 10, 17, 34⟩] ⟨0, 10, 21, 47⟩ [⟨0, 10, 25, 15⟩] rfl (fun z hz => by
          rcases List.mem_cons.mp hz with e | hz
          · subst e
            exact Or.inr ⟨by decide, _, q980, hLeafOf (by decide +kernel)⟩
          rw [List.mem_singleton] at hz
          subst hz
          exact Or.inr ⟨by decide, _, q839, hLeafOf (by decide +kernel)⟩) rfl (by decide) q1395 q1407 (fun qq => ?_)
        show hG Z X mX0_render (d + 1) _ h _ 21 _ _ h1
        refine g_astore (pc := 21) (ls' := [(0, _), (1, _), (2, _), (3, _), (4, _)]) dX0_render_21 (Nat.le_of_ble_eq_true rfl) rfl ?_
        refine g_iconst (pc := 23) (v := nI 3) dX0_render_23 rfl ?_
        exact g_iret (pc := 24) dX0_render_24 rfl (Or.inr ⟨2, _, rfl, hk, fr, rfl⟩)
      · refine gx_catch (E := ISE) (name := "java/lang/IllegalStateException") [⟨0, 10, 13, 42⟩, ⟨0, 10, 17, 34⟩, ⟨0, 10, 21, 47⟩] ⟨0, 10, 25, 15⟩ [] rfl (fun z hz => by
          rcases List.mem_cons.mp hz with e | hz
          · subst e
            exact Or.inr ⟨by decide, _, q980, hLeafOf (by decide +kernel)⟩
          rcases List.mem_cons.mp hz with e | hz
          · subst e
            exact Or.inr ⟨by decide, _, q839, hLeafOf (by decide +kernel)⟩
          rw [List.mem_singleton] at hz
          subst hz
          exact Or.inr ⟨by decide, _, q1395, hLeafOf (by decide +kernel)⟩) rfl (by decide) q542 q568 (fun qq => ?_)
        show hG Z X mX0_render (d + 1) _ h _ 25 _ _ h1
        refine g_astore (pc := 25) (ls' := [(0, _), (1, _), (2, _), (3, _), (4, _)]) dX0_render_25 (Nat.le_of_ble_eq_true rfl) rfl ?_
        refine g_iconst (pc := 27) (v := nI 4) dX0_render_27 rfl ?_
        exact g_iret (pc := 28) dX0_render_28 rfl (Or.inr ⟨3, _, rfl, hk, fr, rfl⟩)
theorem xw_at (d : Nat) {a1 : Int32} (hE : h.2.2 E = some (1, .inl fs)) (hlo : h.2.2 lo = some (64, .inr (1, f))) (c : hCt Z mX1_at d S [.ref E, .int a1] h K) (h64 : ¬ S 64) (hK : ∀ r h', K r h' → wrK [IOOB] r) : hCt Z mX0_at (d + 1) (fun κ => κ = 64 ∨ S κ) [.ref E, .int a1, .ref lo] h (wrQ K S h lo [IOOB]) := by
  refine hCt.ofH pnX0 _ _ rfl (Nat.le_of_ble_eq_true rfl) rfl (fun X => ?_)
  refine g_aload_n (pc := 0) dX0_at_0 rfl rfl ?_
  refine g_iconst (pc := 1) (v := nI 0) dX0_at_1 rfl ?_
  refine g_aload_n (pc := 2) dX0_at_2 rfl rfl ?_
  refine g_iload_n (pc := 3) dX0_at_3 rfl rfl ?_
  refine g_invV (pc := 4) dX0_at_4 hE rfl c meX1_at q1770 q1771 q1772 rfl rfl (Nat.le_of_ble_eq_true rfl) (fun κ z => Or.inr z) (fun v h1 hk fr => ?_) (fun xx h1 hk fr => ?_)
  · rcases hK _ _ hk with ⟨x, z⟩ | ⟨Ex, _, z⟩
    · cases z
      have hlo1 := (fr.2.2 _ _ hlo).1 h64
      refine g_i2l (pc := 7) dX0_at_7 ?_
      refine g_last (pc := 8) 0 dX0_at_8 hlo1 rfl (by decide) rfl (by decide) (Or.inl rfl) ?_
      refine g_goto (pc := 9) (tgt := 15) dX0_at_9 rfl ?_
      refine g_iconst (pc := 15) (v := nI 0) dX0_at_15 rfl ?_
      exact g_iret (pc := 16) dX0_at_16 rfl (Or.inl ⟨x, h1, _, _, hk, fr, rfl, hlo1, rfl, if_pos rfl⟩)
    · cases z
  · rcases hK _ _ hk with ⟨x, z⟩ | ⟨Ex, hm, z⟩
    · cases z
    · cases z
      simp only [List.mem_cons, List.not_mem_nil, or_false] at hm
      rcases hm with rfl
      · refine gx_catch (E := IOOB) (name := "java/lang/IndexOutOfBoundsException") [] ⟨0, 9, 12, 42⟩ [] rfl (fun z hz => by cases hz) rfl (by decide) q980 q996 (fun qq => ?_)
        show hG Z X mX0_at (d + 1) _ h _ 12 _ _ h1
        refine g_astore_n (pc := 12) (ls' := [(0, _), (1, _), (2, _), (3, _)]) dX0_at_12 rfl (Nat.le_of_ble_eq_true rfl) rfl ?_
        refine g_iconst (pc := 13) (v := nI 1) dX0_at_13 rfl ?_
        exact g_iret (pc := 14) dX0_at_14 rfl (Or.inr ⟨0, _, rfl, hk, fr, rfl⟩)
theorem xw_kind (d : Nat) {a1 : Int32} (hE : h.2.2 E = some (1, .inl fs)) (hlo : h.2.2 lo = some (64, .inr (1, f))) (c : hCt Z mX1_kind d S [.ref E, .int a1] h K) (h64 : ¬ S 64) (hK : ∀ r h', K r h' → wrK [NSEE] r) : hCt Z mX0_kind (d + 1) (fun κ => κ = 64 ∨ S κ) [.ref E, .int a1, .ref lo] h (wrQ K S h lo [NSEE]) := by
  refine hCt.ofH pnX0 _ _ rfl (Nat.le_of_ble_eq_true rfl) rfl (fun X => ?_)
  refine g_aload_n (pc := 0) dX0_kind_0 rfl rfl ?_
  refine g_iconst (pc := 1) (v := nI 0) dX0_kind_1 rfl ?_
  refine g_aload_n (pc := 2) dX0_kind_2 rfl rfl ?_
  refine g_iload_n (pc := 3) dX0_kind_3 rfl rfl ?_
  refine g_invV (pc := 4) dX0_kind_4 hE rfl c meX1_kind q1781 q1782 q1783 rfl rfl (Nat.le_of_ble_eq_true rfl) (fun κ z => Or.inr z) (fun v h1 hk fr => ?_) (fun xx h1 hk fr => ?_)
  · rcases hK _ _ hk with ⟨x, z⟩ | ⟨Ex, _, z⟩
    · cases z
      have hlo1 := (fr.2.2 _ _ hlo).1 h64
      refine g_i2l (pc := 7) dX0_kind_7 ?_
      refine g_last (pc := 8) 0 dX0_kind_8 hlo1 rfl (by decide) rfl (by decide) (Or.inl rfl) ?_
      refine g_goto (pc := 9) (tgt := 15) dX0_kind_9 rfl ?_
      refine g_iconst (pc := 15) (v := nI 0) dX0_kind_15 rfl ?_
      exact g_iret (pc := 16) dX0_kind_16 rfl (Or.inl ⟨x, h1, _, _, hk, fr, rfl, hlo1, rfl, if_pos rfl⟩)
    · cases z
  · rcases hK _ _ hk with ⟨x, z⟩ | ⟨Ex, hm, z⟩
    · cases z
    · cases z
      simp only [List.mem_cons, List.not_mem_nil, or_false] at hm
      rcases hm with rfl
      · refine gx_catch (E := NSEE) (name := "java/util/NoSuchElementException") [] ⟨0, 9, 12, 34⟩ [] rfl (fun z hz => by cases hz) rfl (by decide) q839 q854 (fun qq => ?_)
        show hG Z X mX0_kind (d + 1) _ h _ 12 _ _ h1
        refine g_astore_n (pc := 12) (ls' := [(0, _), (1, _), (2, _), (3, _)]) dX0_kind_12 rfl (Nat.le_of_ble_eq_true rfl) rfl ?_
        refine g_iconst (pc := 13) (v := nI 1) dX0_kind_13 rfl ?_
        exact g_iret (pc := 14) dX0_kind_14 rfl (Or.inr ⟨0, _, rfl, hk, fr, rfl⟩)
theorem xw_size (d : Nat) {a1 : Int32} (hE : h.2.2 E = some (1, .inl fs)) (hlo : h.2.2 lo = some (64, .inr (1, f))) (c : hCt Z mX1_size d S [.ref E, .int a1] h K) (h64 : ¬ S 64) (hK : ∀ r h', K r h' → wrK [NSEE] r) : hCt Z mX0_size (d + 1) (fun κ => κ = 64 ∨ S κ) [.ref E, .int a1, .ref lo] h (wrQ K S h lo [NSEE]) := by
  refine hCt.ofH pnX0 _ _ rfl (Nat.le_of_ble_eq_true rfl) rfl (fun X => ?_)
  refine g_aload_n (pc := 0) dX0_size_0 rfl rfl ?_
  refine g_iconst (pc := 1) (v := nI 0) dX0_size_1 rfl ?_
  refine g_aload_n (pc := 2) dX0_size_2 rfl rfl ?_
  refine g_iload_n (pc := 3) dX0_size_3 rfl rfl ?_
  refine g_invV (pc := 4) dX0_size_4 hE rfl c meX1_size q1788 q1789 q1790 rfl rfl (Nat.le_of_ble_eq_true rfl) (fun κ z => Or.inr z) (fun v h1 hk fr => ?_) (fun xx h1 hk fr => ?_)
  · rcases hK _ _ hk with ⟨x, z⟩ | ⟨Ex, _, z⟩
    · cases z
      have hlo1 := (fr.2.2 _ _ hlo).1 h64
      refine g_i2l (pc := 7) dX0_size_7 ?_
      refine g_last (pc := 8) 0 dX0_size_8 hlo1 rfl (by decide) rfl (by decide) (Or.inl rfl) ?_
      refine g_goto (pc := 9) (tgt := 15) dX0_size_9 rfl ?_
      refine g_iconst (pc := 15) (v := nI 0) dX0_size_15 rfl ?_
      exact g_iret (pc := 16) dX0_size_16 rfl (Or.inl ⟨x, h1, _, _, hk, fr, rfl, hlo1, rfl, if_pos rfl⟩)
    · cases z
  · rcases hK _ _ hk with ⟨x, z⟩ | ⟨Ex, hm, z⟩
    · cases z
    · cases z
      simp only [List.mem_cons, List.not_mem_nil, or_false] at hm
      rcases hm with rfl
      · refine gx_catch (E := NSEE) (name := "java/util/NoSuchElementException") [] ⟨0, 9, 12, 34⟩ [] rfl (fun z hz => by cases hz) rfl (by decide) q839 q854 (fun qq => ?_)
        show hG Z X mX0_size (d + 1) _ h _ 12 _ _ h1
        refine g_astore_n (pc := 12) (ls' := [(0, _), (1, _), (2, _), (3, _)]) dX0_size_12 rfl (Nat.le_of_ble_eq_true rfl) rfl ?_
        refine g_iconst (pc := 13) (v := nI 1) dX0_size_13 rfl ?_
        exact g_iret (pc := 14) dX0_size_14 rfl (Or.inr ⟨0, _, rfl, hk, fr, rfl⟩)
end LW
