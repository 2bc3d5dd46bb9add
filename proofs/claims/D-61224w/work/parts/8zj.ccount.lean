/-! COMPONENT 40: count -/
set_option maxRecDepth 100000
/-- what count answers -/
def cnV (a b c d e f : Nat) (k : Int32) : Int32 := if k = nI 0 then nI a else if k = nI 1 then nI b else if k = nI 2 then nI c else if k = nI 3 then nI d else if k = nI 4 then nI e else if k = nI 5 then nI f else -1
section EM
variable {Z : hE} {h : hP} {E dl ta ln rd tg th sr e cap c0 γ co : Nat} {ea : Int32} {xs l out : List Nat} {Tm : Nat → Option aT}
theorem en_count (d : Nat) (k : Int32) (hE : h.2.2 E = some (eF dl ta ln rd ea tg th sr)) (hA : jAL Z h 32 dl 65 e cap xs) (hB : jSB h 1 ln c0 l) (hO : cO h γ rd co out) (hT : cTs h ta Tm) : jP Z mX1_count (d + 3) [.ref E, .int k] h (some (.int (cnV xs.length l.length (cnF (fun i => (Tm i).isSome) 4) out.length tg th k))) := by
  refine jC.of pnX1 rfl (Nat.le_of_ble_eq_true rfl) rfl (fun X => ?_)
  have hA0 := hA
  obtain ⟨-, -, -, -, -, ⟨md, hLa⟩, -⟩ := hA
  have hB0 := hB
  obtain ⟨-, -, -, -, b1, m1, g1, ht, -, -⟩ := hB
  have hO0 := hO
  obtain ⟨a1, a2, at1, a3, a4⟩ := hO
  obtain ⟨F, hta, hF⟩ := hT
  have kt := k31 1
  have kc := k02 γ
  refine g_iload_n (pc := 0) dX1_count_0 rfl rfl ?_
  by_cases k0 : k = nI 0
  · subst k0
    refine g_tableIn (pc := 1) (tgt := 40) dX1_count_1 (by decide) (by decide) rfl rfl ?_
    refine g_aload_n (pc := 40) dX1_count_40 rfl rfl ?_
    refine g_get (pc := 41) (r := (RX1, TX1, 8)) 0 dX1_count_41 hE rfl (Nat.le_of_ble_eq_true rfl) q494 (Or.inl rfl) rfl ?_
    refine g_invV (pc := 44) dX1_count_44 hLa rfl (jc_lsize (d + 2) hA0) meJ2_size q528 q529 q530 rfl rfl (Nat.le_of_ble_eq_true rfl) (by first | exact jF | exact fun _ z => z | assumption | (intro κ z; simp_all)) (jk_e ?_) jk_x
    exact g_iret (pc := 47) dX1_count_47 rfl ⟨_, rfl, rfl, rfl⟩
  by_cases k1 : k = nI 1
  · subst k1
    refine g_tableIn (pc := 1) (tgt := 48) dX1_count_1 (by decide) (by decide) rfl rfl ?_
    refine g_aload_n (pc := 48) dX1_count_48 rfl rfl ?_
    refine g_get (pc := 49) (r := (RX1, TX1, 8)) 2 dX1_count_49 hE rfl (Nat.le_of_ble_eq_true rfl) q497 (Or.inl rfl) rfl ?_
    refine g_invV (pc := 52) dX1_count_52 ht kt (jc_blength (d + 1) hB0) meJ8_length q532 q390 q2268 rfl rfl (Nat.le_of_ble_eq_true rfl) (by first | exact jF | exact fun _ z => z | assumption | (intro κ z; simp_all)) (jk_e ?_) jk_x
    exact g_iret (pc := 55) dX1_count_55 rfl ⟨_, rfl, rfl, rfl⟩
  by_cases k2 : k = nI 2
  · subst k2
    have loop : ∀ (r i : Nat), i + r = 4 → hG Z X mX1_count (d + 3) (fun _ => False) h (jK (fun v h' => v = some (.int (cnV xs.length l.length (cnF (fun i => (Tm i).isSome) 4) out.length tg th (nI 2))) ∧ h' = h)) 60 [(0, .ref E), (1, .int (nI 2)), (2, .int (nI (cnF (fun i => (Tm i).isSome) i))), (3, .int (nI i))] [] h := by
      intro r
      induction r with
      | zero =>
        intro i hi
        have hi : i = 4 := by omega
        subst hi
        refine g_iload_n (pc := 60) dX1_count_60 rfl rfl ?_
        refine g_iconst (pc := 61) (v := nI 4) dX1_count_61 rfl ?_
        refine g_icmp_geN (pc := 62) (tgt := 83) dX1_count_62 rfl (by omega) (by omega) (fun _ => ?_) (fun q_ => absurd q_ (by omega))
        refine g_iload_n (pc := 83) dX1_count_83 rfl rfl ?_
        exact g_iret (pc := 84) dX1_count_84 rfl ⟨_, rfl, rfl, rfl⟩
      | succ r ih =>
        intro i hi
        refine g_iload_n (pc := 60) dX1_count_60 rfl rfl ?_
        refine g_iconst (pc := 61) (v := nI 4) dX1_count_61 rfl ?_
        refine g_icmp_geN (pc := 62) (tgt := 83) dX1_count_62 rfl (by omega) (by omega) (fun q_ => absurd q_ (by omega)) (fun _ => ?_)
        refine g_aload_n (pc := 65) dX1_count_65 rfl rfl ?_
        refine g_get (pc := 66) (r := (RX1, TX1, 8)) 1 dX1_count_66 hE rfl (Nat.le_of_ble_eq_true rfl) q496 (Or.inl rfl) rfl ?_
        refine g_iload_n (pc := 69) dX1_count_69 rfl rfl ?_
        refine g_aald (pc := 70) i dX1_count_70 hta rfl rfl (by omega) rfl ?_
        rcases hF i (by omega) with ⟨tm, fk⟩ | ⟨N, f, G, T, arr, tm, fk, hps⟩
        · have e1 : cnF (fun i => (Tm i).isSome) (i + 1) = cnF (fun i => (Tm i).isSome) i := by
            show cnF (fun i => (Tm i).isSome) i + (if (Tm i).isSome then 1 else 0) = _
            rw [tm]
            rfl
          rw [fk]
          refine g_ifnullN (pc := 71) (tgt := 77) dX1_count_71 rfl ?_
          refine g_iincN (pc := 77) (k0 := 1) (ls' := [(0, _), (1, _), (2, _), (3, _)]) dX1_count_77 rfl (Nat.le_of_ble_eq_true rfl) rfl ?_
          refine g_goto (pc := 80) (tgt := 60) dX1_count_80 rfl ?_
          have := ih (i + 1) (by omega)
          rw [e1] at this
          exact this
        · have e1 : cnF (fun i => (Tm i).isSome) (i + 1) = cnF (fun i => (Tm i).isSome) i + 1 := by
            show cnF (fun i => (Tm i).isSome) i + (if (Tm i).isSome then 1 else 0) = _
            rw [tm]
            rfl
          rw [fk]
          refine g_ifnull (pc := 71) dX1_count_71 ?_
          refine g_iincN (pc := 74) (k0 := 1) (ls' := [(0, _), (1, _), (2, _), (3, _)]) dX1_count_74 rfl (Nat.le_of_ble_eq_true rfl) rfl ?_
          refine g_iincN (pc := 77) (k0 := 1) (ls' := [(0, _), (1, _), (2, _), (3, _)]) dX1_count_77 rfl (Nat.le_of_ble_eq_true rfl) rfl ?_
          refine g_goto (pc := 80) (tgt := 60) dX1_count_80 rfl ?_
          have := ih (i + 1) (by omega)
          rw [e1] at this
          exact this
    refine g_tableIn (pc := 1) (tgt := 56) dX1_count_1 (by decide) (by decide) rfl rfl ?_
    refine g_iconst (pc := 56) (v := nI 0) dX1_count_56 rfl ?_
    refine g_istore_n (pc := 57) (ls' := [(0, _), (1, _), (2, _)]) dX1_count_57 rfl (Nat.le_of_ble_eq_true rfl) rfl ?_
    refine g_iconst (pc := 58) (v := nI 0) dX1_count_58 rfl ?_
    refine g_istore_n (pc := 59) (ls' := [(0, _), (1, _), (2, _), (3, _)]) dX1_count_59 rfl (Nat.le_of_ble_eq_true rfl) rfl ?_
    exact loop 4 0 rfl
  by_cases k3 : k = nI 3
  · subst k3
    refine g_tableIn (pc := 1) (tgt := 85) dX1_count_1 (by decide) (by decide) rfl rfl ?_
    refine g_aload_n (pc := 85) dX1_count_85 rfl rfl ?_
    refine g_get (pc := 86) (r := (RX1, TX1, 8)) 3 dX1_count_86 hE rfl (Nat.le_of_ble_eq_true rfl) q498 (Or.inl rfl) rfl ?_
    refine g_invV (pc := 89) dX1_count_89 a3 kc (co_length d hO0) meX2_length q533 q534 q535 rfl rfl (Nat.le_of_ble_eq_true rfl) (by first | exact jF | exact fun _ z => z | assumption | (intro κ z; simp_all)) (jk_e ?_) jk_x
    exact g_iret (pc := 92) dX1_count_92 rfl ⟨_, rfl, rfl, rfl⟩
  by_cases k4 : k = nI 4
  · subst k4
    refine g_tableIn (pc := 1) (tgt := 93) dX1_count_1 (by decide) (by decide) rfl rfl ?_
    refine g_aload_n (pc := 93) dX1_count_93 rfl rfl ?_
    refine g_get (pc := 94) (r := (RX1, TX1, 8)) 5 dX1_count_94 hE rfl (Nat.le_of_ble_eq_true rfl) q500 (Or.inl rfl) rfl ?_
    exact g_iret (pc := 97) dX1_count_97 rfl ⟨_, rfl, rfl, rfl⟩
  by_cases k5 : k = nI 5
  · subst k5
    refine g_tableIn (pc := 1) (tgt := 98) dX1_count_1 (by decide) (by decide) rfl rfl ?_
    refine g_aload_n (pc := 98) dX1_count_98 rfl rfl ?_
    refine g_get (pc := 99) (r := (RX1, TX1, 8)) 6 dX1_count_99 hE rfl (Nat.le_of_ble_eq_true rfl) q501 (Or.inl rfl) rfl ?_
    exact g_iret (pc := 102) dX1_count_102 rfl ⟨_, rfl, rfl, rfl⟩
  have hout : k.toInt < 0 ∨ 5 < k.toInt := by
    apply Classical.byContradiction
    intro z
    have z1 : 0 ≤ k.toInt ∧ k.toInt ≤ 5 := by omega
    have ne : ∀ n : Nat, n ≤ 5 → k ≠ nI n → k.toInt ≠ n := fun n hn hk y => hk (Int32.toInt_inj.mp (by rw [y, nI_toInt (by omega)]))
    have n0 := ne 0 (by decide) k0
    have n1 := ne 1 (by decide) k1
    have n2 := ne 2 (by decide) k2
    have n3 := ne 3 (by decide) k3
    have n4 := ne 4 (by decide) k4
    have n5 := ne 5 (by decide) k5
    omega
  refine g_tableOut (pc := 1) (tgt := 103) dX1_count_1 hout rfl ?_
  refine g_iconst (pc := 103) (v := (-1)) dX1_count_103 rfl ?_
  have ev : cnV xs.length l.length (cnF (fun i => (Tm i).isSome) 4) out.length tg th k = -1 := by
    unfold cnV
    rw [if_neg k0, if_neg k1, if_neg k2, if_neg k3, if_neg k4, if_neg k5]
  rw [ev]
  exact g_iret (pc := 104) dX1_count_104 rfl ⟨_, rfl, rfl, rfl⟩
end EM
