/-! TWIN 9: compile -/
set_option maxRecDepth 100000
section TW9
variable {Z : hE} {o : Nat} {τ : tT}
/-- v + (x - y) -/
theorem mvI (x y v : Nat) : nI (y + v) + (nI x - nI y) = nI (x + v) := by
  rw [← nI_add, ← nI_add]
  rw [Int32.add_comm (nI y), Int32.add_assoc, Int32.add_comm (nI y), Int32.sub_add_cancel, Int32.add_comm]
theorem tc_moved (d k : Nat) (w : Int32) (x : Option Nat) (hw : ∀ v, nI (200 + v) + w = nI (50 * k + v)) (hx : ∀ m, x = some m → m < 1000) : tC Z mX3_moved d o [.ref o, .int (oS 200 x), .int w] τ (fun r τ' => r = some (.int (oS (50 * k) x)) ∧ τ' = τ) := by
  refine tC.of rfl rfl (Nat.le_of_ble_eq_true rfl) rfl (fun X hin h hR => ?_)
  cases x with
  | none =>
    refine g_iload_n (pc := 0) dX3_moved_0 rfl rfl ?_
    refine g_if_ge (pc := 1) (tgt := 8) dX3_moved_1 rfl (fun c => absurd c (by decide)) (fun _ => ?_)
    refine g_iconst (pc := 4) (v := (-1)) dX3_moved_4 rfl ?_
    refine g_goto (pc := 5) (tgt := 11) dX3_moved_5 rfl ?_
    exact t_iret (pc := 11) dX3_moved_11 hR rfl (⟨rfl, rfl⟩)
  | some m =>
    have hm := hx m rfl
    refine g_iload_n (pc := 0) dX3_moved_0 rfl rfl ?_
    refine g_if_geN (pc := 1) (tgt := 8) dX3_moved_1 rfl (by omega) ?_
    refine g_iload_n (pc := 8) dX3_moved_8 rfl rfl ?_
    refine g_iload_n (pc := 9) dX3_moved_9 rfl rfl ?_
    refine g_iadd (pc := 10) dX3_moved_10 ?_
    rw [show oS 200 (some m) + w = nI (50 * k + m) from hw m]
    exact t_iret (pc := 11) dX3_moved_11 hR rfl (⟨rfl, rfl⟩)
/-- what compile of template k does not touch -/
def tCk (k j i : Nat) : Prop := j < 14 ∨ 25 < j ∨ (j = 15 ∧ i ≠ k) ∨ (j = 16 ∧ i ≠ k ∧ i < 4) ∨ (j = 17 ∧ i ≠ k) ∨ (18 ≤ j ∧ j ≤ 24 ∧ i < 200 ∧ ¬ (50 * k ≤ i ∧ i < 50 * k + 50)) ∨ (j = 14 ∧ i < 800 ∧ ¬ (200 * k ≤ i ∧ i < 200 * k + 200))
def tCp (k : Nat) (τ τ' : tT) : Prop := τ'.2.2.2.2 = τ.2.2.2.2 ∧ ∀ j i, tCk k j i → τ'.2.2.1 j i = τ.2.2.1 j i ∧ τ'.2.2.2.1 j i = τ.2.2.2.1 j i
theorem tCp.of4 {k : Nat} {a b : tT} (h : tA4 a b) : tCp k a b := ⟨h.2.2.1, fun j i q => h.2.2.2 j i (by unfold tCk at q; unfold tA4k; omega)⟩
theorem tCp.an {k' : Nat} {a b : tT} {k i v : Nat} (h : tCp k' a b) (hk : ¬ tCk k' k i) : tCp k' a (tAN b k i v) := by
  refine ⟨h.1, fun j i' q => ⟨?_, (h.2 j i' q).2⟩⟩
  refine Eq.trans ?_ (h.2 j i' q).1
  by_cases e : j = k
  · subst e
    by_cases e2 : i' = i
    · subst e2; exact absurd q hk
    · exact up2_i e2
  · exact congrFun (up2_k e) i'
theorem tCp.ai {k' : Nat} {a b : tT} {k i : Nat} {v : Int32} (h : tCp k' a b) (hk : ¬ tCk k' k i) : tCp k' a (tAI b k i v) := by
  refine ⟨h.1, fun j i' q => ⟨(h.2 j i' q).1, ?_⟩⟩
  refine Eq.trans ?_ (h.2 j i' q).2
  by_cases e : j = k
  · subst e
    by_cases e2 : i' = i
    · subst e2; exact absurd q hk
    · exact up2_i e2
  · exact congrFun (up2_k e) i'
/-- template k is there: n characters f, g tags with the table T -/
def tTp (τ : tT) (k n : Nat) (f : Nat → Nat) (g : Nat) (T : tTb) : Prop := τ.2.2.1 17 k = 1 ∧ τ.2.2.1 15 k = n ∧ τ.2.2.1 16 k = g ∧ (∀ i, i < n → τ.2.2.1 14 (200 * k + i) = f i) ∧ tTa τ k g T
/-- a row of the table is set down -/
def tSr (τ : tT) (i b y x q : Nat) (s ot la : Int32) : tT := tAI (tAI (tAI (tAN (tAN (tAN (tAN τ 18 i b) 19 i y) 20 i x) 21 i q) 22 i s) 23 i ot) 24 i la
theorem tSr_o {i i' a b y x q : Nat} {s ot la : Int32} (h : i' ≠ i) : (tSr τ i b y x q s ot la).2.2.1 a i' = τ.2.2.1 a i' ∧ (tSr τ i b y x q s ot la).2.2.2.1 a i' = τ.2.2.2.1 a i' := by
  constructor
  · simp only [tSr, tAI, tAN, up2_o h]
  · simp only [tSr, tAI, tAN, up2_o h]
theorem tSr_Ta {k g : Nat} {T : tTb} (h : tTa τ k g T) : tTa (tSr τ (50 * k + g) (200 * k + (T.1 g).1) (200 * k + (T.1 g).2.2.2.1) (200 * k + (T.1 g).2.1) (200 * k + (T.1 g).2.2.1) (nI (T.1 g).2.2.2.2) (oS (50 * k) (T.2.1 g)) (oS (50 * k) (T.2.2 g))) k (g + 1) T := by
  intro j hj
  by_cases e : j = g
  · subst e
    simp [tRw, tSr, tAI, tAN, up2]
  · exact tRw_same (τ := τ) (fun a => tSr_o (by omega)) (h j (by omega))
theorem tSr_Ta4 {k g n b y x q : Nat} {s ot la : Int32} {T : tTb} (hk : k < 4) (hg : g < 50) (h : tTa τ 4 n T) : tTa (tSr τ (50 * k + g) b y x q s ot la) 4 n T := by
  intro j hj
  exact tRw_same (τ := τ) (fun a => tSr_o (by omega)) (h j hj)
theorem tSr_Cp {τ0 : tT} {k g b y x q : Nat} {s ot la : Int32} (hg : g < 50) (h : tCp k τ0 τ) : tCp k τ0 (tSr τ (50 * k + g) b y x q s ot la) := by
  unfold tSr
  refine tCp.ai (tCp.ai (tCp.ai (tCp.an (tCp.an (tCp.an (tCp.an h ?_) ?_) ?_) ?_) ?_) ?_) ?_ <;> (unfold tCk; omega)
def cmP (τ : tT) (k n : Nat) (f : Nat → Nat) (x : Option Nat × Nat × tTb) (r : Option Value) (τ' : tT) : Prop := match x.1 with
  | some p => r = some (.int (nI 0)) ∧ τ'.1 = (tRf (tFN τ 2 0) 2).1 ∧ τ'.2.1 = nI p ∧ tA4 τ (τ.1, τ.2.1, τ'.2.2) ∧ p < n
  | none => r = some (.int (nI x.2.1)) ∧ τ'.1 = (tFN (tFN τ 2 0) 0 0).1 ∧ τ'.2.1 = -1 ∧ tCp k τ τ' ∧ tTp τ' k n f x.2.1 x.2.2 ∧ ∃ p, p ≤ n ∧ tTok n x.2.1 p x.2.2 ∧ 4 * x.2.1 ≤ p
def txB (τ : tT) : Prop := ∀ i, τ.2.2.1 14 i < 65536
theorem tc_compile (d k n m : Nat) (f : Nat → Nat) (x : Option Nat × Nat × tTb) (hk : k < 4) (hn : τ.1 2 = n) (hn2 : n ≤ 180) (hf : ∀ i, i < n → τ.2.2.1 7 i = f i) (hf2 : ∀ i, i < n → f i < 65536) (ht : txB τ) (hx : tpI f n m tP0 = .inr x) : tC Z mX3_compile (d + 8) o [.ref o, .int (nI k)] τ (fun r τ' => cmP τ k n f x r τ' ∧ txB τ') := by
  refine tC.of rfl rfl (Nat.le_of_ble_eq_true rfl) rfl (fun X hin h hR => ?_)
  refine g_iload_n (pc := 0) dX3_compile_0 rfl rfl ?_
  refine g_if_ltN (pc := 1) (tgt := 9) dX3_compile_1 rfl (by omega) ?_
  refine g_iload_n (pc := 4) dX3_compile_4 rfl rfl ?_
  refine g_iconst (pc := 5) (v := nI 3) dX3_compile_5 rfl ?_
  refine g_icmp_leN (pc := 6) (tgt := 15) dX3_compile_6 rfl (by omega) (by omega) (fun q0 => ?_) (fun q0 => ?_)
  · refine g_aload_n (pc := 15) dX3_compile_15 rfl rfl ?_
    refine t_get (pc := 16) (v := .int (nI _)) 2 dX3_compile_16 hR rfl q1801 (Nat.le_of_ble_eq_true rfl) rfl rfl ?_
    rw [hn]
    refine g_istore_n (pc := 19) (ls' := [(0, _), (1, _), (2, _)]) dX3_compile_19 rfl (Nat.le_of_ble_eq_true rfl) rfl ?_
    refine g_aload_n (pc := 20) dX3_compile_20 rfl rfl ?_
    refine g_aload_n (pc := 21) dX3_compile_21 rfl rfl ?_
    refine t_inv (pc := 22) dX3_compile_22 hR (tc_takeApart d n m f x hn hn2 hf hf2 ht hx) meX3_takeApart q2018 q2020 qs24 rfl rfl (Nat.le_of_ble_eq_true rfl) (fun v τ1 h hp hR => ?_)
    obtain ⟨rfl, a4, ht1, hfl, hp⟩ := hp
    obtain ⟨fl, gn, T⟩ := x
    dsimp only at hp hfl
    refine t_putE (pc := 25) dX3_compile_25 hR rfl q1802 (fun h hR => ?_)
    refine g_aload_n (pc := 28) dX3_compile_28 rfl rfl ?_
    refine g_iconst (pc := 29) (v := nI 0) dX3_compile_29 rfl ?_
    refine t_put (pc := 30) 2 dX3_compile_30 hR rfl q1801 (Nat.le_of_ble_eq_true rfl) rfl rfl (by decide) rfl rfl (fun h hR => ?_)
    refine g_aload_n (pc := 33) dX3_compile_33 rfl rfl ?_
    refine t_get (pc := 34) (v := .int _) 3 dX3_compile_34 hR rfl q1802 (Nat.le_of_ble_eq_true rfl) rfl rfl ?_
    cases fl with
    | some p =>
      have hpn := hfl p rfl
      refine g_if_lt (pc := 37) (tgt := 46) dX3_compile_37 rfl (fun c => absurd c (nI_pos (by omega))) (fun _ => ?_)
      refine g_aload_n (pc := 40) dX3_compile_40 rfl rfl ?_
      refine g_iconst (pc := 41) (v := nI 2) dX3_compile_41 rfl ?_
      refine t_invE (pc := 42) dX3_compile_42 hR (tc_refuse _ 2) meX3_refuse q1956 q1958 qs16 rfl rfl (Nat.le_of_ble_eq_true rfl) (fun h hR => ?_)
      refine t_iret (pc := 45) dX3_compile_45 hR rfl ⟨⟨rfl, ?_, rfl, ⟨rfl, rfl, a4.2.2⟩, hpn⟩, ht1⟩
      show (tFN (tFN (tFN (tEr τ1 (oI (some p))) 2 0) 0 2) 1 _).1 = _
      simp only [tFN, tEr, tRf, a4.1]
    | none =>
      refine g_if_lt (pc := 37) (tgt := 46) dX3_compile_37 rfl (fun _ => ?_) (fun c => absurd (show (-1 : Int32) < 0 by decide) c)
      obtain ⟨h1, h2, h3, p, hp1, hp2, hp3⟩ := hp rfl
      have hgn : gn < 50 := by omega
      have hR0 := hR
      have hw1 : ∀ v, nI (800 + v) + (nI (k * 200) - nI 800) = nI (200 * k + v) := fun v => by rw [mvI, Nat.mul_comm]
      have hw2 : ∀ v, nI (200 + v) + (nI (k * 50) - nI 200) = nI (50 * k + v) := fun v => by rw [mvI, Nat.mul_comm]
      refine g_iload_n (pc := 46) dX3_compile_46 rfl rfl ?_
      refine g_sipush (pc := 47) (v := nI 200) dX3_compile_47 rfl ?_
      first | refine g_imulN (pc := 50) dX3_compile_50 ?_ | refine g_imul (pc := 50) dX3_compile_50 ?_
      refine g_sipush (pc := 51) (v := nI 800) dX3_compile_51 rfl ?_
      first | refine g_isubN (pc := 54) dX3_compile_54 (by omega) ?_ | refine g_isub (pc := 54) dX3_compile_54 ?_
      generalize nI (k * 200) - nI 800 = w1 at hw1
      refine g_istore_n (pc := 55) (ls' := [(0, _), (1, _), (2, _), (3, _)]) dX3_compile_55 rfl (Nat.le_of_ble_eq_true rfl) rfl ?_
      refine g_iload_n (pc := 56) dX3_compile_56 rfl rfl ?_
      refine g_bipush (pc := 57) (v := nI 50) dX3_compile_57 rfl ?_
      first | refine g_imulN (pc := 59) dX3_compile_59 ?_ | refine g_imul (pc := 59) dX3_compile_59 ?_
      refine g_sipush (pc := 60) (v := nI 200) dX3_compile_60 rfl ?_
      first | refine g_isubN (pc := 63) dX3_compile_63 (by omega) ?_ | refine g_isub (pc := 63) dX3_compile_63 ?_
      generalize nI (k * 50) - nI 200 = w2 at hw2
      refine g_istore (pc := 64) (ls' := [(0, _), (1, _), (2, _), (3, _), (4, _)]) dX3_compile_64 (Nat.le_of_ble_eq_true rfl) rfl ?_
      refine g_iconst (pc := 66) (v := nI 0) dX3_compile_66 rfl ?_
      refine g_istore (pc := 67) (ls' := [(0, _), (1, _), (2, _), (3, _), (4, _), (5, _)]) dX3_compile_67 (Nat.le_of_ble_eq_true rfl) rfl ?_
      -- the tags
      have lt : ∀ (j g : Nat) (τc : tT), g + j = gn → τc.1 = (tFN τ 2 0).1 → τc.2.1 = -1 → tCp k τ τc → txB τc → (∀ i, i < n → τc.2.2.1 14 (200 * k + i) = f i) → tTa τc 4 gn T → τc.2.2.1 16 4 = gn → tTa τc k g T → ∀ h, tH o τc hin h → hG Z X mX3_compile (d + 8) tS hin (tK o hin (fun r τ' => cmP τ k n f (none, gn, T) r τ' ∧ txB τ')) 110 [(0, .ref o), (1, .int (nI k)), (2, .int (nI n)), (3, .int w1), (4, .int w2), (5, .int (nI (200 + g)))] [] h := by
        intro j
        induction j with
        | zero =>
          intro g τc hg c1 c2 c3 c4 c5 c6 c7 c8
          have hg2 : g = gn := by omega
          subst hg2
          intro h hR
          refine g_iload (pc := 110) dX3_compile_110 rfl ?_
          refine g_sipush (pc := 112) (v := nI 200) dX3_compile_112 rfl ?_
          refine g_aload_n (pc := 115) dX3_compile_115 rfl rfl ?_
          refine t_get (pc := 116) (v := .ref (tAd _ 16)) 16 dX3_compile_116 hR rfl q1815 (Nat.le_of_ble_eq_true rfl) rfl rfl ?_
          refine g_iconst (pc := 119) (v := nI 4) dX3_compile_119 rfl ?_
          refine t_iald (pc := 120) dX3_compile_120 hR rfl (by decide) rfl (by decide) (by show _ < 5; omega) ?_
          rw [c7]
          first | refine g_iaddN (pc := 121) dX3_compile_121 ?_ | refine g_iadd (pc := 121) dX3_compile_121 ?_
          refine g_icmp_geN (pc := 122) (tgt := 256) dX3_compile_122 rfl (by omega) (by omega) (fun q1 => ?_) (fun q1 => ?_)
          · refine g_aload_n (pc := 256) dX3_compile_256 rfl rfl ?_
            refine t_get (pc := 257) (v := .ref (tAd _ 15)) 15 dX3_compile_257 hR rfl q1814 (Nat.le_of_ble_eq_true rfl) rfl rfl ?_
            refine g_iload_n (pc := 260) dX3_compile_260 rfl rfl ?_
            refine g_iload_n (pc := 261) dX3_compile_261 rfl rfl ?_
            refine t_iast (pc := 262) dX3_compile_262 hR rfl (by decide) rfl (by decide) (by show _ < 5; omega) (fun h hR => ?_)
            refine g_aload_n (pc := 263) dX3_compile_263 rfl rfl ?_
            refine t_get (pc := 264) (v := .ref (tAd _ 16)) 16 dX3_compile_264 hR rfl q1815 (Nat.le_of_ble_eq_true rfl) rfl rfl ?_
            refine g_iload_n (pc := 267) dX3_compile_267 rfl rfl ?_
            refine g_aload_n (pc := 268) dX3_compile_268 rfl rfl ?_
            refine t_get (pc := 269) (v := .ref (tAd _ 16)) 16 dX3_compile_269 hR rfl q1815 (Nat.le_of_ble_eq_true rfl) rfl rfl ?_
            refine g_iconst (pc := 272) (v := nI 4) dX3_compile_272 rfl ?_
            refine t_iald (pc := 273) dX3_compile_273 hR rfl (by decide) rfl (by decide) (by show _ < 5; omega) ?_
            rw [show (tAN τc 15 k n).2.2.1 16 4 = g from c7]
            refine t_iast (pc := 274) dX3_compile_274 hR rfl (by decide) rfl (by decide) (by show _ < 5; omega) (fun h hR => ?_)
            refine g_aload_n (pc := 275) dX3_compile_275 rfl rfl ?_
            refine t_get (pc := 276) (v := .ref (tAd _ 17)) 17 dX3_compile_276 hR rfl q1816 (Nat.le_of_ble_eq_true rfl) rfl rfl ?_
            refine g_iload_n (pc := 279) dX3_compile_279 rfl rfl ?_
            refine g_iconst (pc := 280) (v := nI 1) dX3_compile_280 rfl ?_
            refine t_zast (pc := 281) dX3_compile_281 hR rfl (by decide) rfl (by decide) (by show _ < 4; omega) (by omega) (fun h hR => ?_)
            refine g_aload_n (pc := 282) dX3_compile_282 rfl rfl ?_
            refine g_aload_n (pc := 283) dX3_compile_283 rfl rfl ?_
            refine t_get (pc := 284) (v := .ref (tAd _ 16)) 16 dX3_compile_284 hR rfl q1815 (Nat.le_of_ble_eq_true rfl) rfl rfl ?_
            refine g_iload_n (pc := 287) dX3_compile_287 rfl rfl ?_
            refine t_iald (pc := 288) dX3_compile_288 hR rfl (by decide) rfl (by decide) (by show _ < 5; omega) ?_
            rw [show (tAN (tAN (tAN τc 15 k n) 16 k g) 17 k 1).2.2.1 16 k = g from up2_s (tAN τc 15 k n).2.2.1 16 k g]
            refine t_invE (pc := 289) dX3_compile_289 hR (tc_fine _ (nI g)) meX3_fine q1960 q1962 qs17 rfl rfl (Nat.le_of_ble_eq_true rfl) (fun h hR => ?_)
            refine t_iret (pc := 292) dX3_compile_292 hR rfl ⟨⟨rfl, ?_, c2, ?_, ⟨?_, ?_, ?_, c5, ?_⟩, p, hp1, hp2, hp3⟩, c4⟩
            · simp only [tFN, tAN, c1]
            · exact tCp.an (tCp.an (tCp.an c3 (by unfold tCk; omega)) (by unfold tCk; omega)) (by unfold tCk; omega)
            · exact up2_s (tAN (tAN τc 15 k n) 16 k g).2.2.1 17 k 1
            · exact up2_s τc.2.2.1 15 k n
            · exact up2_s (tAN τc 15 k n).2.2.1 16 k g
            · exact c8
          · exact absurd q1 (by omega)
        | succ j ih =>
          intro g τc hg c1 c2 c3 c4 c5 c6 c7 c8 h hR
          have hr := c6 g (by omega)
          obtain ⟨r1, r2, r3, r4, r5, r6, r7⟩ := hr
          rw [show 50 * 4 + g = 200 + g from rfl] at r1 r2 r3 r4 r5 r6 r7
          rw [show 200 * 4 = 800 from rfl] at r1 r2 r3 r4
          have hx1 : ∀ m', T.2.1 g = some m' → m' < 1000 := fun m' z => by have := hp2.2.2.2.1 g m' z; omega
          have hx2 : ∀ m', T.2.2 g = some m' → m' < 1000 := fun m' z => by have := hp2.2.2.2.2.1 g m' z; omega
          refine g_iload (pc := 110) dX3_compile_110 rfl ?_
          refine g_sipush (pc := 112) (v := nI 200) dX3_compile_112 rfl ?_
          refine g_aload_n (pc := 115) dX3_compile_115 rfl rfl ?_
          refine t_get (pc := 116) (v := .ref (tAd _ 16)) 16 dX3_compile_116 hR rfl q1815 (Nat.le_of_ble_eq_true rfl) rfl rfl ?_
          refine g_iconst (pc := 119) (v := nI 4) dX3_compile_119 rfl ?_
          refine t_iald (pc := 120) dX3_compile_120 hR rfl (by decide) rfl (by decide) (by show _ < 5; omega) ?_
          rw [c7]
          first | refine g_iaddN (pc := 121) dX3_compile_121 ?_ | refine g_iadd (pc := 121) dX3_compile_121 ?_
          refine g_icmp_geN (pc := 122) (tgt := 256) dX3_compile_122 rfl (by omega) (by omega) (fun q1 => ?_) (fun q1 => ?_)
          · exact absurd q1 (by omega)
          · refine g_iload (pc := 125) dX3_compile_125 rfl ?_
            refine g_iload (pc := 127) dX3_compile_127 rfl ?_
            refine g_iadd (pc := 129) dX3_compile_129 ?_
            rw [hw2]
            refine g_istore (pc := 130) (ls' := [(0, _), (1, _), (2, _), (3, _), (4, _), (5, _), (6, _)]) dX3_compile_130 (Nat.le_of_ble_eq_true rfl) rfl ?_
            refine g_aload_n (pc := 132) dX3_compile_132 rfl rfl ?_
            refine t_get (pc := 133) (v := .ref (tAd _ 18)) 18 dX3_compile_133 hR rfl q1817 (Nat.le_of_ble_eq_true rfl) rfl rfl ?_
            refine g_iload (pc := 136) dX3_compile_136 rfl ?_
            refine g_aload_n (pc := 138) dX3_compile_138 rfl rfl ?_
            refine t_get (pc := 139) (v := .ref (tAd _ 18)) 18 dX3_compile_139 hR rfl q1817 (Nat.le_of_ble_eq_true rfl) rfl rfl ?_
            refine g_iload (pc := 142) dX3_compile_142 rfl ?_
            refine t_iald (pc := 144) dX3_compile_144 hR rfl (by decide) rfl (by decide) (by show _ < 250; omega) ?_
            rw [r1]
            refine g_iload_n (pc := 145) dX3_compile_145 rfl rfl ?_
            refine g_iadd (pc := 146) dX3_compile_146 ?_
            rw [hw1]
            refine t_iast (pc := 147) dX3_compile_147 hR rfl (by decide) rfl (by decide) (by show _ < 250; omega) (fun h hR => ?_)
            refine g_aload_n (pc := 148) dX3_compile_148 rfl rfl ?_
            refine t_get (pc := 149) (v := .ref (tAd _ 19)) 19 dX3_compile_149 hR rfl q1818 (Nat.le_of_ble_eq_true rfl) rfl rfl ?_
            refine g_iload (pc := 152) dX3_compile_152 rfl ?_
            refine g_aload_n (pc := 154) dX3_compile_154 rfl rfl ?_
            refine t_get (pc := 155) (v := .ref (tAd _ 19)) 19 dX3_compile_155 hR rfl q1818 (Nat.le_of_ble_eq_true rfl) rfl rfl ?_
            refine g_iload (pc := 158) dX3_compile_158 rfl ?_
            refine t_iald (pc := 160) dX3_compile_160 hR rfl (by decide) rfl (by decide) (by show _ < 250; omega) ?_
            change hG _ _ _ _ _ _ _ _ _ (.int (nI (τc.2.2.1 19 (200 + g))) :: _) _
            rw [r4]
            refine g_iload_n (pc := 161) dX3_compile_161 rfl rfl ?_
            refine g_iadd (pc := 162) dX3_compile_162 ?_
            rw [hw1]
            refine t_iast (pc := 163) dX3_compile_163 hR rfl (by decide) rfl (by decide) (by show _ < 250; omega) (fun h hR => ?_)
            refine g_aload_n (pc := 164) dX3_compile_164 rfl rfl ?_
            refine t_get (pc := 165) (v := .ref (tAd _ 20)) 20 dX3_compile_165 hR rfl q1819 (Nat.le_of_ble_eq_true rfl) rfl rfl ?_
            refine g_iload (pc := 168) dX3_compile_168 rfl ?_
            refine g_aload_n (pc := 170) dX3_compile_170 rfl rfl ?_
            refine t_get (pc := 171) (v := .ref (tAd _ 20)) 20 dX3_compile_171 hR rfl q1819 (Nat.le_of_ble_eq_true rfl) rfl rfl ?_
            refine g_iload (pc := 174) dX3_compile_174 rfl ?_
            refine t_iald (pc := 176) dX3_compile_176 hR rfl (by decide) rfl (by decide) (by show _ < 250; omega) ?_
            change hG _ _ _ _ _ _ _ _ _ (.int (nI (τc.2.2.1 20 (200 + g))) :: _) _
            rw [r2]
            refine g_iload_n (pc := 177) dX3_compile_177 rfl rfl ?_
            refine g_iadd (pc := 178) dX3_compile_178 ?_
            rw [hw1]
            refine t_iast (pc := 179) dX3_compile_179 hR rfl (by decide) rfl (by decide) (by show _ < 250; omega) (fun h hR => ?_)
            refine g_aload_n (pc := 180) dX3_compile_180 rfl rfl ?_
            refine t_get (pc := 181) (v := .ref (tAd _ 21)) 21 dX3_compile_181 hR rfl q1820 (Nat.le_of_ble_eq_true rfl) rfl rfl ?_
            refine g_iload (pc := 184) dX3_compile_184 rfl ?_
            refine g_aload_n (pc := 186) dX3_compile_186 rfl rfl ?_
            refine t_get (pc := 187) (v := .ref (tAd _ 21)) 21 dX3_compile_187 hR rfl q1820 (Nat.le_of_ble_eq_true rfl) rfl rfl ?_
            refine g_iload (pc := 190) dX3_compile_190 rfl ?_
            refine t_iald (pc := 192) dX3_compile_192 hR rfl (by decide) rfl (by decide) (by show _ < 250; omega) ?_
            change hG _ _ _ _ _ _ _ _ _ (.int (nI (τc.2.2.1 21 (200 + g))) :: _) _
            rw [r3]
            refine g_iload_n (pc := 193) dX3_compile_193 rfl rfl ?_
            refine g_iadd (pc := 194) dX3_compile_194 ?_
            rw [hw1]
            refine t_iast (pc := 195) dX3_compile_195 hR rfl (by decide) rfl (by decide) (by show _ < 250; omega) (fun h hR => ?_)
            refine g_aload_n (pc := 196) dX3_compile_196 rfl rfl ?_
            refine t_get (pc := 197) (v := .ref (tAd _ 22)) 22 dX3_compile_197 hR rfl q1821 (Nat.le_of_ble_eq_true rfl) rfl rfl ?_
            refine g_iload (pc := 200) dX3_compile_200 rfl ?_
            refine g_aload_n (pc := 202) dX3_compile_202 rfl rfl ?_
            refine t_get (pc := 203) (v := .ref (tAd _ 22)) 22 dX3_compile_203 hR rfl q1821 (Nat.le_of_ble_eq_true rfl) rfl rfl ?_
            refine g_iload (pc := 206) dX3_compile_206 rfl ?_
            refine t_ialdI (pc := 208) dX3_compile_208 hR rfl (by decide) rfl (by decide) (by show _ < 250; omega) ?_
            change hG _ _ _ _ _ _ _ _ _ (.int (τc.2.2.2.1 22 (200 + g)) :: _) _
            rw [r5]
            refine t_iastI (pc := 209) dX3_compile_209 hR rfl (by decide) rfl (by decide) (by show _ < 250; omega) (fun h hR => ?_)
            refine g_aload_n (pc := 210) dX3_compile_210 rfl rfl ?_
            refine t_get (pc := 211) (v := .ref (tAd _ 23)) 23 dX3_compile_211 hR rfl q1822 (Nat.le_of_ble_eq_true rfl) rfl rfl ?_
            refine g_iload (pc := 214) dX3_compile_214 rfl ?_
            refine g_aload_n (pc := 216) dX3_compile_216 rfl rfl ?_
            refine g_aload_n (pc := 217) dX3_compile_217 rfl rfl ?_
            refine t_get (pc := 218) (v := .ref (tAd _ 23)) 23 dX3_compile_218 hR rfl q1822 (Nat.le_of_ble_eq_true rfl) rfl rfl ?_
            refine g_iload (pc := 221) dX3_compile_221 rfl ?_
            refine t_ialdI (pc := 223) dX3_compile_223 hR rfl (by decide) rfl (by decide) (by show _ < 250; omega) ?_
            change hG _ _ _ _ _ _ _ _ _ (.int (τc.2.2.2.1 23 (200 + g)) :: _) _
            rw [r6]
            refine g_iload (pc := 224) dX3_compile_224 rfl ?_
            refine t_invE (pc := 226) dX3_compile_226 hR (tc_moved _ k w2 (T.2.1 g) hw2 hx1) meX3_moved q2092 q2094 qs37 rfl rfl (Nat.le_of_ble_eq_true rfl) (fun h hR => ?_)
            refine t_iastI (pc := 229) dX3_compile_229 hR rfl (by decide) rfl (by decide) (by show _ < 250; omega) (fun h hR => ?_)
            refine g_aload_n (pc := 230) dX3_compile_230 rfl rfl ?_
            refine t_get (pc := 231) (v := .ref (tAd _ 24)) 24 dX3_compile_231 hR rfl q1823 (Nat.le_of_ble_eq_true rfl) rfl rfl ?_
            refine g_iload (pc := 234) dX3_compile_234 rfl ?_
            refine g_aload_n (pc := 236) dX3_compile_236 rfl rfl ?_
            refine g_aload_n (pc := 237) dX3_compile_237 rfl rfl ?_
            refine t_get (pc := 238) (v := .ref (tAd _ 24)) 24 dX3_compile_238 hR rfl q1823 (Nat.le_of_ble_eq_true rfl) rfl rfl ?_
            refine g_iload (pc := 241) dX3_compile_241 rfl ?_
            refine t_ialdI (pc := 243) dX3_compile_243 hR rfl (by decide) rfl (by decide) (by show _ < 250; omega) ?_
            change hG _ _ _ _ _ _ _ _ _ (.int (τc.2.2.2.1 24 (200 + g)) :: _) _
            rw [r7]
            refine g_iload (pc := 244) dX3_compile_244 rfl ?_
            refine t_invE (pc := 246) dX3_compile_246 hR (tc_moved _ k w2 (T.2.2 g) hw2 hx2) meX3_moved q2092 q2094 qs37 rfl rfl (Nat.le_of_ble_eq_true rfl) (fun h hR => ?_)
            refine t_iastI (pc := 249) dX3_compile_249 hR rfl (by decide) rfl (by decide) (by show _ < 250; omega) (fun h hR => ?_)
            refine g_iincN (pc := 250) (k0 := 1) (ls' := [(0, _), (1, _), (2, _), (3, _), (4, _), (5, _), (6, _)]) dX3_compile_250 rfl (Nat.le_of_ble_eq_true rfl) rfl ?_
            refine g_goto (pc := 253) (tgt := 110) dX3_compile_253 rfl ?_
            refine g_drop [0, 1, 2, 3, 4, 5] rfl ?_
            refine ih (g + 1) (tSr τc (50 * k + g) (200 * k + (T.1 g).1) (200 * k + (T.1 g).2.2.2.1) (200 * k + (T.1 g).2.1) (200 * k + (T.1 g).2.2.1) (nI (T.1 g).2.2.2.2) (oS (50 * k) (T.2.1 g)) (oS (50 * k) (T.2.2 g))) (by omega) c1 c2 (tSr_Cp (by omega) c3) c4 c5 (tSr_Ta4 hk (by omega) c6) c7 (tSr_Ta c8) h hR
      -- the text
      have lx : ∀ (j i : Nat) (τc : tT), i + j = n → τc.1 = (tFN τ 2 0).1 → τc.2.1 = -1 → tCp k τ τc → txB τc → (∀ i, i < n → τc.2.2.1 14 (800 + i) = f i) → (∀ i', i' < i → τc.2.2.1 14 (200 * k + i') = f i') → tTa τc 4 gn T → τc.2.2.1 16 4 = gn → ∀ h, tH o τc hin h → hG Z X mX3_compile (d + 8) tS hin (tK o hin (fun r τ' => cmP τ k n f (none, gn, T) r τ' ∧ txB τ')) 69 [(0, .ref o), (1, .int (nI k)), (2, .int (nI n)), (3, .int w1), (4, .int w2), (5, .int (nI i))] [] h := by
        intro j
        induction j with
        | zero =>
          intro i τc hg c1 c2 c3 c4 c5 c6 c7 c8 h hR
          refine g_iload (pc := 69) dX3_compile_69 rfl ?_
          refine g_iload_n (pc := 71) dX3_compile_71 rfl rfl ?_
          refine g_icmp_geN (pc := 72) (tgt := 105) dX3_compile_72 rfl (by omega) (by omega) (fun q1 => ?_) (fun q1 => ?_)
          · refine g_sipush (pc := 105) (v := nI 200) dX3_compile_105 rfl ?_
            refine g_istore (pc := 108) (ls' := [(0, _), (1, _), (2, _), (3, _), (4, _), (5, _)]) dX3_compile_108 (Nat.le_of_ble_eq_true rfl) rfl ?_
            exact lt gn 0 τc (by omega) c1 c2 c3 c4 (fun i' hi' => c6 i' (by omega)) c7 c8 (fun g hg => absurd hg (Nat.not_lt_zero _)) h hR
          · exact absurd q1 (by omega)
        | succ j ih =>
          intro i τc hg c1 c2 c3 c4 c5 c6 c7 c8 h hR
          have hfi := hf2 i (by omega)
          refine g_iload (pc := 69) dX3_compile_69 rfl ?_
          refine g_iload_n (pc := 71) dX3_compile_71 rfl rfl ?_
          refine g_icmp_geN (pc := 72) (tgt := 105) dX3_compile_72 rfl (by omega) (by omega) (fun q1 => ?_) (fun q1 => ?_)
          · exact absurd q1 (by omega)
          · refine g_aload_n (pc := 75) dX3_compile_75 rfl rfl ?_
            refine t_get (pc := 76) (v := .ref (tAd _ 14)) 14 dX3_compile_76 hR rfl q1813 (Nat.le_of_ble_eq_true rfl) rfl rfl ?_
            refine g_iload_n (pc := 79) dX3_compile_79 rfl rfl ?_
            refine g_sipush (pc := 80) (v := nI 200) dX3_compile_80 rfl ?_
            first | refine g_imulN (pc := 83) dX3_compile_83 ?_ | refine g_imul (pc := 83) dX3_compile_83 ?_
            refine g_iload (pc := 84) dX3_compile_84 rfl ?_
            first | refine g_iaddN (pc := 86) dX3_compile_86 ?_ | refine g_iadd (pc := 86) dX3_compile_86 ?_
            refine g_aload_n (pc := 87) dX3_compile_87 rfl rfl ?_
            refine t_get (pc := 88) (v := .ref (tAd _ 14)) 14 dX3_compile_88 hR rfl q1813 (Nat.le_of_ble_eq_true rfl) rfl rfl ?_
            refine g_sipush (pc := 91) (v := nI 800) dX3_compile_91 rfl ?_
            refine g_iload (pc := 94) dX3_compile_94 rfl ?_
            first | refine g_iaddN (pc := 96) dX3_compile_96 ?_ | refine g_iadd (pc := 96) dX3_compile_96 ?_
            refine t_cald (pc := 97) dX3_compile_97 hR rfl (by decide) rfl (by decide) (by show _ < 1000; omega) ?_
            rw [c5 i (by omega), Nat.mul_comm k 200]
            refine t_cast (pc := 98) dX3_compile_98 hR rfl (by decide) rfl (by decide) (by show _ < 1000; omega) (by omega) (fun h hR => ?_)
            refine g_iincN (pc := 99) (k0 := 1) (ls' := [(0, _), (1, _), (2, _), (3, _), (4, _), (5, _)]) dX3_compile_99 rfl (Nat.le_of_ble_eq_true rfl) rfl ?_
            refine g_goto (pc := 102) (tgt := 69) dX3_compile_102 rfl ?_
            refine ih (i + 1) (tAN τc 14 (200 * k + i) (f i)) (by omega) c1 c2 (tCp.an c3 (by unfold tCk; omega)) (fun i' => ?_) (fun i' hi' => ?_) (fun i' hi' => ?_) c7 c8 h hR
            · show up2 τc.2.2.1 14 (200 * k + i) (f i) 14 i' < 65536
              by_cases e : i' = 200 * k + i
              · rw [e, up2_s]; exact hfi
              · rw [up2_i e]; exact c4 i'
            · show up2 τc.2.2.1 14 (200 * k + i) (f i) 14 (800 + i') = f i'
              rw [up2_i (by omega)]; exact c5 i' hi'
            · show up2 τc.2.2.1 14 (200 * k + i) (f i) 14 (200 * k + i') = f i'
              by_cases e : i' = i
              · rw [e, up2_s]
              · rw [up2_i (by omega)]; exact c6 i' (by omega)
      exact lx n 0 (tFN (tEr τ1 (-1)) 2 0) (by omega) (by simp only [tFN, tEr, a4.1]) rfl ⟨a4.2.2.1, (tCp.of4 a4).2⟩ ht1 h3 (fun i hi => absurd hi (Nat.not_lt_zero _)) h1 h2 h hR
  · exact absurd q0 (by omega)
end TW9
