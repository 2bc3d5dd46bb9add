/-! COMPONENT 27: paths -/
set_option maxRecDepth 100000
theorem jSt.fa {A : Nat → Prop} {h h' : hP} {κ a : Nat} {l : List Nat} (f : hFa A h h') (hA : ∀ q c, A q → h.2.2 q = some c → c.1 = 32 ∨ c.1 = 65 ∨ c.1 = 965) (j : jSt h κ a l) : jSt h' κ a l := by
  obtain ⟨q1, q2, b, κb, hs, hz, q3, q4, ⟨g, q5, q6⟩, q7⟩ := j
  refine ⟨q1, q2, b, κb, hs, hz, (f.2.2 a _ q3).1 (fun z => ?_), q4, ⟨g, (f.2.2 b _ q5).1 (fun z => ?_), q6⟩, q7⟩
  · have : κ = 32 ∨ κ = 65 ∨ κ = 965 := hA a _ z q3
    omega
  · have : κb = 32 ∨ κb = 65 ∨ κb = 965 := hA b _ z q5
    omega
theorem seg_eq {l : List Nat} {u a b : Nat} (hb : b ≤ l.length - u) : sbL (sbL l u l.length) a b = sgF (lF l) (u + a) (b - a) := by
  apply list_ext0 (by rw [sgF_len, sbL_len])
  intro i hi
  rw [sbL_len] at hi
  rw [sbL_get hi, sbL_get (by omega), sgF_get hi, show u + (a + i) = u + a + i by omega]
theorem seg_len {l : List Nat} {u a b : Nat} : (sbL (sbL l u l.length) a b).length = b - a := sbL_len _ _ _
theorem seg_nm {l : List Nat} {u a b : Nat} (hb : b ≤ l.length - u) : nmB (sbL (sbL l u l.length) a b) = true ↔ (∀ i, u + a ≤ i → i < u + b → isL (lF l i) = true) ∧ 1 ≤ u + b - (u + a) ∧ u + b - (u + a) ≤ 8 := by
  rw [nmB_iff]
  unfold nmOK
  rw [seg_len, show u + b - (u + a) = b - a by omega]
  constructor
  · rintro ⟨h1, h2⟩
    refine ⟨fun i h3 h4 => ?_, h2⟩
    have hm : (sbL (sbL l u l.length) a b).getD (i - u - a) 0 ∈ sbL (sbL l u l.length) a b := getD_mem (by rw [seg_len]; omega)
    have := h1 _ hm
    rw [sbL_get (by omega), sbL_get (by omega), show u + (a + (i - u - a)) = i by omega] at this
    exact this
  · rintro ⟨h1, h2⟩
    refine ⟨?_, h2⟩
    rw [seg_eq hb]
    exact sgF_mem (fun i hi => h1 _ (by omega) (by omega))
theorem seg_this {l : List Nat} {u b : Nat} (hb : b ≤ l.length - u) : sbL (sbL l u l.length) 0 b = [116, 104, 105, 115] ↔ (b = 4 ∧ stB (lF l) l.length u [116, 104, 105, 115] = true) := by
  constructor
  · intro h
    have h4 : b = 4 := by
      have := congrArg List.length h
      rw [seg_len] at this
      simpa using this
    refine ⟨h4, (stB_iff (by simp; omega)).mpr (fun t ht => ?_)⟩
    have := congrArg (fun z => List.getD z t 0) h
    have ht4 : t < 4 := ht
    rw [sbL_get (by omega), sbL_get (by omega), Nat.zero_add] at this
    exact this
  · rintro ⟨h1, h2⟩
    apply list_ext0 (by rw [seg_len]; simp; omega)
    intro i hi
    rw [seg_len] at hi
    have := (stB_iff (by simp; omega)).mp h2 i (by simp; omega)
    rw [sbL_get (by omega), sbL_get (by omega), Nat.zero_add]
    exact this
/-- what a path comes to, the @ words left out -/
def pathX (f : Nat → Nat) (e : Nat) : aO :=
  if lts f e (upF f e e 0) = 4 ∧ stB f e (upF f e e 0) [116, 104, 105, 115] = true then .inr (.inr (upF f e e 0 / 3, []))
  else .inr (.inr (upF f e e 0 / 3, sgF f (upF f e e 0) (lts f e (upF f e e 0)) :: dnF f e e (upF f e e 0 + lts f e (upF f e e 0))))
def kK (κ : Nat) : Prop := κ = 30 ∨ κ = 930
def nwO (Z : hE) (h : hP) (e : Nat) : Prop := h.1 ≤ e ∨ ∃ c, hOld Z e = some c
def dotE (l : List Nat) (d : Nat) : Prop := d = l.length ∨ lF l d = 46
/-- the names so far: none yet, or a dot or the end is come to -/
def pInv (l : List Nat) (u at0 : Nat) (ns : List (List Nat)) : Prop := at0 = 0 ∧ ns = [] ∨ 1 ≤ at0 ∧ pathW (lF l) l.length = dtF (lF l) l.length l.length (u + at0 - 1) ∧ (u + at0 - 1 = l.length ∨ lF l (u + at0 - 1) = 46) ∧ sgF (lF l) u (lts (lF l) l.length u) :: dnF (lF l) l.length l.length (u + lts (lF l) l.length u) = ns ++ dnF (lF l) l.length l.length (u + at0 - 1) ∧ ¬ (lts (lF l) l.length u = 4 ∧ stB (lF l) l.length u [116, 104, 105, 115] = true)
/-- it is no 'this' -/
def noTh (l : List Nat) (u : Nat) : Prop := ¬ (l.length = u + 4 ∧ stB (lF l) l.length u [116, 104, 105, 115] = true)
/-- what comes next, behind the name nm that ends at u + dd -/
def pNx (l : List Nat) (u dd : Nat) (ns : List (List Nat)) (nm : List Nat) : Prop := pathW (lF l) l.length = dtF (lF l) l.length l.length (u + dd) ∧ sgF (lF l) u (lts (lF l) l.length u) :: dnF (lF l) l.length l.length (u + lts (lF l) l.length u) = (ns ++ [nm]) ++ dnF (lF l) l.length l.length (u + dd) ∧ ¬ (lts (lF l) l.length u = 4 ∧ stB (lF l) l.length u [116, 104, 105, 115] = true)
theorem p_first {l : List Nat} {u dd : Nat} {ns : List (List Nat)} (hu : upF (lF l) l.length l.length 0 = u) (hd2 : dd ≤ l.length - u) (hul : u ≤ l.length) (hend : dotE l (u + dd)) (hth : noTh l u) (hd4 : ∀ i, u + 0 ≤ i → i < u + dd → lF l i ≠ 46) (inv : pInv l u 0 ns) :
    (nmB (sbL (sbL l u l.length) 0 dd) = true ∧ sbL (sbL l u l.length) 0 dd ≠ [116, 104, 105, 115] → 1 ≤ dd ∧ pNx l u dd ns (sbL (sbL l u l.length) 0 dd)) ∧ (¬ (nmB (sbL (sbL l u l.length) 0 dd) = true ∧ sbL (sbL l u l.length) 0 dd ≠ [116, 104, 105, 115]) → pathW (lF l) l.length ≠ some l.length) := by
  have hns0 : ns = [] := by
    rcases inv with ⟨_, z⟩ | ⟨z, _⟩
    · exact z
    · omega
  have hnB := seg_nm (l := l) (u := u) (a := 0) (b := dd) hd2
  have hthis := seg_this (l := l) (u := u) (b := dd) hd2
  obtain ⟨p1, p2⟩ := pw_first (f := lF l) (e := l.length) (u := u) (d := u + dd) hu (by omega) (by omega) hend (fun i a b => hd4 i (by omega) b) hth
  rw [Nat.add_zero] at hnB
  constructor
  · rintro ⟨n1, n2⟩
    obtain ⟨b1, b2, b3⟩ := hnB.mp n1
    have h4 : ¬ (u + dd - u = 4 ∧ stB (lF l) l.length u [116, 104, 105, 115] = true) := fun z => n2 (hthis.mpr ⟨by omega, z.2⟩)
    obtain ⟨c1, c2⟩ := p1 ⟨b1, b2, b3, h4⟩
    refine ⟨by omega, c2, ?_, by rw [c1]; exact h4⟩
    rw [c1, hns0, show u + (u + dd - u) = u + dd by omega, seg_eq hd2, show u + dd - u = dd - 0 by omega]
    rfl
  · intro hb
    refine p2 (fun ⟨b1, b2, b3, b4⟩ => hb ⟨hnB.mpr ⟨b1, b2, b3⟩, fun z => b4 ?_⟩)
    obtain ⟨z1, z2⟩ := hthis.mp z
    exact ⟨by omega, z2⟩
theorem p_next {l : List Nat} {u at0 dd : Nat} {ns : List (List Nat)} (hd1 : at0 ≤ dd) (hd2 : dd ≤ l.length - u) (hul : u ≤ l.length) (hend : dotE l (u + dd)) (hd4 : ∀ i, u + at0 ≤ i → i < u + dd → lF l i ≠ 46) (inv : pInv l u at0 ns) (z0 : at0 ≠ 0) (hat : at0 ≤ l.length - u) :
    ((nmB (sbL (sbL l u l.length) at0 dd) = true ∨ ((sbL (sbL l u l.length) at0 dd).length = 1 ∧ isD ((sbL (sbL l u l.length) at0 dd).getD 0 0) = true)) → at0 + 1 ≤ dd ∧ pNx l u dd ns (sbL (sbL l u l.length) at0 dd)) ∧ (¬ (nmB (sbL (sbL l u l.length) at0 dd) = true ∨ ((sbL (sbL l u l.length) at0 dd).length = 1 ∧ isD ((sbL (sbL l u l.length) at0 dd).getD 0 0) = true)) → pathW (lF l) l.length ≠ some l.length) := by
  have hnB := seg_nm (l := l) (u := u) (a := at0) (b := dd) hd2
  rcases inv with ⟨z, _⟩ | ⟨i1, i2, i3, i4, i5⟩
  · exact absurd z z0
  · have i3 : lF l (u + at0 - 1) = 46 := by
      rcases i3 with z | z
      · omega
      · exact z
    obtain ⟨p1, p2⟩ := pw_next (f := lF l) (e := l.length) (k := u + at0 - 1) (d := u + dd) (by omega) i3 (by omega) (by omega) hend (fun i a b => hd4 i (by omega) b)
    rw [show u + at0 - 1 + 1 = u + at0 by omega] at p1 p2
    have hdg : ((sbL (sbL l u l.length) at0 dd).length = 1 ∧ isD ((sbL (sbL l u l.length) at0 dd).getD 0 0) = true) ↔ (u + dd = u + at0 - 1 + 2 ∧ isD (lF l (u + at0)) = true) := by
      rw [seg_len]
      constructor
      · rintro ⟨w1, w2⟩
        rw [sbL_get (by omega), sbL_get (by omega), Nat.add_zero] at w2
        exact ⟨by omega, w2⟩
      · rintro ⟨w1, w2⟩
        refine ⟨by omega, ?_⟩
        rw [sbL_get (by omega), sbL_get (by omega), Nat.add_zero]
        exact w2
    rw [hdg, hnB]
    constructor
    · intro hv
      obtain ⟨c1, c2⟩ := p1 hv
      have hlen : at0 + 1 ≤ dd := by
        rcases hv with w | w <;> omega
      refine ⟨hlen, i2.trans c2, ?_, i5⟩
      rw [i4, dn_step (by omega) i3, c1, show u + at0 - 1 + 1 = u + at0 by omega, show u + at0 + (u + dd - (u + at0)) = u + dd by omega, seg_eq hd2, show u + dd - (u + at0) = dd - at0 by omega, List.append_assoc]
      rfl
    · intro hb
      rw [i2]
      exact p2 hb
section PB
variable {Z : hE} {h : hP} {κ a : Nat} {l : List Nat}
set_option maxHeartbeats 4000000 in
theorem pa_path (d : Nat) (hs : jSt h κ a l) (hκ : κ = 30 ∨ κ = 930) (hL : l.length ≤ 64) (l1 : h.1 + 400 ≤ hLC Z) (l2 : h.2.1 + 15000 ≤ hLS) : hCt Z mX9_path (d + 8) (fun _ => False) [.ref a] h (jK (pO h (pathW (lF l) l.length = some l.length) (pathX (lF l) l.length) (4 * l.length + 20) (200 * l.length + 300))) := by
  refine hCt.shr (S' := kAll) ?_
  refine hCt.of pnX9 rfl (Nat.le_of_ble_eq_true rfl) rfl (fun X => ?_)
  refine g_wf (fun hwf0 => ?_)
  refine g_olds (fun hZ ho0 => ?_)
  generalize hKK : (fun r h' => jK (pO h (pathW (lF l) l.length = some l.length) (pathX (lF l) l.length) (4 * l.length + 20) (200 * l.length + 300)) r h' ∧ hFr (fun _ => False) h h') = KK
  have fN : ∀ h', hFr (fun _ => False) h h' → jRm h h' (4 * l.length + 20) (200 * l.length + 300) → pathW (lF l) l.length ≠ some l.length → KK (.inl (some .null)) h' := fun h' f r n => by
    rw [← hKK]
    exact ⟨⟨_, rfl, r, Or.inl ⟨rfl, n⟩⟩, f⟩
  have fS : ∀ h' o, hFr (fun _ => False) h h' → jRm h h' (4 * l.length + 20) (200 * l.length + 300) → pathW (lF l) l.length = some l.length → cOp h' (pathX (lF l) l.length) o → KK (.inl (some (.ref o))) h' := fun h' o f r n c => by
    rw [← hKK]
    exact ⟨⟨_, rfl, r, Or.inr ⟨o, rfl, n, c⟩⟩, f⟩
  clear hKK
  -- the names, from the list into an array
  have fin : ∀ (u s La : Nat) (v5 : Int32) (ns : List (List Nat)) (xs : List Nat) (e cap : Nat) (h2 : hP), u / 3 ≤ 64 → hFr (fun _ => False) h h2 → jAL Z h2 32 La 65 e cap xs → xs.length = ns.length → ns.length ≤ 32 → (∀ i, i < ns.length → ∃ κ', jSt h2 κ' (xs.getD i 0) (ns.getD i []) ∧ (κ' = 30 ∨ κ' = 930) ∧ ns.getD i [] ≠ []) → jRm h h2 (3 * l.length + 10) (150 * l.length + 230) → pathW (lF l) l.length = some l.length → pathX (lF l) l.length = .inr (.inr (u / 3, ns)) → hG Z X mX9_path (d + 8) kAll h KK 199 [(1, .int (nI (u / 3))), (3, .ref s), (4, .ref La), (5, .int v5)] [] h2 := by
    intro u s La v5 ns xs e cap h2 hu f2 hAL hxs hn32 hns rm2 hW hX
    have hAL0 := hAL
    obtain ⟨k1, k2, k3, k4, k5, ⟨md, hLa⟩, k7⟩ := hAL
    have rm21 := rm2.1
    have rm22 := rm2.2
    refine g_aload (pc := 199) dX9_path_199 rfl ?_
    refine g_invV (pc := 201) dX9_path_201 hLa rfl (jc_lsize (d + 7) hAL0) meJ2_size q1238 q529 q530 rfl rfl (Nat.le_of_ble_eq_true rfl) (by first | exact jF | exact fun _ z => z | assumption | (intro κ z; simp_all)) (jk_e ?_) jk_x
    refine g_anew (pc := 204) (C := "java/lang/String") 169 xs.length dX9_path_204 rfl (by decide) rfl (by omega) q1224 q828 (by omega) (by omega) (fun hwf => ?_)
    have hwf2 := hwf
    have f3 : hFr (fun _ => False) h2 (hNew h2 (169, .inr (xs.length, fun _ => .null)) xs.length) := (hFr.rf h2).new hwf
    have f03 := f2.tr f3
    have n3 := hNew_s h2 (169, .inr (xs.length, fun _ => .null)) xs.length
    refine g_astore (pc := 207) (ls' := [(1, _), (3, _), (4, _), (5, _), (6, _)]) dX9_path_207 (Nat.le_of_ble_eq_true rfl) rfl ?_
    refine g_iconst (pc := 209) (v := nI 0) dX9_path_209 rfl ?_
    refine g_istore (pc := 210) (ls' := [(1, _), (3, _), (4, _), (5, _), (6, _), (7, _)]) dX9_path_210 (Nat.le_of_ble_eq_true rfl) rfl ?_
    -- the array is filled
    have loop : ∀ (r i : Nat) (F : Nat → Value) (h4 : hP), i + r = xs.length → h4.2.2 h2.1 = some (169, .inr (xs.length, F)) → (∀ j, j < i → F j = .ref (xs.getD j 0)) → hFa (fun q => q = h2.1) (hNew h2 (169, .inr (xs.length, fun _ => .null)) xs.length) h4 → h4.1 = h2.1 + 1 → h4.2.1 = h2.2.1 + xs.length → hG Z X mX9_path (d + 8) kAll h KK 212 [(1, .int (nI (u / 3))), (4, .ref La), (6, .ref h2.1), (7, .int (nI i))] [] h4 := by
      intro r
      induction r with
      | zero =>
        intro i F h4 hi ha4 hF fa4 e1 e2
        refine g_iload (pc := 212) dX9_path_212 rfl ?_
        refine g_aload (pc := 214) dX9_path_214 rfl ?_
        refine g_alen (pc := 216) dX9_path_216 ha4 ?_
        refine g_icmp_geN (pc := 217) (tgt := 241) dX9_path_217 rfl (by omega) (by omega) (fun _ => ?_) (fun q_ => absurd q_ (by omega))
        refine g_new (pc := 241) (r := (RX14, TX14, 2)) (fs := [.int (nI 0), .null]) 14 dX9_path_241 rfl (by decide) q1222 q1223 q111 rfl (by first | omega | (simp only [hNew_1, hNew_2, hSet_1, hSet_2]; omega)) (by first | omega | (simp only [hNew_1, hNew_2, hSet_1, hSet_2]; omega)) (fun hwf => ?_)
        have hwf4 := hwf
        have n5 := hNew_s h4 (14, .inl [.int (nI 0), .null]) 2
        refine g_dup (pc := 244) dX9_path_244 rfl ?_
        refine g_iload_n (pc := 245) dX9_path_245 rfl rfl ?_
        refine g_aload (pc := 246) dX9_path_246 rfl ?_
        refine g_invIN (pc := 248) dX9_path_248 (ci_X14 (d + 5) _ h2.1 _ _ n5) meX14_init rfl rfl q1225 q1226 rfl rfl (Nat.le_of_ble_eq_true rfl) (fun κ z => by rw [z]; exact Nat.le_of_ble_eq_true rfl) (jk_n (fun v h6 hp6 fr6 => ?_)) jk_x
        obtain ⟨rfl, rfl⟩ := hp6
        rw [hSet_New]
        refine g_aret (pc := 251) dX9_path_251 rfl (Or.inl ⟨_, rfl⟩) (Or.inr ⟨_, rfl⟩) ?_
        have f24 : hFr (fun _ => False) h2 h4 := by
          refine hFr.fa f3 fa4 (fun q c z y => ?_)
          rw [z] at y
          exact absurd (hwf2 _ _ y) (Nat.lt_irrefl _)
        have f5 : hFr (fun _ => False) h4 (hNew h4 (14, .inl [.int (nI (u / 3)), .ref h2.1]) 2) := (hFr.rf h4).new hwf4
        refine fS _ _ ((f2.tr f24).tr f5) ⟨by simp only [hNew_1]; omega, by simp only [hNew_2]; omega⟩ hW ?_
        rw [hX]
        refine ⟨h2.1, F, hNew_s _ _ _, ?_, hu, by omega, fun j hj => ?_⟩
        · rw [← hxs]; exact (f5.2.2 _ _ ha4).1 (fun z => z)
        · obtain ⟨κ', y1, y2, y3⟩ := hns j hj
          exact ⟨xs.getD j 0, κ', hF j (by omega), y1.fr (f24.tr f5) (fun z => z) (fun z => z) (fun z => z), y2, y3⟩
      | succ r ih =>
        intro i F h4 hi ha4 hF fa4 e1 e2
        have f24 : hFr (fun _ => False) h2 h4 := by
          refine hFr.fa f3 fa4 (fun q c z y => ?_)
          rw [z] at y
          exact absurd (hwf2 _ _ y) (Nat.lt_irrefl _)
        have hAL4 : jAL Z h4 32 La 65 e cap xs := by
          refine ⟨k1, k2, k3, k4, fun x hx => (k5 x hx).fr f24, ⟨md, (f24.2.2 _ _ hLa).1 (fun z => z)⟩, ?_⟩
          obtain ⟨g, z | z⟩ := k7
          · exact ⟨g, Or.inl ⟨z.1, z.2.1, (f24.2.2 _ _ z.2.2).1 (fun z => z)⟩⟩
          · exact ⟨g, Or.inr ⟨z.1, (f24.2.2 _ _ z.2.1).1 (fun z => z), z.2.2⟩⟩
        have hLa4 := (f24.2.2 _ _ hLa).1 (fun z => z)
        obtain ⟨κ', y1, y2, y3⟩ := hns i (by omega)
        have y14 := y1.fr f24 (fun z => z) (fun z => z) (fun z => z)
        have ky := y14.cl
        obtain ⟨_, _, bw, κb, hs1, hz, hsw, _⟩ := y14
        refine g_iload (pc := 212) dX9_path_212 rfl ?_
        refine g_aload (pc := 214) dX9_path_214 rfl ?_
        refine g_alen (pc := 216) dX9_path_216 ha4 ?_
        refine g_icmp_geN (pc := 217) (tgt := 241) dX9_path_217 rfl (by omega) (by omega) (fun q_ => absurd q_ (by omega)) (fun _ => ?_)
        refine g_aload (pc := 220) dX9_path_220 rfl ?_
        refine g_iload (pc := 222) dX9_path_222 rfl ?_
        refine g_aload (pc := 224) dX9_path_224 rfl ?_
        refine g_iload (pc := 226) dX9_path_226 rfl ?_
        refine g_invV (pc := 228) dX9_path_228 hLa4 rfl (jc_lget (d + 5) i hAL4 (by omega)) meJ2_get q1239 q868 q869 rfl rfl (Nat.le_of_ble_eq_true rfl) (by first | exact jF | exact fun _ z => z | assumption | (intro κ z; simp_all)) (jk_e ?_) jk_x
        refine g_cast (pc := 231) (r := (RJ9, TJ9, 4)) dX9_path_231 hsw ky q1224 (Or.inl rfl) ?_
        refine g_aast (pc := 234) i dX9_path_234 ha4 rfl (by omega) rfl (by decide) (Nat.le_of_ble_eq_true rfl) hsw ky (Or.inl rfl) (by decide) ?_
        refine g_iincN (pc := 235) (k0 := 1) (ls' := [(1, _), (4, _), (6, _), (7, _)]) dX9_path_235 rfl (Nat.le_of_ble_eq_true rfl) rfl ?_
        refine g_goto (pc := 238) (tgt := 212) dX9_path_238 rfl ?_
        refine ih (i + 1) (upV F i (.ref (xs.getD i 0))) _ (by omega) (hSet_s _ _ _) (fun j hj => ?_) (fa4.tr (hFa.set ha4 rfl rfl)) e1 e2
        unfold upV
        by_cases z : j = i
        · rw [if_pos z, z]
        · rw [if_neg z]; exact hF j (by omega)
    exact g_drop [0, 2, 4, 5] rfl (loop xs.length 0 _ _ (by omega) n3 (fun j hj => absurd hj (Nat.not_lt_zero _)) (hFa.rf _) rfl rfl)
  -- the names one after another
  have loop2 : ∀ (r at0 u L' s κs La : Nat) (ns : List (List Nat)) (xs : List Nat) (e cap : Nat) (h2 : hP), L' + 1 ≤ r + at0 → upF (lF l) l.length l.length 0 = u → l.length = u + L' → noTh l u → jSt h2 κs s (sbL l u l.length) → kK κs → at0 ≤ L' + 1 → hFr (fun _ => False) h h2 → h.1 ≤ La → nwO Z h e → jAL Z h2 32 La 65 e cap xs → xs.length = ns.length → 2 * ns.length ≤ at0 → (∀ i, i < ns.length → ∃ κ', jSt h2 κ' (xs.getD i 0) (ns.getD i []) ∧ (κ' = 30 ∨ κ' = 930) ∧ ns.getD i [] ≠ []) → jRm h h2 (7 + 3 * at0) (80 + 150 * at0) →
      pInv l u at0 ns →
      hG Z X mX9_path (d + 8) kAll h KK 63 [(1, .int (nI (u / 3))), (3, .ref s), (4, .ref La), (5, .int (nI at0))] [] h2 := by
    intro r
    induction r with
    | zero =>
      intro at0 u L' s κs La ns xs e cap h2 hr hu hul hth hS hκs hat f2 hLa0 he0 hAL hxs h2n hns rm2 inv
      have hat0 : at0 = L' + 1 := by omega
      have kS := hS.cl
      have hS0 := hS
      obtain ⟨_, _, bw, κb, hs1, hz, hsw, _⟩ := hS0
      rcases inv with ⟨z, _⟩ | ⟨i1, i2, i3, i4, i5⟩
      · omega
      · rw [show u + at0 - 1 = l.length by omega] at i2 i4
        rw [dt_stop (k := l.length) (by rw [cA_ge (Nat.le_refl _)]; decide)] at i2
        rw [dn_stop (k := l.length) (by rw [cA_ge (Nat.le_refl _)]; decide), List.append_nil] at i4
        have rm21 := rm2.1
        have rm22 := rm2.2
        have hX : pathX (lF l) l.length = .inr (.inr (u / 3, ns)) := by
          unfold pathX
          rw [hu, if_neg i5, i4]
        refine g_iload (pc := 63) dX9_path_63 rfl ?_
        refine g_aload_n (pc := 65) dX9_path_65 rfl rfl ?_
        refine g_invV (pc := 66) dX9_path_66 hsw kS (jc_length (d + 6) hS) meJ9_length q1118 q301 q302 rfl rfl (Nat.le_of_ble_eq_true rfl) (by first | exact jF | exact fun _ z => z | assumption | (intro κ z; simp_all)) (jk_e ?_) jk_x
        rw [sbL_len, show l.length - u = L' by omega]
        refine g_icmp_gtN (pc := 69) (tgt := 199) dX9_path_69 rfl (by omega) (by omega) (fun _ => ?_) (fun q_ => absurd q_ (by omega))
        exact fin u s La _ ns xs e cap h2 (by omega) f2 hAL hxs (by omega) hns ⟨by omega, by omega⟩ i2 hX
    | succ r ih =>
      intro at0 u L' s κs La ns xs e cap h2 hr hu hul hth hS hκs hat f2 hLa0 he0 hAL hxs h2n hns rm2 inv
      by_cases hat0 : at0 = L' + 1
      · exact ih at0 u L' s κs La ns xs e cap h2 (by omega) hu hul hth hS hκs hat f2 hLa0 he0 hAL hxs h2n hns rm2 inv
      · have kS := hS.cl
        have hS0 := hS
        obtain ⟨_, hS128, bw, κb, hs1, hz, hsw, _⟩ := hS0
        have rm21 := rm2.1
        have rm22 := rm2.2
        have hRl : (sbL l u l.length).length = L' := by rw [sbL_len, hul]; exact Nat.add_sub_cancel_left _ _
        have hRg : ∀ i, i < L' → (sbL l u l.length).getD i 0 = lF l (u + i) := fun i hi => sbL_get (by omega)
        -- one name, up to dd
        have seg : ∀ (dd : Nat) (v6 : Int32), at0 ≤ dd → dd ≤ L' → dotE l (u + dd) → (∀ i, u + at0 ≤ i → i < u + dd → lF l i ≠ 46) → hG Z X mX9_path (d + 8) kAll h KK 97 [(1, .int (nI (u / 3))), (3, .ref s), (4, .ref La), (5, .int (nI at0)), (6, .int v6)] [.int (nI dd)] h2 := by
          intro dd v6 hd1 hd2 hd3 hd4
          have hend := hd3
          refine g_istore (pc := 97) (ls' := [(1, _), (3, _), (4, _), (5, _), (6, _), (7, _)]) dX9_path_97 (Nat.le_of_ble_eq_true rfl) rfl ?_
          refine g_aload_n (pc := 99) dX9_path_99 rfl rfl ?_
          refine g_iload (pc := 100) dX9_path_100 rfl ?_
          refine g_iload (pc := 102) dX9_path_102 rfl ?_
          refine g_invV (pc := 104) dX9_path_104 hsw kS (jc_substring2 (d + 3) 30 at0 dd hS (Or.inl rfl) hd1 (by omega) (by omega) (by omega) (by omega)) meJ9_substring_2 q1128 q1096 q1097 rfl rfl (Nat.le_of_ble_eq_true rfl) (by first | exact jF | exact fun _ z => z | assumption | (intro κ z; simp_all)) (jk_n (fun v h3 hp3 fr3 => ?_)) jk_x
          obtain ⟨sn, κn, rfl, jn, kn, rm3⟩ : ∃ sn κn, v = some (.ref sn) ∧ jSt h3 κn sn (sbL (sbL l u l.length) at0 dd) ∧ kK κn ∧ jRm h2 h3 2 (4 + dd) := by
            rcases hp3 with ⟨sn, κn, z1, z2, z3, z4⟩ | ⟨z1, z2, z3, z4⟩
            · rw [seg_len] at z4
              exact ⟨sn, κn, z1, z2, z3, ⟨z4.1, by have := z4.2; omega⟩⟩
            · subst z4
              refine ⟨s, κs, z3, ?_, hκs, ⟨by omega, by omega⟩⟩
              rw [z1, z2, sbL_all]
              exact hS
          generalize hnm : sbL (sbL l u l.length) at0 dd = nm at jn
          have hnl : nm.length + at0 = dd := by rw [← hnm, seg_len]; omega
          have rm31 := rm3.1
          have rm32 := rm3.2
          have f3 := f2.tr fr3
          have knc := jn.cl
          have jn0 := jn
          obtain ⟨_, jn128, bwn, κbn, hs1n, hzn, hswn, _⟩ := jn0
          have hAL3 : jAL Z h3 32 La 65 e cap xs := by
            obtain ⟨k1, k2, k3, k4, k5, ⟨md, k6⟩, k7⟩ := hAL
            refine ⟨k1, k2, k3, k4, fun x hx => (k5 x hx).fr fr3, ⟨md, (fr3.2.2 _ _ k6).1 (fun z => z)⟩, ?_⟩
            obtain ⟨g, z | z⟩ := k7
            · exact ⟨g, Or.inl ⟨z.1, z.2.1, (fr3.2.2 _ _ z.2.2).1 (fun z => z)⟩⟩
            · exact ⟨g, Or.inr ⟨z.1, (fr3.2.2 _ _ z.2.1).1 (fun z => z), z.2.2⟩⟩
          -- no name
          have bad : pathW (lF l) l.length ≠ some l.length → ∀ ls, hG Z X mX9_path (d + 8) kAll h KK 180 ls [] h3 := by
            intro hb ls
            refine g_null (pc := 180) dX9_path_180 ?_
            exact g_aret (pc := 181) dX9_path_181 rfl (Or.inl ⟨_, rfl⟩) (Or.inl rfl) (fN _ f3 ⟨by omega, by omega⟩ hb)
          -- a name
          have good : at0 + 1 ≤ dd → pNx l u dd ns nm → ∀ v9, hG Z X mX9_path (d + 8) kAll h KK 182 [(1, .int (nI (u / 3))), (3, .ref s), (4, .ref La), (5, .int (nI at0)), (6, .int v6), (7, .int (nI dd)), (8, .ref sn), (9, .int v9)] [] h3 := by
            intro hlen ⟨g1, g2, g3⟩ v9
            have hAL30 := hAL3
            obtain ⟨k1, k2, k3, k4, k5, ⟨md, k6⟩, k7⟩ := hAL30
            have hel : elK h3 sn := ⟨_, _, hswn, knc, q2286⟩
            refine g_aload (pc := 182) dX9_path_182 rfl ?_
            refine g_aload (pc := 184) dX9_path_184 rfl ?_
            refine g_invV (pc := 186) dX9_path_186 k6 rfl (jc_ladd (d + 1) sn hAL3 hel (by omega) (by omega) (by omega)) meJ2_add q1143 q632 q633 rfl rfl (Nat.le_of_ble_eq_true rfl) (fun κ z => by rcases z with z | z <;> rw [z] <;> exact Nat.le_of_ble_eq_true rfl) (jk_n (fun v h4 hp4 fr4 => ?_)) jk_x
            obtain ⟨rfl, ⟨e', cap', hAL4, he'⟩, fa4, rm4⟩ := hp4
            have rm41 := rm4.1
            have rm42 := rm4.2
            refine g_olds (fun _ ho4 => ?_)
            have f4 : hFr (fun _ => False) h h4 := fr_add f3 hwf0 fa4 hLa0 he0 ho0 ho4
            have hA : ∀ q c, (q = La ∨ q = e) → h3.2.2 q = some c → c.1 = 32 ∨ c.1 = 65 ∨ c.1 = 965 := by
              rintro q c (z | z) y
              · rw [z, k6] at y; cases y; exact Or.inl rfl
              · obtain ⟨g, w | w⟩ := k7
                · rw [z, w.2.2] at y; cases y; exact Or.inr (Or.inr rfl)
                · rw [z, w.2.1] at y; cases y; exact Or.inr (Or.inl rfl)
            refine g_pop (pc := 189) dX9_path_189 rfl ?_
            refine g_iload (pc := 190) dX9_path_190 rfl ?_
            refine g_iconst (pc := 192) (v := nI 1) dX9_path_192 rfl ?_
            first | refine g_iaddN (pc := 193) dX9_path_193 ?_ | refine g_iadd (pc := 193) dX9_path_193 ?_
            refine g_istore (pc := 194) (ls' := [(1, _), (3, _), (4, _), (5, _), (6, _), (7, _), (8, _), (9, _)]) dX9_path_194 (Nat.le_of_ble_eq_true rfl) rfl ?_
            refine g_goto (pc := 196) (tgt := 63) dX9_path_196 rfl ?_
            refine g_drop [0, 1, 2, 3] rfl ?_
            refine ih (dd + 1) u L' s κs La (ns ++ [nm]) (xs ++ [sn]) e' cap' h4 (by omega) hu hul hth (hS.fr fr3 (fun z => z) (fun z => z) (fun z => z) |>.fa fa4 hA) hκs (by omega) f4 hLa0 ?_ hAL4 (by rw [List.length_append, List.length_append, hxs]; rfl) (by rw [List.length_append]; simp only [List.length_cons, List.length_nil]; omega) (fun i hi => ?_) ⟨by omega, by omega⟩ (Or.inr ⟨by omega, by rw [show u + (dd + 1) - 1 = u + dd by omega]; exact g1, by rw [show u + (dd + 1) - 1 = u + dd by omega]; exact hend, by rw [show u + (dd + 1) - 1 = u + dd by omega]; exact g2, g3⟩)
            · rcases he' with z | z
              · rw [z]; exact he0
              · exact Or.inl (Nat.le_trans f3.1 z)
            · rw [List.length_append] at hi
              simp only [List.length_cons, List.length_nil] at hi
              by_cases z : i < ns.length
              · obtain ⟨κ', y1, y2, y3⟩ := hns i z
                have e1 : (xs ++ [sn]).getD i 0 = xs.getD i 0 := by rw [List.getD_eq_getElem?_getD, List.getElem?_append_left (by omega), ← List.getD_eq_getElem?_getD]
                have e2 : (ns ++ [nm]).getD i [] = ns.getD i [] := by rw [List.getD_eq_getElem?_getD, List.getElem?_append_left z, ← List.getD_eq_getElem?_getD]
                rw [e1, e2]
                exact ⟨κ', (y1.fr fr3 (fun z => z) (fun z => z) (fun z => z)).fa fa4 hA, y2, y3⟩
              · have hz : i = ns.length := by omega
                have e1 : (xs ++ [sn]).getD i 0 = sn := by rw [hz, ← hxs, List.getD_eq_getElem?_getD, List.getElem?_append_right (Nat.le_refl _), Nat.sub_self]; rfl
                have e2 : (ns ++ [nm]).getD i [] = nm := by rw [hz, List.getD_eq_getElem?_getD, List.getElem?_append_right (Nat.le_refl _), Nat.sub_self]; rfl
                rw [e1, e2]
                refine ⟨κn, jn.fa fa4 hA, kn, fun w => ?_⟩
                rw [w] at hnl
                simp at hnl
                omega
          -- what is known of it
          have first : at0 = 0 → (nmB nm = true ∧ nm ≠ [116, 104, 105, 115] → at0 + 1 ≤ dd ∧ pNx l u dd ns nm) ∧ (¬ (nmB nm = true ∧ nm ≠ [116, 104, 105, 115]) → pathW (lF l) l.length ≠ some l.length) := by
            intro z0
            subst z0
            rw [← hnm]
            have := p_first hu (by omega) (by omega) hend hth hd4 inv
            rw [Nat.zero_add]
            exact this
          have next : at0 ≠ 0 → ((nmB nm = true ∨ (nm.length = 1 ∧ isD (nm.getD 0 0) = true)) → at0 + 1 ≤ dd ∧ pNx l u dd ns nm) ∧ (¬ (nmB nm = true ∨ (nm.length = 1 ∧ isD (nm.getD 0 0) = true)) → pathW (lF l) l.length ≠ some l.length) := by
            intro z0
            rw [← hnm]
            exact p_next hd1 (by omega) (by omega) hend hd4 inv z0 (by omega)
          -- the digit is known
          have dig : ∀ dg : Bool, (dg = true ↔ nm.length = 1 ∧ isD (nm.getD 0 0) = true) → hG Z X mX9_path (d + 8) kAll h KK 145 [(1, .int (nI (u / 3))), (3, .ref s), (4, .ref La), (5, .int (nI at0)), (6, .int v6), (7, .int (nI dd)), (8, .ref sn)] [.int (nI dg.toNat)] h3 := by
            intro dg hdg
            refine g_istore (pc := 145) (ls' := [(1, _), (3, _), (4, _), (5, _), (6, _), (7, _), (8, _), (9, _)]) dX9_path_145 (Nat.le_of_ble_eq_true rfl) rfl ?_
            refine g_aload (pc := 147) dX9_path_147 rfl ?_
            refine g_invSN (pc := 149) dX9_path_149 (cs_isName (d + 3) jn (by omega)) meX1_isName q1237 q938 rfl rfl (Nat.le_of_ble_eq_true rfl) (by first | exact jF | exact fun _ z => z | assumption | (intro κ z; simp_all)) (jk_e ?_) jk_x
            by_cases hb : nmB nm = true
            · rw [hb]
              refine g_if_ne (pc := 152) (tgt := 165) dX9_path_152 rfl (fun _ => ?_) (fun q_ => absurd q_ (by decide))
              refine g_iload (pc := 165) dX9_path_165 rfl ?_
              by_cases z0 : at0 = 0
              · refine g_if_neN (pc := 167) (tgt := 182) (a := at0) dX9_path_167 rfl (by omega) (fun q_ => absurd q_ (by omega)) (fun _ => ?_)
                refine g_aload (pc := 170) dX9_path_170 rfl ?_
                refine g_ldcK (pc := 172) dX9_path_172 ksX9_250 (fun hk => ?_)
                refine g_invV (pc := 174) dX9_path_174 hswn knc (jc_equals (d + 6) 930 _ _ jn hk) meJ9_equals q1148 q965 q966 rfl rfl (Nat.le_of_ble_eq_true rfl) (by first | exact jF | exact fun _ z => z | assumption | (intro κ z; simp_all)) (jk_e ?_) jk_x
                by_cases hth2 : nm = [116, 104, 105, 115]
                · rw [decide_eq_true hth2]
                  refine g_if_eq (pc := 177) (tgt := 182) dX9_path_177 rfl (fun q_ => absurd q_ (by decide)) (fun _ => ?_)
                  exact bad ((first z0).2 (fun z => z.2 hth2)) _
                · rw [decide_eq_false hth2]
                  refine g_if_eq (pc := 177) (tgt := 182) dX9_path_177 rfl (fun _ => ?_) (fun q_ => absurd rfl q_)
                  obtain ⟨w1, w2⟩ := (first z0).1 ⟨hb, hth2⟩
                  exact good w1 w2 _
              · refine g_if_neN (pc := 167) (tgt := 182) (a := at0) dX9_path_167 rfl (by omega) (fun _ => ?_) (fun q_ => absurd q_ (by omega))
                obtain ⟨w1, w2⟩ := (next z0).1 (Or.inl hb)
                exact good w1 w2 _
            · rw [Bool.not_eq_true] at hb
              rw [hb]
              refine g_if_ne (pc := 152) (tgt := 165) dX9_path_152 rfl (fun q_ => absurd rfl q_) (fun _ => ?_)
              refine g_iload (pc := 155) dX9_path_155 rfl ?_
              by_cases z0 : at0 = 0
              · refine g_if_eqN (pc := 157) (tgt := 180) (a := at0) dX9_path_157 rfl (by omega) (fun _ => ?_) (fun q_ => absurd q_ (by omega))
                exact bad ((first z0).2 (fun z => by rw [hb] at z; cases z.1)) _
              · refine g_if_eqN (pc := 157) (tgt := 180) (a := at0) dX9_path_157 rfl (by omega) (fun q_ => absurd q_ (by omega)) (fun _ => ?_)
                refine g_iload (pc := 160) dX9_path_160 rfl ?_
                cases hdv : dg with
                | false =>
                  refine g_if_eq (pc := 162) (tgt := 180) dX9_path_162 rfl (fun _ => ?_) (fun q_ => absurd rfl q_)
                  exact bad ((next z0).2 (fun z => by rcases z with z | z; (rw [hb] at z; cases z); (rw [hdg.mpr z] at hdv; cases hdv))) _
                | true =>
                  refine g_if_eq (pc := 162) (tgt := 180) dX9_path_162 rfl (fun q_ => absurd q_ (by decide)) (fun _ => ?_)
                  refine g_iload (pc := 165) dX9_path_165 rfl ?_
                  refine g_if_neN (pc := 167) (tgt := 182) (a := at0) dX9_path_167 rfl (by omega) (fun _ => ?_) (fun q_ => absurd q_ (by omega))
                  obtain ⟨w1, w2⟩ := (next z0).1 (Or.inr (hdg.mp hdv))
                  exact good w1 w2 _
          refine g_astore (pc := 107) (ls' := [(1, _), (3, _), (4, _), (5, _), (6, _), (7, _), (8, _)]) dX9_path_107 (Nat.le_of_ble_eq_true rfl) rfl ?_
          refine g_aload (pc := 109) dX9_path_109 rfl ?_
          refine g_invV (pc := 111) dX9_path_111 hswn knc (jc_length (d + 6) jn) meJ9_length q1118 q301 q302 rfl rfl (Nat.le_of_ble_eq_true rfl) (by first | exact jF | exact fun _ z => z | assumption | (intro κ z; simp_all)) (jk_e ?_) jk_x
          refine g_iconst (pc := 114) (v := nI 1) dX9_path_114 rfl ?_
          refine g_icmp_neN (pc := 115) (tgt := 144) dX9_path_115 rfl (by omega) (by omega) (fun c115 => ?_) (fun c115 => ?_)
          · refine g_iconst (pc := 144) (v := nI 0) dX9_path_144 rfl ?_
            exact dig false ⟨fun z => (by cases z), fun z => absurd z.1 c115⟩
          · have hc := jn128 _ (getD_mem (d := 0) (show 0 < nm.length by omega))
            refine g_aload (pc := 118) dX9_path_118 rfl ?_
            refine g_iconst (pc := 120) (v := nI 0) dX9_path_120 rfl ?_
            refine g_invV (pc := 121) dX9_path_121 hswn knc (jc_charAt (d + 4) 0 jn (by omega)) meJ9_charAt q1164 q942 q943 rfl rfl (Nat.le_of_ble_eq_true rfl) (by first | exact jF | exact fun _ z => z | assumption | (intro κ z; simp_all)) (jk_e ?_) jk_x
            refine g_bipush (pc := 124) (v := nI 48) dX9_path_124 rfl ?_
            refine g_icmp_ltN (pc := 126) (tgt := 144) dX9_path_126 rfl (by omega) (by omega) (fun c126 => ?_) (fun c126 => ?_)
            · refine g_iconst (pc := 144) (v := nI 0) dX9_path_144 rfl ?_
              exact dig false ⟨fun z => (by cases z), fun z => by have := isD_iff.mp z.2; omega⟩
            · refine g_aload (pc := 129) dX9_path_129 rfl ?_
              refine g_iconst (pc := 131) (v := nI 0) dX9_path_131 rfl ?_
              refine g_invV (pc := 132) dX9_path_132 hswn knc (jc_charAt (d + 4) 0 jn (by omega)) meJ9_charAt q1164 q942 q943 rfl rfl (Nat.le_of_ble_eq_true rfl) (by first | exact jF | exact fun _ z => z | assumption | (intro κ z; simp_all)) (jk_e ?_) jk_x
              refine g_bipush (pc := 135) (v := nI 57) dX9_path_135 rfl ?_
              refine g_icmp_gtN (pc := 137) (tgt := 144) dX9_path_137 rfl (by omega) (by omega) (fun c137 => ?_) (fun c137 => ?_)
              · refine g_iconst (pc := 144) (v := nI 0) dX9_path_144 rfl ?_
                exact dig false ⟨fun z => (by cases z), fun z => by have := isD_iff.mp z.2; omega⟩
              · refine g_iconst (pc := 140) (v := nI 1) dX9_path_140 rfl ?_
                refine g_goto (pc := 141) (tgt := 145) dX9_path_141 rfl ?_
                exact dig true ⟨fun _ => ⟨c115, isD_iff.mpr (by omega)⟩, fun _ => rfl⟩
        refine g_iload (pc := 63) dX9_path_63 rfl ?_
        refine g_aload_n (pc := 65) dX9_path_65 rfl rfl ?_
        refine g_invV (pc := 66) dX9_path_66 hsw kS (jc_length (d + 6) hS) meJ9_length q1118 q301 q302 rfl rfl (Nat.le_of_ble_eq_true rfl) (by first | exact jF | exact fun _ z => z | assumption | (intro κ z; simp_all)) (jk_e ?_) jk_x
        rw [hRl]
        refine g_icmp_gtN (pc := 69) (tgt := 199) dX9_path_69 rfl (by omega) (by omega) (fun q_ => absurd q_ (by omega)) (fun _ => ?_)
        refine g_aload_n (pc := 72) dX9_path_72 rfl rfl ?_
        refine g_ldcwK (pc := 73) dX9_path_73 ksX9_257 (fun hk => ?_)
        refine g_iload (pc := 76) dX9_path_76 rfl ?_
        refine g_invV (pc := 78) dX9_path_78 hsw kS (jc_indexOf (d + 4) 930 _ at0 _ hS hk (by decide) (by decide) (by omega) (by omega) (by decide)) meJ9_indexOf q1051 q1052 q1053 rfl rfl (Nat.le_of_ble_eq_true rfl) (by first | exact jF | exact fun _ z => z | assumption | (intro κ z; simp_all)) (jk_e ?_) jk_x
        cases hix : ixO (sbL l u l.length) [46] at0 with
        | none =>
          have hn := ixO_inv0 hix
          rw [hRl] at hn
          refine g_istore (pc := 81) (ls' := [(1, _), (3, _), (4, _), (5, _), (6, _)]) dX9_path_81 (Nat.le_of_ble_eq_true rfl) rfl ?_
          refine g_iload (pc := 83) dX9_path_83 rfl ?_
          refine g_if_ge (pc := 85) (tgt := 95) dX9_path_85 rfl (fun z => absurd z (by decide)) (fun _ => ?_)
          refine g_aload_n (pc := 88) dX9_path_88 rfl rfl ?_
          refine g_invV (pc := 89) dX9_path_89 hsw kS (jc_length (d + 6) hS) meJ9_length q1118 q301 q302 rfl rfl (Nat.le_of_ble_eq_true rfl) (by first | exact jF | exact fun _ z => z | assumption | (intro κ z; simp_all)) (jk_e ?_) jk_x
          rw [hRl]
          refine g_goto (pc := 92) (tgt := 97) dX9_path_92 rfl ?_
          refine seg L' _ (by omega) (Nat.le_refl _) (Or.inl hul.symm) (fun i w1 w2 => ?_)
          have := hn (i - u) (by omega) (by omega)
          rw [st1_f (by omega), hRg _ (by omega), show u + (i - u) = i by omega] at this
          exact this
        | some dd =>
          obtain ⟨j1, j2, j3, j4⟩ := ixO_inv hix
          rw [hRl] at j2 j3 j4
          rw [st1_t j2, hRg _ j2] at j3
          show hG Z X mX9_path (d + 8) kAll h KK 81 _ [.int (nI dd)] h2
          refine g_istore (pc := 81) (ls' := [(1, _), (3, _), (4, _), (5, _), (6, _)]) dX9_path_81 (Nat.le_of_ble_eq_true rfl) rfl ?_
          refine g_iload (pc := 83) dX9_path_83 rfl ?_
          refine g_if_geN (pc := 85) (tgt := 95) (a := dd) dX9_path_85 rfl (by omega) ?_
          refine g_iload (pc := 95) dX9_path_95 rfl ?_
          refine seg dd _ j1 (by omega) (Or.inr j3) (fun i w1 w2 => ?_)
          have := j4 (i - u) (by omega) (by omega)
          rw [st1_f (by omega), hRg _ (by omega), show u + (i - u) = i by omega] at this
          exact this
  have kS0 := hs.cl
  have hs0 := hs
  obtain ⟨_, hc128, bw, κb, hs1, hz, hsw, _⟩ := hs0
  -- behind the last ../
  have rest : ∀ c : Nat, upF (lF l) l.length l.length 0 = 3 * c → 3 * c ≤ l.length → hG Z X mX9_path (d + 8) kAll h KK 23 [(0, .ref a), (1, .int (nI c)), (2, .int (nI (3 * c)))] [] h := by
    intro c hu hul
    refine g_aload_n (pc := 23) dX9_path_23 rfl rfl ?_
    refine g_iload_n (pc := 24) dX9_path_24 rfl rfl ?_
    refine g_invV (pc := 25) dX9_path_25 hsw kS0 (jc_substring (d + 2) 30 (3 * c) hs (Or.inl rfl) hul (by omega) (by omega) (by omega)) meJ9_substring q1091 q1092 q1093 rfl rfl (Nat.le_of_ble_eq_true rfl) (by first | exact jF | exact fun _ z => z | assumption | (intro κ z; simp_all)) (jk_n (fun v h1 hp1 fr1 => ?_)) jk_x
    obtain ⟨s, κs, rfl, hS, hκs, rm1⟩ : ∃ s κs, v = some (.ref s) ∧ jSt h1 κs s (sbL l (3 * c) l.length) ∧ (κs = 30 ∨ κs = 930) ∧ jRm h h1 2 (4 + l.length) := by
      rcases hp1 with ⟨sn, κn, z1, z2, z3, z4⟩ | ⟨z1, z2, z3⟩
      · rw [sbL_len] at z4
        exact ⟨sn, κn, z1, z2, z3, ⟨z4.1, by have := z4.2; omega⟩⟩
      · subst z3
        refine ⟨a, κ, z2, ?_, hκ, ⟨by omega, by omega⟩⟩
        rw [z1, sbL_all]
        exact hs
    have rm11 := rm1.1
    have rm12 := rm1.2
    have kS := hS.cl
    have hS0 := hS
    obtain ⟨_, _, bw', κb', hs1', hz', hsw', _⟩ := hS0
    have e3 : 3 * c / 3 = c := by omega
    refine g_astore_n (pc := 28) (ls' := [(0, _), (1, _), (2, _), (3, _)]) dX9_path_28 rfl (Nat.le_of_ble_eq_true rfl) rfl ?_
    refine g_aload_n (pc := 29) dX9_path_29 rfl rfl ?_
    refine g_ldcK (pc := 30) dX9_path_30 ksX9_250 (fun hk => ?_)
    refine g_invV (pc := 32) dX9_path_32 hsw' kS (jc_equals (d + 6) 930 _ _ hS hk) meJ9_equals q1148 q965 q966 rfl rfl (Nat.le_of_ble_eq_true rfl) (by first | exact jF | exact fun _ z => z | assumption | (intro κ z; simp_all)) (jk_e ?_) jk_x
    have hth := seg_this (l := l) (u := 3 * c) (b := l.length - 3 * c) (Nat.le_refl _)
    have hRR : sbL (sbL l (3 * c) l.length) 0 (l.length - 3 * c) = sbL l (3 * c) l.length := by
      have := sbL_all (sbL l (3 * c) l.length)
      rw [sbL_len] at this
      exact this
    rw [hRR] at hth
    by_cases hz : sbL l (3 * c) l.length = [116, 104, 105, 115]
    · obtain ⟨t1, t2⟩ := hth.mp hz
      rw [decide_eq_true hz]
      refine g_if_eq (pc := 35) (tgt := 51) dX9_path_35 rfl (fun q_ => absurd q_ (by decide)) (fun _ => ?_)
      refine g_new (pc := 38) (r := (RX14, TX14, 2)) (fs := [.int (nI 0), .null]) 14 dX9_path_38 rfl (by decide) q1222 q1223 q111 rfl (by first | omega | (simp only [hNew_1, hNew_2, hSet_1, hSet_2]; omega)) (by first | omega | (simp only [hNew_1, hNew_2, hSet_1, hSet_2]; omega)) (fun hwf => ?_)
      have hwf1 := hwf
      have f2 : hFr (fun _ => False) h1 (hNew h1 (14, .inl [.int (nI 0), .null]) 2) := (hFr.rf h1).new hwf
      have n2 := hNew_s h1 (14, .inl [.int (nI 0), .null]) 2
      refine g_dup (pc := 41) dX9_path_41 rfl ?_
      refine g_iload_n (pc := 42) dX9_path_42 rfl rfl ?_
      refine g_iconst (pc := 43) (v := nI 0) dX9_path_43 rfl ?_
      refine g_anew (pc := 44) (C := "java/lang/String") 169 0 dX9_path_44 rfl (by decide) rfl (by omega) q1224 q828 (by simp only [hNew_1]; omega) (by simp only [hNew_2]; omega) (fun hwf => ?_)
      have f3 : hFr (fun _ => False) (hNew h1 (14, .inl [.int (nI 0), .null]) 2) (hNew (hNew h1 (14, .inl [.int (nI 0), .null]) 2) (169, .inr (0, fun _ => .null)) 0) := (hFr.rf _).new hwf
      have n23 := (f3.2.2 _ _ n2).1 (fun z => z)
      have n33 := hNew_s (hNew h1 (14, .inl [.int (nI 0), .null]) 2) (169, .inr (0, fun _ => .null)) 0
      refine g_invIN (pc := 47) dX9_path_47 (ci_X14 (d + 5) _ _ _ _ n23) meX14_init rfl rfl q1225 q1226 rfl rfl (Nat.le_of_ble_eq_true rfl) (fun κ z => by rw [z]; exact Nat.le_of_ble_eq_true rfl) (jk_n (fun v h4 hp4 fr4 => ?_)) jk_x
      obtain ⟨rfl, rfl⟩ := hp4
      refine g_aret (pc := 50) dX9_path_50 rfl (Or.inl ⟨_, rfl⟩) (Or.inr ⟨_, rfl⟩) ?_
      have hne : (hNew h1 (14, .inl [.int (nI 0), .null]) 2).1 ≠ h1.1 := by simp only [hNew_1]; omega
      have hl4 : lts (lF l) l.length (3 * c) = 4 := by
        refine lts_eq (fun i hi => ?_) (by omega) (by rw [cA_ge (by omega)]; rfl)
        have := (stB_iff (by simp; omega)).mp t2 i (by simpa using hi)
        rw [this]
        rcases (show i = 0 ∨ i = 1 ∨ i = 2 ∨ i = 3 by omega) with y | y | y | y <;> rw [y] <;> rfl
      have hW : pathW (lF l) l.length = some l.length := by
        unfold pathW
        rw [hu, hl4, if_neg (by omega), if_pos ⟨rfl, t2⟩]
        congr 1
        omega
      have hX : pathX (lF l) l.length = .inr (.inr (c, [])) := by
        unfold pathX
        rw [hu, hl4, if_pos ⟨rfl, t2⟩, e3]
      refine fS _ _ (((fr1.tr f2).tr f3).setN hwf0 fr1.1) ⟨by simp only [hSet_1, hNew_1]; omega, by simp only [hSet_2, hNew_2]; omega⟩ hW ?_
      rw [hX]
      exact ⟨_, _, hSet_s _ _ _, by rw [hSet_n hne]; exact n33, by omega, by simp, fun i hi => absurd hi (Nat.not_lt_zero _)⟩
    · have hth2 : ¬ (l.length = 3 * c + 4 ∧ stB (lF l) l.length (3 * c) [116, 104, 105, 115] = true) := fun z => hz (hth.mpr ⟨by omega, z.2⟩)
      rw [decide_eq_false hz]
      refine g_if_eq (pc := 35) (tgt := 51) dX9_path_35 rfl (fun _ => ?_) (fun q_ => absurd rfl q_)
      refine g_new (pc := 51) (r := (RJ2, TJ2, 3)) (fs := [.int (nI 0), .null, .int (nI 0)]) 32 dX9_path_51 rfl (by decide) q1042 q129 q75 rfl (by first | omega | (simp only [hNew_1, hNew_2, hSet_1, hSet_2]; omega)) (by first | omega | (simp only [hNew_1, hNew_2, hSet_1, hSet_2]; omega)) (fun hwf => ?_)
      have hwf1 := hwf
      have f2 : ∀ cc, hFr (fun _ => False) h1 (hNew h1 cc 3) := fun cc => (hFr.rf h1).new hwf
      have n2 := hNew_s h1 (32, .inl [.int (nI 0), .null, .int (nI 0)]) 3
      refine g_dup (pc := 54) dX9_path_54 rfl ?_
      refine g_invI (pc := 55) dX9_path_55 (jc_listInit0 (d + 4) _ _ _ n2 rfl (by decide)) meJ2_init_2 rfl rfl q1043 q1044 rfl rfl (Nat.le_of_ble_eq_true rfl) (fun κ z => by rw [z]; exact Nat.le_of_ble_eq_true rfl) (jk_n (fun v h4 hp4 fr4 => ?_)) jk_x
      obtain ⟨rfl, e, he, ⟨fe, hfe⟩, rfl⟩ := hp4
      rw [hSet_New]
      obtain ⟨b, g, w1, w2, w3⟩ := st_defcap.2 Z hZ
      have hbe : b = e := by
        have := w1.symm.trans he
        cases this
        rfl
      subst hbe
      have hwe : b ≠ h1.1 := Nat.ne_of_lt (hwf1 b _ ((fr1.2.2 b _ (ho0 b _ w2)).1 (fun z => z)))
      have hfe1 : (hNew h1 (32, .inl [.int (nI 0), .ref b, .int (nI 0)]) 3).2.2 b = some (965, .inr (0, fe)) := by
        rw [hNew_n hwe]
        rw [hNew_n hwe] at hfe
        exact hfe
      refine g_astore (pc := 58) (ls' := [(0, _), (1, _), (2, _), (3, _), (4, _)]) dX9_path_58 (Nat.le_of_ble_eq_true rfl) rfl ?_
      refine g_iconst (pc := 60) (v := nI 0) dX9_path_60 rfl ?_
      refine g_istore (pc := 61) (ls' := [(0, _), (1, _), (2, _), (3, _), (4, _), (5, _)]) dX9_path_61 (Nat.le_of_ble_eq_true rfl) rfl ?_
      have := loop2 (l.length + 1) 0 (3 * c) (l.length - 3 * c) s κs h1.1 [] [] b 0 (hNew h1 (32, .inl [.int (nI 0), .ref b, .int (nI 0)]) 3) (by omega) hu (by omega) hth2 (hS.fr (f2 _) (fun z => z) (fun z => z) (fun z => z)) hκs (by omega) (fr1.tr (f2 _)) fr1.1 (Or.inr ⟨_, w2⟩) ⟨by decide, by decide, by omega, by simp, fun x hx => (by cases hx), ⟨_, hNew_s _ _ _⟩, ⟨fe, Or.inl ⟨rfl, he, hfe1⟩⟩⟩ rfl (by simp) (fun i hi => absurd hi (Nat.not_lt_zero _)) ⟨by simp only [hNew_1]; omega, by simp only [hNew_2]; omega⟩ (Or.inl ⟨rfl, rfl⟩)
      rw [e3] at this
      exact g_drop [1, 3, 4, 5] rfl this
  -- the ../ at the beginning
  have loop1 : ∀ (n c : Nat), upF (lF l) l.length l.length 0 = upF (lF l) l.length n (3 * c) → l.length - 3 * c ≤ n → 3 * c ≤ l.length → hG Z X mX9_path (d + 8) kAll h KK 4 [(0, .ref a), (1, .int (nI c)), (2, .int (nI (3 * c)))] [] h := by
    intro n
    induction n with
    | zero =>
      intro c hu hn hc
      have hst : stB (lF l) l.length (3 * c) [46, 46, 47] = false := by
        cases hb : stB (lF l) l.length (3 * c) [46, 46, 47] with
        | false => rfl
        | true => have := stB_len (by simp) (by simp) hb; simp at this; omega
      refine g_aload_n (pc := 4) dX9_path_4 rfl rfl ?_
      refine g_ldcK (pc := 5) dX9_path_5 ksX9_248 (fun hk => ?_)
      refine g_iload_n (pc := 7) dX9_path_7 rfl rfl ?_
      refine g_invSN (pc := 8) dX9_path_8 (cs_starts (d + 3) 930 _ (3 * c) _ hs hk (by decide) (by decide) (by omega) (by decide) (by omega)) meX1_starts q1120 q1121 rfl rfl (Nat.le_of_ble_eq_true rfl) (by first | exact jF | exact fun _ z => z | assumption | (intro κ z; simp_all)) (jk_e ?_) jk_x
      rw [hst]
      refine g_if_eq (pc := 11) (tgt := 23) dX9_path_11 rfl (fun _ => ?_) (fun q_ => absurd rfl q_)
      exact rest c hu hc
    | succ n ih =>
      intro c hu hn hc
      refine g_aload_n (pc := 4) dX9_path_4 rfl rfl ?_
      refine g_ldcK (pc := 5) dX9_path_5 ksX9_248 (fun hk => ?_)
      refine g_iload_n (pc := 7) dX9_path_7 rfl rfl ?_
      refine g_invSN (pc := 8) dX9_path_8 (cs_starts (d + 3) 930 _ (3 * c) _ hs hk (by decide) (by decide) (by omega) (by decide) (by omega)) meX1_starts q1120 q1121 rfl rfl (Nat.le_of_ble_eq_true rfl) (by first | exact jF | exact fun _ z => z | assumption | (intro κ z; simp_all)) (jk_e ?_) jk_x
      cases hst : stB (lF l) l.length (3 * c) [46, 46, 47] with
      | false =>
        refine g_if_eq (pc := 11) (tgt := 23) dX9_path_11 rfl (fun _ => ?_) (fun q_ => absurd rfl q_)
        refine rest c ?_ hc
        rw [hu]
        unfold upF
        rw [hst]
        rfl
      | true =>
        have hlen := stB_len (by simp) (by simp) hst
        simp at hlen
        refine g_if_eq (pc := 11) (tgt := 23) dX9_path_11 rfl (fun q_ => absurd q_ (by decide)) (fun _ => ?_)
        refine g_iincN (pc := 14) (k0 := 1) (ls' := [(0, _), (1, _), (2, _)]) dX9_path_14 rfl (Nat.le_of_ble_eq_true rfl) rfl ?_
        refine g_iincN (pc := 17) (k0 := 3) (ls' := [(0, _), (1, _), (2, _)]) dX9_path_17 rfl (Nat.le_of_ble_eq_true rfl) rfl ?_
        refine g_goto (pc := 20) (tgt := 4) dX9_path_20 rfl ?_
        have := ih (c + 1) (by rw [hu, show 3 * (c + 1) = 3 * c + 3 by omega]; show upF (lF l) l.length (n + 1) (3 * c) = _; rw [show upF (lF l) l.length (n + 1) (3 * c) = if stB (lF l) l.length (3 * c) [46, 46, 47] = true then upF (lF l) l.length n (3 * c + 3) else 3 * c from rfl, if_pos hst]) (by omega) (by omega)
        rw [show 3 * (c + 1) = 3 * c + 3 by omega] at this
        exact this
  refine g_iconst (pc := 0) (v := nI 0) dX9_path_0 rfl ?_
  refine g_istore_n (pc := 1) (ls' := [(0, _), (1, _)]) dX9_path_1 rfl (Nat.le_of_ble_eq_true rfl) rfl ?_
  refine g_iconst (pc := 2) (v := nI 0) dX9_path_2 rfl ?_
  refine g_istore_n (pc := 3) (ls' := [(0, _), (1, _), (2, _)]) dX9_path_3 rfl (Nat.le_of_ble_eq_true rfl) rfl ?_
  exact loop1 l.length 0 rfl (by omega) (by omega)
end PB
