/-! THE CLAIM out of the law's body (turned from the kit's skeleton) -/
set_option maxRecDepth 100000
theorem h00_R (Z : hE) : hR Z (h00 Z) Z.2.1.heap := by
  refine ⟨rfl, Nat.le_refl _, fun _ _ => rfl, fun a c hc => ?_, Nat.le_add_right _ _, Nat.zero_le _, fun _ _ h => h⟩
  obtain ⟨h1, h2, cell, h3, -, h5⟩ := hOld_spec hc
  exact ⟨Or.inl h2, cell, h3, h5⟩
def lw_P (b : Addr) (xs : List Int32) (args : Array Value) (s : State) : Prop := args = #[.ref b] ∧ s.IntsAt b xs ∧ xs.length ≤ 192 ∧ (Jvm.Cond.and given_1 narrow_1).before args s = true
def lw_Q (_ : Array Value) (s : State) (o : Outcome) (t : State) : Prop := o = .returned (some (.int 1)) ∧ Framed s o t [] 603072 7166058
theorem hInst : ∀ k r, hCl k = some r → ∃ n, Cond.instantiable r.1 n ∈ lw_all := by
  intro k r h
  unfold hCl at h
  split at h
  · cases h; exact ⟨8, q121⟩
  · cases h; exact ⟨1, q483⟩
  · cases h; exact ⟨48, q1794⟩
  · cases h; exact ⟨2, q611⟩
  · cases h; exact ⟨3, q702⟩
  · cases h; exact ⟨3, q792⟩
  · cases h; exact ⟨4, q822⟩
  · cases h; exact ⟨7, q1010⟩
  · cases h; exact ⟨1, q1131⟩
  · cases h; exact ⟨2, q1157⟩
  · cases h; exact ⟨1, q1172⟩
  · cases h; exact ⟨1, q1201⟩
  · cases h; exact ⟨2, q1223⟩
  · cases h; exact ⟨3, q1307⟩
  · cases h; exact ⟨0, q1339⟩
  · cases h; exact ⟨4, q1359⟩
  · cases h; exact ⟨1, q1383⟩
  · cases h; exact ⟨4, q1419⟩
  · cases h; exact ⟨5, q1444⟩
  · cases h; exact ⟨3, q1638⟩
  · cases h; exact ⟨4, q373⟩
  · cases h; exact ⟨4, q190⟩
  · cases h; exact ⟨3, q129⟩
  · cases h; exact ⟨6, q145⟩
  · cases h; exact ⟨6, q567⟩
  · cases h; exact ⟨6, q995⟩
  · cases h; exact ⟨6, q853⟩
  · cases h; exact ⟨6, q1396⟩
  · cases h
theorem env_of {s : State} {b : Nat} {l : Launch} (hl : l.stackTraces = false) (hts : ∀ w ∈ lw_tbl, w.before #[Value.ref b] s = true) (hg : (Jvm.Cond.and given_1 narrow_1).before #[Value.ref b] s = true) : ∃ Z : hE, hEnv Z ∧ Z.1 = l ∧ Z.2.1 = s ∧ Z.2.2.2.2 = b := by
  have key : ∀ k : Nat, ∃ q : ClassId × (Nat → Nat), ∀ r, hCl k = some r → u_Kn s r.1 r.2.1 r.2.2 q.1 q.2 := by
    intro k
    cases hc : hCl k with
    | none => exact ⟨(0, fun _ => 0), fun r h => nomatch h⟩
    | some r =>
      obtain ⟨n, hn⟩ := hInst k r hc
      obtain ⟨cC, iS, h⟩ := u_known (C := r.1) (T := r.2.1) (N := r.2.2) (n := n) hts (fun w h => lw_all_tbl (hIn k r hc w h)) (hts _ (lw_all_tbl hn))
      exact ⟨(cC, iS), fun r' e => by cases e; exact h⟩
  obtain ⟨q, hq⟩ := Classical.axiomOfChoice key
  exact ⟨(l, s, fun k => (q k).1, fun k => (q k).2, b), ⟨hts, fun k r h => hq k r h, hg, hl⟩, rfl, rfl, rfl⟩
set_option maxHeartbeats 4000000 in
theorem lw_walk (l : Launch) (hflags : l.flags = flags0) (b : Addr) (xs : List Int32) : MetFree l x (headSpec (Jvm.Cond.code x code maxLocals ret :: tables_1) room_1) (lw_P b xs) (fun _ _ _ _ _ => True) lw_Q := by
  have hl : l.stackTraces = false := by
    simp [Launch.stackTraces, hflags, flags0]
  refine MetFree.of_bodyS (code := code) (maxLocals := maxLocals) (ret := ret) (by decide) ?_ ?_
  · intro args s m h hn
    obtain ⟨meth, c, h1, h2, h3, h4, h5, h6, -, -⟩ := Cond.code_spec hn (atoms_spec (ws := Jvm.Cond.code x code maxLocals ret :: tables_1) h _ List.mem_cons_self)
    exact ⟨meth, c, h1, h2, h3, h4, h5, h6⟩
  · intro p e s m args below meth c s₁ B hml0 hP _
    obtain ⟨rfl, hx, hbd, hgv⟩ := hP
    have hts0 : ∀ c ∈ (Jvm.Cond.code x code maxLocals ret :: tables_1), c.before #[Value.ref b] s = true := atoms_spec (ws := Jvm.Cond.code x code maxLocals ret :: tables_1) B.pre
    have hts : ∀ w ∈ lw_tbl, w.before #[Value.ref b] s = true := k2_hts_sels lw_privs (fun w hw => hts0 w (List.mem_cons_of_mem _ hw)) lw_privs_ok
    have hml : c.maxLocals = 7 := B.maxLocals_eq (hts0 _ List.mem_cons_self)
    obtain ⟨Z, hZ, e1, e2, e3⟩ := env_of hl hts hgv
    subst e1; subst e2; subst e3
    have htab : c.exceptionTable.toList = [] := by
      obtain ⟨meth9, c9, h1, h2, -, -, -, -, h7, -⟩ := Cond.code_spec B.named (hts0 _ List.mem_cons_self)
      cases Option.some.inj (h1.symm.trans B.method)
      cases Option.some.inj (h2.symm.trans (Stand.of_body B).code)
      rw [Array.isEmpty_iff.mp h7]
    have hOK : hOK Z (p, e, Z.2.1, m, #[Value.ref Z.2.2.2.2], below, meth, c) mL_law 2048 (h00 Z) :=
      ⟨hZ, B.exec, B.bytes, hml, findClass_of_methodNamed B.named, State.WarmedH.refl _, h00_R Z, B.notSynchronized, B.returns, htab, (name_of_methodNamed B.named B.method).1⟩
    have X₀ : Stand p Z.1 e room_1 Z.2.1 m #[Value.ref Z.2.2.2.2] below meth c s₁ [] 0 0 := Stand.of_body B
    have hh0 : s₁.heap = Z.2.1.heap := by rw [B.state]; rfl
    have hrm : hRm Z 2048 (h00 Z) = room_1 := by
      show ({ frames := 2048, cells := Z.2.1.heap.size + 603072 - Z.2.1.heap.size, slots := 7166058 - 0, locals := 46 * 2048 + 192 } : Room) = room_1
      rw [Nat.add_sub_cancel_left]
      rfl
    have hlv := lv_entry [.ref Z.2.2.2.2] (n := 7) (Nat.le_of_ble_eq_true rfl)
    have hW : W p Z.1 e (hRm Z 2048 (h00 Z)) Z.2.1 m #[Value.ref Z.2.2.2.2] below meth c Z.2.1.heap [] (Z.2.1.heap.size - Z.2.1.heap.size) (hSum Z.2.1.heap - hSum Z.2.1.heap) (vx_MQ below (hQc Z (fun κ => κ < 900) (h00 Z) (fun r _ => r = .inl (some (.int 1)))) (hXC Z (fun κ => κ < 900) (h00 Z) (fun r _ => r = .inl (some (.int 1)))) #[Value.ref Z.2.2.2.2] Z.2.1 (hLC Z - (h00 Z).1) (hLS - (h00 Z).2.1) (fun q => Z.2.1.heap.size ≤ q)) (F0 m 0 _ []) := law_body Z hZ xs ⟨hx, hbd⟩ (p, e, Z.2.1, m, #[Value.ref Z.2.2.2.2], below, meth, c) hOK (hFr.rf _) Z.2.1.heap [] _ (h00_R Z) (Nat.le_of_eq (Nat.add_comm _ _)) (Nat.le_refl _) (fun q hq => nomatch hq) hlv
    rw [hrm, Nat.sub_self, Nat.sub_self] at hW
    obtain ⟨t, a1, o, b1, b2, b3⟩ := hW s₁ hh0 X₀
    refine ⟨t, o, ?_, b1, b2, ?_⟩
    · have he : entryFrame m #[Value.ref Z.2.2.2.2] maxLocals = F0 m 0 (lg_sl [Value.ref Z.2.2.2.2] ++ List.replicate (7 - (lg_sl [Value.ref Z.2.2.2.2]).length) Slot.unset).toArray [] := lg_entry_eq ..
      rw [he]
      exact a1
    · rcases b3 with ⟨⟨v, h', g1, g2, g3, g4, g5⟩, L, hF, hL⟩ | ⟨q, -, E, ce, L, ⟨h', -, -, -, g5⟩, -⟩
      · have ev : v = some (.int 1) := by
          have := g5
          exact Sum.inl.inj this
        refine ⟨by rw [g1, ev], ?_⟩
        obtain ⟨f1, f2, f3⟩ := hF
        refine ⟨f1, f2, ?_⟩
        have f4 := f3.weaken (l' := []) (fun y hy hlt => absurd (hL y hy) (Nat.not_le.mpr hlt)) (Nat.le_refl _) (Nat.le_refl _)
        have ec : hLC Z - (h00 Z).1 = 603072 := by
          show Z.2.1.heap.size + 603072 - Z.2.1.heap.size = 603072
          exact Nat.add_sub_cancel_left _ _
        rw [ec] at f4
        exact f4
      · exact nomatch g5
theorem lw_pre_spec {args : Array Value} {s : State} (h : (Jvm.Cond.and given_1 narrow_1).before args s = true) (hr : rest_1_c.before args s = true) : ∃ (b : Addr) (xs : List Int32), lw_P b xs args s := by
  have hs := flat_of_before _ h
  have hq := flat_of_before _ hr
  have hc : (Cond.count 1).before args s = true := hs _ (by decide +kernel)
  have harr : (Cond.arrayOf (.arg 0) .int).before args s = true := hs _ (by decide +kernel)
  have hle : (Cond.le (.length (.arg 0)) (.int 192)).before args s = true := hs _ (by decide +kernel)
  have hlen : (Cond.isInt (.length (.arg 0))).before args s = true := hq _ (by decide +kernel)
  have hall : (Cond.all (.arg 0) (.isInt (.elem (.arg 0) (.index 0)))).before args s = true := hq _ (by decide +kernel)
  obtain ⟨b, xs, hb, hx⟩ := State.ints_of_pre rfl harr hlen hall
  have hsm : xs.length < 2 ^ 31 := hx.choose_spec.2.2.2
  have hev : (Term.length (.arg 0)).eval args s none [] s = some (.int xs.length.toInt32) := hx.length_eval hb
  have hv := Cond.le_ints hev (show (Term.int 192).eval args s none [] s = some (.int 192) from rfl)
  have hd : xs.length.toInt32 ≤ 192 := by
    simpa [Cond.before, Cond.holds, hv] using hle
  have hN : xs.length ≤ 192 := (Int32.ofNat_le_ofNat hsm (by decide)).mp (show Int32.ofNat xs.length ≤ Int32.ofNat 192 from hd)
  exact ⟨b, xs, Cond.one_arg hc (show args[0]? = some (.ref b) from hb), hx, hN, h⟩
theorem lw_comes (l : Launch) (hflags : l.flags = flags0) : Comes l x (Jvm.Cond.code x code maxLocals ret :: tables_1) room_1 (fun tb e args s => Calls_1 tb e args s ∧ rest_1 tb e args s ∧ Pre_1 tb e args s)
    (fun _ _ args s o t => lw_Q args s o t) := by
  intro p e ha hc hk s m args below hf hfit hheap happ hpre
  obtain ⟨b, xs, hP⟩ := lw_pre_spec hpre.2.2 hpre.2.1
  obtain ⟨k, o, h1, h2, h3, hQ⟩ := lw_walk l hflags b xs p e ha hc hk s m args below hf ((Spec.applies_iff_loose hf).mp happ).1 hP trivial
  exact ⟨k, o, h1, h2, h3, hQ⟩
theorem lw_frame {s t : State} {o : Outcome} {args : Array Value} (h : Framed s o t [] 603072 7166058) :
    Framed s o t (fieldLocs frame_1_writes args s ++ arrayLocs frame_1_arrays args s ++ staticLocs frame_1_statics s) 603072 7166058 := h
theorem lw_limb (L : Cond) (hL : ∀ (args : Array Value) (s t : State), L.after args s (.returned (some (.int 1))) t = true) :
    ArmFor flags0 classFile x code maxLocals ret World_1 tables_1 room_1 Calls_1 rest_1 Pre_1
      (fun tb e a s o t => postC L tb e a s o t ∧ Framed s o t (fieldLocs frame_1_writes a s ++ arrayLocs frame_1_arrays a s ++ staticLocs frame_1_statics s) 603072 7166058) := by
  intro l hflags _ _ p e ha hc hk s m args below hf hfit hheap happ hpre
  obtain ⟨k, o, h1, h2, h3, rfl, hF⟩ := lw_comes l hflags p e ha hc hk s m args below hf hfit hheap happ hpre
  exact ⟨k, _, h1, h2, h3, hL args s _, lw_frame hF⟩
theorem i_vc : Claimed_1_1 ∧ Claimed_1_2 := ⟨lw_limb limb_1_1 (fun args s t => by simp [limb_1_1, Cond.after, Cond.holds, Cond.value]), lw_limb limb_1_2 (fun args s t => Cond.after_iff.mpr (by
  first | (rw [show limb_1_2 = Cond.eq .result (.int 1) from rfl, Cond.eq_ints (x := 1) (y := 1) rfl rfl]; simp; done) | (simp [limb_1_2, Cond.value, Term.eval]; done)))⟩
