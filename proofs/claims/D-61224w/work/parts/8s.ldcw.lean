/-! ldc_w of a String constant -/
set_option maxRecDepth 100000
theorem ow_ldcw {p : Program} {l : Launch} {e : Env} {R : Room} {s : State} {m : MethodId} {args : Array Value} {below : List Frame} {meth : Method} {c : Code} {T : State} {locs : List Loc} {cells slots : Nat} (X : Stand p l e R s m args below meth c T locs cells slots) (hexec : p.tables.exec = Jvm.exec) {own text : String} {index : Nat} {a : Addr} (hown : s.vm.findClass own = some m.cls) (hconst : (Cond.stringRef own index text).before args s = true) (hev : (Term.string own index).eval args s none [] s = some (.ref a)) {g : JFrame} (hg : g.method = m) (hdg : decode c.code g.pc = .ok (.ldc_w index, 3)) :
    ∀ target, Steps p.tables e below (T.setTop { g with pc := g.pc + 3, stack := .ref a :: g.stack }) target → Steps p.tables e below (T.setTop g) target := by
  obtain ⟨k, cf, i, a', hk, hcf, hcp, -, hr, hev'⟩ := Cond.stringRef_spec hown hconst
  cases hev.symm.trans hev'
  obtain ⟨k', hk', he⟩ := X.warmed.alike.2.2 _ _ hk
  have hr' : k'.resolved[index]? = some (some (.string a)) := by
    rcases X.warmed.entry hk hk' index with h | ⟨h, -⟩
    · rw [h]; exact hr
    · rw [hr] at h; cases h
  intro target hrest
  subst hg
  jvm_step X.here [hexec, hdg, ldc_w.wp_string (e := e) (s := T) (f := g) X.here.top hk' (by rw [he]; exact hcf) hcp hr']
  exact hrest
theorem ow_ldcS {p : Program} {l : Launch} {e : Env} {R : Room} {s : State} {m : MethodId} {args : Array Value} {below : List Frame} {meth : Method} {c : Code} {H : Heap} {locs : List Loc} {cells slots : Nat} {Q : State → Prop} {cc : ByteArray} {pc : Nat} {ls : Array Slot} {rest : List Value} (hexec : p.tables.exec = Jvm.exec) (hb : c.code = cc) {own tx : String} {index q : Nat} (hown : s.vm.findClass own = some m.cls) (hZ : vk_R own index tx q s) (hdg : decode cc pc = .ok (.ldc_w index, 3))
    (k : W p l e R s m args below meth c H locs cells slots Q (F0 m (pc + 3) ls (.ref q :: rest))) : W p l e R s m args below meth c H locs cells slots Q (F0 m pc ls rest) := by
  intro T hT X
  obtain ⟨t, a1, b1⟩ := k T hT X
  exact ⟨t, ow_ldcw X hexec hown (text := tx) (a := q) hZ.1 hZ.2 (g := F0 m pc ls rest) rfl (by rw [hb]; exact hdg) t a1, b1⟩
section LW
variable {Z : hE} {X : hX} {M : hM} {d : Nat} {S : Nat → Prop} {hin : hP} {K : hO → hP → Prop} {pc : Nat} {ls : List (Nat × Value)} {st : List Value} {h : hP}
theorem g_ldcwS {idx : Nat} {tx : String} (hd : decode M.1 pc = .ok (.ldc_w idx, 3)) (hz : hStrK M.2.1.cls idx tx) (k : hG Z X M d S hin K (pc + 3) ls (.ref (hStrA M.2.1.cls idx Z) :: st) h) : hG Z X M d S hin K pc ls st h :=
  fun O F H locs la a1 a2 a3 a4 a5 => ow_ldcS O.2.1 O.2.2.1 O.2.2.2.2.1 (vk_R.warm O.2.2.2.2.2.1 (hz Z O.1)) hd (k O F H locs la a1 a2 a3 a4 a5)
theorem g_ldcwK {idx : Nat} {tx : String} {l : List Nat} (hd : decode M.1 pc = .ok (.ldc_w idx, 3)) (hz : hKon M.2.1.cls idx tx l) (k : jSt h 930 (hStrA M.2.1.cls idx Z) l → hG Z X M d S hin K (pc + 3) ls (.ref (hStrA M.2.1.cls idx Z) :: st) h) : hG Z X M d S hin K pc ls st h :=
  g_olds fun hZ ho => g_ldcwS hd hz.1 (k (hz.2 Z hZ h ho))
end LW
/-- a list of one's own is added to: of what was there before, nothing has changed -/
theorem fr_add {Z : hE} {h0 h1 h2 : hP} {a e : Nat} (f : hFr (fun _ => False) h0 h1) (hwf0 : ∀ a c, h0.2.2 a = some c → a < h0.1) (ad : hFa (fun q => q = a ∨ q = e) h1 h2) (ha : h0.1 ≤ a) (he : h0.1 ≤ e ∨ ∃ c, hOld Z e = some c) (ho0 : ∀ a c, hOld Z a = some c → h0.2.2 a = some c) (ho2 : ∀ a c, hOld Z a = some c → h2.2.2 a = some c) : hFr (fun _ => False) h0 h2 := by
  refine ⟨Nat.le_trans f.1 ad.1, Nat.le_trans f.2.1 ad.2.1, fun q c hq => ?_⟩
  have h1q := (f.2.2 q c hq).1 (fun z => z)
  have hlt := hwf0 q c hq
  by_cases z : q = a ∨ q = e
  · rcases z with z | z
    · omega
    · rcases he with y | ⟨c', y⟩
      · omega
      · subst z
        have e1 := ho0 q c' y
        rw [hq] at e1
        cases e1
        exact ⟨fun _ => ho2 q c y, c, ho2 q c y, rfl⟩
  · have := (ad.2.2 q c h1q).1 z
    exact ⟨fun _ => this, c, this, rfl⟩
