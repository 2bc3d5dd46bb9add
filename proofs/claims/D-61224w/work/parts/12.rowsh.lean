/-! ROWS 2: fields, arrays, new cells -/
set_option maxRecDepth 100000
theorem hR_set {Z : hE} {h : hP} {H H' : Heap} {a : Nat} {c : hC} {cell' : Cell} (hr : hR Z h H) (hz : H'.size = H.size) (e : H'[a]? = some cell') (ho : ∀ q, q ≠ a → H'[q]? = H[q]?) (hc : hAt Z c cell') (hb : Z.2.1.heap.size ≤ a) : hR Z (hSet h a c) H' := by
  obtain ⟨r1, r2, r3, r4, r5, r6, r7⟩ := hr
  refine ⟨hz.trans r1, r2, fun q hq => ?_, fun q cq hq => ?_, r5, r6, fun q cq hq => by rw [hSet_n (by have := (hOld_spec hq).1; omega)]; exact r7 q cq hq⟩
  · rw [ho q (by omega)]; exact r3 q hq
  · by_cases hqa : q = a
    · subst hqa
      rw [hSet_s] at hq; cases hq
      exact ⟨Or.inr hb, cell', e, hc⟩
    · rw [hSet_n hqa] at hq
      obtain ⟨g1, cl, g2, g3⟩ := r4 q cq hq
      exact ⟨g1, cl, by rw [ho q hqa]; exact g2, g3⟩
theorem hR_new {Z : hE} {h : hP} {H H' : Heap} {c : hC} {n : Nat} {cell' : Cell} (hr : hR Z h H) (hz : H'.size = H.size + 1) (e : H'[H.size]? = some cell') (ho : ∀ q, q < H.size → H'[q]? = H[q]?) (hc : hAt Z c cell') (l1 : h.1 + 1 ≤ hLC Z) (l2 : h.2.1 + n ≤ hLS) : hR Z (hNew h c n) H' := by
  have hwf := hr.wf
  obtain ⟨r1, r2, r3, r4, r5, r6, r7⟩ := hr
  refine ⟨by rw [hz, r1]; rfl, Nat.le_succ_of_le r2, fun q hq => ?_, fun q cq hq => ?_, l1, l2, fun q cq hq => by rw [hNew_n (by have := (hOld_spec hq).1; omega)]; exact r7 q cq hq⟩
  · rw [ho q (by omega)]; exact r3 q hq
  · by_cases hqa : q = h.1
    · subst hqa
      rw [hNew_s] at hq; cases hq
      exact ⟨Or.inr r2, cell', by rw [← r1]; exact e, hc⟩
    · rw [hNew_n hqa] at hq
      obtain ⟨g1, cl, g2, g3⟩ := r4 q cq hq
      exact ⟨g1, cl, by rw [ho q (by rw [r1]; exact hwf q cq hq)]; exact g2, g3⟩
theorem hSum_new {H H' : Heap} {cell : Cell} (hz : H'.size = H.size + 1) (e : H'[H.size]? = some cell) (ho : ∀ q, q < H.size → H'[q]? = H[q]?) : hSum H' = hSum H + cell.slots.size := by
  rw [← hSum_push]
  congr 1
  apply Array.ext_getElem?
  intro i
  rw [Array.getElem?_push]
  by_cases hi : i = H.size
  · rw [if_pos hi, hi, e]
  · rw [if_neg hi]
    by_cases hl : i < H.size
    · exact ho i hl
    · have h1 : H'[i]? = none := by simp; omega
      have h2 : H[i]? = none := by simp; omega
      rw [h1, h2]
theorem hSum_set {H H' : Heap} {a : Nat} {cell cell' : Cell} (hz : H'.size = H.size) (e0 : H[a]? = some cell) (e : H'[a]? = some cell') (hs : cell'.slots.size = cell.slots.size) (ho : ∀ q, q ≠ a → H'[q]? = H[q]?) : hSum H' = hSum H := by
  refine hSum_eq hz (fun q c hc => ?_)
  by_cases hq : q = a
  · subst hq
    rw [e0] at hc; cases hc
    exact ⟨cell', e, hs⟩
  · exact ⟨c, by rw [ho q hq]; exact hc, rfl⟩
def hSame (ref owner n d : String) : Prop := ref = owner ∨ Cond.sameField ref owner n d ∈ lw_all
theorem hSame.found {ref owner n d : String} (hs : hSame ref owner n d) {Z : hE} (hZ : hEnv Z) {U : State} (hW : Z.2.1.WarmedH U.vm) {x : ClassId × Class × Nat × Field} (hi : U.fieldFound? owner n d = some x) : U.fieldFound? ref n d = some x := by
  rcases hs with h | h
  · rw [h]; exact hi
  · exact u_same (args := #[]) (hWord hZ hW h) x hi
theorem hApart {Z : hE} (hZ : hEnv Z) {U : State} (hW : Z.2.1.WarmedH U.vm) {k : Nat} {r : vw_C} (h : hCl k = some r) : ∀ x y, x < r.2.2 → y < r.2.2 → x ≠ y → Z.2.2.2.1 k x ≠ Z.2.2.2.1 k y := by
  intro x y hx hy hne
  obtain ⟨hS, -⟩ := hKn hZ hW h
  obtain ⟨_, _, _, fa, hia, ea⟩ := hS x hx
  obtain ⟨_, _, _, fb, hib, eb⟩ := hS y hy
  have hts : ∀ w ∈ lw_all, w.before #[] U = true := fun w hw => hWord hZ hW hw
  rw [← ea, ← eb]
  refine u_apart (args := #[]) (u_lays hts (hIn k r h) hx) (u_lays hts (hIn k r h) hy) hia hib ?_
  rw [(State.fieldFound?_type hia (hFt_ok k r h x hx)).1, (State.fieldFound?_type hib (hFt_ok k r h y hy)).1]
  exact hNm k r h x hx y hy hne
theorem hAt_put {Z : hE} (hZ : hEnv Z) {κ j : Nat} {r : vw_C} {fs : List Value} {v : Value} {cell : Cell} (hc : hCl (κ % 100) = some r) (hj : j < r.2.2) (ha : hAt Z (κ, .inl fs) cell) : hAt Z (κ, .inl (fs.set j v)) (cell.setSlot (Z.2.2.2.1 (κ % 100) j) v) := by
  obtain ⟨h1, h2, h3, r', hr', hcls, hlen, hsl⟩ := ha
  refine ⟨h1, h2, h3, r', hr', hcls, by rw [List.length_set]; exact hlen, fun k w hk => ?_⟩
  have hrr : r' = r := Option.some.inj (hr'.symm.trans hc)
  have hap := hApart hZ (State.WarmedH.refl Z.2.1) hc
  have hjl : j < fs.length := by rw [hlen, hrr]; exact hj
  by_cases hkj : k = j
  · subst hkj
    rw [List.getElem?_set_self hjl] at hk
    cases hk
    have h9 : ∃ w, fs[k]? = some w := ⟨_, List.getElem?_eq_getElem hjl⟩
    obtain ⟨w, hw⟩ := h9
    rw [Cell.slots_setSlot_self _ (k2_hasslot (hsl k w hw))]
  · rw [List.getElem?_set_ne (Ne.symm hkj)] at hk
    have hkl : k < r.2.2 := by
      have := (List.getElem?_eq_some_iff.mp hk).1
      rw [hlen, hrr] at this; exact this
    rw [slot_ne _ _ (hap j k hj hkl (Ne.symm hkj))]
    exact hsl k w hk
section G2
variable {Z : hE} {X : hX} {M : hM} {d : Nat} {S : Nat → Prop} {hin : hP} {K : hO → hP → Prop} {pc : Nat} {ls : List (Nat × Value)} {st : List Value} {h : hP}
theorem g_get {κ a idx : Nat} (j : Nat) {r : vw_C} {ref : String} {fs : List Value} {v : Value} (hd : decode M.1 pc = .ok (.getfield idx, 3)) (ha : h.2.2 a = some (κ, .inl fs)) (hc : hCl (κ % 100) = some r) (hj : j < r.2.2) (hl : Cond.fieldLink M.2.1.cls idx ref (r.2.1 j).2.1 (r.2.1 j).2.2.1 ∈ lw_all) (hs : hSame ref (r.2.1 j).1 (r.2.1 j).2.1 (r.2.1 j).2.2.1) (hv : fs[j]? = some v) (k : hG Z X M d S hin K (pc + 3) ls (v :: st) h) : hG Z X M d S hin K pc ls (.ref a :: st) h := by
  intro O F H locs la a1 a2 a3 a4 a5
  have hk := k O F H locs la a1 a2 a3 a4 a5
  obtain ⟨hZ, hx, hb, hml, hown, hW, -⟩ := O
  obtain ⟨-, cell, hcell, -, hkn, hst, r', hr', hcls, hlen, hsl⟩ := a1.2.2.2.1 a _ ha
  obtain ⟨hS, hfc, kC, hkC, hkind⟩ := hKn hZ hW hc
  obtain ⟨cf, kf, fi, f, hi, hsl2⟩ := hS j hj
  have hts : ∀ w ∈ lw_all, w.before X.2.2.2.2.1 X.2.2.1 = true := fun w hw => hWord hZ hW hw
  refine W.getf hx hb hown (hts _ hl) (hs.found hZ hW hi) (u_facts hfc hkC (u_lays hts (hIn _ _ hc) hj) hi).1 hcell hkn (v := v) ?_ rfl rfl hd hk
  rw [hsl2]; exact hsl j v hv
theorem hNest {Z : hE} (hZ : hEnv Z) {U : State} (hW : Z.2.1.WarmedH U.vm) {args : Array Value} {a : String} {i : Nat} {b n dd hh : String} (hl : Cond.fieldLinkNest a i b n dd hh ∈ lw_tbl) : (Cond.fieldLinkNest a i b n dd hh).before args U = true :=
  va_Nw.use rfl (va_Nw.warmF hW (va_Nw.of rfl (hZ.1 _ hl)))
theorem g_getN {κ a idx : Nat} (j : Nat) {r : vw_C} {ref host : String} {fs : List Value} {v : Value} (hd : decode M.1 pc = .ok (.getfield idx, 3)) (ha : h.2.2 a = some (κ, .inl fs)) (hc : hCl (κ % 100) = some r) (hj : j < r.2.2) (hl : Cond.fieldLinkNest M.2.1.cls idx ref (r.2.1 j).2.1 (r.2.1 j).2.2.1 host ∈ lw_tbl) (hs : hSame ref (r.2.1 j).1 (r.2.1 j).2.1 (r.2.1 j).2.2.1) (hv : fs[j]? = some v) (k : hG Z X M d S hin K (pc + 3) ls (v :: st) h) : hG Z X M d S hin K pc ls (.ref a :: st) h := by
  intro O F H locs la a1 a2 a3 a4 a5
  have hk := k O F H locs la a1 a2 a3 a4 a5
  obtain ⟨hZ, hx, hb, hml, hown, hW, -⟩ := O
  obtain ⟨-, cell, hcell, -, hkn, hst, r', hr', hcls, hlen, hsl⟩ := a1.2.2.2.1 a _ ha
  obtain ⟨hS, hfc, kC, hkC, hkind⟩ := hKn hZ hW hc
  obtain ⟨cf, kf, fi, f, hi, hsl2⟩ := hS j hj
  have hts : ∀ w ∈ lw_all, w.before X.2.2.2.2.1 X.2.2.1 = true := fun w hw => hWord hZ hW hw
  refine va_Wgetf hx hb hown (hNest hZ hW hl) (hs.found hZ hW hi) (u_facts hfc hkC (u_lays hts (hIn _ _ hc) hj) hi).1 hcell hkn (v := v) ?_ rfl rfl hd hk
  rw [hsl2]; exact hsl j v hv
theorem g_put {κ a idx : Nat} (j : Nat) {r : vw_C} {ref : String} {fs : List Value} {v : Value} (hd : decode M.1 pc = .ok (.putfield idx, 3)) (ha : h.2.2 a = some (κ, .inl fs)) (hc : hCl (κ % 100) = some r) (hj : j < r.2.2) (hl : Cond.fieldLink M.2.1.cls idx ref (r.2.1 j).2.1 (r.2.1 j).2.2.1 ∈ lw_all) (hs : hSame ref (r.2.1 j).1 (r.2.1 j).2.1 (r.2.1 j).2.2.1) (hfin : (r.2.1 j).2.2.2 = false) (hκ : κ < 900) (hSκ : S κ) {ty : FieldType} (hty : parseFieldDescriptor (r.2.1 j).2.2.1 = some ty) (hnr : narrow ty v = v) (hft : fits ty v = true) (k : hG Z X M d S hin K (pc + 3) ls st (hSet h a (κ, .inl (fs.set j v)))) : hG Z X M d S hin K pc ls (v :: .ref a :: st) h := by
  intro O F H locs la a1 a2 a3 a4 a5
  have F' : hFr S hin (hSet h a (κ, .inl (fs.set j v))) := F.set ha rfl hSκ
  have O' := O
  obtain ⟨hZ, hx, hb, hml, hown, hW, -⟩ := O
  have ht := a1.2.2.2.1 a _ ha
  have hba : Z.2.1.heap.size ≤ a := by
    rcases ht.1 with q | q
    · exact absurd hκ (Nat.not_lt.mpr q)
    · exact q
  obtain ⟨-, cell, hcell, hat⟩ := ht
  have hat' := hAt_put (v := v) hZ hc hj hat
  obtain ⟨hvm, hkn, hst, r', hr', hcls, hlen, hsl⟩ := hat
  obtain ⟨hS, hfc, kC, hkC, hkind⟩ := hKn hZ hW hc
  obtain ⟨cf, kf, fi, f, hi, hsl2⟩ := hS j hj
  have hts : ∀ w ∈ lw_all, w.before X.2.2.2.2.1 X.2.2.1 = true := fun w hw => hWord hZ hW hw
  have hlay := hts _ (hIn _ _ hc _ (u_in_lay hj))
  unfold u_lay at hlay
  rw [if_neg (by rw [hfin]; decide)] at hlay
  have hst2 := (u_facts hfc hkC (u_lays hts (hIn _ _ hc) hj) hi).1
  have h6 := u_store hfc hkC hkind hlay hi hty hnr hft
  have hslot : ∃ w, fs[j]? = some w := ⟨_, List.getElem?_eq_getElem (by rw [hlen, show r' = r from Option.some.inj (hr'.symm.trans hc)]; exact hj)⟩
  obtain ⟨w, hw⟩ := hslot
  refine W.putK hx hb ⟨hown, hts _ hl, ⟨cf, kf, fi, hs.found hZ hW hi⟩, hst2⟩ (by rw [hcls]; exact h6) hcell (hvm hκ) (by rw [hsl2]; exact k2_hasslot (hsl j w hw)) rfl rfl hd fun H' e1 e2 e3 => ?_
  rw [hsl2] at e1
  have hsum : hSum H' = hSum H := hSum_set e2 hcell e1 (k2_slotsz _ _ _) e3
  exact hCanon fun b3 => k O' F' H' _ la (hR_set a1 e2 e1 e3 hat' hba) (by rw [hsum]; exact a2) b3 (fun q hq => by
    rcases List.mem_append.mp hq with z | z
    · exact a4 q z
    · rw [List.mem_singleton.mp z]; exact hba) a5
/-- a final field, in its own constructor -/
theorem g_putF {κ a idx : Nat} (j : Nat) {r : vw_C} {fs : List Value} {v : Value} (hd : decode M.1 pc = .ok (.putfield idx, 3)) (ha : h.2.2 a = some (κ, .inl fs)) (hc : hCl (κ % 100) = some r) (hj : j < r.2.2) (hl : Cond.fieldLink M.2.1.cls idx (r.2.1 j).1 (r.2.1 j).2.1 (r.2.1 j).2.2.1 ∈ lw_all) (hini : M.2.1.name = "<init>") (hfin : (r.2.1 j).2.2.2 = true) (hcl : (r.2.1 j).1 = M.2.1.cls) (hκ : κ < 900) (hSκ : S κ) {ty : FieldType} (hty : parseFieldDescriptor (r.2.1 j).2.2.1 = some ty) (hnr : narrow ty v = v) (hft : fits ty v = true) (k : hG Z X M d S hin K (pc + 3) ls st (hSet h a (κ, .inl (fs.set j v)))) : hG Z X M d S hin K pc ls (v :: .ref a :: st) h := by
  intro O F H locs la a1 a2 a3 a4 a5
  have F' : hFr S hin (hSet h a (κ, .inl (fs.set j v))) := F.set ha rfl hSκ
  have O' := O
  obtain ⟨hZ, hx, hb, hml, hown, hW, -, -, -, -, hnm⟩ := O
  have ht := a1.2.2.2.1 a _ ha
  have hba : Z.2.1.heap.size ≤ a := by
    rcases ht.1 with q | q
    · exact absurd hκ (Nat.not_lt.mpr q)
    · exact q
  obtain ⟨-, cell, hcell, hat⟩ := ht
  have hat' := hAt_put (v := v) hZ hc hj hat
  obtain ⟨hvm, hkn, hst, r', hr', hcls, hlen, hsl⟩ := hat
  obtain ⟨hS, hfc, kC, hkC, hkind⟩ := hKn hZ hW hc
  obtain ⟨cf, kf, fi, f, hi, hsl2⟩ := hS j hj
  have hts : ∀ w ∈ lw_all, w.before X.2.2.2.2.1 X.2.2.1 = true := fun w hw => hWord hZ hW hw
  have hlay := hts _ (hIn _ _ hc _ (u_in_lay hj))
  unfold u_lay at hlay
  rw [if_pos hfin] at hlay
  have hst2 := (u_facts hfc hkC (Or.inr hlay) hi).1
  have h6 := u_fits hfc hkC hkind (Or.inr hlay) hi hty hnr hft
  have hslot : ∃ w, fs[j]? = some w := ⟨_, List.getElem?_eq_getElem (by rw [hlen, show r' = r from Option.some.inj (hr'.symm.trans hc)]; exact hj)⟩
  obtain ⟨w, hw⟩ := hslot
  have hcf : X.2.2.2.1.cls = cf := by
    obtain ⟨_, _, c', _, _, _, -, -, hf', -, -, -, hown2, -⟩ := Cond.laysFinal_spec hlay
    have e1 : c' = cf := by have := hi.symm.trans hf'; simp at this; exact this.1.symm
    rw [hcl] at hown2
    rw [← e1]; exact Option.some.inj (hown.symm.trans hown2)
  refine W.putFinK hx hb hown (hts _ hl) hi hst2 hcf (by rw [hnm]; exact hini) (by rw [hcls]; exact h6) hcell (hvm hκ) (by rw [hsl2]; exact k2_hasslot (hsl j w hw)) rfl rfl hd fun H' e1 e2 e3 => ?_
  rw [hsl2] at e1
  have hsum : hSum H' = hSum H := hSum_set e2 hcell e1 (k2_slotsz _ _ _) e3
  exact hCanon fun b3 => k O' F' H' _ la (hR_set a1 e2 e1 e3 hat' hba) (by rw [hsum]; exact a2) b3 (fun q hq => by
    rcases List.mem_append.mp hq with z | z
    · exact a4 q z
    · rw [List.mem_singleton.mp z]; exact hba) a5
end G2
/-! arrays -/
def upV (f : Nat → Value) (j : Nat) (v : Value) : Nat → Value := fun q => if q = j then v else f q
theorem upV_s (f : Nat → Value) (j : Nat) (v : Value) : upV f j v j = v := if_pos rfl
theorem upV_n {f : Nat → Value} {j q : Nat} {v : Value} (h : q ≠ j) : upV f j v q = f q := if_neg h
theorem hArr.is {U : State} {cell : Cell} {ty : FieldType} (h : hArr U cell.cls ty) (hs : cell.vm.isStatics = false) : U.isArrayOf cell ty := by
  obtain ⟨-, kA, comp, h1, h2, -⟩ := h
  exact ⟨fun k e => (by rw [e] at hs; cases hs), kA, h1, comp, h2⟩
theorem hAt_store {Z : hE} {κ n j : Nat} {f : Nat → Value} {v : Value} {cell : Cell} {ty : FieldType} (hty : hTy (κ % 100) = some ty) (hj : j < n) (hf : fits ty v = true) (ha : hAt Z (κ, .inr (n, f)) cell) : hAt Z (κ, .inr (n, upV f j v)) (cell.setSlot j v) := by
  obtain ⟨h1, h2, h3, ty', hr', hcls, hlen, hlt, hsl⟩ := ha
  have hrr : ty' = ty := Option.some.inj (hr'.symm.trans hty)
  subst hrr
  refine ⟨h1, h2, h3, ty', hr', hcls, by rw [k2_slotsz]; exact hlen, hlt, fun q hq => ?_⟩
  by_cases hqj : q = j
  · subst hqj
    show (cell.setSlot q v).slots[q]? = some (upV f q v q) ∧ fits ty' (upV f q v q) = true
    rw [upV_s]
    have hlen' : cell.slots.size = n := hlen
    exact ⟨Cell.slots_setSlot_self _ (by rw [hlen']; exact hj), hf⟩
  · show (cell.setSlot j v).slots[q]? = some (upV f j v q) ∧ fits ty' (upV f j v q) = true
    rw [upV_n hqj, slot_ne _ _ (Ne.symm hqj)]
    exact hsl q hq
section G3
variable {Z : hE} {X : hX} {M : hM} {d : Nat} {S : Nat → Prop} {hin : hP} {K : hO → hP → Prop} {pc : Nat} {ls : List (Nat × Value)} {st : List Value} {h : hP}
theorem g_alen {κ a n : Nat} {f : Nat → Value} (hd : decode M.1 pc = .ok (.arraylength, 1)) (ha : h.2.2 a = some (κ, .inr (n, f))) (k : hG Z X M d S hin K (pc + 1) ls (.int (nI n) :: st) h) : hG Z X M d S hin K pc ls (.ref a :: st) h := by
  intro O F H locs la a1 a2 a3 a4 a5
  have hk := k O F H locs la a1 a2 a3 a4 a5
  obtain ⟨hZ, hx, hb, hml, hown, hW, -⟩ := O
  obtain ⟨-, cell, hcell, -, hkn, hst, ty, hty, hA, hlen, hlt, hsl⟩ := a1.2.2.2.1 a _ ha
  exact W.alen (n := nI n) hx hb hcell ((hA.moved hW.alike).is hst) (by rw [hlen]; rfl) rfl rfl hd hk
theorem g_iald {κ a n : Nat} {i : Int32} (j : Nat) {f : Nat → Value} (hd : decode M.1 pc = .ok (.iaload, 1)) (ha : h.2.2 a = some (κ, .inr (n, f))) (hty : hTy (κ % 100) = some .int) (hj : j < n) (hi : i = nI j) (k : hG Z X M d S hin K (pc + 1) ls (f j :: st) h) : hG Z X M d S hin K pc ls (.int i :: .ref a :: st) h := by
  intro O F H locs la a1 a2 a3 a4 a5
  have hk := k O F H locs la a1 a2 a3 a4 a5
  obtain ⟨hZ, hx, hb, hml, hown, hW, -⟩ := O
  obtain ⟨-, cell, hcell, -, hkn, hst, ty, hty', hA, hlen, hlt, hsl⟩ := a1.2.2.2.1 a _ ha
  have ety := Option.some.inj (hty'.symm.trans hty)
  subst ety
  have hlen' : cell.slots.size = n := hlen
  have hlt' : n < 2 ^ 31 := hlt
  subst hi
  exact W.iald (v := f j) hx hb hcell ((hA.moved hW.alike).is hst) hkn (by rw [hlen']; exact nI_in hj hlt') (by rw [nI_clamp (by omega)]; exact (hsl j hj).1) rfl rfl hd hk
theorem g_lald {κ a n : Nat} {i : Int32} (j : Nat) {f : Nat → Value} (hd : decode M.1 pc = .ok (.laload, 1)) (ha : h.2.2 a = some (κ, .inr (n, f))) (hty : hTy (κ % 100) = some .long) (hj : j < n) (hi : i = nI j) (k : hG Z X M d S hin K (pc + 1) ls (f j :: st) h) : hG Z X M d S hin K pc ls (.int i :: .ref a :: st) h := by
  intro O F H locs la a1 a2 a3 a4 a5
  have hk := k O F H locs la a1 a2 a3 a4 a5
  obtain ⟨hZ, hx, hb, hml, hown, hW, -⟩ := O
  obtain ⟨-, cell, hcell, -, hkn, hst, ty, hty', hA, hlen, hlt, hsl⟩ := a1.2.2.2.1 a _ ha
  have ety := Option.some.inj (hty'.symm.trans hty)
  subst ety
  have hlen' : cell.slots.size = n := hlen
  have hlt' : n < 2 ^ 31 := hlt
  subst hi
  exact W.lald (v := f j) hx hb hcell ((hA.moved hW.alike).is hst) hkn (by rw [hlen']; exact nI_in hj hlt') (by rw [nI_clamp (by omega)]; exact (hsl j hj).1) rfl rfl hd hk
theorem g_cald {κ a n : Nat} {i : Int32} (j : Nat) {f : Nat → Value} (hd : decode M.1 pc = .ok (.caload, 1)) (ha : h.2.2 a = some (κ, .inr (n, f))) (hty : hTy (κ % 100) = some .char) (hj : j < n) (hi : i = nI j) (k : hG Z X M d S hin K (pc + 1) ls (f j :: st) h) : hG Z X M d S hin K pc ls (.int i :: .ref a :: st) h := by
  intro O F H locs la a1 a2 a3 a4 a5
  have hk := k O F H locs la a1 a2 a3 a4 a5
  obtain ⟨hZ, hx, hb, hml, hown, hW, -⟩ := O
  obtain ⟨-, cell, hcell, -, hkn, hst, ty, hty', hA, hlen, hlt, hsl⟩ := a1.2.2.2.1 a _ ha
  have ety := Option.some.inj (hty'.symm.trans hty)
  subst ety
  have hlen' : cell.slots.size = n := hlen
  have hlt' : n < 2 ^ 31 := hlt
  subst hi
  exact W.cald (v := f j) hx hb hcell ((hA.moved hW.alike).is hst) hkn (by rw [hlen']; exact nI_in hj hlt') (by rw [nI_clamp (by omega)]; exact (hsl j hj).1) rfl rfl hd hk
theorem g_bald {κ a n : Nat} {i : Int32} (j : Nat) {f : Nat → Value} (hd : decode M.1 pc = .ok (.baload, 1)) (ha : h.2.2 a = some (κ, .inr (n, f))) (hty : hTy (κ % 100) = some .byte) (hj : j < n) (hi : i = nI j) (k : hG Z X M d S hin K (pc + 1) ls (f j :: st) h) : hG Z X M d S hin K pc ls (.int i :: .ref a :: st) h := by
  intro O F H locs la a1 a2 a3 a4 a5
  have hk := k O F H locs la a1 a2 a3 a4 a5
  obtain ⟨hZ, hx, hb, hml, hown, hW, -⟩ := O
  obtain ⟨-, cell, hcell, -, hkn, hst, ty, hty', hA, hlen, hlt, hsl⟩ := a1.2.2.2.1 a _ ha
  have ety := Option.some.inj (hty'.symm.trans hty)
  subst ety
  have hlen' : cell.slots.size = n := hlen
  have hlt' : n < 2 ^ 31 := hlt
  subst hi
  exact W.bald (v := f j) hx hb hcell ((hA.moved hW.alike).is hst) hkn (by rw [hlen']; exact nI_in hj hlt') (by rw [nI_clamp (by omega)]; exact (hsl j hj).1) rfl rfl hd hk
theorem g_zald {κ a n : Nat} {i : Int32} (j : Nat) {f : Nat → Value} (hd : decode M.1 pc = .ok (.baload, 1)) (ha : h.2.2 a = some (κ, .inr (n, f))) (hty : hTy (κ % 100) = some .boolean) (hj : j < n) (hi : i = nI j) (k : hG Z X M d S hin K (pc + 1) ls (f j :: st) h) : hG Z X M d S hin K pc ls (.int i :: .ref a :: st) h := by
  intro O F H locs la a1 a2 a3 a4 a5
  have hk := k O F H locs la a1 a2 a3 a4 a5
  obtain ⟨hZ, hx, hb, hml, hown, hW, -⟩ := O
  obtain ⟨-, cell, hcell, -, hkn, hst, ty, hty', hA, hlen, hlt, hsl⟩ := a1.2.2.2.1 a _ ha
  have ety := Option.some.inj (hty'.symm.trans hty)
  subst ety
  have hlen' : cell.slots.size = n := hlen
  have hlt' : n < 2 ^ 31 := hlt
  subst hi
  exact W.zald (v := f j) hx hb hcell ((hA.moved hW.alike).is hst) hkn (by rw [hlen']; exact nI_in hj hlt') (by rw [nI_clamp (by omega)]; exact (hsl j hj).1) rfl rfl hd hk
theorem g_aald {κ a n : Nat} {i : Int32} (j : Nat) {f : Nat → Value} {ty : FieldType} (hd : decode M.1 pc = .ok (.aaload, 1)) (ha : h.2.2 a = some (κ, .inr (n, f))) (hty : hTy (κ % 100) = some ty) (hr : ty.isReference = true) (hj : j < n) (hi : i = nI j) (k : hG Z X M d S hin K (pc + 1) ls (f j :: st) h) : hG Z X M d S hin K pc ls (.int i :: .ref a :: st) h := by
  intro O F H locs la a1 a2 a3 a4 a5
  have hk := k O F H locs la a1 a2 a3 a4 a5
  obtain ⟨hZ, hx, hb, hml, hown, hW, -⟩ := O
  obtain ⟨-, cell, hcell, -, hkn, hst, ty', hty', hA, hlen, hlt, hsl⟩ := a1.2.2.2.1 a _ ha
  have ety := Option.some.inj (hty'.symm.trans hty)
  subst ety
  have hlen' : cell.slots.size = n := hlen
  have hlt' : n < 2 ^ 31 := hlt
  subst hi
  exact W.aald (v := f j) hx hb hcell ((hA.moved hW.alike).is hst) hr hkn (by rw [hlen']; exact nI_in hj hlt') (by rw [nI_clamp (by omega)]; exact (hsl j hj).1) rfl rfl hd hk
theorem g_iast {κ a n : Nat} {i : Int32} {x : Int32} (j : Nat) {f : Nat → Value} (hd : decode M.1 pc = .ok (.iastore, 1)) (ha : h.2.2 a = some (κ, .inr (n, f))) (hty : hTy (κ % 100) = some .int) (hj : j < n) (hi : i = nI j) (hκ : κ < 900) (hSκ : S κ) (k : hG Z X M d S hin K (pc + 1) ls st (hSet h a (κ, .inr (n, upV f j (.int x))))) : hG Z X M d S hin K pc ls (.int x :: .int i :: .ref a :: st) h := by
  intro O F H locs la a1 a2 a3 a4 a5
  have F' : hFr S hin (hSet h a (κ, .inr (n, upV f j (.int x)))) := F.set ha rfl hSκ
  have O' := O
  obtain ⟨hZ, hx, hb, hml, hown, hW, -⟩ := O
  have ht := a1.2.2.2.1 a _ ha
  have hba : Z.2.1.heap.size ≤ a := by
    rcases ht.1 with q | q
    · exact absurd hκ (Nat.not_lt.mpr q)
    · exact q
  obtain ⟨-, cell, hcell, hat⟩ := ht
  have hat' := hAt_store (v := .int x) hty hj rfl hat
  obtain ⟨-, hkn, hst, ty, hty', hA, hlen, hlt, hsl⟩ := hat
  have ety := Option.some.inj (hty'.symm.trans hty)
  subst ety
  have hlen' : cell.slots.size = n := hlen
  have hlt' : n < 2 ^ 31 := hlt
  subst hi
  refine W.iast hx hb hcell ((hA.moved hW.alike).is hst) hkn (by rw [hlen']; exact nI_in hj hlt') rfl rfl hd fun H' e1 e2 e3 => ?_
  rw [nI_clamp (by omega)] at e1 ⊢
  have e1 : H'[a]? = some (cell.setSlot j (.int x)) := e1
  have hsum : hSum H' = hSum H := hSum_set e2 hcell e1 (k2_slotsz _ _ _) e3
  exact hCanon fun b3 => k O' F' H' _ la (hR_set a1 e2 e1 e3 hat' hba) (by rw [hsum]; exact a2) b3 (fun q hq => by
    rcases List.mem_append.mp hq with z | z
    · exact a4 q z
    · rw [List.mem_singleton.mp z]; exact hba) a5
theorem g_last {κ a n : Nat} {i : Int32} {x : Int64} (j : Nat) {f : Nat → Value} (hd : decode M.1 pc = .ok (.lastore, 1)) (ha : h.2.2 a = some (κ, .inr (n, f))) (hty : hTy (κ % 100) = some .long) (hj : j < n) (hi : i = nI j) (hκ : κ < 900) (hSκ : S κ) (k : hG Z X M d S hin K (pc + 1) ls st (hSet h a (κ, .inr (n, upV f j (.long x))))) : hG Z X M d S hin K pc ls (.long x :: .int i :: .ref a :: st) h := by
  intro O F H locs la a1 a2 a3 a4 a5
  have F' : hFr S hin (hSet h a (κ, .inr (n, upV f j (.long x)))) := F.set ha rfl hSκ
  have O' := O
  obtain ⟨hZ, hx, hb, hml, hown, hW, -⟩ := O
  have ht := a1.2.2.2.1 a _ ha
  have hba : Z.2.1.heap.size ≤ a := by
    rcases ht.1 with q | q
    · exact absurd hκ (Nat.not_lt.mpr q)
    · exact q
  obtain ⟨-, cell, hcell, hat⟩ := ht
  have hat' := hAt_store (v := .long x) hty hj rfl hat
  obtain ⟨-, hkn, hst, ty, hty', hA, hlen, hlt, hsl⟩ := hat
  have ety := Option.some.inj (hty'.symm.trans hty)
  subst ety
  have hlen' : cell.slots.size = n := hlen
  have hlt' : n < 2 ^ 31 := hlt
  subst hi
  refine W.last hx hb hcell ((hA.moved hW.alike).is hst) hkn (by rw [hlen']; exact nI_in hj hlt') rfl rfl hd fun H' e1 e2 e3 => ?_
  rw [nI_clamp (by omega)] at e1 ⊢
  have e1 : H'[a]? = some (cell.setSlot j (.long x)) := e1
  have hsum : hSum H' = hSum H := hSum_set e2 hcell e1 (k2_slotsz _ _ _) e3
  exact hCanon fun b3 => k O' F' H' _ la (hR_set a1 e2 e1 e3 hat' hba) (by rw [hsum]; exact a2) b3 (fun q hq => by
    rcases List.mem_append.mp hq with z | z
    · exact a4 q z
    · rw [List.mem_singleton.mp z]; exact hba) a5
theorem g_bast {κ a n : Nat} {i : Int32} {x : Int32} (j : Nat) {f : Nat → Value} (hd : decode M.1 pc = .ok (.bastore, 1)) (ha : h.2.2 a = some (κ, .inr (n, f))) (hty : hTy (κ % 100) = some .byte) (hj : j < n) (hi : i = nI j) (hκ : κ < 900) (hSκ : S κ) (k : hG Z X M d S hin K (pc + 1) ls st (hSet h a (κ, .inr (n, upV f j (.int x.toInt8.toInt32))))) : hG Z X M d S hin K pc ls (.int x :: .int i :: .ref a :: st) h := by
  intro O F H locs la a1 a2 a3 a4 a5
  have F' : hFr S hin (hSet h a (κ, .inr (n, upV f j (.int x.toInt8.toInt32)))) := F.set ha rfl hSκ
  have O' := O
  obtain ⟨hZ, hx, hb, hml, hown, hW, -⟩ := O
  have ht := a1.2.2.2.1 a _ ha
  have hba : Z.2.1.heap.size ≤ a := by
    rcases ht.1 with q | q
    · exact absurd hκ (Nat.not_lt.mpr q)
    · exact q
  obtain ⟨-, cell, hcell, hat⟩ := ht
  have hat' := hAt_store (v := .int x.toInt8.toInt32) hty hj (pk_fb x) hat
  obtain ⟨-, hkn, hst, ty, hty', hA, hlen, hlt, hsl⟩ := hat
  have ety := Option.some.inj (hty'.symm.trans hty)
  subst ety
  have hlen' : cell.slots.size = n := hlen
  have hlt' : n < 2 ^ 31 := hlt
  subst hi
  refine W.bast hx hb hcell ((hA.moved hW.alike).is hst) hkn (by rw [hlen']; exact nI_in hj hlt') rfl rfl hd fun H' e1 e2 e3 => ?_
  rw [nI_clamp (by omega)] at e1 ⊢
  have e1 : H'[a]? = some (cell.setSlot j (.int x.toInt8.toInt32)) := e1
  have hsum : hSum H' = hSum H := hSum_set e2 hcell e1 (k2_slotsz _ _ _) e3
  exact hCanon fun b3 => k O' F' H' _ la (hR_set a1 e2 e1 e3 hat' hba) (by rw [hsum]; exact a2) b3 (fun q hq => by
    rcases List.mem_append.mp hq with z | z
    · exact a4 q z
    · rw [List.mem_singleton.mp z]; exact hba) a5
theorem g_zast {κ a n : Nat} {i : Int32} {x : Int32} (j : Nat) {f : Nat → Value} (hd : decode M.1 pc = .ok (.bastore, 1)) (ha : h.2.2 a = some (κ, .inr (n, f))) (hty : hTy (κ % 100) = some .boolean) (hj : j < n) (hi : i = nI j) (hκ : κ < 900) (hSκ : S κ) (hf : fits .boolean (narrow .boolean (.int x)) = true) (k : hG Z X M d S hin K (pc + 1) ls st (hSet h a (κ, .inr (n, upV f j (narrow .boolean (.int x)))))) : hG Z X M d S hin K pc ls (.int x :: .int i :: .ref a :: st) h := by
  intro O F H locs la a1 a2 a3 a4 a5
  have F' : hFr S hin (hSet h a (κ, .inr (n, upV f j (narrow .boolean (.int x))))) := F.set ha rfl hSκ
  have O' := O
  obtain ⟨hZ, hx, hb, hml, hown, hW, -⟩ := O
  have ht := a1.2.2.2.1 a _ ha
  have hba : Z.2.1.heap.size ≤ a := by
    rcases ht.1 with q | q
    · exact absurd hκ (Nat.not_lt.mpr q)
    · exact q
  obtain ⟨-, cell, hcell, hat⟩ := ht
  have hat' := hAt_store (v := narrow .boolean (.int x)) hty hj hf hat
  obtain ⟨-, hkn, hst, ty, hty', hA, hlen, hlt, hsl⟩ := hat
  have ety := Option.some.inj (hty'.symm.trans hty)
  subst ety
  have hlen' : cell.slots.size = n := hlen
  have hlt' : n < 2 ^ 31 := hlt
  subst hi
  refine W.zast hx hb hcell ((hA.moved hW.alike).is hst) hkn (by rw [hlen']; exact nI_in hj hlt') rfl rfl hd fun H' e1 e2 e3 => ?_
  rw [nI_clamp (by omega)] at e1 ⊢
  have e1 : H'[a]? = some (cell.setSlot j (narrow .boolean (.int x))) := e1
  have hsum : hSum H' = hSum H := hSum_set e2 hcell e1 (k2_slotsz _ _ _) e3
  exact hCanon fun b3 => k O' F' H' _ la (hR_set a1 e2 e1 e3 hat' hba) (by rw [hsum]; exact a2) b3 (fun q hq => by
    rcases List.mem_append.mp hq with z | z
    · exact a4 q z
    · rw [List.mem_singleton.mp z]; exact hba) a5
theorem g_cst {κ a n : Nat} {i : Int32} {x : Int32} (j : Nat) {f : Nat → Value} (hd : decode M.1 pc = .ok (.castore, 1)) (ha : h.2.2 a = some (κ, .inr (n, f))) (hty : hTy (κ % 100) = some .char) (hj : j < n) (hi : i = nI j) (hκ : κ < 900) (hSκ : S κ) (k : hG Z X M d S hin K (pc + 1) ls st (hSet h a (κ, .inr (n, upV f j (.int (x.toUInt32 % 65536).toInt32))))) : hG Z X M d S hin K pc ls (.int x :: .int i :: .ref a :: st) h := by
  intro O F H locs la a1 a2 a3 a4 a5
  have F' : hFr S hin (hSet h a (κ, .inr (n, upV f j (.int (x.toUInt32 % 65536).toInt32)))) := F.set ha rfl hSκ
  have O' := O
  obtain ⟨hZ, hx, hb, hml, hown, hW, -⟩ := O
  have ht := a1.2.2.2.1 a _ ha
  have hba : Z.2.1.heap.size ≤ a := by
    rcases ht.1 with q | q
    · exact absurd hκ (Nat.not_lt.mpr q)
    · exact q
  obtain ⟨-, cell, hcell, hat⟩ := ht
  have hat' := hAt_store (v := .int (x.toUInt32 % 65536).toInt32) hty hj (pk_fc x) hat
  obtain ⟨-, hkn, hst, ty, hty', hA, hlen, hlt, hsl⟩ := hat
  have ety := Option.some.inj (hty'.symm.trans hty)
  subst ety
  have hlen' : cell.slots.size = n := hlen
  have hlt' : n < 2 ^ 31 := hlt
  subst hi
  refine W.cast hx hb hcell ((hA.moved hW.alike).is hst) hkn (by rw [hlen']; exact nI_in hj hlt') rfl rfl hd fun H' e1 e2 e3 => ?_
  rw [nI_clamp (by omega)] at e1 ⊢
  have e1 : H'[a]? = some (cell.setSlot j (.int (x.toUInt32 % 65536).toInt32)) := e1
  have hsum : hSum H' = hSum H := hSum_set e2 hcell e1 (k2_slotsz _ _ _) e3
  exact hCanon fun b3 => k O' F' H' _ la (hR_set a1 e2 e1 e3 hat' hba) (by rw [hsum]; exact a2) b3 (fun q hq => by
    rcases List.mem_append.mp hq with z | z
    · exact a4 q z
    · rw [List.mem_singleton.mp z]; exact hba) a5
end G3
