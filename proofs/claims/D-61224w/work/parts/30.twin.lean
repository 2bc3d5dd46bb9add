/-! THE TWIN (TemplateEngineModel): its state as functions -/
set_option maxRecDepth 100000
/-- its int fields (naturals; error), its int arrays (naturals; those with negatives or any number), its names -/
abbrev tT : Type := (Nat → Nat) × Int32 × (Nat → Nat → Nat) × (Nat → Nat → Int32) × (Nat → Int64)
def tLen : Nat → Nat := fun k => match k with
  | 7 => 200 | 8 => 60 | 9 => 60 | 10 => 3000 | 11 => 600 | 12 => 600 | 13 => 60 | 14 => 1000 | 15 => 5 | 16 => 5 | 17 => 4
  | 18 => 250 | 19 => 250 | 20 => 250 | 21 => 250 | 22 => 250 | 23 => 250 | 24 => 250 | 25 => 4 | 26 => 18 | 27 => 18 | 28 => 18
  | 29 => 7200 | 30 => 401 | 31 => 400 | 32 => 400 | 40 => 20 | 41 => 20 | 42 => 20 | 43 => 20 | 44 => 60 | 45 => 60 | 46 => 20 | 47 => 20
  | _ => 0
def tKd : Nat → Nat := fun k => match k with
  | 7 => 162 | 14 => 162 | 29 => 162 | 30 => 162 | 31 => 162 | 32 => 162 | 12 => 164 | 13 => 161 | 17 => 161 | 46 => 161 | 47 => 161
  | _ => 163
/-- arrays of any numbers -/
def tIs : Nat → Bool := fun k => match k with
  | 9 => true | 22 => true | 23 => true | 24 => true | 26 => true | 27 => true | 43 => true
  | _ => false
def tAd (o k : Nat) : Nat := if k ≤ 32 then o + (k - 6) else o + (k - 13)
def tCt (τ : tT) (k : Nat) : Nat → Value := if k = 12 then fun i => .long (τ.2.2.2.2 i) else if tIs k = true then fun i => .int (τ.2.2.2.1 k i) else fun i => .int (nI (τ.2.2.1 k i))
def tFv (o : Nat) (τ : tT) (k : Nat) : Value := if tLen k = 0 then (if k = 3 then .int τ.2.1 else .int (nI (τ.1 k))) else .ref (tAd o k)
def tFs (o : Nat) (τ : tT) : List Value := (List.range 48).map (tFv o τ)
def tR (o : Nat) (τ : tT) (h : hP) : Prop := h.2.2 o = some (3, .inl (tFs o τ)) ∧ ∀ k, tLen k ≠ 0 → h.2.2 (tAd o k) = some (tKd k, .inr (tLen k, tCt τ k))
def tS : Nat → Prop := fun κ => κ = 3 ∨ κ = 161 ∨ κ = 162 ∨ κ = 163 ∨ κ = 164
theorem tS_3 : tS 3 := Or.inl rfl
theorem tS_kd (k : Nat) : tS (tKd k) := by
  unfold tKd
  split <;> simp [tS]
theorem tS_lt {κ : Nat} (h : tS κ) : κ < 900 := by
  rcases h with h | h | h | h | h <;> omega
theorem tLen_k {k : Nat} (h : tLen k ≠ 0) : 7 ≤ k ∧ k ≤ 47 ∧ (k ≤ 32 ∨ 40 ≤ k) := by
  unfold tLen at h
  split at h <;> first | omega | exact absurd rfl h
theorem tAd_inj {o k j : Nat} (hk : tLen k ≠ 0) (hj : tLen j ≠ 0) (e : tAd o k = tAd o j) : k = j := by
  have h1 := tLen_k hk
  have h2 := tLen_k hj
  unfold tAd at e
  split at e <;> split at e <;> omega
theorem tAd_o {o k : Nat} (hk : tLen k ≠ 0) : tAd o k ≠ o := by
  have h1 := tLen_k hk
  unfold tAd
  split <;> omega
/-- setters -/
def upN (f : Nat → Nat) (k v : Nat) : Nat → Nat := fun j => if j = k then v else f j
def up2 {α : Type} (f : Nat → Nat → α) (k i : Nat) (v : α) : Nat → Nat → α := fun k' => if k' = k then fun i' => if i' = i then v else f k' i' else f k'
def tFN (τ : tT) (k v : Nat) : tT := (upN τ.1 k v, τ.2)
def tEr (τ : tT) (v : Int32) : tT := (τ.1, v, τ.2.2)
def tAN (τ : tT) (k i v : Nat) : tT := (τ.1, τ.2.1, up2 τ.2.2.1 k i v, τ.2.2.2)
def tAI (τ : tT) (k i : Nat) (v : Int32) : tT := (τ.1, τ.2.1, τ.2.2.1, up2 τ.2.2.2.1 k i v, τ.2.2.2.2)
def tAL (τ : tT) (i : Nat) (v : Int64) : tT := (τ.1, τ.2.1, τ.2.2.1, τ.2.2.2.1, fun j => if j = i then v else τ.2.2.2.2 j)
theorem upN_s (f : Nat → Nat) (k v : Nat) : upN f k v k = v := if_pos rfl
theorem upN_n {f : Nat → Nat} {k v j : Nat} (h : j ≠ k) : upN f k v j = f j := if_neg h
theorem up2_s {α : Type} (f : Nat → Nat → α) (k i : Nat) (v : α) : up2 f k i v k i = v := by simp [up2]
theorem up2_k {α : Type} {f : Nat → Nat → α} {k i k' : Nat} {v : α} (h : k' ≠ k) : up2 f k i v k' = f k' := if_neg h
theorem up2_i {α : Type} {f : Nat → Nat → α} {k i i' : Nat} {v : α} (h : i' ≠ i) : up2 f k i v k i' = f k i' := by simp [up2, h]
theorem tFs_get (o : Nat) (τ : tT) {k : Nat} (hk : k < 48) : (tFs o τ)[k]? = some (tFv o τ k) := by
  unfold tFs
  rw [List.getElem?_map, List.getElem?_range hk]
  rfl
theorem tFs_set (o : Nat) (τ τ' : tT) {k : Nat} {v : Value} (hk : k < 48) (h1 : tFv o τ' k = v) (h2 : ∀ j, j ≠ k → tFv o τ' j = tFv o τ j) : (tFs o τ).set k v = tFs o τ' := by
  apply List.ext_getElem?
  intro j
  by_cases hj : j < 48
  · rw [tFs_get o τ' hj]
    by_cases e : j = k
    · subst e
      rw [List.getElem?_set_self (by simp [tFs]; exact hj), h1]
    · rw [List.getElem?_set_ne (Ne.symm e), tFs_get o τ hj, h2 j e]
  · rw [List.getElem?_eq_none (by simp [tFs]; omega), List.getElem?_eq_none (by simp [tFs]; omega)]
/-- the twin at o holds τ; nothing is new since hin -/
def tH (o : Nat) (τ : tT) (hin h : hP) : Prop := tR o τ h ∧ h.1 = hin.1 ∧ h.2.1 = hin.2.1
def tK (o : Nat) (hin : hP) (P : Option Value → tT → Prop) : hO → hP → Prop := fun r h' => ∃ v τ', r = .inl v ∧ tH o τ' hin h' ∧ P v τ'
/-- a contract of the twin's -/
def tC (Z : hE) (M : hM) (d : Nat) (o : Nat) (av : List Value) (τ : tT) (P : Option Value → tT → Prop) : Prop := ∀ h, tR o τ h → hCt Z M d tS av h (tK o h P)
theorem tC.of {Z : hE} {M : hM} {d o : Nat} {av : List Value} {τ : tT} {P : Option Value → tT → Prop} {ls : List (Nat × Value)} (hx : M.2.2.2.2 = []) (hc : M.2.1.cls = RX3) (hn : (lg_sl av).length ≤ M.2.2.1) (hl : lv_args 0 av = ls) (body : ∀ (X : hX) (hin h : hP), tH o τ hin h → hG Z X M d tS hin (tK o hin P) 0 ls [] h) : tC Z M d o av τ P :=
  fun h hR => hCt.of (by rw [hc]; exact pnX3) hx hn hl (fun X => body X h h ⟨hR, rfl, rfl⟩)
theorem tC.mono {Z : hE} {M : hM} {d o : Nat} {av : List Value} {τ : tT} {P P' : Option Value → tT → Prop} (c : tC Z M d o av τ P) (hp : ∀ v τ', P v τ' → P' v τ') : tC Z M d o av τ P' :=
  fun h hR => (c h hR).mono (fun r h' hk => by
    obtain ⟨v, τ', e, a, b⟩ := hk
    exact ⟨v, τ', e, a, hp v τ' b⟩)
section T1
variable {Z : hE} {X : hX} {M : hM} {d : Nat} {hin : hP} {K : hO → hP → Prop} {pc : Nat} {ls : List (Nat × Value)} {st : List Value} {h : hP} {o : Nat} {τ : tT} {P : Option Value → tT → Prop}
theorem t_get {idx : Nat} {v : Value} (k : Nat) (hd : decode M.1 pc = .ok (.getfield idx, 3)) (hR : tH o τ hin h) (hc : M.2.1.cls = RX3) (q : Cond.fieldLink RX3 idx RX3 (TX3 k).2.1 (TX3 k).2.2.1 ∈ lw_all) (hk : k < 48) (ho : RX3 = (TX3 k).1) (hv : tFv o τ k = v) (kk : hG Z X M d tS hin K (pc + 3) ls (v :: st) h) : hG Z X M d tS hin K pc ls (.ref o :: st) h :=
  g_get (κ := 3) (r := (RX3, TX3, 48)) k hd hR.1.1 rfl hk (by rw [hc]; exact q) (Or.inl ho) (by rw [tFs_get o τ hk, hv]) kk
theorem tR_set {τ' : tT} {k : Nat} {v : Value} (hR : tR o τ h) (hk : k < 48) (hl : tLen k = 0) (h1 : tFv o τ' k = v) (h2 : ∀ j, j ≠ k → tFv o τ' j = tFv o τ j) (h3 : ∀ j, tCt τ' j = tCt τ j) : tR o τ' (hSet h o (3, .inl ((tFs o τ).set k v))) := by
  refine ⟨?_, fun j hj => ?_⟩
  · rw [hSet_s, tFs_set o τ τ' hk h1 h2]
  · rw [hSet_n (tAd_o hj), h3 j]; exact hR.2 j hj
/-- putfield of a natural -/
theorem t_put {idx v : Nat} (k : Nat) (hd : decode M.1 pc = .ok (.putfield idx, 3)) (hR : tH o τ hin h) (hc : M.2.1.cls = RX3) (q : Cond.fieldLink RX3 idx RX3 (TX3 k).2.1 (TX3 k).2.2.1 ∈ lw_all) (hk : k < 48) (ho : RX3 = (TX3 k).1) (hl : tLen k = 0) (h3 : k ≠ 3) (hf : (TX3 k).2.2.2 = false) (hty : tyX3 k = .int) (kk : ∀ h, tH o (tFN τ k v) hin h → hG Z X M d tS hin K (pc + 3) ls st h) : hG Z X M d tS hin K pc ls (.int (nI v) :: .ref o :: st) h := by
  have ht := tyX3_ok k hk
  rw [hty] at ht
  refine g_put (κ := 3) (r := (RX3, TX3, 48)) k hd hR.1.1 rfl hk (by rw [hc]; exact q) (Or.inl ho) hf (by decide) tS_3 ht rfl rfl ?_
  refine kk _ ⟨tR_set hR.1 hk hl ?_ ?_ (fun _ => rfl), hR.2.1, hR.2.2⟩
  · simp [tFv, hl, h3, tFN, upN]
  · intro j hj
    simp [tFv, tFN, upN, hj]
theorem t_putE {idx : Nat} {v : Int32} (hd : decode M.1 pc = .ok (.putfield idx, 3)) (hR : tH o τ hin h) (hc : M.2.1.cls = RX3) (q : Cond.fieldLink RX3 idx RX3 (TX3 3).2.1 (TX3 3).2.2.1 ∈ lw_all) (kk : ∀ h, tH o (tEr τ v) hin h → hG Z X M d tS hin K (pc + 3) ls st h) : hG Z X M d tS hin K pc ls (.int v :: .ref o :: st) h := by
  refine g_put (κ := 3) (r := (RX3, TX3, 48)) 3 hd hR.1.1 rfl (by decide) (by rw [hc]; exact q) (Or.inl rfl) rfl (by decide) tS_3 (tyX3_ok 3 (by decide)) rfl rfl ?_
  refine kk _ ⟨tR_set hR.1 (by decide) rfl rfl ?_ (fun _ => rfl), hR.2.1, hR.2.2⟩
  intro j hj
  simp [tFv, tEr, hj]
theorem tR_ast {τ' : tT} {k : Nat} {f : Nat → Value} (hR : tR o τ h) (hl : tLen k ≠ 0) (h1 : tCt τ' k = f) (h2 : ∀ j, j ≠ k → tCt τ' j = tCt τ j) (h3 : ∀ j, tFv o τ' j = tFv o τ j) : tR o τ' (hSet h (tAd o k) (tKd k, .inr (tLen k, f))) := by
  refine ⟨?_, fun j hj => ?_⟩
  · rw [hSet_n (Ne.symm (tAd_o hl)), hR.1]
    have e : tFs o τ = tFs o τ' := by
      unfold tFs
      apply List.map_congr_left
      intro j _
      exact (h3 j).symm
    rw [e]
  · by_cases e : j = k
    · subst e
      rw [hSet_s, h1]
    · rw [hSet_n (fun z => e (tAd_inj hj hl z)), h2 j e]
      exact hR.2 j hj
theorem t_iret {v : Int32} (hd : decode M.1 pc = .ok (.ireturn, 1)) (hR : tH o τ hin h) (hr : M.2.2.2.1 = some .int) (p : P (some (.int v)) τ) : hG Z X M d tS hin (tK o hin P) pc ls [.int v] h := g_iret hd hr ⟨_, τ, rfl, hR, p⟩
theorem t_zret {v : Int32} (hd : decode M.1 pc = .ok (.ireturn, 1)) (hR : tH o τ hin h) (hr : M.2.2.2.1 = some .boolean) (hn : narrow .boolean (.int v) = .int v) (p : P (some (.int v)) τ) : hG Z X M d tS hin (tK o hin P) pc ls [.int v] h := g_zret hd hr hn ⟨_, τ, rfl, hR, p⟩
theorem t_lret {v : Int64} (hd : decode M.1 pc = .ok (.lreturn, 1)) (hR : tH o τ hin h) (hr : M.2.2.2.1 = some .long) (p : P (some (.long v)) τ) : hG Z X M d tS hin (tK o hin P) pc ls [.long v] h := g_lret hd hr ⟨_, τ, rfl, hR, p⟩
theorem t_vret (hd : decode M.1 pc = .ok (.return_, 1)) (hR : tH o τ hin h) (hr : M.2.2.2.1 = none) (p : P none τ) : hG Z X M d tS hin (tK o hin P) pc ls [] h := g_vret hd hr ⟨_, τ, rfl, hR, p⟩
/-- a call of the twin's own -/
theorem t_inv {M' : hM} {idx n : Nat} {As rest st0 : List Value} {P' : Option Value → tT → Prop} (hd : decode M.1 pc = .ok (.invokevirtual idx, 3)) (hR : tH o τ hin h) (hc : tC Z M' d o (.ref o :: As) τ P') (me : hMe M' n) (q1 : Cond.methodLink M.2.1.cls idx M'.2.1 ∈ lw_all) (q2 : Cond.instanceMethod M'.2.1 ∈ lw_all) (q3 : Cond.selects RX3 M'.2.1 M'.2.1 ∈ lw_all) (hn : As.length = n) (hst : st0 = As.reverse ++ .ref o :: rest) (hw : (rest.map fun v => v.category).sum ≤ 8)
    (kk : ∀ v τ' h, P' v τ' → tH o τ' hin h → hG Z X M (d + 1) tS hin K (pc + 3) ls (v.toList ++ rest) h) : hG Z X M (d + 1) tS hin K pc ls st0 h :=
  g_invV (κ := 3) (r := (RX3, TX3, 48)) hd hR.1.1 rfl (hc h hR.1) me q1 q2 q3 hn hst hw (fun _ z => z)
    (fun v h' hk _ => by
      obtain ⟨v', τ', e, ⟨a, b, c⟩, p⟩ := hk
      cases e
      exact kk v τ' h' p ⟨a, b.trans hR.2.1, c.trans hR.2.2⟩)
    (fun E h' hk _ => by
      obtain ⟨v', τ', e, -⟩ := hk
      cases e)
theorem t_invE {M' : hM} {idx n : Nat} {As rest st0 : List Value} {v : Option Value} {τ2 : tT} (hd : decode M.1 pc = .ok (.invokevirtual idx, 3)) (hR : tH o τ hin h) (hc : tC Z M' d o (.ref o :: As) τ (fun r τ' => r = v ∧ τ' = τ2)) (me : hMe M' n) (q1 : Cond.methodLink M.2.1.cls idx M'.2.1 ∈ lw_all) (q2 : Cond.instanceMethod M'.2.1 ∈ lw_all) (q3 : Cond.selects RX3 M'.2.1 M'.2.1 ∈ lw_all) (hn : As.length = n) (hst : st0 = As.reverse ++ .ref o :: rest) (hw : (rest.map fun v => v.category).sum ≤ 8)
    (kk : ∀ h, tH o τ2 hin h → hG Z X M (d + 1) tS hin K (pc + 3) ls (v.toList ++ rest) h) : hG Z X M (d + 1) tS hin K pc ls st0 h :=
  t_inv hd hR hc me q1 q2 q3 hn hst hw (fun v' τ' h' hp hR' => by
    obtain ⟨e1, e2⟩ := hp
    subst e1; subst e2
    exact kk h' hR')
theorem t_iald {k j : Nat} (hd : decode M.1 pc = .ok (.iaload, 1)) (hR : tH o τ hin h) (hl : tKd k = 163) (hl0 : tLen k ≠ 0) (hi : tIs k = false) (h12 : k ≠ 12) (hj : j < tLen k) (kk : hG Z X M d tS hin K (pc + 1) ls (.int (nI (τ.2.2.1 k j)) :: st) h) : hG Z X M d tS hin K pc ls (.int (nI j) :: .ref (tAd o k) :: st) h := by
  refine g_iald j hd (hR.1.2 k hl0) (by rw [hl]; rfl) hj rfl ?_
  have e : tCt τ k j = .int (nI (τ.2.2.1 k j)) := by simp [tCt, hi, h12]
  rw [e]; exact kk
theorem t_cald {k j : Nat} (hd : decode M.1 pc = .ok (.caload, 1)) (hR : tH o τ hin h) (hl : tKd k = 162) (hl0 : tLen k ≠ 0) (hi : tIs k = false) (h12 : k ≠ 12) (hj : j < tLen k) (kk : hG Z X M d tS hin K (pc + 1) ls (.int (nI (τ.2.2.1 k j)) :: st) h) : hG Z X M d tS hin K pc ls (.int (nI j) :: .ref (tAd o k) :: st) h := by
  refine g_cald j hd (hR.1.2 k hl0) (by rw [hl]; rfl) hj rfl ?_
  have e : tCt τ k j = .int (nI (τ.2.2.1 k j)) := by simp [tCt, hi, h12]
  rw [e]; exact kk
theorem t_zald {k j : Nat} (hd : decode M.1 pc = .ok (.baload, 1)) (hR : tH o τ hin h) (hl : tKd k = 161) (hl0 : tLen k ≠ 0) (hi : tIs k = false) (h12 : k ≠ 12) (hj : j < tLen k) (kk : hG Z X M d tS hin K (pc + 1) ls (.int (nI (τ.2.2.1 k j)) :: st) h) : hG Z X M d tS hin K pc ls (.int (nI j) :: .ref (tAd o k) :: st) h := by
  refine g_zald j hd (hR.1.2 k hl0) (by rw [hl]; rfl) hj rfl ?_
  have e : tCt τ k j = .int (nI (τ.2.2.1 k j)) := by simp [tCt, hi, h12]
  rw [e]; exact kk
theorem t_ialdI {k j : Nat} (hd : decode M.1 pc = .ok (.iaload, 1)) (hR : tH o τ hin h) (hl : tKd k = 163) (hl0 : tLen k ≠ 0) (hi : tIs k = true) (h12 : k ≠ 12) (hj : j < tLen k) (kk : hG Z X M d tS hin K (pc + 1) ls (.int (τ.2.2.2.1 k j) :: st) h) : hG Z X M d tS hin K pc ls (.int (nI j) :: .ref (tAd o k) :: st) h := by
  refine g_iald j hd (hR.1.2 k hl0) (by rw [hl]; rfl) hj rfl ?_
  have e : tCt τ k j = .int (τ.2.2.2.1 k j) := by simp [tCt, hi, h12]
  rw [e]; exact kk
theorem t_lald {j : Nat} (hd : decode M.1 pc = .ok (.laload, 1)) (hR : tH o τ hin h) (hj : j < 600) (kk : hG Z X M d tS hin K (pc + 1) ls (.long (τ.2.2.2.2 j) :: st) h) : hG Z X M d tS hin K pc ls (.int (nI j) :: .ref (tAd o 12) :: st) h := by
  refine g_lald j hd (hR.1.2 12 (by decide)) rfl hj rfl ?_
  exact kk
theorem tCt_AN (k i v : Nat) (hi : tIs k = false) (h12 : k ≠ 12) : tCt (tAN τ k i v) k = upV (tCt τ k) i (.int (nI v)) := by
  funext j
  by_cases e : j = i
  · subst e
    simp [tCt, hi, h12, tAN, up2, upV]
  · simp [tCt, hi, h12, tAN, up2, upV, e]
theorem tCt_ANo {k i v j : Nat} (h : j ≠ k) : tCt (tAN τ k i v) j = tCt τ j := by
  simp [tCt, tAN, up2, h]
theorem tCt_AI (k i : Nat) (v : Int32) (hi : tIs k = true) (h12 : k ≠ 12) : tCt (tAI τ k i v) k = upV (tCt τ k) i (.int v) := by
  funext j
  by_cases e : j = i
  · subst e
    simp [tCt, hi, h12, tAI, up2, upV]
  · simp [tCt, hi, h12, tAI, up2, upV, e]
theorem tCt_AIo {k i j : Nat} {v : Int32} (h : j ≠ k) : tCt (tAI τ k i v) j = tCt τ j := by
  simp [tCt, tAI, up2, h]
theorem tCt_AL (i : Nat) (v : Int64) : tCt (tAL τ i v) 12 = upV (tCt τ 12) i (.long v) := by
  funext j
  by_cases e : j = i
  · subst e
    simp [tCt, tAL, upV]
  · simp [tCt, tAL, upV, e]
theorem tCt_ALo {i j : Nat} {v : Int64} (h : j ≠ 12) : tCt (tAL τ i v) j = tCt τ j := by
  simp [tCt, tAL, h]
theorem t_iast {k j v : Nat} (hd : decode M.1 pc = .ok (.iastore, 1)) (hR : tH o τ hin h) (hl : tKd k = 163) (hl0 : tLen k ≠ 0) (hi : tIs k = false) (h12 : k ≠ 12) (hj : j < tLen k) (kk : ∀ h, tH o (tAN τ k j v) hin h → hG Z X M d tS hin K (pc + 1) ls st h) : hG Z X M d tS hin K pc ls (.int (nI v) :: .int (nI j) :: .ref (tAd o k) :: st) h := by
  refine g_iast j hd (hR.1.2 k hl0) (by rw [hl]; rfl) hj rfl (tS_lt (tS_kd k)) (tS_kd k) ?_
  exact kk _ ⟨tR_ast hR.1 hl0 (tCt_AN k j v hi h12) (fun _ e => tCt_ANo e) (fun _ => rfl), hR.2⟩
theorem t_cast {k j v : Nat} (hd : decode M.1 pc = .ok (.castore, 1)) (hR : tH o τ hin h) (hl : tKd k = 162) (hl0 : tLen k ≠ 0) (hi : tIs k = false) (h12 : k ≠ 12) (hj : j < tLen k) (hv : v < 65536) (kk : ∀ h, tH o (tAN τ k j v) hin h → hG Z X M d tS hin K (pc + 1) ls st h) : hG Z X M d tS hin K pc ls (.int (nI v) :: .int (nI j) :: .ref (tAd o k) :: st) h := by
  refine g_cst j hd (hR.1.2 k hl0) (by rw [hl]; rfl) hj rfl (tS_lt (tS_kd k)) (tS_kd k) ?_
  have e : ((nI v).toUInt32 % 65536).toInt32 = nI v := by rw [pk_char, pk_tn (by omega), Nat.mod_eq_of_lt hv]
  rw [e]
  exact kk _ ⟨tR_ast hR.1 hl0 (tCt_AN k j v hi h12) (fun _ e => tCt_ANo e) (fun _ => rfl), hR.2⟩
theorem t_zast {k j v : Nat} (hd : decode M.1 pc = .ok (.bastore, 1)) (hR : tH o τ hin h) (hl : tKd k = 161) (hl0 : tLen k ≠ 0) (hi : tIs k = false) (h12 : k ≠ 12) (hj : j < tLen k) (hv : v < 2) (kk : ∀ h, tH o (tAN τ k j v) hin h → hG Z X M d tS hin K (pc + 1) ls st h) : hG Z X M d tS hin K pc ls (.int (nI v) :: .int (nI j) :: .ref (tAd o k) :: st) h := by
  have e : narrow .boolean (.int (nI v)) = .int (nI v) := by
    rcases (show v = 0 ∨ v = 1 by omega) with q | q <;> subst q <;> rfl
  have e2 : fits .boolean (.int (nI v)) = true := by
    rcases (show v = 0 ∨ v = 1 by omega) with q | q <;> subst q <;> rfl
  refine g_zast j hd (hR.1.2 k hl0) (by rw [hl]; rfl) hj rfl (tS_lt (tS_kd k)) (tS_kd k) (by rw [e]; exact e2) ?_
  rw [e]
  exact kk _ ⟨tR_ast hR.1 hl0 (tCt_AN k j v hi h12) (fun _ e => tCt_ANo e) (fun _ => rfl), hR.2⟩
theorem t_iastI {k j : Nat} {v : Int32} (hd : decode M.1 pc = .ok (.iastore, 1)) (hR : tH o τ hin h) (hl : tKd k = 163) (hl0 : tLen k ≠ 0) (hi : tIs k = true) (h12 : k ≠ 12) (hj : j < tLen k) (kk : ∀ h, tH o (tAI τ k j v) hin h → hG Z X M d tS hin K (pc + 1) ls st h) : hG Z X M d tS hin K pc ls (.int v :: .int (nI j) :: .ref (tAd o k) :: st) h := by
  refine g_iast j hd (hR.1.2 k hl0) (by rw [hl]; rfl) hj rfl (tS_lt (tS_kd k)) (tS_kd k) ?_
  exact kk _ ⟨tR_ast hR.1 hl0 (tCt_AI k j v hi h12) (fun _ e => tCt_AIo e) (fun _ => rfl), hR.2⟩
theorem t_last {j : Nat} {v : Int64} (hd : decode M.1 pc = .ok (.lastore, 1)) (hR : tH o τ hin h) (hj : j < 600) (kk : ∀ h, tH o (tAL τ j v) hin h → hG Z X M d tS hin K (pc + 1) ls st h) : hG Z X M d tS hin K pc ls (.long v :: .int (nI j) :: .ref (tAd o 12) :: st) h := by
  refine g_last j hd (hR.1.2 12 (by decide)) rfl hj rfl (tS_lt (tS_kd 12)) (tS_kd 12) ?_
  exact kk _ ⟨tR_ast hR.1 (by decide) (tCt_AL j v) (fun _ e => tCt_ALo e) (fun _ => rfl), hR.2⟩
end T1
