/-! THE MODEL's WORLD: one object, its own arrays; state: ints by field, int arrays and long arrays by field -/
abbrev MSt : Type := (Nat → Int32) × (Nat → Nat → Int32) × (Nat → Nat → Int64)
def sF (σ : MSt) (k : Nat) (v : Int32) : MSt := (upd σ.1 k v, σ.2)
def sI (σ : MSt) (a i : Nat) (v : Int32) : MSt := (σ.1, va_up σ.2.1 a (upd (σ.2.1 a) i v), σ.2.2)
def sJ (σ : MSt) (a i : Nat) (v : Int64) : MSt := (σ.1, σ.2.1, va_up σ.2.2 a (vp_updL (σ.2.2 a) i v))
def isF (k : Nat) : Bool := decide (k < 6) || (decide (22 ≤ k) && decide (k < 27)) || (decide (29 ≤ k) && decide (k < 32)) || (decide (33 ≤ k) && decide (k < 35)) || decide (36 ≤ k)
def isI (k : Nat) : Bool := !isF k && !decide (k = 18) && !decide (k = 19) && !decide (k = 50)
def lenM (k : Nat) : Nat := if k = 18 then 1280 else if k = 19 then 160 else if k = 20 then 32 else if k = 21 then 5 else if k = 27 then 70 else if k = 28 then 70 else if k = 35 then 20 else 8
def fM (α : Nat → Nat) (σ : MSt) (k : Nat) : Value := if isF k = true then .int (σ.1 k) else .ref (α k)
def fsM (α : Nat → Nat) (σ : MSt) : List Value := (List.range 38).map (fM α σ)
abbrev dmM : List Nat := [50, 6, 7, 8, 9, 10, 11, 12, 13, 14, 15, 16, 17, 18, 19, 20, 21, 27, 28, 32, 35]
def gM (Γ : GA) (α : Nat → Nat) (σ : MSt) (κ : Nat) : Nat × va_E := (α κ, if κ = 50 then .inr (0, fsM α σ) else if κ = 18 ∨ κ = 19 then .inl (Γ.2 1, lenM κ, .inr (.inl (σ.2.2 κ))) else .inl (Γ.2 0, lenM κ, .inl (σ.2.1 κ)))
def WM (Γ : GA) (α : Nat → Nat) (σ : MSt) (H : Heap) : Prop := va_P Γ.1 clA (dmM.map (gM Γ α σ)) H
abbrev AM (α : Nat → Nat) (sz : Nat) : Nat → Prop := gA dmM α sz
theorem gM_I {Γ : GA} {α : Nat → Nat} {σ : MSt} {a : Nat} (h : isI a = true) : gM Γ α σ a = (α a, .inl (Γ.2 0, lenM a, .inl (σ.2.1 a))) := by
  have h50 : ¬ a = 50 := fun e => by subst e; cases h
  have h18 : ¬ (a = 18 ∨ a = 19) := fun e => by rcases e with e | e <;> subst e <;> cases h
  simp only [gM, if_neg h50, if_neg h18]
theorem isI_dm {a : Nat} (h : isI a = true) : a ∈ dmM := by
  have h2 : a < 38 := by
    apply Decidable.byContradiction
    intro q
    have : isF a = true := by simp [isF]; omega
    simp [isI, this] at h
  have : ∀ b, b < 38 → isI b = true → b ∈ dmM := by decide +kernel
  exact this a h2 h
theorem fsM_set {α : Nat → Nat} {σ : MSt} {k : Nat} {v : Int32} (hk : k < 38) (hF : isF k = true) : (fsM α σ).set k (.int v) = fsM α (sF σ k v) := by
  apply List.ext_getElem?
  intro j
  by_cases hj : j = k
  · subst hj
    rw [List.getElem?_set_self (by simp [fsM]; exact hk)]
    simp [fsM, hk, fM, hF, sF, upd]
  · rw [List.getElem?_set_ne (Ne.symm hj)]
    simp only [fsM, List.getElem?_map]
    cases h : (List.range 38)[j]? with
    | none => rfl
    | some b =>
      have hb : b = j := by
        have := List.getElem?_eq_some_iff.mp h
        obtain ⟨_, e⟩ := this
        simp at e
        exact e.symm
      subst hb
      simp [fM, sF, upd, hj]
theorem fsM_at {α : Nat → Nat} {σ : MSt} {k : Nat} (hk : k < 38) : (fsM α σ)[k]? = some (fM α σ k) := by
  simp [fsM, hk]
section MR
variable {p : Program} {l : Launch} {e : Env} {R : Room} {s : State} {m : MethodId} {args : Array Value} {below : List Frame} {meth : Method} {c : Code} {H : Heap} {locs : List Loc} {cells slots : Nat} {Q : State → Prop}
variable {cc : ByteArray} {pc nL : Nat} {ls : Array Slot} {rest : List Value} {Γ : GA} {α : Nat → Nat} {σ : MSt} {A : Nat → Prop} {H0 : Heap}
/-- what stands all through a method of the model -/
def CM (p : Program) (s : State) (m : MethodId) (args : Array Value) (meth : Method) (c : Code) (cc : ByteArray) (nL : Nat) (ret : Option FieldType) (Γ : GA) (α : Nat → Nat) : Prop := p.tables.exec = Jvm.exec ∧ c.code = cc ∧ c.maxLocals = nL ∧ s.vm.findClass RX4 = some m.cls ∧ (∀ w ∈ lw_all, w.before args s = true) ∧ KA Γ s ∧ gD dmM α (AM α s.heap.size) ∧ meth.sig.returnType = ret ∧ meth.locks = false
theorem m_geti (hx : p.tables.exec = Jvm.exec) (hb : c.code = cc) (hts : ∀ w ∈ lw_all, w.before args s = true) (hown : s.vm.findClass RX4 = some m.cls) (hK : KA Γ s) (hP : WM Γ α σ H) (k : Nat) (hk : k < 38) (hF : isF k = true) {index : Nat} (hl : Cond.fieldLink RX4 index RX4 (TX4 k).2.1 (TX4 k).2.2.1 ∈ lw_all) (hT : (TX4 k).1 = RX4) (hd : decode cc pc = .ok (.getfield index, 3))
    (kk : W p l e R s m args below meth c H locs cells slots Q (F0 m (pc + 3) ls (.int (σ.1 k) :: rest))) : W p l e R s m args below meth c H locs cells slots Q (F0 m pc ls (.ref (α 50) :: rest)) := by
  obtain ⟨q0, h1, h2⟩ := g_at (gM Γ α σ) (show 50 ∈ dmM by decide)
  exact va_get (D := Γ.1) (ci := 0) (v := .int (σ.1 k)) (C := RX4) (T := TX4) (N := 38) (fs := fsM α σ) hx hb hts in_X4 hown hK hP q0 h2 rfl k hk (hts _ hl) (fun x h9 => by rw [← hT]; exact h9) (by rw [fsM_at hk, fM, if_pos hF]) hd kk
theorem m_geta (hx : p.tables.exec = Jvm.exec) (hb : c.code = cc) (hts : ∀ w ∈ lw_all, w.before args s = true) (hown : s.vm.findClass RX4 = some m.cls) (hK : KA Γ s) (hP : WM Γ α σ H) (k : Nat) (hk : k < 38) (hF : isF k = false) {index : Nat} (hl : Cond.fieldLink RX4 index RX4 (TX4 k).2.1 (TX4 k).2.2.1 ∈ lw_all) (hT : (TX4 k).1 = RX4) (hd : decode cc pc = .ok (.getfield index, 3))
    (kk : W p l e R s m args below meth c H locs cells slots Q (F0 m (pc + 3) ls (.ref (α k) :: rest))) : W p l e R s m args below meth c H locs cells slots Q (F0 m pc ls (.ref (α 50) :: rest)) := by
  obtain ⟨q0, h1, h2⟩ := g_at (gM Γ α σ) (show 50 ∈ dmM by decide)
  exact va_get (D := Γ.1) (ci := 0) (v := .ref (α k)) (C := RX4) (T := TX4) (N := 38) (fs := fsM α σ) hx hb hts in_X4 hown hK hP q0 h2 rfl k hk (hts _ hl) (fun x h9 => by rw [← hT]; exact h9) (by rw [fsM_at hk, fM, if_neg (by rw [hF]; decide)]) hd kk
theorem m_put (hx : p.tables.exec = Jvm.exec) (hb : c.code = cc) (hts : ∀ w ∈ lw_all, w.before args s = true) (hown : s.vm.findClass RX4 = some m.cls) (hK : KA Γ s) (hD : gD dmM α A) (hP : WM Γ α σ H) (hS : va_S A H0 H locs) (k : Nat) (hk : k < 38) (hF : isF k = true) {index : Nat} (hl : Cond.fieldLink RX4 index RX4 (TX4 k).2.1 (TX4 k).2.2.1 ∈ lw_all) (hT : (TX4 k).1 = RX4) (hfin : (TX4 k).2.2.2 = false) {v : Int32} (hn : narrow (tyX4 k) (.int v) = .int v) (hfit : fits (tyX4 k) (.int v) = true) (hd : decode cc pc = .ok (.putfield index, 3))
    (kk : ∀ (H1 : Heap) (locs1 : List Loc), WM Γ α (sF σ k v) H1 → va_S A H0 H1 locs1 → W p l e R s m args below meth c H1 locs1 cells slots Q (F0 m (pc + 3) ls rest)) : W p l e R s m args below meth c H locs cells slots Q (F0 m pc ls (.int v :: .ref (α 50) :: rest)) := by
  obtain ⟨q0, h1, h2⟩ := g_at (gM Γ α σ) (show 50 ∈ dmM by decide)
  refine va_put (D := Γ.1) (ci := 0) (v := .int v) (ty := tyX4 k) (C := RX4) (T := TX4) (N := 38) (fs := fsM α σ) hx hb hts in_X4 tyX4 tyX4_ok nmX4 hown hK hP (hD.va (fun _ => rfl)) hS q0 h2 rfl k hk (hts _ hl) (fun x h9 => by rw [← hT]; exact h9) hfin (tyX4_ok k hk) hn hfit (by simp [fsM]; exact hk) hd (fun H1 locs1 hP1 _ hS1 => kk H1 locs1 ?_ hS1)
  rw [g_set hD (κ := 50) (g' := gM Γ α (sF σ k v)) h1 (fun κ' hne => by simp only [gM, if_neg hne]; rfl) (by rw [fsM_set hk hF]; rfl)] at hP1
  exact hP1
theorem m_iald (hx : p.tables.exec = Jvm.exec) (hb : c.code = cc) (hK : KA Γ s) (hP : WM Γ α σ H) (a : Nat) (ha : isI a = true) {i : Int32} (hin : vp_in i (lenM a)) (hd : decode cc pc = .ok (.iaload, 1))
    (kk : W p l e R s m args below meth c H locs cells slots Q (F0 m (pc + 1) ls (.int (σ.2.1 a i.toNatClampNeg) :: rest))) : W p l e R s m args below meth c H locs cells slots Q (F0 m pc ls (.int i :: .ref (α a) :: rest)) := by
  obtain ⟨q0, h1, h2⟩ := g_at (gM Γ α σ) (isI_dm ha)
  rw [gM_I ha] at h2
  exact va_iald hx hb hK hP q0 0 h2 rfl hin hd kk
theorem m_iast (hx : p.tables.exec = Jvm.exec) (hb : c.code = cc) (hK : KA Γ s) (hD : gD dmM α A) (hP : WM Γ α σ H) (hS : va_S A H0 H locs) (a : Nat) (ha : isI a = true) {i v : Int32} (hin : vp_in i (lenM a)) (hd : decode cc pc = .ok (.iastore, 1))
    (kk : ∀ (H1 : Heap) (locs1 : List Loc), WM Γ α (sI σ a i.toNatClampNeg v) H1 → va_S A H0 H1 locs1 → W p l e R s m args below meth c H1 locs1 cells slots Q (F0 m (pc + 1) ls rest)) : W p l e R s m args below meth c H locs cells slots Q (F0 m pc ls (.int v :: .int i :: .ref (α a) :: rest)) := by
  obtain ⟨q0, h1, h2⟩ := g_at (gM Γ α σ) (isI_dm ha)
  rw [gM_I ha] at h2
  refine va_iast hx hb hK hP (hD.va (fun _ => rfl)) hS q0 0 h2 rfl hin hd (fun H1 locs1 hP1 _ hS1 => kk H1 locs1 ?_ hS1)
  rw [g_set hD (κ := a) (g' := gM Γ α (sI σ a i.toNatClampNeg v)) h1 (fun κ' hne => by simp only [gM, sI, va_up_ne _ _ hne]; rfl) (by rw [gM_I ha]; simp only [sI, va_up_self])] at hP1
  exact hP1
theorem m_lald (hx : p.tables.exec = Jvm.exec) (hb : c.code = cc) (hK : KA Γ s) (hP : WM Γ α σ H) (a : Nat) (ha : a = 18 ∨ a = 19) {i : Int32} (hin : vp_in i (lenM a)) (hd : decode cc pc = .ok (.laload, 1))
    (kk : W p l e R s m args below meth c H locs cells slots Q (F0 m (pc + 1) ls (.long (σ.2.2 a i.toNatClampNeg) :: rest))) : W p l e R s m args below meth c H locs cells slots Q (F0 m pc ls (.int i :: .ref (α a) :: rest)) := by
  obtain ⟨q0, h1, h2⟩ := g_at (gM Γ α σ) (show a ∈ dmM by rcases ha with rfl | rfl <;> decide)
  have e : gM Γ α σ a = (α a, .inl (Γ.2 1, lenM a, .inr (.inl (σ.2.2 a)))) := by rcases ha with rfl | rfl <;> rfl
  rw [e] at h2
  exact va_lald hx hb hK hP q0 1 h2 rfl hin hd kk
theorem m_last (hx : p.tables.exec = Jvm.exec) (hb : c.code = cc) (hK : KA Γ s) (hD : gD dmM α A) (hP : WM Γ α σ H) (hS : va_S A H0 H locs) (a : Nat) (ha : a = 18 ∨ a = 19) {i : Int32} {v : Int64} (hin : vp_in i (lenM a)) (hd : decode cc pc = .ok (.lastore, 1))
    (kk : ∀ (H1 : Heap) (locs1 : List Loc), WM Γ α (sJ σ a i.toNatClampNeg v) H1 → va_S A H0 H1 locs1 → W p l e R s m args below meth c H1 locs1 cells slots Q (F0 m (pc + 1) ls rest)) : W p l e R s m args below meth c H locs cells slots Q (F0 m pc ls (.long v :: .int i :: .ref (α a) :: rest)) := by
  obtain ⟨q0, h1, h2⟩ := g_at (gM Γ α σ) (show a ∈ dmM by rcases ha with rfl | rfl <;> decide)
  have e : ∀ σ, gM Γ α σ a = (α a, .inl (Γ.2 1, lenM a, .inr (.inl (σ.2.2 a)))) := by rcases ha with rfl | rfl <;> (intro; rfl)
  rw [e] at h2
  refine va_last hx hb hK hP (hD.va (fun _ => rfl)) hS q0 1 h2 rfl hin hd (fun H1 locs1 hP1 _ hS1 => kk H1 locs1 ?_ hS1)
  rw [g_set hD (κ := a) (g' := gM Γ α (sJ σ a i.toNatClampNeg v)) h1 (fun κ' hne => by simp only [gM, sJ, va_up_ne _ _ hne]; rfl) (by rw [e]; simp only [sJ, va_up_self])] at hP1
  exact hP1
end MR
/-! contracts of the model's methods -/
def mPre (Γ : GA) (α : Nat → Nat) (σ : MSt) (sz : Nat) (avs : List Value) : Array Value → State → Prop := va_Pc (.ref (α 50) :: avs) (fun U => U.heap.size = sz ∧ WM Γ α σ U.heap ∧ KA Γ U ∧ gD dmM α (fun _ => True))
def mB (Γ : GA) (α : Nat → Nat) (u : MSt) (t : State) : Prop := WM Γ α u t.heap ∧ KA Γ t
abbrev mI (l : Launch) (y : MethodName) (b : ByteArray) (L : Nat) (ret : Option FieldType) (rm : Room) (Γ : GA) (α : Nat → Nat) (avs : List Value) (σ : MSt) (K : Int32 → MSt → Prop) : Prop := ∀ sz : Nat, Met l y (ws_ y b L ret) rm (mPre Γ α σ sz avs) (va_Qi K (mB Γ α) (AM α sz)) 0 0 (AM α sz)
abbrev mL (l : Launch) (y : MethodName) (b : ByteArray) (L : Nat) (ret : Option FieldType) (rm : Room) (Γ : GA) (α : Nat → Nat) (avs : List Value) (σ : MSt) (K : Int64 → MSt → Prop) : Prop := ∀ sz : Nat, Met l y (ws_ y b L ret) rm (mPre Γ α σ sz avs) (va_Ql K (mB Γ α) (AM α sz)) 0 0 (AM α sz)
abbrev mV (l : Launch) (y : MethodName) (b : ByteArray) (L : Nat) (ret : Option FieldType) (rm : Room) (Γ : GA) (α : Nat → Nat) (avs : List Value) (σ : MSt) (K : MSt → Prop) : Prop := ∀ sz : Nat, Met l y (ws_ y b L ret) rm (mPre Γ α σ sz avs) (va_Qv K (mB Γ α) (AM α sz)) 0 0 (AM α sz)
theorem mPre_blind {Γ : GA} {α : Nat → Nat} {σ : MSt} {sz : Nat} {avs : List Value} : FrameBlind (mPre Γ α σ sz avs) := fun a U g mk q => by
  obtain ⟨q0, q1, qP, qK, qD⟩ := q
  exact ⟨q0, q1, qP, KA.moved (u := U) (U := U.calling g mk a) (Vm.Alike.refl U.vm) qK, qD⟩
section MC
variable {p : Program} {l : Launch} {e : Env} {R : Room} {s : State} {m : MethodId} {args : Array Value} {below : List Frame} {meth : Method} {c : Code} {H : Heap} {locs : List Loc} {cells slots : Nat} {Q : State → Prop}
variable {cc : ByteArray} {pc nL : Nat} {ls : Array Slot} {rest st : List Value} {Γ : GA} {α : Nat → Nat} {σ : MSt} {ret0 : Option FieldType} {y : MethodName} {bytes : ByteArray} {maxL : Nat} {ret : Option FieldType} {rm : Room} {n index : Nat} {avs : List Value} {own : String} {A : Nat → Prop}
theorem m_preV (hK : KA Γ s) (hD : gD dmM α A) (hP : WM Γ α σ H) : PreV s H RX4 (α 50) (mPre Γ α σ H.size avs) avs := by
  obtain ⟨q0, h1, h2⟩ := g_at (gM Γ α σ) (show 50 ∈ dmM by decide)
  refine ⟨mPre_blind, va_recv hK hP (ci := 0) (q0 := q0) (fs := fsM α σ) rfl h2, fun U hU hW => ⟨rfl, by rw [hU], by rw [hU]; exact hP, KA.moved hW.alike hK, hD.1, fun _ _ => trivial⟩⟩
theorem m_free (hD : gD dmM α A) (hS : va_S A s.heap H locs) (hA : ∀ q, s.heap.size ≤ q → A q) : ∀ q, AM α H.size q → A q := by
  intro q h
  rcases h with ⟨κ, h1, h2⟩ | h
  · rw [← h2]; exact hD.2 κ h1
  · exact hA q (Nat.le_trans hS.1 h)
theorem m_calli (S : CallFix p m c cc nL s args lw_all own) (hK : KA Γ s) (hD : gD dmM α A) (hA : ∀ q, s.heap.size ≤ q → A q) (hP : WM Γ α σ H) (hS : va_S A s.heap H locs) {K : Int32 → MSt → Prop} (hM : mI l y bytes maxL ret rm Γ α avs σ K) (cw : CallW R s args own RX4 index y bytes maxL ret (ws_ y bytes maxL ret) rm 0 0 n) (hn : avs.length = n) (hsize : ls.size = nL) (hst : st = avs.reverse ++ .ref (α 50) :: rest) (hW : (rest.map fun v => v.category).sum ≤ 8) (hd : decode cc pc = .ok (.invokevirtual index, 3)) (hf : cells ≤ R.cells ∧ slots ≤ R.slots)
    (kk : ∀ (r : Int32) (u : MSt) (H1 : Heap) (locs1 : List Loc), K r u → WM Γ α u H1 → va_S A s.heap H1 locs1 → W p l e R s m args below meth c H1 locs1 cells slots Q (F0 m (pc + 3) ls (.int r :: rest))) : W p l e R s m args below meth c H locs cells slots Q (F0 m pc ls st) := by
  subst hst
  have hFc := m_free hD hS hA
  exact va_calli (va_runV (As := avs) (rest := rest) S (hM H.size) cw (m_preV hK hD hP) rfl hn hsize rfl (lv_room (pc := pc) (ls := ls) (rest := avs.reverse ++ .ref (α 50) :: rest) hW) hd hf) hS (fun q _ h => hFc q h) hFc (fun r u t H1 locs1 ht _ hk hB _ _ hS1 => kk r u H1 locs1 hk (ht ▸ hB.1) hS1)
theorem m_calll (S : CallFix p m c cc nL s args lw_all own) (hK : KA Γ s) (hD : gD dmM α A) (hA : ∀ q, s.heap.size ≤ q → A q) (hP : WM Γ α σ H) (hS : va_S A s.heap H locs) {K : Int64 → MSt → Prop} (hM : mL l y bytes maxL ret rm Γ α avs σ K) (cw : CallW R s args own RX4 index y bytes maxL ret (ws_ y bytes maxL ret) rm 0 0 n) (hn : avs.length = n) (hsize : ls.size = nL) (hst : st = avs.reverse ++ .ref (α 50) :: rest) (hW : (rest.map fun v => v.category).sum ≤ 8) (hd : decode cc pc = .ok (.invokevirtual index, 3)) (hf : cells ≤ R.cells ∧ slots ≤ R.slots)
    (kk : ∀ (r : Int64) (u : MSt) (H1 : Heap) (locs1 : List Loc), K r u → WM Γ α u H1 → va_S A s.heap H1 locs1 → W p l e R s m args below meth c H1 locs1 cells slots Q (F0 m (pc + 3) ls (.long r :: rest))) : W p l e R s m args below meth c H locs cells slots Q (F0 m pc ls st) := by
  subst hst
  have hFc := m_free hD hS hA
  exact va_calll (va_runV (As := avs) (rest := rest) S (hM H.size) cw (m_preV hK hD hP) rfl hn hsize rfl (lv_room (pc := pc) (ls := ls) (rest := avs.reverse ++ .ref (α 50) :: rest) hW) hd hf) hS (fun q _ h => hFc q h) hFc (fun r u t H1 locs1 ht _ hk hB _ _ hS1 => kk r u H1 locs1 hk (ht ▸ hB.1) hS1)
theorem m_callv (S : CallFix p m c cc nL s args lw_all own) (hK : KA Γ s) (hD : gD dmM α A) (hA : ∀ q, s.heap.size ≤ q → A q) (hP : WM Γ α σ H) (hS : va_S A s.heap H locs) {K : MSt → Prop} (hM : mV l y bytes maxL ret rm Γ α avs σ K) (cw : CallW R s args own RX4 index y bytes maxL ret (ws_ y bytes maxL ret) rm 0 0 n) (hn : avs.length = n) (hsize : ls.size = nL) (hst : st = avs.reverse ++ .ref (α 50) :: rest) (hW : (rest.map fun v => v.category).sum ≤ 8) (hd : decode cc pc = .ok (.invokevirtual index, 3)) (hf : cells ≤ R.cells ∧ slots ≤ R.slots)
    (kk : ∀ (u : MSt) (H1 : Heap) (locs1 : List Loc), K u → WM Γ α u H1 → va_S A s.heap H1 locs1 → W p l e R s m args below meth c H1 locs1 cells slots Q (F0 m (pc + 3) ls rest)) : W p l e R s m args below meth c H locs cells slots Q (F0 m pc ls st) := by
  subst hst
  have hFc := m_free hD hS hA
  exact va_callv (va_runV (As := avs) (rest := rest) S (hM H.size) cw (m_preV hK hD hP) rfl hn hsize rfl (lv_room (pc := pc) (ls := ls) (rest := avs.reverse ++ .ref (α 50) :: rest) hW) hd hf) hS (fun q _ h => hFc q h) hFc (fun u t H1 locs1 ht _ hk hB _ _ hS1 => kk u H1 locs1 hk (ht ▸ hB.1) hS1)
end MC
/-! ends -/
abbrev QI (below : List Frame) (K : Int32 → MSt → Prop) (Γ : GA) (α : Nat → Nat) (s : State) (args : Array Value) : State → Prop := MQ below (va_Qi K (mB Γ α) (AM α s.heap.size)) args s 0 0 (AM α s.heap.size)
abbrev QL (below : List Frame) (K : Int64 → MSt → Prop) (Γ : GA) (α : Nat → Nat) (s : State) (args : Array Value) : State → Prop := MQ below (va_Ql K (mB Γ α) (AM α s.heap.size)) args s 0 0 (AM α s.heap.size)
abbrev QV (below : List Frame) (K : MSt → Prop) (Γ : GA) (α : Nat → Nat) (s : State) (args : Array Value) : State → Prop := MQ below (va_Qv K (mB Γ α) (AM α s.heap.size)) args s 0 0 (AM α s.heap.size)
/-- a label of a method of the model: from any heap that holds σ, with these locals and this stack -/
def TM (p : Program) (l : Launch) (e : Env) (R : Room) (s : State) (m : MethodId) (args : Array Value) (below : List Frame) (meth : Method) (c : Code) (nL : Nat) (Q : State → Prop) (Γ : GA) (α : Nat → Nat) (σ : MSt) (pc : Nat) (lv : List (Nat × Value)) (st : List Value) : Prop :=
  ∀ (H : Heap) (locs : List Loc) (ls : Array Slot), WM Γ α σ H → va_S (AM α s.heap.size) s.heap H locs → lv_has ls nL lv → W p l e R s m args below meth c H locs 0 0 Q (F0 m pc ls st)
section ME
variable {p : Program} {l : Launch} {e : Env} {R : Room} {s : State} {m : MethodId} {args : Array Value} {below : List Frame} {meth : Method} {c : Code} {H : Heap} {locs : List Loc}
variable {cc : ByteArray} {pc : Nat} {ls : Array Slot} {Γ : GA} {α : Nat → Nat} {σ : MSt}
theorem m_iret {v : Int32} {K : Int32 → MSt → Prop} (hx : p.tables.exec = Jvm.exec) (hb : c.code = cc) (hr : meth.sig.returnType = some .int) (hlk : meth.locks = false) (hK : KA Γ s) (hP : WM Γ α σ H) (hS : va_S (AM α s.heap.size) s.heap H locs) (hk : K v σ) (hd : decode cc pc = .ok (.ireturn, 1)) : W p l e R s m args below meth c H locs 0 0 (QI below K Γ α s args) (F0 m pc ls [.int v]) :=
  W.iret (v := v) hx hb hr (fun t ht hW => ⟨⟨v, σ, rfl, hk, by rw [ht]; exact hP, KA.moved hW.alike hK⟩, hS.F ht⟩) hS.2.2 hd
theorem m_zret {v : Int32} {K : Int32 → MSt → Prop} (hx : p.tables.exec = Jvm.exec) (hb : c.code = cc) (hr : meth.sig.returnType = some .boolean) (hlk : meth.locks = false) (hK : KA Γ s) (hP : WM Γ α σ H) (hS : va_S (AM α s.heap.size) s.heap H locs) (hv : v = 0 ∨ v = 1) (hk : K v σ) (hd : decode cc pc = .ok (.ireturn, 1)) : W p l e R s m args below meth c H locs 0 0 (QI below K Γ α s args) (F0 m pc ls [.int v]) :=
  W.zret (v := v) hx hb hr (zb_in hv) (fun t ht hW => ⟨⟨v, σ, rfl, hk, by rw [ht]; exact hP, KA.moved hW.alike hK⟩, hS.F ht⟩) hS.2.2 hd
theorem m_lret {v : Int64} {K : Int64 → MSt → Prop} (hx : p.tables.exec = Jvm.exec) (hb : c.code = cc) (hr : meth.sig.returnType = some .long) (hlk : meth.locks = false) (hK : KA Γ s) (hP : WM Γ α σ H) (hS : va_S (AM α s.heap.size) s.heap H locs) (hk : K v σ) (hd : decode cc pc = .ok (.lreturn, 1)) : W p l e R s m args below meth c H locs 0 0 (QL below K Γ α s args) (F0 m pc ls [.long v]) :=
  W.lret (v := v) hx hb hr (fun t ht hW => ⟨⟨v, σ, rfl, hk, by rw [ht]; exact hP, KA.moved hW.alike hK⟩, hS.F ht⟩) hS.2.2 hd
theorem m_vret {K : MSt → Prop} (hx : p.tables.exec = Jvm.exec) (hb : c.code = cc) (hr : meth.sig.returnType = none) (hlk : meth.locks = false) (hK : KA Γ s) (hP : WM Γ α σ H) (hS : va_S (AM α s.heap.size) s.heap H locs) (hk : K σ) (hd : decode cc pc = .ok (.return_, 1)) : W p l e R s m args below meth c H locs 0 0 (QV below K Γ α s args) (F0 m pc ls []) :=
  W.vret hx hb hr (fun t ht hW => ⟨⟨σ, rfl, hk, by rw [ht]; exact hP, KA.moved hW.alike hK⟩, hS.F ht⟩) hS.2.2 hd
end ME
/-- from the code's words to what a label of the method asks -/
theorem m_of {l : Launch} {y : MethodName} {bytes : ByteArray} {maxL : Nat} {ret : Option FieldType} {rm : Room} {Γ : GA} {α : Nat → Nat} {avs : List Value} {σ : MSt} {sz : Nat} {Qc : Array Value → State → Outcome → State → Prop} (hy : plainName y.cls = true) (hcls : y.cls = RX4)
    (lv : List (Nat × Value)) (hlv : ∀ ls : Array Slot, lv_has ls maxL (lv_args 0 (.ref (α 50) :: avs)) → lv_has ls maxL lv) (hlen : (lg_sl (.ref (α 50) :: avs)).length ≤ maxL)
    (body : ∀ (p : Program) (e : Env) (s : State) (m : MethodId) (args : Array Value) (below : List Frame) (meth : Method) (c : Code), s.heap.size = sz → CM p s m args meth c bytes maxL ret Γ α → TM p l e rm s m args below meth c maxL (MQ below Qc args s 0 0 (AM α s.heap.size)) Γ α σ 0 lv []) : Met l y (ws_ y bytes maxL ret) rm (mPre Γ α σ sz avs) Qc 0 0 (AM α sz) := by
  refine Met.ofW (cc := bytes) (maxL := maxL) (ret := ret) hy rfl ?_
  intro p e s m args below meth c s₁ B hml hv
  obtain ⟨rfl, hsz, hP, hK, hD0⟩ := hv
  subst hsz
  have hts := atoms_spec (ws := ws_ y bytes maxL ret) B.pre
  have hts : ∀ w ∈ lw_all, w.before _ s = true := fun w h => hts w (List.mem_cons_of_mem _ h)
  have hown : s.vm.findClass y.cls = some m.cls := findClass_of_methodNamed B.named
  have hl := lv_entry (.ref (α 50) :: avs) (n := maxL) hlen
  rw [lg_entry_eq]
  exact body p e s m _ below meth c rfl ⟨B.exec, B.bytes, hml, by rw [← hcls]; exact hown, hts, hK, hD0.self _, B.returns, B.notSynchronized⟩ s.heap [] _ hP va_S.rf (hlv _ hl)
