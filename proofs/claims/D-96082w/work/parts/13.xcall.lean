/-! contracts of the class's methods; calls; ends -/
theorem lw_O {own : String} {idx : Nat} {C owner : String} {x y : MethodName} {b : ByteArray} {L : Nat} {r : Option FieldType} (h1 : Cond.methodLink own idx x ∈ lw_all) (h2 : Cond.sameMethod x.cls owner x.name x.desc ∈ lw_all) (h3 : Cond.instanceMethod ⟨owner, x.name, x.desc⟩ ∈ lw_all) (h4 : Cond.selects C x y ∈ lw_all) (h5 : Cond.instanceMethod y ∈ lw_all) (h6 : Cond.initialized y.cls ∈ lw_all) (h7 : Cond.code y b L r ∈ lw_all) : GoodIn lw_all (va_wsO own idx C owner x y (ws_ y b L r)) := by
  refine lw_app ?_ (lw_meth h7)
  intro w hw
  simp only [List.mem_cons, List.not_mem_nil, or_false] at hw
  rcases hw with rfl | rfl | rfl | rfl | rfl | rfl <;> assumption
theorem lw_SU {own : String} {idx : Nat} {y : MethodName} {b : ByteArray} {L : Nat} {r : Option FieldType} (h1 : Cond.methodLink own idx y ∈ lw_all) (h2 : Cond.sameMethod y.cls y.cls y.name y.desc ∈ lw_all) (h3 : Cond.superclass own y.cls ∈ lw_all) (h4 : Cond.instanceMethod y ∈ lw_all) (h5 : Cond.initialized y.cls ∈ lw_all) (h6 : Cond.code y b L r ∈ lw_all) : GoodIn lw_all (va_wsSU own idx y (ws_ y b L r)) := by
  refine lw_app ?_ (lw_meth h6)
  intro w hw
  simp only [List.mem_cons, List.not_mem_nil, or_false] at hw
  rcases hw with rfl | rfl | rfl | rfl | rfl <;> assumption
abbrev XU : Type := XSh × XSt
abbrev AX (δ : XSh) (sz : Nat) : Nat → Prop := gA δ.1 (adX δ) sz
def xPre (Γ : GA) (δ : XSh) (σ : XSt) (sz : Nat) (avs : List Value) : Array Value → State → Prop := va_Pc avs (fun U => U.heap.size = sz ∧ XH Γ δ σ U.heap ∧ KX Γ U ∧ XO δ ∧ gD δ.1 (adX δ) (fun _ => True))
def xB (Γ : GA) (δ : XSh) (sz : Nat) (u : XU) (t : State) : Prop := XH Γ u.1 u.2 t.heap ∧ XO u.1 ∧ gD u.1.1 (adX u.1) (AX δ sz)
/-- what is there stays there -/
def Ext (δ δ' : XSh) : Prop := (∀ κ ∈ δ.1, κ ∈ δ'.1 ∧ adX δ' κ = adX δ κ) ∧ (∀ t, (7, t) ∈ δ.1 → δ'.2.2.1 t = δ.2.2.1 t ∧ δ'.2.2.2 t = δ.2.2.2 t)
theorem Ext.rf {δ : XSh} : Ext δ δ := ⟨fun _ h => ⟨h, rfl⟩, fun _ _ => ⟨rfl, rfl⟩⟩
theorem Ext.tr {a b c : XSh} (h : Ext a b) (g : Ext b c) : Ext a c := ⟨fun κ hk => ⟨(g.1 κ (h.1 κ hk).1).1, ((g.1 κ (h.1 κ hk).1).2).trans (h.1 κ hk).2⟩, fun t ht => ⟨((g.2 t (h.1 _ ht).1).1).trans (h.2 t ht).1, ((g.2 t (h.1 _ ht).1).2).trans (h.2 t ht).2⟩⟩
abbrev xI (l : Launch) (y : MethodName) (b : ByteArray) (L : Nat) (ret : Option FieldType) (rm : Room) (mc ms : Nat) (Γ : GA) (δ : XSh) (avs : List Value) (σ : XSt) (K : Int32 → XU → Prop) : Prop := ∀ sz : Nat, Met l y (ws_ y b L ret) rm (xPre Γ δ σ sz avs) (va_Qi K (xB Γ δ sz) (AX δ sz)) mc ms (AX δ sz)
abbrev xL (l : Launch) (y : MethodName) (b : ByteArray) (L : Nat) (ret : Option FieldType) (rm : Room) (mc ms : Nat) (Γ : GA) (δ : XSh) (avs : List Value) (σ : XSt) (K : Int64 → XU → Prop) : Prop := ∀ sz : Nat, Met l y (ws_ y b L ret) rm (xPre Γ δ σ sz avs) (va_Ql K (xB Γ δ sz) (AX δ sz)) mc ms (AX δ sz)
abbrev xV (l : Launch) (y : MethodName) (b : ByteArray) (L : Nat) (ret : Option FieldType) (rm : Room) (mc ms : Nat) (Γ : GA) (δ : XSh) (avs : List Value) (σ : XSt) (K : XU → Prop) : Prop := ∀ sz : Nat, Met l y (ws_ y b L ret) rm (xPre Γ δ σ sz avs) (va_Qv K (xB Γ δ sz) (AX δ sz)) mc ms (AX δ sz)
theorem xPre_blind {Γ : GA} {δ : XSh} {σ : XSt} {sz : Nat} {avs : List Value} : FrameBlind (xPre Γ δ σ sz avs) := fun a U g mk q => by
  obtain ⟨q0, q1, qP, qK, qO, qD⟩ := q
  exact ⟨q0, q1, qP, KX.moved (u := U) (U := U.calling g mk a) (Vm.Alike.refl U.vm) qK, qO, qD⟩
section XC
variable {p : Program} {l : Launch} {e : Env} {R : Room} {s : State} {m : MethodId} {args : Array Value} {below : List Frame} {meth : Method} {c : Code} {H : Heap} {locs : List Loc} {cells slots mc ms : Nat} {Q : State → Prop}
variable {cc : ByteArray} {pc nL : Nat} {ls : Array Slot} {rest st avs : List Value} {Γ : GA} {δ : XSh} {σ : XSt} {A : Nat → Prop} {own : String} {a : Array Value}
theorem x_free (hD : gD δ.1 (adX δ) A) (hS : va_S A s.heap H locs) (hA : ∀ q, s.heap.size ≤ q → A q) : ∀ q, AX δ H.size q → A q := by
  intro q h
  rcases h with ⟨κ, h1, h2⟩ | h
  · rw [← h2]; exact hD.2 κ h1
  · exact hA q (Nat.le_trans hS.1 h)
theorem x_preU (hK : KX Γ s) (hO : XO δ) (hD : gD δ.1 (adX δ) A) (hP : XH Γ δ σ H) : ∀ U : State, U.heap = H → s.WarmedH U.vm → xPre Γ δ σ H.size avs avs.toArray U :=
  fun U hU hW => ⟨rfl, by rw [hU], by rw [hU]; exact hP, KX.moved hW.alike hK, hO, hD.1, fun _ _ => trivial⟩
theorem x_preS (hK : KX Γ s) (hO : XO δ) (hD : gD δ.1 (adX δ) A) (hP : XH Γ δ σ H) : PreS s H (xPre Γ δ σ H.size avs) avs := ⟨xPre_blind, x_preU hK hO hD hP⟩
theorem x_recv (hK : KX Γ s) (hP : XH Γ δ σ H) (kd i : Nat) (hκ : (kd, i) ∈ δ.1) {ci : Nat} {fs : List Value} (hc : cellX Γ δ kd i (σ.1 kd i) (σ.2.1 kd i) (σ.2.2 kd i) = .inr (ci, fs)) {q : vw_C} (hcl : clA[ci]? = some q) : ∃ cell : Cell, H[adX δ (kd, i)]? = some cell ∧ cell.vm.isStatics = false ∧ s.vm.findClass q.1 = some cell.cls := by
  obtain ⟨q0, h1, h2⟩ := g_at (gX Γ δ σ) hκ
  exact va_recv hK.1 hP.1 (ci := ci) (q0 := q0) (fs := fs) hcl (by rw [h2]; simp only [gX, hc])
theorem x_preV (hK : KX Γ s) (hO : XO δ) (hD : gD δ.1 (adX δ) A) (hP : XH Γ δ σ H) (kd i : Nat) (hκ : (kd, i) ∈ δ.1) {ci : Nat} {fs : List Value} (hc : cellX Γ δ kd i (σ.1 kd i) (σ.2.1 kd i) (σ.2.2 kd i) = .inr (ci, fs)) {q : vw_C} (hcl : clA[ci]? = some q) : PreV s H q.1 (adX δ (kd, i)) (xPre Γ δ σ H.size (.ref (adX δ (kd, i)) :: avs)) avs :=
  ⟨xPre_blind, x_recv hK hP kd i hκ hc hcl, fun U hU hW => x_preU (avs := .ref (adX δ (kd, i)) :: avs) hK hO hD hP U hU hW⟩
theorem x_goi {K : Int32 → XU → Prop} (hr : va_Run p l e R s m args below meth c H locs cells slots mc ms (F0 m pc ls st) rest (va_Qi K (xB Γ δ H.size) (AX δ H.size) a) (AX δ H.size)) (hD : gD δ.1 (adX δ) A) (hA : ∀ q, s.heap.size ≤ q → A q) (hS : va_S A s.heap H locs)
    (kk : ∀ (r : Int32) (u : XU) (H1 : Heap) (locs1 : List Loc), K r u → XH Γ u.1 u.2 H1 → XO u.1 → gD u.1.1 (adX u.1) A → va_S A s.heap H1 locs1 → W p l e R s m args below meth c H1 locs1 (cells + mc) (slots + ms) Q (F0 m (pc + 3) ls (.int r :: rest))) : W p l e R s m args below meth c H locs cells slots Q (F0 m pc ls st) := by
  have hFc := x_free hD hS hA
  exact va_calli hr hS (fun q _ h => hFc q h) hFc (fun r u t H1 locs1 ht _ hk hB _ _ hS1 => kk r u H1 locs1 hk (ht ▸ hB.1) hB.2.1 ⟨hB.2.2.1, fun κ h => hFc _ (hB.2.2.2 κ h)⟩ hS1)
theorem x_gol {K : Int64 → XU → Prop} (hr : va_Run p l e R s m args below meth c H locs cells slots mc ms (F0 m pc ls st) rest (va_Ql K (xB Γ δ H.size) (AX δ H.size) a) (AX δ H.size)) (hD : gD δ.1 (adX δ) A) (hA : ∀ q, s.heap.size ≤ q → A q) (hS : va_S A s.heap H locs)
    (kk : ∀ (r : Int64) (u : XU) (H1 : Heap) (locs1 : List Loc), K r u → XH Γ u.1 u.2 H1 → XO u.1 → gD u.1.1 (adX u.1) A → va_S A s.heap H1 locs1 → W p l e R s m args below meth c H1 locs1 (cells + mc) (slots + ms) Q (F0 m (pc + 3) ls (.long r :: rest))) : W p l e R s m args below meth c H locs cells slots Q (F0 m pc ls st) := by
  have hFc := x_free hD hS hA
  exact va_calll hr hS (fun q _ h => hFc q h) hFc (fun r u t H1 locs1 ht _ hk hB _ _ hS1 => kk r u H1 locs1 hk (ht ▸ hB.1) hB.2.1 ⟨hB.2.2.1, fun κ h => hFc _ (hB.2.2.2 κ h)⟩ hS1)
theorem x_gov {K : XU → Prop} (hr : va_Run p l e R s m args below meth c H locs cells slots mc ms (F0 m pc ls st) rest (va_Qv K (xB Γ δ H.size) (AX δ H.size) a) (AX δ H.size)) (hD : gD δ.1 (adX δ) A) (hA : ∀ q, s.heap.size ≤ q → A q) (hS : va_S A s.heap H locs)
    (kk : ∀ (u : XU) (H1 : Heap) (locs1 : List Loc), K u → XH Γ u.1 u.2 H1 → XO u.1 → gD u.1.1 (adX u.1) A → va_S A s.heap H1 locs1 → W p l e R s m args below meth c H1 locs1 (cells + mc) (slots + ms) Q (F0 m (pc + 3) ls rest)) : W p l e R s m args below meth c H locs cells slots Q (F0 m pc ls st) := by
  have hFc := x_free hD hS hA
  exact va_callv hr hS (fun q _ h => hFc q h) hFc (fun u t H1 locs1 ht _ hk hB _ _ hS1 => kk u H1 locs1 hk (ht ▸ hB.1) hB.2.1 ⟨hB.2.2.1, fun κ h => hFc _ (hB.2.2.2 κ h)⟩ hS1)
/-- a thing's cell, whatever its class -/
theorem cellT {t : Nat} (h : δ.2.2.1 t < 12) {f : Nat → Int32} {g : Nat → Int64} {h' : Nat → Option Nat} : cellX Γ δ 7 t f g h' = .inr (δ.2.2.1 t, [.int (f 0), .int (f 1), .int (f 2), .int (f 3)]) := by
  simp only [cellX, if_pos h]
theorem cn_cases (hO : XO δ) {t : Nat} (ht : (7, t) ∈ δ.1) (hc : δ.2.2.1 t < 12) : δ.2.2.1 t = 5 ∨ δ.2.2.1 t = 6 ∨ δ.2.2.1 t = 7 ∨ δ.2.2.1 t = 8 ∨ δ.2.2.1 t = 9 ∨ δ.2.2.1 t = 10 ∨ δ.2.2.1 t = 11 := by
  have := (hO.2.1 t ht).1
  omega
theorem x_getT (hx : p.tables.exec = Jvm.exec) (hb : c.code = cc) (hts : ∀ w ∈ lw_all, w.before args s = true) (hown : s.vm.findClass own = some m.cls) (hK : KX Γ s) (hO : XO δ) (hP : XH Γ δ σ H) (t : Nat) (ht : (7, t) ∈ δ.1) (hc : δ.2.2.1 t < 12) (k : Nat) (hk : k < 4) {index : Nat} {ref : String} (hl : Cond.fieldLink own index ref (TX11 k).2.1 (TX11 k).2.2.1 ∈ lw_all) (hsame : ∀ x, s.fieldFound? RX11 (TX11 k).2.1 (TX11 k).2.2.1 = some x → s.fieldFound? ref (TX11 k).2.1 (TX11 k).2.2.1 = some x) (hd : decode cc pc = .ok (.getfield index, 3))
    (kk : W p l e R s m args below meth c H locs cells slots Q (F0 m (pc + 3) ls (.int (σ.1 7 t k) :: rest))) : W p l e R s m args below meth c H locs cells slots Q (F0 m pc ls (.ref t :: rest)) := by
  obtain ⟨q0, h1, h2⟩ := g_at (gX Γ δ σ) ht
  have hv : ([.int (σ.1 7 t 0), .int (σ.1 7 t 1), .int (σ.1 7 t 2), .int (σ.1 7 t 3)] : List Value)[k]? = some (.int (σ.1 7 t k)) := by
    match k, hk with
    | 0, _ => rfl
    | 1, _ => rfl
    | 2, _ => rfl
    | 3, _ => rfl
  have e1 : ∀ T : u_T, (∀ j, j < 4 → T j = TX11 j) → T k = TX11 k := fun T h => h k hk
  have tl : (TX11 k).1 = RX11 := by
    match k, hk with
    | 0, _ => rfl
    | 1, _ => rfl
    | 2, _ => rfl
    | 3, _ => rfl
  have h2 : (δ.1.map (gX Γ δ σ))[q0]? = some (t, .inr (δ.2.2.1 t, [.int (σ.1 7 t 0), .int (σ.1 7 t 1), .int (σ.1 7 t 2), .int (σ.1 7 t 3)])) := by rw [h2]; simp only [gX, cellT hc]; rfl
  have go : ∀ (ci : Nat) (C : String) (T : u_T), clA[ci]? = some (C, T, 4) → δ.2.2.1 t = ci → (∀ w ∈ u_ws C T 4, w ∈ lw_all) → (∀ j, j < 4 → T j = TX11 j) → W p l e R s m args below meth c H locs cells slots Q (F0 m pc ls (.ref t :: rest)) := by
    intro ci C T hcl hci hin hTT
    have eT := hTT k hk
    rw [hci] at h2
    exact va_get (D := Γ.1) (ci := ci) (v := .int (σ.1 7 t k)) (C := C) (T := T) (N := 4) hx hb hts hin hown hK.1 hP.1 q0 h2 hcl k hk (by rw [eT]; exact hts _ hl) (fun x h9 => by rw [eT] at h9 ⊢; rw [tl] at h9; exact hsame x h9) hv hd kk
  have TT : ∀ j, j < 4 → TX12 j = TX11 j ∧ TX13 j = TX11 j ∧ TX14 j = TX11 j ∧ TX15 j = TX11 j ∧ TX16 j = TX11 j ∧ TX17 j = TX11 j := by
    intro j hj
    match j, hj with
    | 0, _ => exact ⟨rfl, rfl, rfl, rfl, rfl, rfl⟩
    | 1, _ => exact ⟨rfl, rfl, rfl, rfl, rfl, rfl⟩
    | 2, _ => exact ⟨rfl, rfl, rfl, rfl, rfl, rfl⟩
    | 3, _ => exact ⟨rfl, rfl, rfl, rfl, rfl, rfl⟩
  rcases cn_cases hO ht hc with e | e | e | e | e | e | e
  · exact go 5 RX11 TX11 rfl e in_X11 (fun _ _ => rfl)
  · exact go 6 RX12 TX12 rfl e in_X12 (fun j hj => (TT j hj).1)
  · exact go 7 RX13 TX13 rfl e in_X13 (fun j hj => (TT j hj).2.1)
  · exact go 8 RX14 TX14 rfl e in_X14 (fun j hj => (TT j hj).2.2.1)
  · exact go 9 RX15 TX15 rfl e in_X15 (fun j hj => (TT j hj).2.2.2.1)
  · exact go 10 RX16 TX16 rfl e in_X16 (fun j hj => (TT j hj).2.2.2.2.1)
  · exact go 11 RX17 TX17 rfl e in_X17 (fun j hj => (TT j hj).2.2.2.2.2)
end XC
/-! what stands all through a method of the class's side; its labels and ends -/
def CX (p : Program) (s : State) (m : MethodId) (args : Array Value) (meth : Method) (c : Code) (cc : ByteArray) (nL : Nat) (ret : Option FieldType) (own : String) (Γ : GA) : Prop := p.tables.exec = Jvm.exec ∧ c.code = cc ∧ c.maxLocals = nL ∧ s.vm.findClass own = some m.cls ∧ (∀ w ∈ lw_all, w.before args s = true) ∧ KX Γ s ∧ meth.sig.returnType = ret ∧ meth.locks = false
abbrev YI (below : List Frame) (K : Int32 → XU → Prop) (mc ms : Nat) (Γ : GA) (δ : XSh) (s : State) (args : Array Value) : State → Prop := MQ below (va_Qi K (xB Γ δ s.heap.size) (AX δ s.heap.size)) args s mc ms (AX δ s.heap.size)
abbrev YL (below : List Frame) (K : Int64 → XU → Prop) (mc ms : Nat) (Γ : GA) (δ : XSh) (s : State) (args : Array Value) : State → Prop := MQ below (va_Ql K (xB Γ δ s.heap.size) (AX δ s.heap.size)) args s mc ms (AX δ s.heap.size)
abbrev YV (below : List Frame) (K : XU → Prop) (mc ms : Nat) (Γ : GA) (δ : XSh) (s : State) (args : Array Value) : State → Prop := MQ below (va_Qv K (xB Γ δ s.heap.size) (AX δ s.heap.size)) args s mc ms (AX δ s.heap.size)
/-- a label: δ0 the shape at the method's start -/
def TX (p : Program) (l : Launch) (e : Env) (R : Room) (s : State) (m : MethodId) (args : Array Value) (below : List Frame) (meth : Method) (c : Code) (nL cells slots : Nat) (Q : State → Prop) (Γ : GA) (δ0 δ : XSh) (σ : XSt) (pc : Nat) (lv : List (Nat × Value)) (st : List Value) : Prop :=
  ∀ (H : Heap) (locs : List Loc) (ls : Array Slot), XH Γ δ σ H → XO δ → gD δ.1 (adX δ) (AX δ0 s.heap.size) → va_S (AX δ0 s.heap.size) s.heap H locs → lv_has ls nL lv → W p l e R s m args below meth c H locs cells slots Q (F0 m pc ls st)
section XE
variable {p : Program} {l : Launch} {e : Env} {R : Room} {s : State} {m : MethodId} {args : Array Value} {below : List Frame} {meth : Method} {c : Code} {H : Heap} {locs : List Loc} {mc ms : Nat}
variable {cc : ByteArray} {pc : Nat} {ls : Array Slot} {Γ : GA} {δ0 δ : XSh} {σ : XSt}
theorem x_iret {v : Int32} {K : Int32 → XU → Prop} (hx : p.tables.exec = Jvm.exec) (hb : c.code = cc) (hr : meth.sig.returnType = some .int) (hlk : meth.locks = false) (hP : XH Γ δ σ H) (hO : XO δ) (hD : gD δ.1 (adX δ) (AX δ0 s.heap.size)) (hS : va_S (AX δ0 s.heap.size) s.heap H locs) (hk : K v (δ, σ)) (hd : decode cc pc = .ok (.ireturn, 1)) : W p l e R s m args below meth c H locs mc ms (YI below K mc ms Γ δ0 s args) (F0 m pc ls [.int v]) :=
  W.iret (v := v) hx hb hr (fun t ht hW => ⟨⟨v, (δ, σ), rfl, hk, by rw [ht]; exact hP, hO, hD⟩, hS.F ht⟩) hS.2.2 hd
theorem x_zret {v : Int32} {K : Int32 → XU → Prop} (hx : p.tables.exec = Jvm.exec) (hb : c.code = cc) (hr : meth.sig.returnType = some .boolean) (hlk : meth.locks = false) (hP : XH Γ δ σ H) (hO : XO δ) (hD : gD δ.1 (adX δ) (AX δ0 s.heap.size)) (hS : va_S (AX δ0 s.heap.size) s.heap H locs) (hv : v = 0 ∨ v = 1) (hk : K v (δ, σ)) (hd : decode cc pc = .ok (.ireturn, 1)) : W p l e R s m args below meth c H locs mc ms (YI below K mc ms Γ δ0 s args) (F0 m pc ls [.int v]) :=
  W.zret (v := v) hx hb hr (zb_in hv) (fun t ht hW => ⟨⟨v, (δ, σ), rfl, hk, by rw [ht]; exact hP, hO, hD⟩, hS.F ht⟩) hS.2.2 hd
theorem x_lret {v : Int64} {K : Int64 → XU → Prop} (hx : p.tables.exec = Jvm.exec) (hb : c.code = cc) (hr : meth.sig.returnType = some .long) (hlk : meth.locks = false) (hP : XH Γ δ σ H) (hO : XO δ) (hD : gD δ.1 (adX δ) (AX δ0 s.heap.size)) (hS : va_S (AX δ0 s.heap.size) s.heap H locs) (hk : K v (δ, σ)) (hd : decode cc pc = .ok (.lreturn, 1)) : W p l e R s m args below meth c H locs mc ms (YL below K mc ms Γ δ0 s args) (F0 m pc ls [.long v]) :=
  W.lret (v := v) hx hb hr (fun t ht hW => ⟨⟨v, (δ, σ), rfl, hk, by rw [ht]; exact hP, hO, hD⟩, hS.F ht⟩) hS.2.2 hd
theorem x_vret {K : XU → Prop} (hx : p.tables.exec = Jvm.exec) (hb : c.code = cc) (hr : meth.sig.returnType = none) (hlk : meth.locks = false) (hP : XH Γ δ σ H) (hO : XO δ) (hD : gD δ.1 (adX δ) (AX δ0 s.heap.size)) (hS : va_S (AX δ0 s.heap.size) s.heap H locs) (hk : K (δ, σ)) (hd : decode cc pc = .ok (.return_, 1)) : W p l e R s m args below meth c H locs mc ms (YV below K mc ms Γ δ0 s args) (F0 m pc ls []) :=
  W.vret hx hb hr (fun t ht hW => ⟨⟨(δ, σ), rfl, hk, by rw [ht]; exact hP, hO, hD⟩, hS.F ht⟩) hS.2.2 hd
theorem x_of {y : MethodName} {bytes : ByteArray} {maxL : Nat} {ret : Option FieldType} {rm : Room} {avs : List Value} {sz : Nat} {Qc : Array Value → State → Outcome → State → Prop} (hy : plainName y.cls = true)
    (lv : List (Nat × Value)) (hlv : ∀ ls : Array Slot, lv_has ls maxL (lv_args 0 avs) → lv_has ls maxL lv) (hlen : (lg_sl avs).length ≤ maxL)
    (body : ∀ (p : Program) (e : Env) (s : State) (m : MethodId) (args : Array Value) (below : List Frame) (meth : Method) (c : Code), s.heap.size = sz → CX p s m args meth c bytes maxL ret y.cls Γ → TX p l e rm s m args below meth c maxL 0 0 (MQ below Qc args s mc ms (AX δ s.heap.size)) Γ δ δ σ 0 lv []) : Met l y (ws_ y bytes maxL ret) rm (xPre Γ δ σ sz avs) Qc mc ms (AX δ sz) := by
  refine Met.ofW (cc := bytes) (maxL := maxL) (ret := ret) hy rfl ?_
  intro p e s m args below meth c s₁ B hml hv
  obtain ⟨rfl, hsz, hP, hK, hO, hD0⟩ := hv
  subst hsz
  have hts := atoms_spec (ws := ws_ y bytes maxL ret) B.pre
  have hts : ∀ w ∈ lw_all, w.before _ s = true := fun w h => hts w (List.mem_cons_of_mem _ h)
  have hown : s.vm.findClass y.cls = some m.cls := findClass_of_methodNamed B.named
  have hl := lv_entry avs (n := maxL) hlen
  rw [lg_entry_eq]
  exact body p e s m _ below meth c rfl ⟨B.exec, B.bytes, hml, hown, hts, hK, B.returns, B.notSynchronized⟩ s.heap [] _ hP hO (hD0.self _) va_S.rf (hlv _ hl)
end XE
