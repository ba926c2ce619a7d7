/-! contracts of methods that make objects, and of those that throw -/
def yPre (Γ : GA) (δ : XSh) (σ : XSt) (sz : Nat) (avs : List Value) : Array Value → State → Prop := va_Pc avs (fun U => U.heap.size = sz ∧ XH Γ δ σ U.heap ∧ KX Γ U ∧ XO δ ∧ gD δ.1 (adX δ) (fun _ => True) ∧ ZS Γ (AX δ sz) U U.heap)
theorem yPre_blind {Γ : GA} {δ : XSh} {σ : XSt} {sz : Nat} {avs : List Value} : FrameBlind (yPre Γ δ σ sz avs) := fun a U g mk q => by
  obtain ⟨q0, q1, qP, qK, qO, qD, qZ⟩ := q
  exact ⟨q0, q1, qP, KX.moved (u := U) (U := U.calling g mk a) (Vm.Alike.refl U.vm) qK, qO, qD, ZS.same (s := U) (U := U.calling g mk a) rfl qZ⟩
def yX (Γ : GA) (δ : XSh) (sz : Nat) (PX : String → Nat → XU → Prop) : String → Addr → State → State → Prop := vx_X (fun _ : XU => True) (fun E q u t => PX E q u ∧ xB Γ δ sz u t) (AX δ sz)
/-- answers or throws -/
abbrev yI (l : Launch) (y : MethodName) (ws : List Cond) (rm : Room) (mc ms : Nat) (Γ : GA) (δ : XSh) (avs : List Value) (σ : XSt) (K : Int32 → XU → Prop) (PX : String → Nat → XU → Prop) : Prop := ∀ sz : Nat, vx_Met l y ws rm (yPre Γ δ σ sz avs) (va_Qi K (xB Γ δ sz) (AX δ sz)) (yX Γ δ sz PX) mc ms (AX δ sz)
abbrev yL (l : Launch) (y : MethodName) (ws : List Cond) (rm : Room) (mc ms : Nat) (Γ : GA) (δ : XSh) (avs : List Value) (σ : XSt) (K : Int64 → XU → Prop) (PX : String → Nat → XU → Prop) : Prop := ∀ sz : Nat, vx_Met l y ws rm (yPre Γ δ σ sz avs) (va_Ql K (xB Γ δ sz) (AX δ sz)) (yX Γ δ sz PX) mc ms (AX δ sz)
abbrev yV (l : Launch) (y : MethodName) (ws : List Cond) (rm : Room) (mc ms : Nat) (Γ : GA) (δ : XSh) (avs : List Value) (σ : XSt) (K : XU → Prop) (PX : String → Nat → XU → Prop) : Prop := ∀ sz : Nat, vx_Met l y ws rm (yPre Γ δ σ sz avs) (va_Qv K (xB Γ δ sz) (AX δ sz)) (yX Γ δ sz PX) mc ms (AX δ sz)
abbrev yR (l : Launch) (y : MethodName) (ws : List Cond) (rm : Room) (mc ms : Nat) (Γ : GA) (δ : XSh) (avs : List Value) (σ : XSt) (K : Nat → XU → Prop) (PX : String → Nat → XU → Prop) : Prop := ∀ sz : Nat, vx_Met l y ws rm (yPre Γ δ σ sz avs) (va_Qr (fun _ : XU => True) (fun u a t => K a u ∧ xB Γ δ sz u t) (AX δ sz)) (yX Γ δ sz PX) mc ms (AX δ sz)
abbrev VI (below : List Frame) (K : Int32 → XU → Prop) (PX : String → Nat → XU → Prop) (mc ms : Nat) (Γ : GA) (δ : XSh) (s : State) (args : Array Value) : State → Prop := vx_MQ below (va_Qi K (xB Γ δ s.heap.size) (AX δ s.heap.size)) (yX Γ δ s.heap.size PX) args s mc ms (AX δ s.heap.size)
abbrev VL (below : List Frame) (K : Int64 → XU → Prop) (PX : String → Nat → XU → Prop) (mc ms : Nat) (Γ : GA) (δ : XSh) (s : State) (args : Array Value) : State → Prop := vx_MQ below (va_Ql K (xB Γ δ s.heap.size) (AX δ s.heap.size)) (yX Γ δ s.heap.size PX) args s mc ms (AX δ s.heap.size)
abbrev VV (below : List Frame) (K : XU → Prop) (PX : String → Nat → XU → Prop) (mc ms : Nat) (Γ : GA) (δ : XSh) (s : State) (args : Array Value) : State → Prop := vx_MQ below (va_Qv K (xB Γ δ s.heap.size) (AX δ s.heap.size)) (yX Γ δ s.heap.size PX) args s mc ms (AX δ s.heap.size)
abbrev VR (below : List Frame) (K : Nat → XU → Prop) (PX : String → Nat → XU → Prop) (mc ms : Nat) (Γ : GA) (δ : XSh) (s : State) (args : Array Value) : State → Prop := vx_MQ below (va_Qr (fun _ : XU => True) (fun u a t => K a u ∧ xB Γ δ s.heap.size u t) (AX δ s.heap.size)) (yX Γ δ s.heap.size PX) args s mc ms (AX δ s.heap.size)
/-- what stands all through such a method -/
def CY (p : Program) (s : State) (m : MethodId) (args : Array Value) (meth : Method) (c : Code) (cc : ByteArray) (nL : Nat) (ret : Option FieldType) (own : String) (Γ : GA) (δ0 : XSh) (tb : List ExceptionTableEntry) : Prop := CX p s m args meth c cc nL ret own Γ ∧ ZS Γ (AX δ0 s.heap.size) s s.heap ∧ c.exceptionTable.toList = tb
section YC
variable {p : Program} {l : Launch} {e : Env} {R : Room} {s : State} {m : MethodId} {args : Array Value} {below : List Frame} {meth : Method} {c : Code} {H : Heap} {locs : List Loc} {cells slots mc ms : Nat} {Q : State → Prop}
variable {cc : ByteArray} {pc nL : Nat} {ls : Array Slot} {rest st avs : List Value} {Γ : GA} {δ δ0 : XSh} {σ : XSt} {A : Nat → Prop} {own : String} {a : Array Value}
theorem y_preU (hK : KX Γ s) (hO : XO δ) (hD : gD δ.1 (adX δ) A) (hA : ∀ q, s.heap.size ≤ q → A q) (hZ : ZS Γ A s s.heap) (hP : XH Γ δ σ H) (hS : va_S A s.heap H locs) : ∀ U : State, U.heap = H → s.WarmedH U.vm → yPre Γ δ σ H.size avs avs.toArray U :=
  fun U hU hW => ⟨rfl, by rw [hU], by rw [hU]; exact hP, KX.moved hW.alike hK, hO, ⟨hD.1, fun _ _ => trivial⟩, by rw [hU]; exact ((hZ.kept hS.2.1).narrow (x_free hD hS hA)).warm hW⟩
theorem y_preS (hK : KX Γ s) (hO : XO δ) (hD : gD δ.1 (adX δ) A) (hA : ∀ q, s.heap.size ≤ q → A q) (hZ : ZS Γ A s s.heap) (hP : XH Γ δ σ H) (hS : va_S A s.heap H locs) : PreS s H (yPre Γ δ σ H.size avs) avs := ⟨yPre_blind, y_preU hK hO hD hA hZ hP hS⟩
theorem y_preV (hK : KX Γ s) (hO : XO δ) (hD : gD δ.1 (adX δ) A) (hA : ∀ q, s.heap.size ≤ q → A q) (hZ : ZS Γ A s s.heap) (hP : XH Γ δ σ H) (hS : va_S A s.heap H locs) (kd i : Nat) (hκ : (kd, i) ∈ δ.1) {ci : Nat} {fs : List Value} (hc : cellX Γ δ kd i (σ.1 kd i) (σ.2.1 kd i) (σ.2.2 kd i) = .inr (ci, fs)) {q : vw_C} (hcl : clA[ci]? = some q) : PreV s H q.1 (adX δ (kd, i)) (yPre Γ δ σ H.size (.ref (adX δ (kd, i)) :: avs)) avs :=
  ⟨yPre_blind, x_recv hK hP kd i hκ hc hcl, fun U hU hW => y_preU (avs := .ref (adX δ (kd, i)) :: avs) hK hO hD hA hZ hP hS U hU hW⟩
theorem y_goi {K : Int32 → XU → Prop} {PX : String → Nat → XU → Prop} (hr : vx_Run p l e R s m args below meth c H locs cells slots mc ms (F0 m pc ls st) rest (va_Qi K (xB Γ δ H.size) (AX δ H.size) a) (yX Γ δ H.size PX) (AX δ H.size)) (hD : gD δ.1 (adX δ) A) (hA : ∀ q, s.heap.size ≤ q → A q) (hS : va_S A s.heap H locs)
    (kx : ∀ (E : String) (ce : Cell) (q : Nat) (u : XU) (H1 : Heap) (locs1 : List Loc), PX E q u → XH Γ u.1 u.2 H1 → XO u.1 → gD u.1.1 (adX u.1) A → va_S A s.heap H1 locs1 → H1[q]? = some ce → ce.vm = .none → s.vm.findClass E = some ce.cls → vx_W p l e R s m args below meth c H1 locs1 (cells + mc) (slots + ms) Q (F0 m pc ls rest) q)
    (kk : ∀ (r : Int32) (u : XU) (H1 : Heap) (locs1 : List Loc), K r u → XH Γ u.1 u.2 H1 → XO u.1 → gD u.1.1 (adX u.1) A → va_S A s.heap H1 locs1 → W p l e R s m args below meth c H1 locs1 (cells + mc) (slots + ms) Q (F0 m (pc + 3) ls (.int r :: rest))) : W p l e R s m args below meth c H locs cells slots Q (F0 m pc ls st) := by
  have hFc := x_free hD hS hA
  exact vx_calli hr hS (fun q _ h => hFc q h) hFc (fun q _ h => hFc q h) (fun E ce q9 u t H1 locs1 ht _ _ hB _ _ hS1 hce hcv hcl => kx E ce q9 u H1 locs1 hB.1 (ht ▸ hB.2.1) hB.2.2.1 ⟨hB.2.2.2.1, fun κ h => hFc _ (hB.2.2.2.2 κ h)⟩ hS1 hce hcv hcl)
    (fun r u t H1 locs1 ht _ hk hB _ _ hS1 => kk r u H1 locs1 hk (ht ▸ hB.1) hB.2.1 ⟨hB.2.2.1, fun κ h => hFc _ (hB.2.2.2 κ h)⟩ hS1)
theorem y_gol {K : Int64 → XU → Prop} {PX : String → Nat → XU → Prop} (hr : vx_Run p l e R s m args below meth c H locs cells slots mc ms (F0 m pc ls st) rest (va_Ql K (xB Γ δ H.size) (AX δ H.size) a) (yX Γ δ H.size PX) (AX δ H.size)) (hD : gD δ.1 (adX δ) A) (hA : ∀ q, s.heap.size ≤ q → A q) (hS : va_S A s.heap H locs)
    (kx : ∀ (E : String) (ce : Cell) (q : Nat) (u : XU) (H1 : Heap) (locs1 : List Loc), PX E q u → XH Γ u.1 u.2 H1 → XO u.1 → gD u.1.1 (adX u.1) A → va_S A s.heap H1 locs1 → H1[q]? = some ce → ce.vm = .none → s.vm.findClass E = some ce.cls → vx_W p l e R s m args below meth c H1 locs1 (cells + mc) (slots + ms) Q (F0 m pc ls rest) q)
    (kk : ∀ (r : Int64) (u : XU) (H1 : Heap) (locs1 : List Loc), K r u → XH Γ u.1 u.2 H1 → XO u.1 → gD u.1.1 (adX u.1) A → va_S A s.heap H1 locs1 → W p l e R s m args below meth c H1 locs1 (cells + mc) (slots + ms) Q (F0 m (pc + 3) ls (.long r :: rest))) : W p l e R s m args below meth c H locs cells slots Q (F0 m pc ls st) := by
  have hFc := x_free hD hS hA
  exact vx_calll hr hS (fun q _ h => hFc q h) hFc (fun q _ h => hFc q h) (fun E ce q9 u t H1 locs1 ht _ _ hB _ _ hS1 hce hcv hcl => kx E ce q9 u H1 locs1 hB.1 (ht ▸ hB.2.1) hB.2.2.1 ⟨hB.2.2.2.1, fun κ h => hFc _ (hB.2.2.2.2 κ h)⟩ hS1 hce hcv hcl)
    (fun r u t H1 locs1 ht _ hk hB _ _ hS1 => kk r u H1 locs1 hk (ht ▸ hB.1) hB.2.1 ⟨hB.2.2.1, fun κ h => hFc _ (hB.2.2.2 κ h)⟩ hS1)
theorem y_gov {K : XU → Prop} {PX : String → Nat → XU → Prop} (hr : vx_Run p l e R s m args below meth c H locs cells slots mc ms (F0 m pc ls st) rest (va_Qv K (xB Γ δ H.size) (AX δ H.size) a) (yX Γ δ H.size PX) (AX δ H.size)) (hD : gD δ.1 (adX δ) A) (hA : ∀ q, s.heap.size ≤ q → A q) (hS : va_S A s.heap H locs)
    (kx : ∀ (E : String) (ce : Cell) (q : Nat) (u : XU) (H1 : Heap) (locs1 : List Loc), PX E q u → XH Γ u.1 u.2 H1 → XO u.1 → gD u.1.1 (adX u.1) A → va_S A s.heap H1 locs1 → H1[q]? = some ce → ce.vm = .none → s.vm.findClass E = some ce.cls → vx_W p l e R s m args below meth c H1 locs1 (cells + mc) (slots + ms) Q (F0 m pc ls rest) q)
    (kk : ∀ (u : XU) (H1 : Heap) (locs1 : List Loc), K u → XH Γ u.1 u.2 H1 → XO u.1 → gD u.1.1 (adX u.1) A → va_S A s.heap H1 locs1 → W p l e R s m args below meth c H1 locs1 (cells + mc) (slots + ms) Q (F0 m (pc + 3) ls rest)) : W p l e R s m args below meth c H locs cells slots Q (F0 m pc ls st) := by
  have hFc := x_free hD hS hA
  exact vx_callv hr hS (fun q _ h => hFc q h) hFc (fun q _ h => hFc q h) (fun E ce q9 u t H1 locs1 ht _ _ hB _ _ hS1 hce hcv hcl => kx E ce q9 u H1 locs1 hB.1 (ht ▸ hB.2.1) hB.2.2.1 ⟨hB.2.2.2.1, fun κ h => hFc _ (hB.2.2.2.2 κ h)⟩ hS1 hce hcv hcl)
    (fun u t H1 locs1 ht _ hk hB _ _ hS1 => kk u H1 locs1 hk (ht ▸ hB.1) hB.2.1 ⟨hB.2.2.1, fun κ h => hFc _ (hB.2.2.2 κ h)⟩ hS1)
theorem vx_callr {S SX : Type} {post : S → Prop} {px : SX → Prop} {B : S → Nat → State → Prop} {BX : String → Addr → SX → State → Prop} {AX A0 A1 : Nat → Prop} {free : Addr → Prop} {H0 : Heap} (hr : vx_Run p l e R s m args below meth c H locs cells slots mc ms (F0 m pc ls st) rest (va_Qr post B A1 a) (vx_X px BX AX) free) (hS : va_S A0 H0 H locs) (hA : ∀ q, q < H.size → A1 q → A0 q) (hf : ∀ q, free q → A0 q) (hAX : ∀ q, q < H.size → AX q → A0 q)
    (kx : ∀ (E : String) (ce : Cell) (q9 : Addr) (u : SX) (t : State) (H1 : Heap) (locs1 : List Loc), t.heap = H1 → px u → BX E q9 u t → va_S A0 H0 H1 locs1 → H1[q9]? = some ce → ce.vm = .none → s.vm.findClass E = some ce.cls → vx_W p l e R s m args below meth c H1 locs1 (cells + mc) (slots + ms) Q (F0 m pc ls rest) q9)
    (kk : ∀ (u : S) (r : Nat) (t : State) (H1 : Heap) (locs1 : List Loc), t.heap = H1 → post u → B u r t → va_S A0 H0 H1 locs1 → W p l e R s m args below meth c H1 locs1 (cells + mc) (slots + ms) Q (F0 m (pc + 3) ls (.ref r :: rest))) : W p l e R s m args below meth c H locs cells slots Q (F0 m pc ls st) := by
  intro T hT X
  rcases hr T hT X with ⟨v, st₀, t, T', L, h0, X', hL, e1, e2, ⟨⟨u, r, hv, hp, hb⟩, hF⟩, st⟩ | ⟨q, st₀, t, T', L, E, ce, h0, X', hL, e1, e2, ⟨u, hp, hb, hF⟩, hce, hcv, hcl, st⟩
  · cases hv
    obtain ⟨k1, k2, k3⟩ := vx_keep h0 e1 hS hA hf hL hF
    obtain ⟨t2, a1, b1⟩ := kk u r t T'.heap (locs ++ L) e1.symm hp hb k3 T' rfl X'
    exact ⟨t2, st t2 a1, b1⟩
  · obtain ⟨k1, k2, k3⟩ := vx_keep h0 e1 hS hAX hf hL hF
    obtain ⟨t2, a1, b1⟩ := kx E ce q u t T'.heap (locs ++ L) e1.symm hp hb k3 (by rw [e1]; exact hce) hcv hcl T' rfl X'
    exact ⟨t2, st.trans a1, b1⟩
theorem y_gor {K : Nat → XU → Prop} {PX : String → Nat → XU → Prop} (hr : vx_Run p l e R s m args below meth c H locs cells slots mc ms (F0 m pc ls st) rest (va_Qr (fun _ : XU => True) (fun u a t => K a u ∧ xB Γ δ H.size u t) (AX δ H.size) a) (yX Γ δ H.size PX) (AX δ H.size)) (hD : gD δ.1 (adX δ) A) (hA : ∀ q, s.heap.size ≤ q → A q) (hS : va_S A s.heap H locs)
    (kx : ∀ (E : String) (ce : Cell) (q : Nat) (u : XU) (H1 : Heap) (locs1 : List Loc), PX E q u → XH Γ u.1 u.2 H1 → XO u.1 → gD u.1.1 (adX u.1) A → va_S A s.heap H1 locs1 → H1[q]? = some ce → ce.vm = .none → s.vm.findClass E = some ce.cls → vx_W p l e R s m args below meth c H1 locs1 (cells + mc) (slots + ms) Q (F0 m pc ls rest) q)
    (kk : ∀ (r : Nat) (u : XU) (H1 : Heap) (locs1 : List Loc), K r u → XH Γ u.1 u.2 H1 → XO u.1 → gD u.1.1 (adX u.1) A → va_S A s.heap H1 locs1 → W p l e R s m args below meth c H1 locs1 (cells + mc) (slots + ms) Q (F0 m (pc + 3) ls (.ref r :: rest))) : W p l e R s m args below meth c H locs cells slots Q (F0 m pc ls st) := by
  have hFc := x_free hD hS hA
  exact vx_callr hr hS (fun q _ h => hFc q h) hFc (fun q _ h => hFc q h) (fun E ce q9 u t H1 locs1 ht _ hB hS1 hce hcv hcl => kx E ce q9 u H1 locs1 hB.1 (ht ▸ hB.2.1) hB.2.2.1 ⟨hB.2.2.2.1, fun κ h => hFc _ (hB.2.2.2.2 κ h)⟩ hS1 hce hcv hcl)
    (fun u r t H1 locs1 ht _ hB hS1 => kk r u H1 locs1 hB.1 (ht ▸ hB.2.1) hB.2.2.1 ⟨hB.2.2.2.1, fun κ h => hFc _ (hB.2.2.2.2 κ h)⟩ hS1)
/-- what is thrown goes on to the caller -/
theorem y_out {E : String} {ce : Cell} {q : Nat} {Qc : Array Value → State → Outcome → State → Prop} {PX : String → Nat → XU → Prop} (hown : s.vm.findClass own = some m.cls) (hlk : meth.locks = false) (hpass : ∀ z ∈ c.exceptionTable.toList, covers z pc = false ∨ (z.catchType ≠ 0 ∧ ∃ nm : String, (Cond.classLink own z.catchType nm).before args s = true ∧ va_Nc E nm s)) (hP : XH Γ δ σ H) (hO : XO δ) (hD : gD δ.1 (adX δ) (AX δ0 s.heap.size)) (hS : va_S (AX δ0 s.heap.size) s.heap H locs) (hcell : H[q]? = some ce) (hv : ce.vm = .none) (hcl : s.vm.findClass E = some ce.cls) (hk : PX E q (δ, σ)) (hc : cells ≤ mc) (hs : slots ≤ ms) :
    vx_W p l e R s m args below meth c H locs cells slots (vx_MQ below Qc (yX Γ δ0 s.heap.size PX) args s mc ms (AX δ0 s.heap.size)) (F0 m pc ls rest) q :=
  vx_outP hown hlk hpass hcell hv hcl (fun t ht _ => ⟨(δ, σ), trivial, ⟨hk, by rw [ht]; exact hP, hO, hD⟩, hS.F ht⟩) hS.2.2 hc hs
/-- a role's cell in the heap, for athrow -/
theorem x_cell (hK : KX Γ s) (hP : XH Γ δ σ H) (kd i : Nat) (hκ : (kd, i) ∈ δ.1) {ci : Nat} {fs : List Value} (hc : cellX Γ δ kd i (σ.1 kd i) (σ.2.1 kd i) (σ.2.2 kd i) = .inr (ci, fs)) {q : vw_C} (hcl : clA[ci]? = some q) : ∃ ce : Cell, H[adX δ (kd, i)]? = some ce ∧ ce.vm = .none ∧ s.vm.findClass q.1 = some ce.cls := by
  obtain ⟨q0, h1, h2⟩ := g_at (gX Γ δ σ) hκ
  have h2 : (δ.1.map (gX Γ δ σ))[q0]? = some (adX δ (kd, i), .inr (ci, fs)) := by rw [h2]; simp only [gX, hc]
  obtain ⟨q', e1, cell, g1, g2, g3, -⟩ := hP.1 q0 _ h2
  exact ⟨cell, g1, g3, by rw [g2]; exact (hK.1.1 ci q hcl).2.1⟩
theorem y_of {y : MethodName} {bytes : ByteArray} {maxL : Nat} {ret : Option FieldType} {rm : Room} {sz : Nat} {Qc : Array Value → State → Outcome → State → Prop} {XC : String → Addr → State → State → Prop} (hy : plainName y.cls = true)
    (lv : List (Nat × Value)) (hlv : ∀ ls : Array Slot, lv_has ls maxL (lv_args 0 avs) → lv_has ls maxL lv) (hlen : (lg_sl avs).length ≤ maxL)
    (body : ∀ (p : Program) (e : Env) (s : State) (m : MethodId) (args : Array Value) (below : List Frame) (meth : Method) (c : Code), s.heap.size = sz → CY p s m args meth c bytes maxL ret y.cls Γ δ [] → TX p l e rm s m args below meth c maxL 0 0 (vx_MQ below Qc XC args s mc ms (AX δ s.heap.size)) Γ δ δ σ 0 lv []) : vx_Met l y (ws_ y bytes maxL ret) rm (yPre Γ δ σ sz avs) Qc XC mc ms (AX δ sz) := by
  refine vx_ofW (cc := bytes) (maxL := maxL) (ret := ret) hy rfl ?_
  intro p e s m args below meth c s₁ B hml ht hv
  obtain ⟨rfl, hsz, hP, hK, hO, hD0, hZ⟩ := hv
  subst hsz
  have hts := atoms_spec (ws := ws_ y bytes maxL ret) B.pre
  have hts : ∀ w ∈ lw_all, w.before _ s = true := fun w h => hts w (List.mem_cons_of_mem _ h)
  have hown : s.vm.findClass y.cls = some m.cls := findClass_of_methodNamed B.named
  have hl := lv_entry avs (n := maxL) hlen
  have htb : c.exceptionTable.toList = [] := by
    cases h9 : c.exceptionTable.toList with
    | nil => rfl
    | cons x xs => exact (ht x (by rw [h9]; exact List.mem_cons_self)).elim
  rw [lg_entry_eq]
  exact body p e s m _ below meth c rfl ⟨⟨B.exec, B.bytes, hml, hown, hts, hK, B.returns, B.notSynchronized⟩, hZ, htb⟩ s.heap [] _ hP hO (hD0.self _) va_S.rf (hlv _ hl)
theorem yW_of {y : MethodName} {bytes : ByteArray} {maxL : Nat} {ret : Option FieldType} {rm : Room} {sz : Nat} {hh : List (Nat × Nat × Nat × Nat)} {Qc : Array Value → State → Outcome → State → Prop} {XC : String → Addr → State → State → Prop} (hy : plainName y.cls = true)
    (lv : List (Nat × Value)) (hlv : ∀ ls : Array Slot, lv_has ls maxL (lv_args 0 avs) → lv_has ls maxL lv) (hlen : (lg_sl avs).length ≤ maxL)
    (body : ∀ (p : Program) (e : Env) (s : State) (m : MethodId) (args : Array Value) (below : List Frame) (meth : Method) (c : Code), s.heap.size = sz → CY p s m args meth c bytes maxL ret y.cls Γ δ (tableOf hh) → TX p l e rm s m args below meth c maxL 0 0 (vx_MQ below Qc XC args s mc ms (AX δ s.heap.size)) Γ δ δ σ 0 lv []) : vx_Met l y (wsW_ y bytes maxL ret hh) rm (yPre Γ δ σ sz avs) Qc XC mc ms (AX δ sz) := by
  refine vx_ofWH (cc := bytes) (maxL := maxL) (ret := ret) (hh := hh) hy rfl ?_
  intro p e s m args below meth c s₁ B hml hv
  obtain ⟨rfl, hsz, hP, hK, hO, hD0, hZ⟩ := hv
  subst hsz
  have hts0 := atoms_spec (ws := wsW_ y bytes maxL ret hh) B.pre
  have hts : ∀ w ∈ lw_all, w.before _ s = true := fun w h => hts0 w (List.mem_cons_of_mem _ h)
  have hown : s.vm.findClass y.cls = some m.cls := findClass_of_methodNamed B.named
  have hl := lv_entry avs (n := maxL) hlen
  rw [lg_entry_eq]
  exact body p e s m _ below meth c rfl ⟨⟨B.exec, B.bytes, hml, hown, hts, hK, B.returns, B.notSynchronized⟩, hZ, vx_table (x := y) B (hts0 _ List.mem_cons_self)⟩ s.heap [] _ hP hO (hD0.self _) va_S.rf (hlv _ hl)
end YC
