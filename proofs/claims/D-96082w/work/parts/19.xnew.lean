/-! constructors: raw cells in, raw cells out; then they are given roles -/
def rA (q sz : Nat) (a : Nat) : Prop := a = q ∨ sz ≤ a
def rPre (Γ : GA) (q : Nat) (raw : va_E) (sz : Nat) (avs : List Value) : Array Value → State → Prop := va_Pc avs (fun U => U.heap.size = sz ∧ va_P Γ.1 clA [(q, raw)] U.heap ∧ KX Γ U ∧ ZS Γ (rA q sz) U U.heap)
theorem rPre_blind {Γ : GA} {q : Nat} {raw : va_E} {sz : Nat} {avs : List Value} : FrameBlind (rPre Γ q raw sz avs) := fun a U g mk h => by
  obtain ⟨q0, q1, qP, qK, qZ⟩ := h
  exact ⟨q0, q1, qP, KX.moved (u := U) (U := U.calling g mk a) (Vm.Alike.refl U.vm) qK, ZS.same (s := U) (U := U.calling g mk a) rfl qZ⟩
def rB (Γ : GA) (q sz : Nat) (ex : va_W) (t : State) : Prop := va_P Γ.1 clA ex t.heap ∧ va_D (rA q sz) ex
abbrev rC (l : Launch) (y : MethodName) (b : ByteArray) (L : Nat) (rm : Room) (mc ms : Nat) (Γ : GA) (q : Nat) (raw : va_E) (avs : List Value) (Kex : va_W → Prop) : Prop := ∀ sz : Nat, Met l y (ws_ y b L none) rm (rPre Γ q raw sz (.ref q :: avs)) (va_Qv Kex (rB Γ q sz) (rA q sz)) mc ms (rA q sz)
abbrev RV (below : List Frame) (Kex : va_W → Prop) (mc ms : Nat) (Γ : GA) (q : Nat) (s : State) (args : Array Value) : State → Prop := MQ below (va_Qv Kex (rB Γ q s.heap.size) (rA q s.heap.size)) args s mc ms (rA q s.heap.size)
section RC
variable {p : Program} {l : Launch} {e : Env} {R : Room} {s : State} {m : MethodId} {args : Array Value} {below : List Frame} {meth : Method} {c : Code} {H : Heap} {locs : List Loc} {cells slots mc ms : Nat} {Q : State → Prop}
variable {cc : ByteArray} {pc nL : Nat} {ls : Array Slot} {rest st avs : List Value} {Γ : GA} {δ δ0 : XSh} {σ : XSt} {A : Nat → Prop} {own : String} {a : Array Value} {q : Nat} {raw : va_E} {X : va_W}
theorem r_pre (hK : KX Γ s) (hA : ∀ q, s.heap.size ≤ q → A q) (hZ : ZS Γ A s s.heap) (hP : va_P Γ.1 clA ((q, raw) :: X) H) (hD : va_D A ((q, raw) :: X)) (hS : va_S A s.heap H locs) : PreS s H (rPre Γ q raw H.size (.ref q :: avs)) (.ref q :: avs) := by
  refine ⟨rPre_blind, fun U hU hW => ⟨rfl, by rw [hU], ?_, KX.moved hW.alike hK, ?_⟩⟩
  · rw [hU]
    intro k x hk
    match k, hk with
    | 0, hk => exact hP 0 x hk
  · rw [hU]
    refine ((hZ.kept hS.2.1).narrow (fun a h => ?_)).warm hW
    rcases h with h | h
    · rw [h]; exact hD.2 0 (q, raw) rfl
    · exact hA a (Nat.le_trans hS.1 h)
theorem r_go {Kex : va_W → Prop} (hr : va_Run p l e R s m args below meth c H locs cells slots mc ms (F0 m pc ls st) rest (va_Qv Kex (rB Γ q H.size) (rA q H.size) a) (rA q H.size)) (hA : ∀ q, s.heap.size ≤ q → A q) (hP : va_P Γ.1 clA ((q, raw) :: X) H) (hD : va_D A ((q, raw) :: X)) (hS : va_S A s.heap H locs)
    (kk : ∀ (ex : va_W) (H1 : Heap) (locs1 : List Loc), Kex ex → va_P Γ.1 clA (ex ++ X) H1 → va_D A (ex ++ X) → va_S A s.heap H1 locs1 → W p l e R s m args below meth c H1 locs1 (cells + mc) (slots + ms) Q (F0 m (pc + 3) ls rest)) : W p l e R s m args below meth c H locs cells slots Q (F0 m pc ls st) := by
  have hq : A q := hD.2 0 (q, raw) rfl
  have hf : ∀ a, rA q H.size a → A a := fun a h => by
    rcases h with h | h
    · rw [h]; exact hq
    · exact hA a (Nat.le_trans hS.1 h)
  refine va_callv hr hS (fun a _ h => hf a h) hf (fun ex t H1 locs1 ht _ hk hB hsz hk1 hS1 => kk ex H1 locs1 hk ?_ ?_ hS1)
  · refine va_P.app (by rw [← ht]; exact hB.1) (fun k x hx => ?_)
    have h0 := hP (k + 1) x hx
    refine h0.kept (hk1 x.1 h0.lt (fun z => ?_))
    rcases z with z | z
    · have := hD.1 (k + 1) 0 x (q, raw) hx rfl z
      omega
    · exact absurd h0.lt (by omega)
  · refine va_D.app ⟨hB.2.1, fun k x hx => hf _ (hB.2.2 k x hx)⟩ ⟨fun i j x y hi hj e => by have := hD.1 (i + 1) (j + 1) x y hi hj e; omega, fun k x hx => hD.2 (k + 1) x hx⟩ (fun i j x y hi hj e => ?_)
    have h0 := hP (j + 1) y hj
    rcases hB.2.2 i x hi with z | z
    · have := hD.1 (j + 1) 0 y (q, raw) hj rfl (by rw [← e]; exact z)
      omega
    · have := h0.lt
      omega
theorem r_vret {Kex : va_W → Prop} {ex : va_W} (hx : p.tables.exec = Jvm.exec) (hb : c.code = cc) (hr : meth.sig.returnType = none) (hlk : meth.locks = false) (hP : va_P Γ.1 clA ex H) (hD : va_D (rA q s.heap.size) ex) (hS : va_S (rA q s.heap.size) s.heap H locs) (hk : Kex ex) (hd : decode cc pc = .ok (.return_, 1)) : W p l e R s m args below meth c H locs mc ms (RV below Kex mc ms Γ q s args) (F0 m pc ls []) :=
  W.vret hx hb hr (fun t ht hW => ⟨⟨ex, rfl, hk, by rw [ht]; exact hP, hD⟩, hS.F ht⟩) hS.2.2 hd
theorem r_of {y : MethodName} {bytes : ByteArray} {maxL : Nat} {rm : Room} {sz : Nat} {Kex : va_W → Prop} (hy : plainName y.cls = true) (hn : y.name = "<init>")
    (lv : List (Nat × Value)) (hlv : ∀ ls : Array Slot, lv_has ls maxL (lv_args 0 (.ref q :: avs)) → lv_has ls maxL lv) (hlen : (lg_sl (.ref q :: avs)).length ≤ maxL)
    (body : ∀ (p : Program) (e : Env) (s : State) (m : MethodId) (args : Array Value) (below : List Frame) (meth : Method) (c : Code) (ls : Array Slot), s.heap.size = sz → CX p s m args meth c bytes maxL none y.cls Γ → ZS Γ (rA q s.heap.size) s s.heap → meth.name = "<init>" → va_P Γ.1 clA [(q, raw)] s.heap → lv_has ls maxL lv → W p l e rm s m args below meth c s.heap [] 0 0 (RV below Kex mc ms Γ q s args) (F0 m 0 ls [])) : Met l y (ws_ y bytes maxL none) rm (rPre Γ q raw sz (.ref q :: avs)) (va_Qv Kex (rB Γ q sz) (rA q sz)) mc ms (rA q sz) := by
  refine Met.ofW (cc := bytes) (maxL := maxL) (ret := none) hy rfl ?_
  intro p e s m args below meth c s₁ B hml hv
  obtain ⟨rfl, hsz, hP, hK, hZ⟩ := hv
  subst hsz
  have hts := atoms_spec (ws := ws_ y bytes maxL none) B.pre
  have hts : ∀ w ∈ lw_all, w.before _ s = true := fun w h => hts w (List.mem_cons_of_mem _ h)
  have hown : s.vm.findClass y.cls = some m.cls := findClass_of_methodNamed B.named
  have hl := lv_entry (.ref q :: avs) (n := maxL) hlen
  rw [lg_entry_eq]
  exact body p e s m _ below meth c _ rfl ⟨B.exec, B.bytes, hml, hown, hts, hK, B.returns, B.notSynchronized⟩ hZ (((name_of_methodNamed B.named B.method).1).trans hn) hP (hlv _ hl)
theorem rD0 {sz : Nat} : va_D (rA q sz) [(q, raw)] := by
  refine ⟨fun i j x y hi hj _ => ?_, fun k x hk => ?_⟩
  · have h1 := (List.getElem?_eq_some_iff.mp hi).1
    have h2 := (List.getElem?_eq_some_iff.mp hj).1
    simp at h1 h2
    omega
  · match k, hk with
    | 0, hk => cases hk; exact Or.inl rfl
end RC
/-! new roles at a fresh id -/
def nδ (δ : XSh) (q : Nat) (ks : List Nat) (α : Nat → Nat) (c n : Nat) : XSh := (ks.map (fun k => (k, q)) ++ δ.1, fun k i => if i = q then α k else δ.2.1 k i, fun i => if i = q then c else δ.2.2.1 i, fun i => if i = q then n else δ.2.2.2 i)
def nσ (σ : XSt) (q : Nat) (F : Nat → Nat → Int32) (G : Nat → Nat → Int64) (P : Nat → Nat → Option Nat) : XSt := (fun k i => if i = q then F k else σ.1 k i, fun k i => if i = q then G k else σ.2.1 k i, fun k i => if i = q then P k else σ.2.2 k i)
theorem nδ_in {δ : XSh} {q : Nat} {ks : List Nat} {α : Nat → Nat} {c n k : Nat} (h : k ∈ ks) : (k, q) ∈ (nδ δ q ks α c n).1 := List.mem_append_left _ (List.mem_map.mpr ⟨k, h, rfl⟩)
theorem nδ_old {δ : XSh} {q : Nat} {ks : List Nat} {α : Nat → Nat} {c n : Nat} {κ : Nat × Nat} (h : κ ∈ δ.1) : κ ∈ (nδ δ q ks α c n).1 := List.mem_append_right _ h
theorem nδ_of {δ : XSh} {q : Nat} {ks : List Nat} {α : Nat → Nat} {c n : Nat} {κ : Nat × Nat} (h : κ ∈ (nδ δ q ks α c n).1) : (κ.1 ∈ ks ∧ κ.2 = q) ∨ κ ∈ δ.1 := by
  rcases List.mem_append.mp h with h | h
  · obtain ⟨k, h1, h2⟩ := List.mem_map.mp h
    rw [← h2]
    exact Or.inl ⟨h1, rfl⟩
  · exact Or.inr h
theorem nAgr {δ : XSh} {σ : XSt} {q : Nat} {ks : List Nat} {α : Nat → Nat} {c n : Nat} {F : Nat → Nat → Int32} {G : Nat → Nat → Int64} {P : Nat → Nat → Option Nat} (hF : Fr δ q) : Agr δ σ (nδ δ q ks α c n) (nσ σ q F G P) := by
  refine ⟨⟨fun κ hk => ⟨nδ_old hk, ?_⟩, fun t ht => ?_⟩, fun κ hk => ?_⟩
  · obtain ⟨k, i⟩ := κ
    exact ad_off (fun k' => by simp only [nδ]; rw [if_neg (hF _ hk).1]) k
  · simp only [nδ]
    rw [if_neg (hF _ ht).1, if_neg (hF _ ht).1]
    exact ⟨rfl, rfl⟩
  · simp only [nσ]
    rw [if_neg (hF _ hk).1, if_neg (hF _ hk).1, if_neg (hF _ hk).1]
    exact ⟨rfl, rfl, rfl⟩
theorem mkX {Γ : GA} {δ : XSh} {σ : XSt} {q : Nat} {ex : va_W} {H : Heap} {A : Nat → Prop} (hR : va_P Γ.1 clA (Wd Γ ex δ σ) H) (hRD : va_D A (Wd Γ ex δ σ)) (hW : XW δ σ) (hO : XO δ) (hF : Fr δ q) (ks : List Nat) (α : Nat → Nat) (c n : Nat) (F : Nat → Nat → Int32) (G : Nat → Nat → Int64) (P : Nat → Nat → Option Nat)
    (hex : ks.map (fun k => gX Γ (nδ δ q ks α c n) (nσ σ q F G P) (k, q)) = ex) (hP1 : ∀ k ∈ ks, ∀ j t, P k j = some t → (tk k j, t) ∈ (nδ δ q ks α c n).1 ∧ tc k j ((nδ δ q ks α c n).2.2.1 t))
    (hks : (6 ∈ ks → 8 ∈ ks ∧ 9 ∈ ks ∧ 10 ∈ ks) ∧ (7 ∈ ks → 5 ≤ c ∧ c < 16 ∧ (12 ≤ c → 11 ∈ ks)) ∧ (0 ∈ ks → 1 ∈ ks ∧ 2 ∈ ks ∧ 3 ∈ ks) ∧ (3 ∈ ks → 4 ∈ ks) ∧ ∀ k ∈ ks, ow k ∈ ks) :
    XH Γ (nδ δ q ks α c n) (nσ σ q F G P) H ∧ XO (nδ δ q ks α c n) ∧ gD (nδ δ q ks α c n).1 (adX (nδ δ q ks α c n)) A ∧ Agr δ σ (nδ δ q ks α c n) (nσ σ q F G P) := by
  have hA := nAgr (σ := σ) (ks := ks) (α := α) (c := c) (n := n) (F := F) (G := G) (P := P) hF
  have hre := reX (δ1 := nδ δ q ks α c n) (σ1 := nσ σ q F G P) (ks := ks.map (fun k => (k, q))) hR hRD rfl (by rw [List.map_map]; exact hex) (fun κ hk => by
    have h0 := (hF κ hk).1
    exact g_off (fun k' => by simp only [nδ]; rw [if_neg h0]) (by simp only [nδ]; rw [if_neg h0]) (by simp only [nδ]; rw [if_neg h0]) (hA.2 κ hk))
  refine ⟨⟨hre.1, ?_⟩, ⟨?_, ?_, ?_, ?_, ?_⟩, hre.2, hA⟩
  · intro κ hk j t ht
    rcases nδ_of hk with ⟨h1, h2⟩ | h
    · simp only [nσ] at ht
      rw [if_pos h2] at ht
      exact hP1 _ h1 j t ht
    · rw [(hA.2 κ h).2.2] at ht
      have := hW κ h j t ht
      refine ⟨nδ_old this.1, ?_, ?_⟩
      · intro hk8
        have e7 : tk κ.1 j = 7 := by rw [hk8]; rfl
        rw [e7] at this
        rw [(hA.1.2 t this.1).1]
        exact this.2.1 hk8
      · intro h12
        have e7 : tk κ.1 j = 7 := by rw [h12.1, h12.2]; rfl
        rw [e7] at this
        rw [(hA.1.2 t this.1).1]
        exact this.2.2 h12
  · intro g hg
    rcases nδ_of hg with ⟨h1, h2⟩ | h
    · have h2 : g = q := h2
      subst h2
      have := hks.1 h1
      exact ⟨nδ_in this.1, nδ_in this.2.1, nδ_in this.2.2⟩
    · have := hO.1 g h
      exact ⟨nδ_old this.1, nδ_old this.2.1, nδ_old this.2.2⟩
  · intro t ht
    rcases nδ_of ht with ⟨h1, h2⟩ | h
    · have h2 : t = q := h2
      subst h2
      have := hks.2.1 h1
      simp only [nδ, if_pos]
      exact ⟨this.1, this.2.1, fun h => nδ_in (c := c) (n := n) (α := α) (this.2.2 h)⟩
    · have := hO.2.1 t h
      rw [(hA.1.2 t h).1]
      exact ⟨this.1, this.2.1, fun h => nδ_old (this.2.2 h)⟩
  · intro x hx
    rcases nδ_of hx with ⟨h1, h2⟩ | h
    · have h2 : x = q := h2
      subst h2
      have := hks.2.2.1 h1
      exact ⟨nδ_in this.1, nδ_in this.2.1, nδ_in this.2.2⟩
    · have := hO.2.2.1 x h
      exact ⟨nδ_old this.1, nδ_old this.2.1, nδ_old this.2.2⟩
  · intro x hx
    rcases nδ_of hx with ⟨h1, h2⟩ | h
    · have h2 : x = q := h2
      subst h2
      exact nδ_in (hks.2.2.2.1 h1)
    · exact nδ_old (hO.2.2.2.1 x h)
  · intro κ hk
    rcases nδ_of hk with ⟨h1, h2⟩ | h
    · rw [h2]
      exact nδ_in (hks.2.2.2.2 _ h1)
    · exact nδ_old (hO.2.2.2.2 κ h)
