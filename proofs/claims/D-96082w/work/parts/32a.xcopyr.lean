/-! System.arraycopy between rows -/
def tyR (n : Nat) : FieldType := if n = 12 then .byte else if n = 13 then .short else if n = 14 then .int else .long
def cpyR (δ : XSh) (σ : XSt) (x y : Nat) (sp dp n : Int32) : XSt := if δ.2.2.1 x = 15 then tJa σ 11 y (va_cpy (σ.2.1 11 x) (σ.2.1 11 y) sp.toNatClampNeg dp.toNatClampNeg n.toNatClampNeg) else tIa σ 11 y (va_cpy (σ.1 11 x) (σ.1 11 y) sp.toNatClampNeg dp.toNatClampNeg n.toNatClampNeg)
def fitR (δ : XSh) (σ : XSt) (x : Nat) (sp n : Int32) : Prop := δ.2.2.1 x < 15 → ∀ i, i < n.toNatClampNeg → fits (tyR (δ.2.2.1 x)) (.int (σ.1 11 x (sp.toNatClampNeg + i))) = true
section XCR
variable {p : Program} {l : Launch} {e : Env} {R : Room} {s : State} {m : MethodId} {args : Array Value} {below : List Frame} {meth : Method} {c : Code} {H : Heap} {locs : List Loc} {cells slots : Nat} {Q : State → Prop}
variable {cc : ByteArray} {pc : Nat} {ls : Array Slot} {rest : List Value} {Γ : GA} {δ : XSh} {σ : XSt} {A : Nat → Prop} {own : String} {index : Nat}
theorem rw_of {i : Nat} (hO : XO δ) (h : (11, i) ∈ δ.1) (hc : 12 ≤ δ.2.2.1 i) : δ.2.2.1 i = 12 ∨ δ.2.2.1 i = 13 ∨ δ.2.2.1 i = 14 ∨ δ.2.2.1 i = 15 := rw_cases hO (hO.2.2.2.2 (11, i) h) hc
theorem rowCell (hK : KX Γ s) (hO : XO δ) (hP : XH Γ δ σ H) {i : Nat} (h : (11, i) ∈ δ.1) (hc : 12 ≤ δ.2.2.1 i) : ∃ (cs : Cell) (ks : Class) (comp : ClassId), H[δ.2.1 11 i]? = some cs ∧ (∀ k, cs.vm ≠ .statics k) ∧ s.vm.classes[cs.cls]? = some ks ∧ ks.kind = .array comp (tyR (δ.2.2.1 i)) ∧ cs.slots.size = δ.2.2.2 i := by
  have go : ∀ (ci t0 : Nat), (ci = 12 ∧ t0 = 2 ∨ ci = 13 ∧ t0 = 3 ∨ ci = 14 ∧ t0 = 0) → δ.2.2.1 i = ci → (tysA Γ)[t0]? = some (Γ.2 t0, tyR ci) → ∃ (cs : Cell) (ks : Class) (comp : ClassId), H[δ.2.1 11 i]? = some cs ∧ (∀ k, cs.vm ≠ .statics k) ∧ s.vm.classes[cs.cls]? = some ks ∧ ks.kind = .array comp (tyR (δ.2.2.1 i)) ∧ cs.slots.size = δ.2.2.2 i := by
    intro ci t0 hci e ht
    obtain ⟨q0, h1, h2⟩ := x_at (Γ := Γ) (σ := σ) h (cell11 (Γ := Γ) hci e _ _ _)
    obtain ⟨-, k0, hk0, cm0, hkk0⟩ := (hK.1.2 t0 _ ht).1 (δ.2.2.2 i) (fun j => .int (σ.1 11 i j))
    refine ⟨_, k0, cm0, hP.1 q0 _ h2, (fun _ h => by cases h), hk0, (by rw [e]; exact hkk0), ?_⟩
    show (arrV _ _ _).slots.size = _
    rw [arrV_size]
  rcases rw_of hO h hc with e | e | e | e
  · exact go 12 2 (Or.inl ⟨rfl, rfl⟩) e rfl
  · exact go 13 3 (Or.inr (Or.inl ⟨rfl, rfl⟩)) e rfl
  · exact go 14 0 (Or.inr (Or.inr ⟨rfl, rfl⟩)) e rfl
  · obtain ⟨q0, h1, h2⟩ := x_at (Γ := Γ) (σ := σ) h (cell11l (Γ := Γ) e _ _ _)
    obtain ⟨-, k0, hk0, cm0, hkk0⟩ := (hK.1.2 1 _ rfl).1 (δ.2.2.2 i) (fun j => .long (σ.2.1 11 i j))
    refine ⟨_, k0, cm0, hP.1 q0 _ h2, (fun _ h => by cases h), hk0, (by rw [e]; exact hkk0), ?_⟩
    show (arrV _ _ _).slots.size = _
    rw [arrV_size]
theorem tyR_prim (n : Nat) : refKind (tyR n) = false := by
  unfold tyR
  split
  · rfl
  · split
    · rfl
    · split <;> rfl
theorem x_copyBad (hx : p.tables.exec = Jvm.exec) (hb : c.code = cc) (hml : c.maxLocals = ls.size) (hst : l.stackTraces = false) (hown : s.vm.findClass own = some m.cls) (hlink : (Cond.methodLink own index arraycopyName).before args s = true) (hnat : (Cond.native arraycopyName).before args s = true) (hstat : (Cond.static arraycopyName).before args s = true) (hini : (Cond.initialized "java/lang/System").before args s = true) (hts : ∀ w ∈ lw_all, w.before args s = true) (hK : KX Γ s) (hZ : ZS Γ A s s.heap) (hO : XO δ) (hP : XH Γ δ σ H) (hS : va_S A s.heap H locs) (hlk : meth.locks = false)
    {i0 i1 : Nat} (h0 : (11, i0) ∈ δ.1) (c0 : 12 ≤ δ.2.2.1 i0) (h1 : (11, i1) ∈ δ.1) (c1 : 12 ≤ δ.2.2.1 i1) (he : δ.2.2.1 i1 = δ.2.2.1 i0) {sp dp n : Int32} (hn0 : δ.2.2.2 i0 < 2147483648) (hn1 : δ.2.2.2 i1 < 2147483648) (hout : ¬ Cpy sp dp n (δ.2.2.2 i0) (δ.2.2.2 i1))
    (hR : 9 ≤ R.frames ∧ (rest.map fun v => v.category).sum + 10240 ≤ R.locals ∧ cells + 3 ≤ R.cells ∧ slots + 910 ≤ R.slots) (hdg : decode cc pc = .ok (.invokestatic index, 3))
    (k : ∀ (H1 : Heap) (q : Nat) (ce : Cell), XH Γ δ σ H1 → va_S A s.heap H1 locs → H1[q]? = some ce → ce.vm = .none → s.vm.findClass "java/lang/ArrayIndexOutOfBoundsException" = some ce.cls → vx_W p l e R s m args below meth c H1 locs (cells + 3) (slots + 910) Q (F0 m pc ls rest) q) : W p l e R s m args below meth c H locs cells slots Q (F0 m pc ls (.int n :: .int dp :: .ref (δ.2.1 11 i1) :: .int sp :: .ref (δ.2.1 11 i0) :: rest)) := by
  obtain ⟨cs, ks, cm, a1, a2, a3, a4, a5⟩ := rowCell hK hO hP h0 c0
  obtain ⟨cd, kd, dm, b1, b2, b3, b4, b5⟩ := rowCell hK hO hP h1 c1
  rw [he] at b4
  exact copyZ0 hx hb hml hst hown hlink hnat hstat hini hts hK hZ hP hS hlk a1 b1 a2 b2 a3 b3 a4 b4 (tyR_prim _) (by rw [a5]; exact hn0) (by rw [b5]; exact hn1) (by rw [a5, b5]; exact hout) hR hdg k
theorem x_copyR (hx : p.tables.exec = Jvm.exec) (hb : c.code = cc) (hml : c.maxLocals = ls.size) (hown : s.vm.findClass own = some m.cls) (hlink : (Cond.methodLink own index arraycopyName).before args s = true) (hnat : (Cond.native arraycopyName).before args s = true) (hstat : (Cond.static arraycopyName).before args s = true) (hini : (Cond.initialized "java/lang/System").before args s = true) (hK : KX Γ s) (hO : XO δ) (hD : gD δ.1 (adX δ) A) (hP : XH Γ δ σ H) {H0 : Heap} (hS : va_S A H0 H locs)
    {i0 i1 : Nat} (h0 : (11, i0) ∈ δ.1) (c0 : 12 ≤ δ.2.2.1 i0) (h1 : (11, i1) ∈ δ.1) (he : δ.2.2.1 i1 = δ.2.2.1 i0) {sp dp n : Int32} (hfit : fitR δ σ i0 sp n) (hc : Cpy sp dp n (δ.2.2.2 i0) (δ.2.2.2 i1))
    (hframes : 1 ≤ R.frames) (hlocals : (rest.map fun v => v.category).sum + (nativeFrameWords "java/lang/System" "arraycopy" 5 + 11) ≤ R.locals) (hdg : decode cc pc = .ok (.invokestatic index, 3))
    (kk : ∀ (H1 : Heap) (locs1 : List Loc), XH Γ δ (cpyR δ σ i0 i1 sp dp n) H1 → va_S A H0 H1 locs1 → W p l e R s m args below meth c H1 locs1 cells slots Q (F0 m (pc + 3) ls rest)) : W p l e R s m args below meth c H locs cells slots Q (F0 m pc ls (.int n :: .int dp :: .ref (δ.2.1 11 i1) :: .int sp :: .ref (δ.2.1 11 i0) :: rest)) := by
  obtain ⟨d1, d2, d3, d4, d5⟩ := hc
  have go : ∀ (ci t0 : Nat), (ci = 12 ∧ t0 = 2 ∨ ci = 13 ∧ t0 = 3 ∨ ci = 14 ∧ t0 = 0) → δ.2.2.1 i0 = ci → (tysA Γ)[t0]? = some (Γ.2 t0, tyR ci) → W p l e R s m args below meth c H locs cells slots Q (F0 m pc ls (.int n :: .int dp :: .ref (δ.2.1 11 i1) :: .int sp :: .ref (δ.2.1 11 i0) :: rest)) := by
    intro ci t0 hci e9 ht
    obtain ⟨q0, a1, a2⟩ := x_at (Γ := Γ) (σ := σ) h0 (cell11 (Γ := Γ) hci e9 _ _ _)
    have hcell := cell11 (Γ := Γ) hci (he.trans e9)
    obtain ⟨q1, b1, b2⟩ := x_at (Γ := Γ) (σ := σ) h1 (hcell _ _ _)
    have hlt : δ.2.2.1 i0 < 15 := by rcases hci with ⟨h, _⟩ | ⟨h, _⟩ | ⟨h, _⟩ <;> omega
    have hf := hfit hlt
    rw [e9] at hf
    have ec : cpyR δ σ i0 i1 sp dp n = tIa σ 11 i1 (va_cpy (σ.1 11 i0) (σ.1 11 i1) sp.toNatClampNeg dp.toNatClampNeg n.toNatClampNeg) := by
      unfold cpyR
      rw [if_neg (by omega)]
    refine va_copyi (ty := tyR ci) hx hb hml hown hlink hnat hstat hini hK.1 hP.1 (hD.va (fun _ => rfl)) hS q0 q1 t0 t0 a2 b2 ht ht (tyR_prim _) d1 d2 d3 d4 d5 hf hframes hlocals hdg (fun H1 locs1 hP1 _ hS1 => kk H1 locs1 ⟨?_, ?_⟩ hS1)
    · rw [ec]
      rw [g_set hD (κ := (11, i1)) (g' := gX Γ δ (tIa σ 11 i1 (va_cpy (σ.1 11 i0) (σ.1 11 i1) sp.toNatClampNeg dp.toNatClampNeg n.toNatClampNeg))) b1 (fun κ' hne => gX_ne1 κ' hne) (by rw [gX_s1, hcell])] at hP1
      exact hP1
    · rw [ec]
      exact hP.2
  rcases rw_of hO h0 c0 with e9 | e9 | e9 | e9
  · exact go 12 2 (Or.inl ⟨rfl, rfl⟩) e9 rfl
  · exact go 13 3 (Or.inr (Or.inl ⟨rfl, rfl⟩)) e9 rfl
  · exact go 14 0 (Or.inr (Or.inr ⟨rfl, rfl⟩)) e9 rfl
  · obtain ⟨q0, a1, a2⟩ := x_at (Γ := Γ) (σ := σ) h0 (cell11l (Γ := Γ) e9 _ _ _)
    have hcell := cell11l (Γ := Γ) (he.trans e9)
    obtain ⟨q1, b1, b2⟩ := x_at (Γ := Γ) (σ := σ) h1 (hcell _ _ _)
    have ec : cpyR δ σ i0 i1 sp dp n = tJa σ 11 i1 (va_cpy (σ.2.1 11 i0) (σ.2.1 11 i1) sp.toNatClampNeg dp.toNatClampNeg n.toNatClampNeg) := by
      unfold cpyR
      rw [if_pos e9]
    refine va_copyl (ty := .long) hx hb hml hown hlink hnat hstat hini hK.1 hP.1 (hD.va (fun _ => rfl)) hS q0 q1 1 1 a2 b2 rfl rfl rfl d1 d2 d3 d4 d5 (fun _ _ => rfl) hframes hlocals hdg (fun H1 locs1 hP1 _ hS1 => kk H1 locs1 ⟨?_, ?_⟩ hS1)
    · rw [ec]
      rw [g_set hD (κ := (11, i1)) (g' := gX Γ δ (tJa σ 11 i1 (va_cpy (σ.2.1 11 i0) (σ.2.1 11 i1) sp.toNatClampNeg dp.toNatClampNeg n.toNatClampNeg))) b1 (fun κ' hne => gX_ne2 κ' hne) (by rw [gX_s2, hcell])] at hP1
      exact hP1
    · rw [ec]
      exact hP.2
end XCR
