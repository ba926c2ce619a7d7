/-! THE CLASS's WORLD: roles (kind, id); kinds 0 SeenByOne, 1 its shelves, 2 its refusals, 3 its Trace, 4 the Trace's bodies, 5 Shelf, 6 Ground, 7 Thing or Row (by its class), 8 a Ground's things, 9 its heights, 10 its shut, 11 a Row's elements, 12 Reader, 13 Refused, 14 Faulty, 15 an int[8] of a method -/
abbrev XSt : Type := (Nat → Nat → Nat → Int32) × (Nat → Nat → Nat → Int64) × (Nat → Nat → Nat → Option Nat)
/-- which roles there are; addresses of owned arrays; classes (numbers in clA) of things and rows; lengths of rows -/
abbrev XSh : Type := List (Nat × Nat) × (Nat → Nat → Nat) × (Nat → Nat) × (Nat → Nat)
def tI (σ : XSt) (k i j : Nat) (v : Int32) : XSt := (fun k' i' => if k' = k ∧ i' = i then upd (σ.1 k i) j v else σ.1 k' i', σ.2)
def tJ (σ : XSt) (k i j : Nat) (v : Int64) : XSt := (σ.1, fun k' i' => if k' = k ∧ i' = i then vp_updL (σ.2.1 k i) j v else σ.2.1 k' i', σ.2.2)
def tP (σ : XSt) (k i j : Nat) (v : Option Nat) : XSt := (σ.1, σ.2.1, fun k' i' => if k' = k ∧ i' = i then va_up (σ.2.2 k i) j v else σ.2.2 k' i')
def tIa (σ : XSt) (k i : Nat) (f : Nat → Int32) : XSt := (fun k' i' => if k' = k ∧ i' = i then f else σ.1 k' i', σ.2)
def tJa (σ : XSt) (k i : Nat) (f : Nat → Int64) : XSt := (σ.1, fun k' i' => if k' = k ∧ i' = i then f else σ.2.1 k' i', σ.2.2)
def tPa (σ : XSt) (k i : Nat) (f : Nat → Option Nat) : XSt := (σ.1, σ.2.1, fun k' i' => if k' = k ∧ i' = i then f else σ.2.2 k' i')
def adX (δ : XSh) (κ : Nat × Nat) : Nat := match κ.1 with
  | 1 => δ.2.1 1 κ.2
  | 2 => δ.2.1 2 κ.2
  | 3 => δ.2.1 3 κ.2
  | 4 => δ.2.1 4 κ.2
  | 8 => δ.2.1 8 κ.2
  | 9 => δ.2.1 9 κ.2
  | 10 => δ.2.1 10 κ.2
  | 11 => δ.2.1 11 κ.2
  | _ => κ.2
def cellX (Γ : GA) (δ : XSh) (k i : Nat) (f : Nat → Int32) (g : Nat → Int64) (h : Nat → Option Nat) : va_E := match k with
  | 0 => .inr (1, [.ref (δ.2.1 1 i), .ref (δ.2.1 2 i), .ref (δ.2.1 3 i), va_rf (h 3), va_rf (h 4), va_rf (h 5), .int (f 6)])
  | 1 => .inl (Γ.2 5, 8, .inr (.inr (.inr (.inr h))))
  | 2 => .inl (Γ.2 0, 8, .inl f)
  | 3 => .inr (2, [.ref (δ.2.1 4 i), .int (f 1)])
  | 4 => .inl (Γ.2 0, 20, .inl f)
  | 5 => .inr (4, [va_rf (h 0)])
  | 6 => .inr (3, [.int (f 0), .int (f 1), .int (f 2), .int (f 3), .int (f 4), .int (f 5), .ref (δ.2.1 8 i), .ref (δ.2.1 9 i), .ref (δ.2.1 10 i)])
  | 7 => if δ.2.2.1 i < 12 then .inr (δ.2.2.1 i, [.int (f 0), .int (f 1), .int (f 2), .int (f 3)]) else .inr (δ.2.2.1 i, [.ref (δ.2.1 11 i)])
  | 8 => .inl (Γ.2 4, 8, .inr (.inr (.inr (.inr h))))
  | 9 => .inl (Γ.2 0, 8, .inl f)
  | 10 => .inl (Γ.2 0, 8, .inl f)
  | 11 => if δ.2.2.1 i = 15 then .inl (Γ.2 1, δ.2.2.2 i, .inr (.inl g)) else .inl (Γ.2 (if δ.2.2.1 i = 12 then 2 else if δ.2.2.1 i = 13 then 3 else 0), δ.2.2.2 i, .inl f)
  | 12 => .inr (16, [va_rf (h 0), va_rf (h 1), .int (f 2), .int (f 3)])
  | 13 => .inr (17, [.null, .null, .null, .null, .null, .int 0, .int (f 6)])
  | 14 => .inr (18, [.null, .null, .null, .null, .null, .int 0, .int (f 6)])
  | _ => .inl (Γ.2 0, 8, .inl f)
def gX (Γ : GA) (δ : XSh) (σ : XSt) (κ : Nat × Nat) : Nat × va_E := (adX δ κ, cellX Γ δ κ.1 κ.2 (σ.1 κ.1 κ.2) (σ.2.1 κ.1 κ.2) (σ.2.2 κ.1 κ.2))
def WX (Γ : GA) (δ : XSh) (σ : XSt) (H : Heap) : Prop := va_P Γ.1 clA (δ.1.map (gX Γ δ σ)) H
/-- the kind of what a reference at (k, j) names -/
def tk (k j : Nat) : Nat := if k = 0 then 6 else if k = 1 then 5 else if k = 12 ∧ j = 1 then 6 else 7
def tc (k j n : Nat) : Prop := (k = 8 → n < 12) ∧ (k = 12 ∧ j = 0 → 12 ≤ n)
/-- references lead to roles that are there -/
def XW (δ : XSh) (σ : XSt) : Prop := (∀ κ ∈ δ.1, ∀ j t, σ.2.2 κ.1 κ.2 j = some t → (tk κ.1 j, t) ∈ δ.1 ∧ tc κ.1 j (δ.2.2.1 t))
/-- the kind of the object that an owned array (or Trace) belongs to -/
def ow (k : Nat) : Nat := if k = 8 ∨ k = 9 ∨ k = 10 then 6 else if k = 1 ∨ k = 2 ∨ k = 3 ∨ k = 4 then 0 else if k = 11 then 7 else k
/-- the roles' own law -/
def XO (δ : XSh) : Prop := (∀ g, (6, g) ∈ δ.1 → (8, g) ∈ δ.1 ∧ (9, g) ∈ δ.1 ∧ (10, g) ∈ δ.1) ∧ (∀ t, (7, t) ∈ δ.1 → 5 ≤ δ.2.2.1 t ∧ δ.2.2.1 t < 16 ∧ (12 ≤ δ.2.2.1 t → (11, t) ∈ δ.1)) ∧ (∀ x, (0, x) ∈ δ.1 → (1, x) ∈ δ.1 ∧ (2, x) ∈ δ.1 ∧ (3, x) ∈ δ.1) ∧ (∀ x, (3, x) ∈ δ.1 → (4, x) ∈ δ.1) ∧ (∀ κ ∈ δ.1, (ow κ.1, κ.2) ∈ δ.1)
def XH (Γ : GA) (δ : XSh) (σ : XSt) (H : Heap) : Prop := WX Γ δ σ H ∧ XW δ σ
/-- words that aren't among lw_all, taken along -/
def nwL : List Cond := [.castable RX16 RX12, .castable RX16 RX11, .castable RX7 RX6, .castable RX17 RX11, .castable RX17 RX13, .castable RX12 RX11, .castable RX9 RX6, .castable RX10 RX6, .castable RX8 RX6, .castable RX15 RX12, .castable RX15 RX11, .castable RX14 RX12, .castable RX14 RX11, .castable RX13 RX11, .castable "java/lang/ArrayIndexOutOfBoundsException" "java/lang/ArrayIndexOutOfBoundsException", .castable "java/lang/ArrayIndexOutOfBoundsException" "java/lang/IndexOutOfBoundsException", .castable "java/lang/ClassCastException" "java/lang/ClassCastException", .castable "java/lang/NegativeArraySizeException" "java/lang/NegativeArraySizeException", .castable RX5 RX5, .castable RX19 RX19,
  .declares ⟨RX6, "put", "(IJ)V"⟩, .declares ⟨RX6, "sort", "()I"⟩, .declares ⟨RX6, "held", "()Ljava/lang/Object;"⟩, .declares ⟨RX6, "get", "(I)J"⟩, .declares ⟨RX6, "length", "()I"⟩, .declares ⟨"java/lang/IndexOutOfBoundsException", "<init>", "(Ljava/lang/String;)V"⟩, .declares ⟨"java/lang/RuntimeException", "<init>", "(Ljava/lang/String;)V"⟩, .declares ⟨"java/lang/Exception", "<init>", "(Ljava/lang/String;)V"⟩, .declares ⟨"java/lang/Throwable", "<init>", "(Ljava/lang/String;)V"⟩]
theorem nw_al {u U : State} (hvm : u.vm.Alike U.vm) : ∀ w ∈ nwL, va_Nw w u → va_Nw w U := by
  have h1 : ∀ (C T : String), va_Nw (.castable C T) u → va_Nw (.castable C T) U := fun C T h => va_tabs rfl (rfl : (u.setVm U.vm).vm = U.vm) (by rw [Cond.castable_setVm hvm]; exact h)
  have h2 : ∀ (x : MethodName), va_Nw (.declares x) u → va_Nw (.declares x) U := fun x h => va_tabs rfl (rfl : (u.setVm U.vm).vm = U.vm) (by rw [Cond.declares_setVm hvm]; exact h)
  intro w hw
  simp only [nwL, List.mem_cons, List.not_mem_nil, or_false] at hw
  rcases hw with rfl | rfl | rfl | rfl | rfl | rfl | rfl | rfl | rfl | rfl | rfl | rfl | rfl | rfl | rfl | rfl | rfl | rfl | rfl | rfl | rfl | rfl | rfl | rfl | rfl | rfl | rfl | rfl | rfl
  all_goals first | exact h1 _ _ | exact h2 _
def ncL : List (String × String) := [(RX11, RX6), (RX12, RX6), (RX13, RX6), (RX14, RX6), (RX15, RX6), (RX16, RX6), (RX17, RX6), (RX7, RX11), (RX8, RX11), (RX9, RX11), (RX10, RX11), (RX11, RX12), (RX13, RX12), (RX17, RX12), (RX7, RX12), (RX8, RX12), (RX9, RX12), (RX10, RX12), (RX11, RX13), (RX12, RX13), (RX14, RX13), (RX15, RX13), (RX16, RX13), (RX7, RX13), (RX8, RX13), (RX9, RX13), (RX10, RX13), (RX11, RX14), (RX12, RX14), (RX13, RX14), (RX15, RX14), (RX16, RX14), (RX17, RX14), (RX7, RX14), (RX8, RX14), (RX9, RX14), (RX10, RX14), (RX11, RX15), (RX12, RX15), (RX13, RX15), (RX14, RX15), (RX16, RX15), (RX17, RX15), (RX7, RX15), (RX8, RX15), (RX9, RX15), (RX10, RX15), (RX11, RX16), (RX12, RX16), (RX13, RX16), (RX14, RX16), (RX15, RX16), (RX17, RX16), (RX7, RX16), (RX8, RX16), (RX9, RX16), (RX10, RX16), (RX11, RX17), (RX12, RX17), (RX13, RX17), (RX14, RX17), (RX15, RX17), (RX16, RX17), (RX7, RX17), (RX8, RX17), (RX9, RX17), (RX10, RX17), (RX5, "java/lang/ClassCastException"), (RX5, "java/lang/NegativeArraySizeException"), (RX5, "java/lang/ArrayIndexOutOfBoundsException"), (RX5, "java/lang/IndexOutOfBoundsException"), ("java/lang/ArrayIndexOutOfBoundsException", RX5)]
def KX (Γ : GA) (U : State) : Prop := KA Γ U ∧ (∀ w ∈ nwL, va_Nw w U) ∧ va_AO "SeenByOne$Thing" U ∧ va_AO "SeenByOne$Shelf" U ∧ (∀ x ∈ ncL, va_Nc x.1 x.2 U) ∧ modulesRight_1 U = true
theorem mr_al {u U : State} (hvm : u.vm.Alike U.vm) (h : modulesRight_1 u = true) : modulesRight_1 U = true := by
  unfold modulesRight_1 at h ⊢
  have e : U.vm.modules = u.vm.modules := by rw [hvm.1]
  rw [e]
  exact h
theorem KX.moved {Γ : GA} {u U : State} (hvm : u.vm.Alike U.vm) (h : KX Γ u) : KX Γ U := ⟨KA.moved hvm h.1, fun w hw => nw_al hvm w hw (h.2.1 w hw), va_AO.moved hvm h.2.2.1, va_AO.moved hvm h.2.2.2.1, fun x hx => (h.2.2.2.2.1 x hx).moved hvm, mr_al hvm h.2.2.2.2.2⟩
theorem gX_ne1 {Γ : GA} {δ : XSh} {σ : XSt} {k i : Nat} {f : Nat → Int32} : ∀ κ' : Nat × Nat, κ' ≠ (k, i) → gX Γ δ (tIa σ k i f) κ' = gX Γ δ σ κ' := by
  intro κ' h
  have : ¬ (κ'.1 = k ∧ κ'.2 = i) := fun e => h (Prod.ext e.1 e.2)
  simp only [gX, tIa, if_neg this]
theorem gX_ne2 {Γ : GA} {δ : XSh} {σ : XSt} {k i : Nat} {f : Nat → Int64} : ∀ κ' : Nat × Nat, κ' ≠ (k, i) → gX Γ δ (tJa σ k i f) κ' = gX Γ δ σ κ' := by
  intro κ' h
  have : ¬ (κ'.1 = k ∧ κ'.2 = i) := fun e => h (Prod.ext e.1 e.2)
  simp only [gX, tJa, if_neg this]
theorem gX_ne3 {Γ : GA} {δ : XSh} {σ : XSt} {k i : Nat} {f : Nat → Option Nat} : ∀ κ' : Nat × Nat, κ' ≠ (k, i) → gX Γ δ (tPa σ k i f) κ' = gX Γ δ σ κ' := by
  intro κ' h
  have : ¬ (κ'.1 = k ∧ κ'.2 = i) := fun e => h (Prod.ext e.1 e.2)
  simp only [gX, tPa, if_neg this]
theorem tI_a (σ : XSt) (k i j : Nat) (v : Int32) : tI σ k i j v = tIa σ k i (upd (σ.1 k i) j v) := rfl
theorem tJ_a (σ : XSt) (k i j : Nat) (v : Int64) : tJ σ k i j v = tJa σ k i (vp_updL (σ.2.1 k i) j v) := rfl
theorem tP_a (σ : XSt) (k i j : Nat) (v : Option Nat) : tP σ k i j v = tPa σ k i (va_up (σ.2.2 k i) j v) := rfl
theorem gX_s1 {Γ : GA} {δ : XSh} {σ : XSt} {k i : Nat} {f : Nat → Int32} : gX Γ δ (tIa σ k i f) (k, i) = (adX δ (k, i), cellX Γ δ k i f (σ.2.1 k i) (σ.2.2 k i)) := by
  simp [gX, tIa]
theorem gX_s2 {Γ : GA} {δ : XSh} {σ : XSt} {k i : Nat} {f : Nat → Int64} : gX Γ δ (tJa σ k i f) (k, i) = (adX δ (k, i), cellX Γ δ k i (σ.1 k i) f (σ.2.2 k i)) := by
  simp [gX, tJa]
theorem gX_s3 {Γ : GA} {δ : XSh} {σ : XSt} {k i : Nat} {f : Nat → Option Nat} : gX Γ δ (tPa σ k i f) (k, i) = (adX δ (k, i), cellX Γ δ k i (σ.1 k i) (σ.2.1 k i) f) := by
  simp [gX, tPa]
theorem XW.t1 {δ : XSh} {σ : XSt} {k i : Nat} {f : Nat → Int32} (h : XW δ σ) : XW δ (tIa σ k i f) := h
theorem XW.t2 {δ : XSh} {σ : XSt} {k i : Nat} {f : Nat → Int64} (h : XW δ σ) : XW δ (tJa σ k i f) := h
theorem XW.t3 {δ : XSh} {σ : XSt} {k i : Nat} {f : Nat → Option Nat} (h : XW δ σ) (hf : ∀ j t, f j = some t → (tk k j, t) ∈ δ.1 ∧ tc k j (δ.2.2.1 t)) : XW δ (tPa σ k i f) := by
  intro κ hκ j t ht
  by_cases e : κ.1 = k ∧ κ.2 = i
  · obtain ⟨e1, e2⟩ := e
    simp only [tPa, if_pos (And.intro e1 e2)] at ht
    rw [e1]
    exact hf j t ht
  · simp only [tPa, if_neg e] at ht
    exact h κ hκ j t ht
section XR
variable {p : Program} {l : Launch} {e : Env} {R : Room} {s : State} {m : MethodId} {args : Array Value} {below : List Frame} {meth : Method} {c : Code} {H : Heap} {locs : List Loc} {cells slots : Nat} {Q : State → Prop}
variable {cc : ByteArray} {pc nL : Nat} {ls : Array Slot} {rest : List Value} {Γ : GA} {δ : XSh} {σ : XSt} {A : Nat → Prop} {H0 : Heap} {own : String}
/-- a field of an object of known kind -/
theorem x_get (hx : p.tables.exec = Jvm.exec) (hb : c.code = cc) (hts : ∀ w ∈ lw_all, w.before args s = true) (hown : s.vm.findClass own = some m.cls) (hK : KX Γ s) (hP : XH Γ δ σ H) (kd i : Nat) (hκ : (kd, i) ∈ δ.1) {ci : Nat} {fs : List Value} (hc : cellX Γ δ kd i (σ.1 kd i) (σ.2.1 kd i) (σ.2.2 kd i) = .inr (ci, fs)) {C : String} {T : u_T} {N : Nat} (hcl : clA[ci]? = some (C, T, N)) (hin : ∀ w ∈ u_ws C T N, w ∈ lw_all) (k : Nat) (hk : k < N) {index : Nat} {ref : String} (hl : Cond.fieldLink own index ref (T k).2.1 (T k).2.2.1 ∈ lw_all) (hT : (T k).1 = ref) {v : Value} (hv : fs[k]? = some v) (hd : decode cc pc = .ok (.getfield index, 3))
    (kk : W p l e R s m args below meth c H locs cells slots Q (F0 m (pc + 3) ls (v :: rest))) : W p l e R s m args below meth c H locs cells slots Q (F0 m pc ls (.ref (adX δ (kd, i)) :: rest)) := by
  obtain ⟨q0, h1, h2⟩ := g_at (gX Γ δ σ) hκ
  have h2 : (δ.1.map (gX Γ δ σ))[q0]? = some (adX δ (kd, i), .inr (ci, fs)) := by rw [h2]; simp only [gX, hc]
  exact va_get (D := Γ.1) (ci := ci) (v := v) (C := C) (T := T) (N := N) (fs := fs) hx hb hts hin hown hK.1 hP.1 q0 h2 hcl k hk (hts _ hl) (fun x h9 => by rw [← hT]; exact h9) hv hd kk
/-- an int field is written -/
theorem x_puti (hx : p.tables.exec = Jvm.exec) (hb : c.code = cc) (hts : ∀ w ∈ lw_all, w.before args s = true) (hown : s.vm.findClass own = some m.cls) (hK : KX Γ s) (hD : gD δ.1 (adX δ) A) (hP : XH Γ δ σ H) (hS : va_S A H0 H locs) (kd i : Nat) (hκ : (kd, i) ∈ δ.1) {ci : Nat} {fs : List Value} (hc : cellX Γ δ kd i (σ.1 kd i) (σ.2.1 kd i) (σ.2.2 kd i) = .inr (ci, fs)) {C : String} {T : u_T} {N : Nat} (hcl : clA[ci]? = some (C, T, N)) (hin : ∀ w ∈ u_ws C T N, w ∈ lw_all) (ty0 : Nat → FieldType) (hty : ∀ k, k < N → parseFieldDescriptor (T k).2.2.1 = some (ty0 k)) (hnm : ∀ a, a < N → ∀ b, b < N → a ≠ b → (T a).2.1 ≠ (T b).2.1) (k : Nat) (hk : k < N) {index : Nat} {ref : String} (hl : Cond.fieldLink own index ref (T k).2.1 (T k).2.2.1 ∈ lw_all) (hT : (T k).1 = ref) (hfin : (T k).2.2.2 = false) {v : Int32} (hn : narrow (ty0 k) (.int v) = .int v) (hfit : fits (ty0 k) (.int v) = true) (hlen : k < fs.length)
    (hset : cellX Γ δ kd i (upd (σ.1 kd i) k v) (σ.2.1 kd i) (σ.2.2 kd i) = .inr (ci, fs.set k (.int v))) (hd : decode cc pc = .ok (.putfield index, 3))
    (kk : ∀ (H1 : Heap) (locs1 : List Loc), XH Γ δ (tI σ kd i k v) H1 → va_S A H0 H1 locs1 → W p l e R s m args below meth c H1 locs1 cells slots Q (F0 m (pc + 3) ls rest)) : W p l e R s m args below meth c H locs cells slots Q (F0 m pc ls (.int v :: .ref (adX δ (kd, i)) :: rest)) := by
  obtain ⟨q0, h1, h2⟩ := g_at (gX Γ δ σ) hκ
  have h2 : (δ.1.map (gX Γ δ σ))[q0]? = some (adX δ (kd, i), .inr (ci, fs)) := by rw [h2]; simp only [gX, hc]
  refine va_put (D := Γ.1) (ci := ci) (v := .int v) (ty := ty0 k) (C := C) (T := T) (N := N) (fs := fs) hx hb hts hin ty0 hty hnm hown hK.1 hP.1 (hD.va (fun _ => rfl)) hS q0 h2 hcl k hk (hts _ hl) (fun x h9 => by rw [← hT]; exact h9) hfin (hty k hk) hn hfit hlen hd (fun H1 locs1 hP1 _ hS1 => kk H1 locs1 ⟨?_, hP.2⟩ hS1)
  rw [g_set hD (κ := (kd, i)) (g' := gX Γ δ (tI σ kd i k v)) h1 (fun κ' hne => by rw [tI_a]; exact gX_ne1 κ' hne) (by rw [tI_a, gX_s1, hset])] at hP1
  exact hP1
/-- a reference field is written -/
theorem x_putr (hx : p.tables.exec = Jvm.exec) (hb : c.code = cc) (hts : ∀ w ∈ lw_all, w.before args s = true) (hown : s.vm.findClass own = some m.cls) (hK : KX Γ s) (hD : gD δ.1 (adX δ) A) (hP : XH Γ δ σ H) (hS : va_S A H0 H locs) (kd i : Nat) (hκ : (kd, i) ∈ δ.1) {ci : Nat} {fs : List Value} (hc : cellX Γ δ kd i (σ.1 kd i) (σ.2.1 kd i) (σ.2.2 kd i) = .inr (ci, fs)) {C : String} {T : u_T} {N : Nat} (hcl : clA[ci]? = some (C, T, N)) (hin : ∀ w ∈ u_ws C T N, w ∈ lw_all) (ty0 : Nat → FieldType) (hty : ∀ k, k < N → parseFieldDescriptor (T k).2.2.1 = some (ty0 k)) (hnm : ∀ a, a < N → ∀ b, b < N → a ≠ b → (T a).2.1 ≠ (T b).2.1) (k : Nat) (hk : k < N) {index : Nat} {ref : String} (hl : Cond.fieldLink own index ref (T k).2.1 (T k).2.2.1 ∈ lw_all) (hT : (T k).1 = ref) (hfin : (T k).2.2.2 = false) {v : Option Nat} (hn : narrow (ty0 k) (va_rf v) = va_rf v) (hfit : fits (ty0 k) (va_rf v) = true) (hlen : k < fs.length)
    (hset : cellX Γ δ kd i (σ.1 kd i) (σ.2.1 kd i) (va_up (σ.2.2 kd i) k v) = .inr (ci, fs.set k (va_rf v))) (hw : ∀ t, v = some t → (tk kd k, t) ∈ δ.1 ∧ tc kd k (δ.2.2.1 t)) (hd : decode cc pc = .ok (.putfield index, 3))
    (kk : ∀ (H1 : Heap) (locs1 : List Loc), XH Γ δ (tP σ kd i k v) H1 → va_S A H0 H1 locs1 → W p l e R s m args below meth c H1 locs1 cells slots Q (F0 m (pc + 3) ls rest)) : W p l e R s m args below meth c H locs cells slots Q (F0 m pc ls (va_rf v :: .ref (adX δ (kd, i)) :: rest)) := by
  obtain ⟨q0, h1, h2⟩ := g_at (gX Γ δ σ) hκ
  have h2 : (δ.1.map (gX Γ δ σ))[q0]? = some (adX δ (kd, i), .inr (ci, fs)) := by rw [h2]; simp only [gX, hc]
  refine va_put (D := Γ.1) (ci := ci) (v := va_rf v) (ty := ty0 k) (C := C) (T := T) (N := N) (fs := fs) hx hb hts hin ty0 hty hnm hown hK.1 hP.1 (hD.va (fun _ => rfl)) hS q0 h2 hcl k hk (hts _ hl) (fun x h9 => by rw [← hT]; exact h9) hfin (hty k hk) hn hfit hlen hd (fun H1 locs1 hP1 _ hS1 => kk H1 locs1 ⟨?_, ?_⟩ hS1)
  · rw [g_set hD (κ := (kd, i)) (g' := gX Γ δ (tP σ kd i k v)) h1 (fun κ' hne => by rw [tP_a]; exact gX_ne3 κ' hne) (by rw [tP_a, gX_s3, hset])] at hP1
    exact hP1
  · rw [tP_a]
    refine hP.2.t3 (fun j t ht => ?_)
    by_cases e : j = k
    · subst e
      rw [va_up_self] at ht
      exact hw t ht
    · rw [va_up_ne _ _ e] at ht
      exact hP.2 (kd, i) hκ j t ht
theorem x_iald (hx : p.tables.exec = Jvm.exec) (hb : c.code = cc) (hK : KX Γ s) (hP : XH Γ δ σ H) (kd i : Nat) (hκ : (kd, i) ∈ δ.1) {n : Nat} (hc : cellX Γ δ kd i (σ.1 kd i) (σ.2.1 kd i) (σ.2.2 kd i) = .inl (Γ.2 0, n, .inl (σ.1 kd i))) {j : Int32} (hin : vp_in j n) (hd : decode cc pc = .ok (.iaload, 1))
    (kk : W p l e R s m args below meth c H locs cells slots Q (F0 m (pc + 1) ls (.int (σ.1 kd i j.toNatClampNeg) :: rest))) : W p l e R s m args below meth c H locs cells slots Q (F0 m pc ls (.int j :: .ref (adX δ (kd, i)) :: rest)) := by
  obtain ⟨q0, h1, h2⟩ := g_at (gX Γ δ σ) hκ
  have h2 : (δ.1.map (gX Γ δ σ))[q0]? = some (adX δ (kd, i), .inl (Γ.2 0, n, .inl (σ.1 kd i))) := by rw [h2]; simp only [gX, hc]
  exact va_iald hx hb hK.1 hP.1 q0 0 h2 rfl hin hd kk
theorem x_iast (hx : p.tables.exec = Jvm.exec) (hb : c.code = cc) (hK : KX Γ s) (hD : gD δ.1 (adX δ) A) (hP : XH Γ δ σ H) (hS : va_S A H0 H locs) (kd i : Nat) (hκ : (kd, i) ∈ δ.1) {n : Nat} (hc : ∀ f, cellX Γ δ kd i f (σ.2.1 kd i) (σ.2.2 kd i) = .inl (Γ.2 0, n, .inl f)) {j v : Int32} (hin : vp_in j n) (hd : decode cc pc = .ok (.iastore, 1))
    (kk : ∀ (H1 : Heap) (locs1 : List Loc), XH Γ δ (tI σ kd i j.toNatClampNeg v) H1 → va_S A H0 H1 locs1 → W p l e R s m args below meth c H1 locs1 cells slots Q (F0 m (pc + 1) ls rest)) : W p l e R s m args below meth c H locs cells slots Q (F0 m pc ls (.int v :: .int j :: .ref (adX δ (kd, i)) :: rest)) := by
  obtain ⟨q0, h1, h2⟩ := g_at (gX Γ δ σ) hκ
  have h2 : (δ.1.map (gX Γ δ σ))[q0]? = some (adX δ (kd, i), .inl (Γ.2 0, n, .inl (σ.1 kd i))) := by rw [h2]; simp only [gX, hc]
  refine va_iast hx hb hK.1 hP.1 (hD.va (fun _ => rfl)) hS q0 0 h2 rfl hin hd (fun H1 locs1 hP1 _ hS1 => kk H1 locs1 ⟨?_, hP.2⟩ hS1)
  rw [g_set hD (κ := (kd, i)) (g' := gX Γ δ (tI σ kd i j.toNatClampNeg v)) h1 (fun κ' hne => by rw [tI_a]; exact gX_ne1 κ' hne) (by rw [tI_a, gX_s1, hc])] at hP1
  exact hP1
/-- an element of an array of references that isn't null -/
theorem x_aald (hx : p.tables.exec = Jvm.exec) (hb : c.code = cc) (hK : KX Γ s) (hP : XH Γ δ σ H) (kd i : Nat) (hκ : (kd, i) ∈ δ.1) (hkd : kd = 8 ∨ kd = 1) {j : Int32} {t : Nat} (hin : vp_in j 8) (ht : σ.2.2 kd i j.toNatClampNeg = some t) (hd : decode cc pc = .ok (.aaload, 1))
    (kk : (tk kd j.toNatClampNeg, t) ∈ δ.1 → tc kd j.toNatClampNeg (δ.2.2.1 t) → W p l e R s m args below meth c H locs cells slots Q (F0 m (pc + 1) ls (.ref t :: rest))) : W p l e R s m args below meth c H locs cells slots Q (F0 m pc ls (.int j :: .ref (adX δ (kd, i)) :: rest)) := by
  obtain ⟨q0, h1, h2⟩ := g_at (gX Γ δ σ) hκ
  have hh := hP.2 _ hκ _ _ ht
  rcases hkd with rfl | rfl
  · exact va_aldq (C := "SeenByOne$Thing") hx hb hK.1 hP.1 q0 4 h2 rfl hin hd (by rw [ht]; exact kk hh.1 hh.2)
  · exact va_aldq (C := "SeenByOne$Shelf") hx hb hK.1 hP.1 q0 5 h2 rfl hin hd (by rw [ht]; exact kk hh.1 hh.2)
end XR
