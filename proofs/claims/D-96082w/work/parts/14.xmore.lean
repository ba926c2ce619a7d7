/-! super calls, also where the superclass inherits the method; array copies of grounds -/
theorem sub1 {s : State} {args : Array Value} {C D : String} {c d : ClassId} (hc : s.vm.findClass C = some c) (hd : s.vm.findClass D = some d) (h : C = D ∨ (Cond.superclass C D).before args s = true) : s.vm.isSubclass c d = true := by
  rcases h with h | h
  · subst h
    cases hc.symm.trans hd
    simp [Vm.isSubclass, Vm.isSubclassAux]
  · obtain ⟨p, k, kp, h1, h2, h3, h4, -⟩ := Cond.superclass_spec hc h
    cases h1.symm.trans hd
    have hsz : c < s.vm.classes.size := (Array.getElem?_eq_some_iff.mp h2).1
    cases hn : s.vm.classes.size with
    | zero => rw [hn] at hsz; exact absurd hsz (Nat.not_lt_zero _)
    | succ n => simp [Vm.isSubclass, hn, Vm.isSubclassAux, h2, h4]
section XSU
variable {p : Program} {l : Launch} {e : Env} {R : Room} {s : State} {m : MethodId} {args : Array Value} {below : List Frame} {meth : Method} {c : Code} {H : Heap} {locs : List Loc} {cells slots : Nat}
theorem vz_callSU {T : State} (X : Stand p l e R s m args below meth c T locs cells slots) (hexec : p.tables.exec = Jvm.exec) {own owner : String} {index : Nat} {x y : MethodName} {bytes : ByteArray} {maxL : Nat} {ret : Option FieldType} (hyx : y = ⟨owner, x.name, x.desc⟩)
    (hown : s.vm.findClass own = some m.cls) (hlink : (Cond.methodLink own index x).before args s = true) (hsame : (Cond.sameMethod x.cls owner x.name x.desc).before args s = true) (hsup : (Cond.superclass own x.cls).before args s = true) (hsub : x.cls = owner ∨ (Cond.superclass x.cls owner).before args s = true)
    (hinst : (Cond.instanceMethod y).before args s = true) (hcode : (Cond.code y bytes maxL ret).before args s = true) (hno : x.name ≠ "<init>")
    {W : Nat} {Pre : Pt → Array Value → Prop} {Post : Pt → Array Value → Option Value → Pt → Prop} (hK : Back l R p e below s args y 3 W Pre Post)
    {b : Addr} {cellB : Cell} {kB : Class} (hcell : T.heap[b]? = some cellB) (hobj : cellB.vm.isStatics = false) (hkB : s.vm.classes[cellB.cls]? = some kB)
    {g : JFrame} (hg : g.method = m) (hsize : g.locals.size = c.maxLocals) {argsL rest : List Value} (hlen : ∀ sig, parseMethodDescriptor y.desc = some sig → argsL.length = sig.parameters.length)
    (hstack : g.stack = argsL.reverse ++ .ref b :: rest) (hW : 2 * g.monitorRoom + (rest.map fun v => v.category).sum ≤ W) (hdg : decode c.code g.pc = .ok (.invokespecial index, 3))
    (hpre : ∀ vm₁, s.WarmedH vm₁ → Pre ⟨T.setVm vm₁, locs, cells, slots⟩ (Value.ref b :: argsL).toArray) :
    ∃ (v : Option Value) (vm₁ : Vm) (B : Pt), s.WarmedH vm₁ ∧ Stand p l e R s m args below meth c B.U B.locs B.cells B.slots ∧ Post ⟨T.setVm vm₁, locs, cells, slots⟩ (Value.ref b :: argsL).toArray v B ∧
      ∀ target, Steps p.tables e below (B.U.setTop { g with pc := g.pc + 3, stack := v.toList ++ rest }) target → Steps p.tables e below (T.setTop g) target := by
  obtain ⟨mk, methM, hnamed, hmethM, hstM, habM⟩ := Cond.instanceMethod_spec hinst
  obtain ⟨methM', cM, hmethM', -, -, -, -, -, -, hsigM⟩ := Cond.code_spec hnamed hcode
  cases hmethM.symm.trans hmethM'
  obtain ⟨ps, dk, kp, hps, hdk, hkp, hsuper, -, -, hnid⟩ := Cond.superclass_spec hown hsup
  have hn : s.methodNamed? ⟨owner, x.name, x.desc⟩ = some mk := by rw [← hyx]; exact hnamed
  have hcl : s.vm.findClass owner = some mk.cls := findClass_of_methodNamed hn
  have hs2 : s.vm.isSubclass ps mk.cls = true := sub1 hps hcl hsub
  obtain ⟨vm₁, X₁, hstep₁⟩ := X.invokespecialUp hexec hown hlink hsame hn hmethM hstM habM hno hdk hnid hps hsuper hs2 (a := b) (cell := cellB) hcell
    (fun z h => by rw [h] at hobj; cases hobj) hkB (g := g) hg (argsL := argsL) (rest := rest) (hlen _ hsigM) hstack hdg
  obtain ⟨v, B, X', hpost, hsteps⟩ := hK m meth c ⟨T.setVm vm₁, locs, cells, slots⟩ { g with stack := rest } (.invokespecial index) mk (Value.ref b :: argsL).toArray X₁ hg hsize hdg hW (X₁.named hnamed) (hpre vm₁ X₁.warmed)
  exact ⟨v, vm₁, B, X₁.warmed, X', hpost, fun target h => hstep₁ _ (by rw [doInvoke_state]; exact hsteps.trans h)⟩
theorem vz_runSU {x y : MethodName} {bytes cc : ByteArray} {maxL nL mc ms n index : Nat} {ret : Option FieldType} {rm : Room} {Pc : Array Value → State → Prop} {Qc : Array Value → State → Outcome → State → Prop} {free : Addr → Prop} {own owner C : String} {b : Addr} {As rest : List Value} {g : JFrame} (hyx : y = ⟨owner, x.name, x.desc⟩)
    (S : CallFix p m c cc nL s args lw_all own) (hM : Met l y (ws_ y bytes maxL ret) rm Pc Qc mc ms free)
    (w1 : Cond.methodLink own index x ∈ lw_all) (w2 : Cond.sameMethod x.cls owner x.name x.desc ∈ lw_all) (w3 : Cond.superclass own x.cls ∈ lw_all) (w4 : x.cls = owner ∨ Cond.superclass x.cls owner ∈ lw_all) (w5 : Cond.instanceMethod y ∈ lw_all) (w6 : Cond.initialized y.cls ∈ lw_all) (w7 : Cond.code y bytes maxL ret ∈ lw_all) (hrc : rm.cells = mc) (hrs : rm.slots = ms) (hno : x.name ≠ "<init>") (hd : (parseMethodDescriptor y.desc).map (fun d => d.parameters.length) = some n) (hR : rm.frames + 1 ≤ R.frames ∧ 8 + (maxL + 11) + rm.locals ≤ R.locals)
    (hp : PreV s H C b Pc As)
    (hg : g.method = m) (hn : As.length = n) (hsize : g.locals.size = nL) (hstack : g.stack = As.reverse ++ .ref b :: rest) (hW : 2 * g.monitorRoom + (rest.map fun v => v.category).sum ≤ 8) (hdg : decode cc g.pc = .ok (.invokespecial index, 3)) (hf : cells + mc ≤ R.cells ∧ slots + ms ≤ R.slots) :
    va_Run p l e R s m args below meth c H locs cells slots mc ms g rest (Qc (Value.ref b :: As).toArray) (free) := by
  have hts := S.2.2.2.2
  have hini := hts _ w6
  have hK : Back l R p e below s args y 3 8 (PreOf R mc ms Pc) (PostOf Qc mc ms free) := back_of (bytes := bytes) (maxL := maxL) (ret := ret) hM hp.1 hrc hrs hR.1 hR.2 (pay_in hts (lw_meth w7)) List.mem_cons_self (fun a' U hW => word_at hW (Or.inl (by first | rfl | simp [Cond.onTables, Cond.keeps, Cond.steady])) hini)
  obtain ⟨hx, hb, hml, ho, -⟩ := S
  obtain ⟨-, ⟨cellB, hcB, hoB, hclB⟩, hPc⟩ := hp
  obtain ⟨kB, hkB, -⟩ := Vm.findClass_spec hclB
  intro T hT X
  obtain ⟨v, vm₁, ⟨U', l2, c2, s2⟩, hW₁, X', ⟨g', mk, t, L, e1, e2, hq, h1, hL, h2, h3⟩, st⟩ := vz_callSU X hx (bytes := bytes) (maxL := maxL) (ret := ret) hyx ho (hts _ w1) (hts _ w2) (hts _ w3) (w4.imp id (fun h => hts _ h)) (hts _ w5) (hts _ w7) hno hK (by rw [hT]; exact hcB) hoB hkB hg (hsize.trans hml.symm) (argsL := As) (rest := rest) (fun sig h => by rw [h] at hd; exact hn.trans (Option.some.inj hd).symm) hstack hW (by rw [hb]; exact hdg)
    (fun vm₁ hW₁ => ⟨hf.1, hf.2, hPc (T.setVm vm₁) hT hW₁⟩)
  dsimp only [Pt.U, Pt.locs, Pt.cells, Pt.slots] at X' e1 e2 h1 h2 h3 st
  subst h1; subst h2; subst h3
  exact ⟨v, (T.setVm vm₁).calling g' mk (Value.ref b :: As).toArray, t, U', L, hT, X', hL, e1, e2, hq, st⟩
end XSU
def Cpy (sp dp n : Int32) (l0 l1 : Nat) : Prop := (¬ sp < 0) ∧ (¬ dp < 0) ∧ (¬ n < 0) ∧ sp.toNatClampNeg + n.toNatClampNeg ≤ l0 ∧ dp.toNatClampNeg + n.toNatClampNeg ≤ l1
section XCP
variable {p : Program} {l : Launch} {e : Env} {R : Room} {s : State} {m : MethodId} {args : Array Value} {below : List Frame} {meth : Method} {c : Code} {H : Heap} {locs : List Loc} {cells slots : Nat} {Q : State → Prop}
variable {cc : ByteArray} {pc : Nat} {ls : Array Slot} {rest : List Value} {Γ : GA} {δ : XSh} {σ : XSt} {A : Nat → Prop} {H0 : Heap} {own : String}
theorem x_cpyi (hx : p.tables.exec = Jvm.exec) (hb : c.code = cc) (hml : c.maxLocals = ls.size) {index : Nat} (hown : s.vm.findClass own = some m.cls) (hlink : (Cond.methodLink own index arraycopyName).before args s = true) (hnat : (Cond.native arraycopyName).before args s = true) (hstat : (Cond.static arraycopyName).before args s = true) (hini : (Cond.initialized "java/lang/System").before args s = true)
    (hK : KX Γ s) (hO : XO δ) (hD : gD δ.1 (adX δ) A) (hP : XH Γ δ σ H) (hS : va_S A H0 H locs) (kd : Nat) (hkd : kd = 9 ∨ kd = 10) (i0 i1 : Nat) (h0 : (kd, i0) ∈ δ.1) (h1 : (kd, i1) ∈ δ.1) {sp dp n : Int32} (hc : Cpy sp dp n 8 8)
    (hframes : 1 ≤ R.frames) (hlocals : (rest.map fun v => v.category).sum + (nativeFrameWords "java/lang/System" "arraycopy" 5 + 11) ≤ R.locals) (hdg : decode cc pc = .ok (.invokestatic index, 3))
    (kk : ∀ (H1 : Heap) (locs1 : List Loc), XH Γ δ (tIa σ kd i1 (va_cpy (σ.1 kd i0) (σ.1 kd i1) sp.toNatClampNeg dp.toNatClampNeg n.toNatClampNeg)) H1 → va_S A H0 H1 locs1 → W p l e R s m args below meth c H1 locs1 cells slots Q (F0 m (pc + 3) ls rest)) : W p l e R s m args below meth c H locs cells slots Q (F0 m pc ls (.int n :: .int dp :: .ref (adX δ (kd, i1)) :: .int sp :: .ref (adX δ (kd, i0)) :: rest)) := by
  have hcell : ∀ (i : Nat) (f : Nat → Int32), cellX Γ δ kd i f (σ.2.1 kd i) (σ.2.2 kd i) = .inl (Γ.2 0, 8, .inl f) := by
    intro i f
    rcases hkd with rfl | rfl <;> rfl
  obtain ⟨q0, a1, a2⟩ := g_at (gX Γ δ σ) h0
  obtain ⟨q1, b1, b2⟩ := g_at (gX Γ δ σ) h1
  have a2 : (δ.1.map (gX Γ δ σ))[q0]? = some (adX δ (kd, i0), .inl (Γ.2 0, 8, .inl (σ.1 kd i0))) := by rw [a2]; simp only [gX, hcell]
  have b2 : (δ.1.map (gX Γ δ σ))[q1]? = some (adX δ (kd, i1), .inl (Γ.2 0, 8, .inl (σ.1 kd i1))) := by rw [b2]; simp only [gX, hcell]
  obtain ⟨c1, c2, c3, c4, c5⟩ := hc
  refine va_copyi (ty := .int) hx hb hml hown hlink hnat hstat hini hK.1 hP.1 (hD.va (fun _ => rfl)) hS q0 q1 0 0 a2 b2 rfl rfl rfl c1 c2 c3 c4 c5 (fun _ _ => rfl) hframes hlocals hdg (fun H1 locs1 hP1 _ hS1 => kk H1 locs1 ⟨?_, hP.2⟩ hS1)
  rw [g_set hD (κ := (kd, i1)) (g' := gX Γ δ (tIa σ kd i1 (va_cpy (σ.1 kd i0) (σ.1 kd i1) sp.toNatClampNeg dp.toNatClampNeg n.toNatClampNeg))) b1 (fun κ' hne => gX_ne1 κ' hne) (by rw [gX_s1, hcell])] at hP1
  exact hP1
/-- a thing may lie in a row of things -/
theorem x_any (hK : KX Γ s) (hO : XO δ) (hP : XH Γ δ σ H) {t : Nat} (ht : (7, t) ∈ δ.1) (hc : δ.2.2.1 t < 12) : va_Any "SeenByOne$Thing" s H t := by
  obtain ⟨q0, h1, h2⟩ := g_at (gX Γ δ σ) ht
  have h2 : (δ.1.map (gX Γ δ σ))[q0]? = some (t, .inr (δ.2.2.1 t, [.int (σ.1 7 t 0), .int (σ.1 7 t 1), .int (σ.1 7 t 2), .int (σ.1 7 t 3)])) := by rw [h2]; simp only [gX, cellT hc]; rfl
  have nw : ∀ C, Cond.castable C RX11 ∈ nwL → va_Nw (.castable C RX11) s := fun C h => hK.2.1 _ h
  rcases cn_cases hO ht hc with e | e | e | e | e | e | e <;> rw [e] at h2
  · exact va_rAny (ci := 5) hK.1 hP.1 h2 rfl vb_asgS
  · exact va_rAny (ci := 6) hK.1 hP.1 h2 rfl (vb_asgC (nw RX12 (by simp [nwL])))
  · exact va_rAny (ci := 7) hK.1 hP.1 h2 rfl (vb_asgC (nw RX13 (by simp [nwL])))
  · exact va_rAny (ci := 8) hK.1 hP.1 h2 rfl (vb_asgC (nw RX14 (by simp [nwL])))
  · exact va_rAny (ci := 9) hK.1 hP.1 h2 rfl (vb_asgC (nw RX15 (by simp [nwL])))
  · exact va_rAny (ci := 10) hK.1 hP.1 h2 rfl (vb_asgC (nw RX16 (by simp [nwL])))
  · exact va_rAny (ci := 11) hK.1 hP.1 h2 rfl (vb_asgC (nw RX17 (by simp [nwL])))
theorem x_cpyq (hx : p.tables.exec = Jvm.exec) (hb : c.code = cc) (hml : c.maxLocals = ls.size) {index : Nat} (hown : s.vm.findClass own = some m.cls) (hlink : (Cond.methodLink own index arraycopyName).before args s = true) (hnat : (Cond.native arraycopyName).before args s = true) (hstat : (Cond.static arraycopyName).before args s = true) (hini : (Cond.initialized "java/lang/System").before args s = true)
    (hK : KX Γ s) (hO : XO δ) (hD : gD δ.1 (adX δ) A) (hP : XH Γ δ σ H) (hS : va_S A H0 H locs) (kd : Nat) (hkd : kd = 8) (i0 i1 : Nat) (h0 : (kd, i0) ∈ δ.1) (h1 : (kd, i1) ∈ δ.1) {sp dp n : Int32} (hc : Cpy sp dp n 8 8)
    (hframes : 1 ≤ R.frames) (hlocals : (rest.map fun v => v.category).sum + (nativeFrameWords "java/lang/System" "arraycopy" 5 + 11) ≤ R.locals) (hdg : decode cc pc = .ok (.invokestatic index, 3))
    (kk : ∀ (H1 : Heap) (locs1 : List Loc), XH Γ δ (tPa σ kd i1 (va_cpy (σ.2.2 kd i0) (σ.2.2 kd i1) sp.toNatClampNeg dp.toNatClampNeg n.toNatClampNeg)) H1 → va_S A H0 H1 locs1 → W p l e R s m args below meth c H1 locs1 cells slots Q (F0 m (pc + 3) ls rest)) : W p l e R s m args below meth c H locs cells slots Q (F0 m pc ls (.int n :: .int dp :: .ref (adX δ (kd, i1)) :: .int sp :: .ref (adX δ (kd, i0)) :: rest)) := by
  subst hkd
  obtain ⟨q0, a1, a2⟩ := g_at (gX Γ δ σ) h0
  obtain ⟨q1, b1, b2⟩ := g_at (gX Γ δ σ) h1
  obtain ⟨c1, c2, c3, c4, c5⟩ := hc
  have hcl : ∀ (i : Nat), (8, i) ∈ δ.1 → ∀ j t, σ.2.2 8 i j = some t → (7, t) ∈ δ.1 ∧ tc 8 j (δ.2.2.1 t) := fun i hi j t ht => hP.2 (8, i) hi j t ht
  refine va_copyM (E0 := "SeenByOne$Thing") (E1 := "SeenByOne$Thing") hx hb hml hown hlink hnat hstat hini hK.1 hP.1 (hD.va (fun _ => rfl)) hS q0 q1 4 4 a2 b2 rfl rfl c1 c2 c3 c4 c5 (fun i _ y hy => ?_) hframes hlocals hdg (fun H1 locs1 hP1 _ hS1 => kk H1 locs1 ⟨?_, ?_⟩ hS1)
  · have := hcl i0 h0 _ y hy
    exact x_any hK hO hP this.1 (this.2.1 rfl)
  · rw [g_set hD (κ := (8, i1)) (g' := gX Γ δ (tPa σ 8 i1 (va_cpy (σ.2.2 8 i0) (σ.2.2 8 i1) sp.toNatClampNeg dp.toNatClampNeg n.toNatClampNeg))) b1 (fun κ' hne => gX_ne3 κ' hne) (by rw [gX_s3]; rfl)] at hP1
    exact hP1
  · refine hP.2.t3 (fun j t ht => ?_)
    unfold va_cpy at ht
    split at ht
    · have r := hcl i0 h0 _ t ht
      exact ⟨r.1, r.2.1, fun h => absurd h.1 (by decide)⟩
    · exact hcl i1 h1 _ t ht
end XCP
theorem x_preT {s : State} {H : Heap} {Γ : GA} {δ : XSh} {σ : XSt} {A : Nat → Prop} {avs : List Value} (hK : KX Γ s) (hO : XO δ) (hD : gD δ.1 (adX δ) A) (hP : XH Γ δ σ H) (t : Nat) (ht : (7, t) ∈ δ.1) (hc : δ.2.2.1 t < 12) : PreV s H (clA.getD (δ.2.2.1 t) (RX11, TX11, 4)).1 t (xPre Γ δ σ H.size (.ref t :: avs)) avs := by
  have go : ∀ (ci : Nat) (q : vw_C), δ.2.2.1 t = ci → clA[ci]? = some q → PreV s H (clA.getD (δ.2.2.1 t) (RX11, TX11, 4)).1 t (xPre Γ δ σ H.size (.ref t :: avs)) avs := by
    intro ci q e hq
    have e2 : (clA.getD (δ.2.2.1 t) (RX11, TX11, 4)) = q := by rw [e, List.getD_eq_getElem?_getD, hq]; rfl
    rw [e2]
    exact x_preV hK hO hD hP 7 t ht (cellT hc) (by rw [e]; exact hq)
  rcases cn_cases hO ht hc with e | e | e | e | e | e | e
  · exact go _ _ e rfl
  · exact go _ _ e rfl
  · exact go _ _ e rfl
  · exact go _ _ e rfl
  · exact go _ _ e rfl
  · exact go _ _ e rfl
  · exact go _ _ e rfl
