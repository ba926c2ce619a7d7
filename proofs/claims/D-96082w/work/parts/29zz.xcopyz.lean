set_option maxHeartbeats 1000000 in
theorem copyZ0 {p : Program} {l : Launch} {e : Env} {R : Room} {s : State} {m : MethodId} {args : Array Value} {below : List Frame} {meth : Method} {c : Code} {H : Heap} {locs : List Loc} {cells slots : Nat} {Q : State → Prop} {cc : ByteArray} {pc : Nat} {ls : Array Slot} {rest : List Value} {Γ : GA} {δ : XSh} {σ : XSt} {A : Nat → Prop} {own : String} {index : Nat} (hx : p.tables.exec = Jvm.exec) (hb : c.code = cc) (hml : c.maxLocals = ls.size) (hst : l.stackTraces = false) (hown : s.vm.findClass own = some m.cls) (hlink : (Cond.methodLink own index arraycopyName).before args s = true) (hnat : (Cond.native arraycopyName).before args s = true) (hstat : (Cond.static arraycopyName).before args s = true) (hini : (Cond.initialized "java/lang/System").before args s = true) (hts : ∀ w ∈ lw_all, w.before args s = true) (hK : KX Γ s) (hZ : ZS Γ A s s.heap) (hP : XH Γ δ σ H) (hS : va_S A s.heap H locs) (hlk : meth.locks = false)
    {src dst : Nat} {sp dp n : Int32} {cs cd : Cell} {ks kd : Class} {sComp dComp : ClassId} {ty : FieldType} (hs : H[src]? = some cs) (hd : H[dst]? = some cd) (hsv : ∀ k, cs.vm ≠ .statics k) (hdv : ∀ k, cd.vm ≠ .statics k) (hks : s.vm.classes[cs.cls]? = some ks) (hkd : s.vm.classes[cd.cls]? = some kd) (hsk : ks.kind = .array sComp ty) (hdk : kd.kind = .array dComp ty) (hprim : refKind ty = false) (hn0 : cs.slots.size < 2147483648) (hn1 : cd.slots.size < 2147483648) (hout : ¬ Cpy sp dp n cs.slots.size cd.slots.size)
    (hR : 9 ≤ R.frames ∧ (rest.map fun v => v.category).sum + 10240 ≤ R.locals ∧ cells + 3 ≤ R.cells ∧ slots + 910 ≤ R.slots) (hdg : decode cc pc = .ok (.invokestatic index, 3))
    (k : ∀ (H1 : Heap) (q : Nat) (ce : Cell), XH Γ δ σ H1 → va_S A s.heap H1 locs → H1[q]? = some ce → ce.vm = .none → s.vm.findClass "java/lang/ArrayIndexOutOfBoundsException" = some ce.cls → vx_W p l e R s m args below meth c H1 locs (cells + 3) (slots + 910) Q (F0 m pc ls rest) q) : W p l e R s m args below meth c H locs cells slots Q (F0 m pc ls (.int n :: .int dp :: .ref dst :: .int sp :: .ref src :: rest)) := by
  intro T hT X
  obtain ⟨w, hw⟩ := cf_some (ty := ty) hout
  have hlen := cf_len hprim hn0 hn1 hw
  obtain ⟨r, kS, methS, hnS, hmS, hkS, N⟩ := NativeOf.of_static hnat hstat (ps := [.object "java/lang/Object", .int, .object "java/lang/Object", .int, .int]) (ret := none) (by decide +kernel)
  have hinitS : kS.init = .initialized := Cond.initialized_spec (findClass_of_methodNamed hnS) hkS hini
  obtain ⟨vm', X', step⟩ := X.invokestatic hx hown hlink hnS hmS N.static hkS hinitS (by decide) (g := F0 m pc ls (.int n :: .int dp :: .ref dst :: .int sp :: .ref src :: rest)) rfl (argsL := [.ref src, .int sp, .ref dst, .int dp, .int n]) (rest := rest) (by rw [N.sig]; rfl) rfl (by rw [hb]; exact hdg)
  have hA' : s.vm.Alike vm' := X'.warmed.alike
  obtain ⟨kS', N'⟩ := N.alike hA'
  obtain ⟨ks', hks', hes⟩ := hA'.2.2 _ _ hks
  obtain ⟨kd', hkd', hed⟩ := hA'.2.2 _ _ hkd
  obtain ⟨t, st, hq⟩ := vx_vmN (names := ["java/lang/IndexOutOfBoundsException", "java/lang/RuntimeException", "java/lang/Exception"]) (text := "arraycopy: " ++ w) (nb := 900) (A := A) (pc := pc) (ls := ls) (rest := rest) (Q := Q) (nf := { method := r, args := #[.ref src, .int sp, .ref dst, .int dp, .int n], locked := none }) hx hst (by decide) (by decide) (by decide) (by decide) (ath_AI hts hK.2.1) atg_AI hZ.1 hZ.2.1 hS hml.symm cf_mod
    (by
      have b1 := stringBytes_size_le (stringToUtf16 ("arraycopy: " ++ w))
      have b2 := utf16_size_le ("arraycopy: " ++ w)
      omega) (by decide) (Nat.lt_of_lt_of_le (by decide) hR.1) hR.2.1 (by decide) hR.2.2.1 hR.2.2.2 hlk rfl rfl rfl
    (fun H1 q9 ce hsz hk hS1 h1 h2 h3 => k H1 q9 ce ⟨hP.1.kept (fun k q hq => hk q.1 ((hP.1 k q hq).lt)), hP.2⟩ hS1 h1 h2 h3) (T.setVm vm') hT X'
  refine ⟨t, step t (fun acts => ?_), hq⟩
  obtain ⟨g₀, hfr⟩ := X'.frames_eq
  have hU : ((T.setVm vm').setTop (F0 m pc ls rest)).pushFrame (.native { method := r, args := seenByNative methS #[.ref src, .int sp, .ref dst, .int dp, .int n], locked := none }) = (T.setVm vm').setFrames (.native { method := r, args := seenByNative methS #[.ref src, .int sp, .ref dst, .int dp, .int n], locked := none } :: .java (F0 m pc ls rest) :: below) := by
    rw [State.pushFrame, State.frames_setTop _ hfr, State.setTop_of_frames _ hfr, State.setFrames_setFrames]
  have hseen : seenByNative methS #[.ref src, .int sp, .ref dst, .int dp, .int n] = #[.ref src, .int sp, .ref dst, .int dp, .int n] := by
    simp [seenByNative, N'.static, N'.sig, narrow]
  have hcurT : (T.setVm vm').cur < (T.setVm vm').threads.size := State.cur_lt_of_frames hfr
  have e9 : nativeFrameWords "java/lang/System" "arraycopy" 5 + 11 ≤ 10240 := by decide
  refine Steps.nativeThrowsNote (g := F0 m pc ls rest) (row := arraycopyRow) (cls := "java/lang/ArrayIndexOutOfBoundsException") (msg := some ("arraycopy: " ++ w)) (T := fun u => u) X'.here acts N'.cls N'.meth N'.boot N'.native N'.noCode N'.noLock
    (by rw [N'.className, N'.name, N'.desc]; exact arraycopy_row p)
    (by rw [N'.className, N'.name]; exact X'.notFull (g := F0 m pc ls rest) (vars := nativeFrameWords "java/lang/System" "arraycopy" 5) hml.symm (by omega) (by have h9 := hR.2.1; show 2 * 0 + (rest.map fun v => v.category).sum + (nativeFrameWords "java/lang/System" "arraycopy" 5 + 11) ≤ R.locals; omega)) ?_ ?_
  · intro E hE
    rw [hU] at hE ⊢
    rw [hseen] at hE ⊢
    rw [arraycopyRow_sem]
    exact Jvm.W.arraycopy_bounds (s := (T.setVm vm').setFrames _) (by show T.heap[src]? = some cs; rw [hT]; exact hs) (by show T.heap[dst]? = some cd; rw [hT]; exact hd) hsv hdv hks' hkd' (by rw [hes]; exact hsk) (by rw [hed]; exact hdk) (by simp [hprim]) hw (hE _)
  · rw [hU, hseen, State.pushFrame, State.frames_setFrames _ hcurT, State.setFrames_setFrames]
    exact st
