/-! casts that fail; the text of the machine's exception is bounded by the start's table of modules -/
theorem mod_name {vm : Vm} (hM : (vm.modules.all fun m => m.loader.isSome || m.name == "java.base" || !(castPackages_1.any fun p => m.packages.contains p)) = true) {k : Class} (hl : k.loader = none) (hp : packageOf k.name = "") {mi : ModuleInfo} (h : vm.moduleOf k = some mi) : mi.name = "java.base" := by
  unfold Vm.moduleOf at h
  split at h
  · have h1 := List.find?_some h
    simpa using h1
  · have h1 := List.find?_some h
    have h2 := List.mem_of_find?_eq_some h
    have h3 := (List.all_eq_true.mp hM) mi h2
    rw [hl, hp] at h1
    simp only [Bool.and_eq_true, beq_iff_eq] at h1
    obtain ⟨a1, a2⟩ := h1
    rw [a1] at h3
    have h4 : (castPackages_1.any fun p => mi.packages.contains p) = true := List.any_eq_true.mpr ⟨"", by decide, a2⟩
    rw [h4] at h3
    simpa using h3
theorem home_len {vm : Vm} (hM : (vm.modules.all fun m => m.loader.isSome || m.name == "java.base" || !(castPackages_1.any fun p => m.packages.contains p)) = true) {k : Class} (hl : k.loader = none) (hp : packageOf k.name = "") : (vm.home k).toList.length ≤ 40 := by
  unfold Vm.home
  rw [hl]
  have e : vm.loaderName none = "'bootstrap'" := rfl
  rw [e]
  cases hm : vm.moduleOf k with
  | none =>
    simp only [String.toList_append, List.length_append]
    decide
  | some mi =>
    have := mod_name hM hl hp hm
    simp only [this, String.toList_append, List.length_append]
    decide
theorem shown_len {k : Class} (hh : k.hidden = none) : k.shown.toList.length = k.name.toList.length := by
  unfold Class.shown
  rw [hh]
  unfold dotted turned
  simp
theorem cast_len {vm : Vm} (hM : (vm.modules.all fun m => m.loader.isSome || m.name == "java.base" || !(castPackages_1.any fun p => m.packages.contains p)) = true) {a b : Class} (ha : a.hidden = none ∧ a.loader = none ∧ packageOf a.name = "" ∧ a.name.toList.length ≤ 17) (hb : b.hidden = none ∧ b.loader = none ∧ packageOf b.name = "" ∧ b.name.toList.length ≤ 17) : (Op.checkcast.message vm a b).toList.length ≤ 225 := by
  have h1 := shown_len ha.1
  have h2 := shown_len hb.1
  have h3 := home_len hM ha.2.1 ha.2.2.1
  have h4 := home_len hM hb.2.1 hb.2.2.1
  have h5 := ha.2.2.2
  have h6 := hb.2.2.2
  show (toString "class " ++ toString a.shown ++ toString " cannot be cast to class " ++ toString b.shown ++ toString " (" ++ toString (vm.homes a b) ++ toString ")").toList.length ≤ 225
  have e1 : (toString "class ").toList.length = 6 := by decide
  have e2 : (toString " cannot be cast to class ").toList.length = 25 := by decide
  have e3 : (toString " (").toList.length = 2 := by decide
  have e4 : (toString ")").toList.length = 1 := by decide
  have hh : (vm.homes a b).toList.length ≤ 140 := by
    unfold Vm.homes
    split
    · show (toString a.shown ++ toString " and " ++ toString b.shown ++ toString " are in " ++ toString (vm.home a)).toList.length ≤ 140
      have f1 : (toString " and ").toList.length = 5 := by decide
      have f2 : (toString " are in ").toList.length = 8 := by decide
      simp only [String.toList_append, List.length_append]
      simp only [toString] at *
      omega
    · show (toString a.shown ++ toString " is in " ++ toString (vm.home a) ++ toString "; " ++ toString b.shown ++ toString " is in " ++ toString (vm.home b)).toList.length ≤ 140
      have f1 : (toString " is in ").toList.length = 7 := by decide
      have f2 : (toString "; ").toList.length = 2 := by decide
      simp only [String.toList_append, List.length_append]
      simp only [toString] at *
      omega
  simp only [String.toList_append, List.length_append]
  simp only [toString] at *
  omega
theorem cast_mod {vm : Vm} {a b : Class} : (Op.checkcast.message vm a b == notModelled) = false := by
  rw [beq_eq_false_iff_ne]
  intro h
  have h2 := congrArg String.toList h
  have h3 : (Op.checkcast.message vm a b).toList = 'c' :: ("lass ".toList ++ a.shown.toList ++ " cannot be cast to class ".toList ++ b.shown.toList ++ " (".toList ++ (vm.homes a b).toList ++ ")".toList) := by
    show (toString "class " ++ toString a.shown ++ toString " cannot be cast to class " ++ toString b.shown ++ toString " (" ++ toString (vm.homes a b) ++ toString ")").toList = _
    simp only [String.toList_append]
    rfl
  rw [h3] at h2
  have h4 : notModelled.toList = '\u0000' :: " a message that is not modelled".toList := by decide
  rw [h4] at h2
  simp at h2
theorem fc_spec {vm : Vm} {name : String} {c : ClassId} (h : vm.findClass name = some c) : ∃ k, vm.classes[c]? = some k ∧ k.name = name ∧ k.hidden = none ∧ k.loader = none := by
  obtain ⟨hlt, hp, _⟩ := Array.findIdx?_eq_some_iff_getElem.mp h
  refine ⟨vm.classes[c], by simp [hlt], ?_⟩
  simp only [Bool.and_eq_true, beq_iff_eq, Option.isNone_iff_eq_none] at hp
  exact ⟨hp.1.1.1, hp.1.1.2, hp.2⟩
section XCA
variable {p : Program} {l : Launch} {e : Env} {R : Room} {s : State} {m : MethodId} {args : Array Value} {below : List Frame} {meth : Method} {c : Code} {H : Heap} {locs : List Loc} {cells slots : Nat} {Q : State → Prop}
variable {cc : ByteArray} {pc : Nat} {ls : Array Slot} {rest : List Value}
theorem x_castNo (hexec : p.tables.exec = Jvm.exec) (hb : c.code = cc) {own C nm : String} {index a : Nat} (hown : s.vm.findClass own = some m.cls) (hlink : (Cond.classLink own index nm).before args s = true) (hc : va_Nc C nm s)
    (hr : ∃ cell : Cell, H[a]? = some cell ∧ cell.vm.isStatics = false ∧ s.vm.findClass C = some cell.cls) (hM : modulesRight_1 s = true) (hC : packageOf C = "" ∧ C.toList.length ≤ 17) (hN : packageOf nm = "" ∧ nm.toList.length ≤ 17) (hdg : decode cc pc = .ok (.checkcast index, 3))
    (k : ∀ text : String, (text == notModelled) = false → (stringBytes (stringToUtf16 text)).size ≤ 900 → vx_Note p l e R s m args below meth c H locs cells slots Q (F0 m pc ls (.ref a :: rest)) "java/lang/ClassCastException" text) : W p l e R s m args below meth c H locs cells slots Q (F0 m pc ls (.ref a :: rest)) := by
  intro T hT X
  have hpl : e.platform.magicAccessors = ({} : Platform).magicAccessors := by rw [X.admits.platform]
  obtain ⟨cT, hcT, hcl⟩ := Cond.classLink_spec hown hlink e.platform hpl
  obtain ⟨dk, _, _, kt, hd, _, _, _, _, hkt, _, hopen⟩ := hcl.here
  have hcl₀ := X.warmed.classLinks hcl
  have hW' : s.WarmedH (T.vm.noted m.cls index (.cls cT)) := X.warmed.noted hd hopen (State.rightAt_cls hcl)
  obtain ⟨cell, h1, h2, h3⟩ := hr
  obtain ⟨a8, b8, n1, n2, n3⟩ := hc
  cases Option.some.inj (n1.symm.trans h3)
  cases Option.some.inj (n2.symm.trans hcT)
  have f1 : (T.vm.noted m.cls index (.cls cT)).findClass C = some cell.cls := by rw [hW'.alike.findClass]; exact h3
  have f2 : (T.vm.noted m.cls index (.cls cT)).findClass nm = some cT := by rw [hW'.alike.findClass]; exact hcT
  obtain ⟨ks', hks', k1, k2, k3⟩ := fc_spec f1
  obtain ⟨kt', hkt', t1, t2, t3⟩ := fc_spec f2
  have hM' : ((T.vm.noted m.cls index (.cls cT)).modules.all fun m => m.loader.isSome || m.name == "java.base" || !(castPackages_1.any fun p => m.packages.contains p)) = true := by
    have e9 : (T.vm.noted m.cls index (.cls cT)).modules = s.vm.modules := by rw [hW'.1]
    rw [e9]
    exact hM
  have hlen := cast_len hM' (a := ks') (b := kt') ⟨k2, k3, by rw [k1]; exact hC.1, by rw [k1]; exact hC.2⟩ ⟨t2, t3, by rw [t1]; exact hN.1, by rw [t1]; exact hN.2⟩
  obtain ⟨t, st, q⟩ := k (Op.checkcast.message (T.vm.noted m.cls index (.cls cT)) ks' kt') cast_mod (by
    have b1 := stringBytes_size_le (stringToUtf16 (Op.checkcast.message (T.vm.noted m.cls index (.cls cT)) ks' kt'))
    have b2 := utf16_size_le (Op.checkcast.message (T.vm.noted m.cls index (.cls cT)) ks' kt')
    omega) (T.setVm (T.vm.noted m.cls index (.cls cT))) hT (X.noted hW')
  refine ⟨t, ?_, q⟩
  have hdg' : decode c.code (F0 m pc ls (.ref a :: rest)).pc = .ok (.checkcast index, 3) := by rw [hb]; exact hdg
  jvm_step X.here [hexec, hdg', checkcast.wp_cold (e := e) (s := T) (f := F0 m pc ls (.ref a :: rest)) X.here.top rfl (resolveClass_links e.toSetting hcl₀) hcl₀.ready,
    checkcast.wp_ready (e := e) (s := T.setVm (T.vm.noted m.cls index (.cls cT))) (f := F0 m pc ls (.ref a :: rest)) X.here.top hcl₀.ready rfl]
  refine ⟨cell, by rw [hT]; exact h1, VmData.noStatics_of h2, ks', hks', kt', hkt', ?_⟩
  rw [if_neg (by rw [hW'.alike.assignable, n3]; decide)]
  exact st
/-- a place that an array of references hasn't -/
theorem x_aaldZ {D : va_G} {cl : List vw_C} {ws : va_W} {tys : List (ClassId × FieldType)} {a : Nat} (hexec : p.tables.exec = Jvm.exec) (hb : c.code = cc) (hK : va_K D cl tys s) (hP : va_P D cl ws H) (q0 t0 : Nat) {cA : ClassId} {n : Nat} {E : String} {f : Nat → Option Nat} (ha : ws[q0]? = some (a, .inl (cA, n, .inr (.inr (.inr (.inr f)))))) (ht : tys[t0]? = some (cA, .object E)) {i : Int32} (hout : ¬ vp_in i n) (hdg : decode cc pc = .ok (.aaload, 1))
    (k : ∀ tx : String, tx = (toString "Index " ++ toString i ++ toString " out of bounds for length " ++ toString n : String) → vx_Note p l e R s m args below meth c H locs cells slots Q (F0 m pc ls rest) "java/lang/ArrayIndexOutOfBoundsException" tx) : W p l e R s m args below meth c H locs cells slots Q (F0 m pc ls (.int i :: .ref a :: rest)) := by
  intro T hT X
  obtain ⟨t, st, q⟩ := k _ rfl T hT X
  refine ⟨t, ?_, q⟩
  have h0 := hP q0 _ ha
  have h0 : H[a]? = some (vp_cell cA (n, .inr (.inr (.inr (.inr f))))) := h0
  rw [vp_cell_q] at h0
  have h1 := X.aaloadOut hexec (by rw [hT]; exact h0) ((hK.2 t0 _ ht).1 n (fun j => va_rf (f j))) (j := i) (by show (i < 0 ∨ (arrV _ _ _).slots.size ≤ _); rw [arrV_size]; exact Classical.byContradiction hout) (g := F0 m pc ls (.int i :: .ref a :: rest)) rfl (rest := rest) rfl (by rw [hb]; exact hdg) t
  simp only [arrV_size] at h1
  exact h1 st
end XCA
