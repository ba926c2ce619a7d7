/-! references in fields, casts, rows' arrays -/
def cname (n : Nat) : String := (clA.getD n (RX11, TX11, 4)).1
theorem cn_get {n : Nat} (h5 : 5 ≤ n) (h16 : n < 16) : ∃ q, clA[n]? = some q ∧ q.1 = cname n := by
  have : n = 5 ∨ n = 6 ∨ n = 7 ∨ n = 8 ∨ n = 9 ∨ n = 10 ∨ n = 11 ∨ n = 12 ∨ n = 13 ∨ n = 14 ∨ n = 15 := by omega
  rcases this with rfl | rfl | rfl | rfl | rfl | rfl | rfl | rfl | rfl | rfl | rfl <;> exact ⟨_, rfl, rfl⟩
/-- which classes may be cast to nm -/
def csOK (nm : String) (ok : List Nat) : Prop := ∀ n, n < 16 → 5 ≤ n → (n ∈ ok → (cname n = nm ∨ Cond.castable (cname n) nm ∈ nwL)) ∧ (n ∉ ok → (cname n, nm) ∈ ncL)
theorem cs_Row : csOK RX6 [12, 13, 14, 15] := by
  intro n h16 h5
  have : n = 5 ∨ n = 6 ∨ n = 7 ∨ n = 8 ∨ n = 9 ∨ n = 10 ∨ n = 11 ∨ n = 12 ∨ n = 13 ∨ n = 14 ∨ n = 15 := by omega
  rcases this with rfl | rfl | rfl | rfl | rfl | rfl | rfl | rfl | rfl | rfl | rfl <;> refine ⟨fun h => ?_, fun h => ?_⟩ <;> first | exact absurd h (by decide) | exact Or.inl rfl | (refine Or.inr ?_; simp [nwL, cname]) | simp [ncL, cname]
theorem cs_Thing : csOK RX11 [5, 6, 7, 8, 9, 10, 11] := by
  intro n h16 h5
  have : n = 5 ∨ n = 6 ∨ n = 7 ∨ n = 8 ∨ n = 9 ∨ n = 10 ∨ n = 11 ∨ n = 12 ∨ n = 13 ∨ n = 14 ∨ n = 15 := by omega
  rcases this with rfl | rfl | rfl | rfl | rfl | rfl | rfl | rfl | rfl | rfl | rfl <;> refine ⟨fun h => ?_, fun h => ?_⟩ <;> first | exact absurd h (by decide) | exact Or.inl rfl | (refine Or.inr ?_; simp [nwL, cname]) | simp [ncL, cname]
theorem cs_House : csOK RX12 [6, 8, 9, 10] := by
  intro n h16 h5
  have : n = 5 ∨ n = 6 ∨ n = 7 ∨ n = 8 ∨ n = 9 ∨ n = 10 ∨ n = 11 ∨ n = 12 ∨ n = 13 ∨ n = 14 ∨ n = 15 := by omega
  rcases this with rfl | rfl | rfl | rfl | rfl | rfl | rfl | rfl | rfl | rfl | rfl <;> refine ⟨fun h => ?_, fun h => ?_⟩ <;> first | exact absurd h (by decide) | exact Or.inl rfl | (refine Or.inr ?_; simp [nwL, cname]) | simp [ncL, cname]
theorem cs_Tree : csOK RX13 [7, 11] := by
  intro n h16 h5
  have : n = 5 ∨ n = 6 ∨ n = 7 ∨ n = 8 ∨ n = 9 ∨ n = 10 ∨ n = 11 ∨ n = 12 ∨ n = 13 ∨ n = 14 ∨ n = 15 := by omega
  rcases this with rfl | rfl | rfl | rfl | rfl | rfl | rfl | rfl | rfl | rfl | rfl <;> refine ⟨fun h => ?_, fun h => ?_⟩ <;> first | exact absurd h (by decide) | exact Or.inl rfl | (refine Or.inr ?_; simp [nwL, cname]) | simp [ncL, cname]
theorem cs_Tower : csOK RX14 [8] := by
  intro n h16 h5
  have : n = 5 ∨ n = 6 ∨ n = 7 ∨ n = 8 ∨ n = 9 ∨ n = 10 ∨ n = 11 ∨ n = 12 ∨ n = 13 ∨ n = 14 ∨ n = 15 := by omega
  rcases this with rfl | rfl | rfl | rfl | rfl | rfl | rfl | rfl | rfl | rfl | rfl <;> refine ⟨fun h => ?_, fun h => ?_⟩ <;> first | exact absurd h (by decide) | exact Or.inl rfl | (refine Or.inr ?_; simp [nwL, cname]) | simp [ncL, cname]
theorem cs_Shy : csOK RX15 [9] := by
  intro n h16 h5
  have : n = 5 ∨ n = 6 ∨ n = 7 ∨ n = 8 ∨ n = 9 ∨ n = 10 ∨ n = 11 ∨ n = 12 ∨ n = 13 ∨ n = 14 ∨ n = 15 := by omega
  rcases this with rfl | rfl | rfl | rfl | rfl | rfl | rfl | rfl | rfl | rfl | rfl <;> refine ⟨fun h => ?_, fun h => ?_⟩ <;> first | exact absurd h (by decide) | exact Or.inl rfl | (refine Or.inr ?_; simp [nwL, cname]) | simp [ncL, cname]
theorem cs_Blind : csOK RX16 [10] := by
  intro n h16 h5
  have : n = 5 ∨ n = 6 ∨ n = 7 ∨ n = 8 ∨ n = 9 ∨ n = 10 ∨ n = 11 ∨ n = 12 ∨ n = 13 ∨ n = 14 ∨ n = 15 := by omega
  rcases this with rfl | rfl | rfl | rfl | rfl | rfl | rfl | rfl | rfl | rfl | rfl <;> refine ⟨fun h => ?_, fun h => ?_⟩ <;> first | exact absurd h (by decide) | exact Or.inl rfl | (refine Or.inr ?_; simp [nwL, cname]) | simp [ncL, cname]
theorem cs_Fir : csOK RX17 [11] := by
  intro n h16 h5
  have : n = 5 ∨ n = 6 ∨ n = 7 ∨ n = 8 ∨ n = 9 ∨ n = 10 ∨ n = 11 ∨ n = 12 ∨ n = 13 ∨ n = 14 ∨ n = 15 := by omega
  rcases this with rfl | rfl | rfl | rfl | rfl | rfl | rfl | rfl | rfl | rfl | rfl <;> refine ⟨fun h => ?_, fun h => ?_⟩ <;> first | exact absurd h (by decide) | exact Or.inl rfl | (refine Or.inr ?_; simp [nwL, cname]) | simp [ncL, cname]
theorem cn_len : ∀ n, n < 16 → 5 ≤ n → packageOf (cname n) = "" ∧ (cname n).toList.length ≤ 17 := by decide +kernel
section XRW
variable {p : Program} {l : Launch} {e : Env} {R : Room} {s : State} {m : MethodId} {args : Array Value} {below : List Frame} {meth : Method} {c : Code} {H : Heap} {locs : List Loc} {cells slots : Nat} {Q : State → Prop}
variable {cc : ByteArray} {pc : Nat} {ls : Array Slot} {rest : List Value} {Γ : GA} {δ : XSh} {σ : XSt} {A : Nat → Prop} {H0 : Heap} {own : String}
theorem cell7 (hO : XO δ) {t : Nat} (ht : (7, t) ∈ δ.1) : ∃ fs, cellX Γ δ 7 t (σ.1 7 t) (σ.2.1 7 t) (σ.2.2 7 t) = .inr (δ.2.2.1 t, fs) := by
  unfold cellX
  simp only
  split
  · exact ⟨_, rfl⟩
  · exact ⟨_, rfl⟩
theorem x_recv7 (hK : KX Γ s) (hO : XO δ) (hP : XH Γ δ σ H) (t : Nat) (ht : (7, t) ∈ δ.1) : ∃ cell : Cell, H[t]? = some cell ∧ cell.vm.isStatics = false ∧ s.vm.findClass (cname (δ.2.2.1 t)) = some cell.cls := by
  obtain ⟨fs, hc⟩ := cell7 (Γ := Γ) (σ := σ) hO ht
  obtain ⟨q, hq, e1⟩ := cn_get (hO.2.1 t ht).1 (hO.2.1 t ht).2.1
  rw [← e1]
  exact x_recv hK hP 7 t ht hc hq
/-- a reference field -/
theorem x_getr (hx : p.tables.exec = Jvm.exec) (hb : c.code = cc) (hts : ∀ w ∈ lw_all, w.before args s = true) (hown : s.vm.findClass own = some m.cls) (hK : KX Γ s) (hP : XH Γ δ σ H) (kd i : Nat) (hκ : (kd, i) ∈ δ.1) {ci : Nat} {fs : List Value} (hc : cellX Γ δ kd i (σ.1 kd i) (σ.2.1 kd i) (σ.2.2 kd i) = .inr (ci, fs)) {C : String} {T : u_T} {N : Nat} (hcl : clA[ci]? = some (C, T, N)) (hin : ∀ w ∈ u_ws C T N, w ∈ lw_all) (k : Nat) (hk : k < N) {index : Nat} {ref : String} (hl : Cond.fieldLink own index ref (T k).2.1 (T k).2.2.1 ∈ lw_all) (hT : (T k).1 = ref) (hv : fs[k]? = some (va_rf (σ.2.2 kd i k))) {t : Nat} (ht : σ.2.2 kd i k = some t) (hd : decode cc pc = .ok (.getfield index, 3))
    (kk : (tk kd k, t) ∈ δ.1 → tc kd k (δ.2.2.1 t) → W p l e R s m args below meth c H locs cells slots Q (F0 m (pc + 3) ls (.ref t :: rest))) : W p l e R s m args below meth c H locs cells slots Q (F0 m pc ls (.ref (adX δ (kd, i)) :: rest)) := by
  have hh := hP.2 _ hκ _ _ ht
  rw [ht] at hv
  exact x_get hx hb hts hown hK hP kd i hκ hc hcl hin k hk hl hT hv hd (kk hh.1 hh.2)
theorem x_getN (hx : p.tables.exec = Jvm.exec) (hb : c.code = cc) (hts : ∀ w ∈ lw_all, w.before args s = true) (hown : s.vm.findClass own = some m.cls) (hK : KX Γ s) (hP : XH Γ δ σ H) (kd i : Nat) (hκ : (kd, i) ∈ δ.1) {ci : Nat} {fs : List Value} (hc : cellX Γ δ kd i (σ.1 kd i) (σ.2.1 kd i) (σ.2.2 kd i) = .inr (ci, fs)) {C : String} {T : u_T} {N : Nat} (hcl : clA[ci]? = some (C, T, N)) (hin : ∀ w ∈ u_ws C T N, w ∈ lw_all) (k : Nat) (hk : k < N) {index : Nat} {ref : String} (hl : Cond.fieldLink own index ref (T k).2.1 (T k).2.2.1 ∈ lw_all) (hT : (T k).1 = ref) (hv : fs[k]? = some (va_rf (σ.2.2 kd i k))) (ht : σ.2.2 kd i k = none) (hd : decode cc pc = .ok (.getfield index, 3))
    (kk : W p l e R s m args below meth c H locs cells slots Q (F0 m (pc + 3) ls (.null :: rest))) : W p l e R s m args below meth c H locs cells slots Q (F0 m pc ls (.ref (adX δ (kd, i)) :: rest)) := by
  rw [ht] at hv
  exact x_get hx hb hts hown hK hP kd i hκ hc hcl hin k hk hl hT hv hd kk
theorem x_castOK (hx : p.tables.exec = Jvm.exec) (hb : c.code = cc) (hown : s.vm.findClass own = some m.cls) (hK : KX Γ s) (hO : XO δ) (hP : XH Γ δ σ H) {nm : String} {ok : List Nat} (hcs : csOK nm ok) {index : Nat} (hl : (Cond.classLink own index nm).before args s = true) (t : Nat) (ht : (7, t) ∈ δ.1) (hc : δ.2.2.1 t ∈ ok) (hd : decode cc pc = .ok (.checkcast index, 3))
    (kk : W p l e R s m args below meth c H locs cells slots Q (F0 m (pc + 3) ls (.ref t :: rest))) : W p l e R s m args below meth c H locs cells slots Q (F0 m pc ls (.ref t :: rest)) := by
  have hn := hO.2.1 t ht
  have hr := x_recv7 hK hO hP t ht
  rcases (hcs _ hn.2.1 hn.1).1 hc with h | h
  · obtain ⟨q, hq, e1⟩ := cn_get hn.1 hn.2.1
    have hca := (hK.1.1 _ q hq).2
    rw [e1, h] at hca
    rw [h] at hr
    exact va_castS hx hb hown hl hca hr hd kk
  · exact va_castY hx hb hown hl (hK.2.1 _ h) hr hd kk
theorem x_castBad (hx : p.tables.exec = Jvm.exec) (hb : c.code = cc) (hown : s.vm.findClass own = some m.cls) (hK : KX Γ s) (hO : XO δ) (hP : XH Γ δ σ H) {nm : String} {ok : List Nat} (hcs : csOK nm ok) (hnm : packageOf nm = "" ∧ nm.toList.length ≤ 17) {index : Nat} (hl : (Cond.classLink own index nm).before args s = true) (t : Nat) (ht : (7, t) ∈ δ.1) (hc : δ.2.2.1 t ∉ ok) (hd : decode cc pc = .ok (.checkcast index, 3))
    (k : ∀ text : String, (text == notModelled) = false → (stringBytes (stringToUtf16 text)).size ≤ 900 → vx_Note p l e R s m args below meth c H locs cells slots Q (F0 m pc ls (.ref t :: rest)) "java/lang/ClassCastException" text) : W p l e R s m args below meth c H locs cells slots Q (F0 m pc ls (.ref t :: rest)) := by
  have hn := hO.2.1 t ht
  exact x_castNo hx hb hown hl (hK.2.2.2.2.1 _ ((hcs _ hn.2.1 hn.1).2 hc)) (x_recv7 hK hO hP t ht) hK.2.2.2.2.2 (cn_len _ hn.2.1 hn.1) hnm hd k
theorem x_inst1 (hx : p.tables.exec = Jvm.exec) (hb : c.code = cc) (hown : s.vm.findClass own = some m.cls) (hK : KX Γ s) (hO : XO δ) (hP : XH Γ δ σ H) {nm : String} {ok : List Nat} (hcs : csOK nm ok) {index : Nat} (hl : (Cond.classLink own index nm).before args s = true) (t : Nat) (ht : (7, t) ∈ δ.1) (hc : δ.2.2.1 t ∈ ok) (hd : decode cc pc = .ok (.instanceof index, 3))
    (kk : W p l e R s m args below meth c H locs cells slots Q (F0 m (pc + 3) ls (.int 1 :: rest))) : W p l e R s m args below meth c H locs cells slots Q (F0 m pc ls (.ref t :: rest)) := by
  have hn := hO.2.1 t ht
  have hr := x_recv7 hK hO hP t ht
  rcases (hcs _ hn.2.1 hn.1).1 hc with h | h
  · obtain ⟨q, hq, e1⟩ := cn_get hn.1 hn.2.1
    have hca := (hK.1.1 _ q hq).2
    rw [e1, h] at hca
    rw [h] at hr
    exact va_instS hx hb hown hl hca hr hd kk
  · exact va_instY hx hb hown hl (hK.2.1 _ h) hr hd kk
theorem x_inst0 (hx : p.tables.exec = Jvm.exec) (hb : c.code = cc) (hown : s.vm.findClass own = some m.cls) (hK : KX Γ s) (hO : XO δ) (hP : XH Γ δ σ H) {nm : String} {ok : List Nat} (hcs : csOK nm ok) {index : Nat} (hl : (Cond.classLink own index nm).before args s = true) (t : Nat) (ht : (7, t) ∈ δ.1) (hc : δ.2.2.1 t ∉ ok) (hd : decode cc pc = .ok (.instanceof index, 3))
    (kk : W p l e R s m args below meth c H locs cells slots Q (F0 m (pc + 3) ls (.int 0 :: rest))) : W p l e R s m args below meth c H locs cells slots Q (F0 m pc ls (.ref t :: rest)) := by
  have hn := hO.2.1 t ht
  exact va_instNo hx hb hown hl (hK.2.2.2.2.1 _ ((hcs _ hn.2.1 hn.1).2 hc)) (x_recv7 hK hO hP t ht) hd kk
/-- a row's array by its class -/
theorem cell11 {i ci t0 : Nat} (hci : ci = 12 ∧ t0 = 2 ∨ ci = 13 ∧ t0 = 3 ∨ ci = 14 ∧ t0 = 0) (hc : δ.2.2.1 i = ci) (f : Nat → Int32) (g : Nat → Int64) (h : Nat → Option Nat) : cellX Γ δ 11 i f g h = .inl (Γ.2 t0, δ.2.2.2 i, .inl f) := by
  rcases hci with ⟨rfl, rfl⟩ | ⟨rfl, rfl⟩ | ⟨rfl, rfl⟩ <;> simp [cellX, hc]
theorem cell11l {i : Nat} (hc : δ.2.2.1 i = 15) (f : Nat → Int32) (g : Nat → Int64) (h : Nat → Option Nat) : cellX Γ δ 11 i f g h = .inl (Γ.2 1, δ.2.2.2 i, .inr (.inl g)) := by
  simp [cellX, hc]
theorem x_at {kd i : Nat} (hκ : (kd, i) ∈ δ.1) {x : va_E} (hc : cellX Γ δ kd i (σ.1 kd i) (σ.2.1 kd i) (σ.2.2 kd i) = x) : ∃ q0 : Nat, δ.1[q0]? = some (kd, i) ∧ (δ.1.map (gX Γ δ σ))[q0]? = some (adX δ (kd, i), x) := by
  obtain ⟨q0, h1, h2⟩ := g_at (gX Γ δ σ) hκ
  exact ⟨q0, h1, by rw [h2]; simp only [gX, hc]⟩
theorem x_alen (hx : p.tables.exec = Jvm.exec) (hb : c.code = cc) (hK : KX Γ s) (hP : XH Γ δ σ H) (i ci t0 : Nat) (hκ : (11, i) ∈ δ.1) (hci : ci = 12 ∧ t0 = 2 ∨ ci = 13 ∧ t0 = 3 ∨ ci = 14 ∧ t0 = 0) (hc : δ.2.2.1 i = ci) (hd : decode cc pc = .ok (.arraylength, 1))
    (kk : W p l e R s m args below meth c H locs cells slots Q (F0 m (pc + 1) ls (.int (nI (δ.2.2.2 i)) :: rest))) : W p l e R s m args below meth c H locs cells slots Q (F0 m pc ls (.ref (adX δ (11, i)) :: rest)) := by
  obtain ⟨q0, h1, h2⟩ := x_at (Γ := Γ) (σ := σ) hκ (cell11 (Γ := Γ) hci hc _ _ _)
  rcases hci with ⟨rfl, rfl⟩ | ⟨rfl, rfl⟩ | ⟨rfl, rfl⟩
  · exact va_alen (ty := .byte) hx hb hK.1 hP.1 q0 2 h2 rfl rfl hd kk
  · exact va_alen (ty := .short) hx hb hK.1 hP.1 q0 3 h2 rfl rfl hd kk
  · exact va_alen (ty := .int) hx hb hK.1 hP.1 q0 0 h2 rfl rfl hd kk
theorem x_alenl (hx : p.tables.exec = Jvm.exec) (hb : c.code = cc) (hK : KX Γ s) (hP : XH Γ δ σ H) (i : Nat) (hκ : (11, i) ∈ δ.1) (hc : δ.2.2.1 i = 15) (hd : decode cc pc = .ok (.arraylength, 1))
    (kk : W p l e R s m args below meth c H locs cells slots Q (F0 m (pc + 1) ls (.int (nI (δ.2.2.2 i)) :: rest))) : W p l e R s m args below meth c H locs cells slots Q (F0 m pc ls (.ref (adX δ (11, i)) :: rest)) := by
  obtain ⟨q0, h1, h2⟩ := x_at (Γ := Γ) (σ := σ) hκ (cell11l (Γ := Γ) hc _ _ _)
  exact va_alen (ty := .long) hx hb hK.1 hP.1 q0 1 h2 rfl rfl hd kk
theorem x_alen8 (hx : p.tables.exec = Jvm.exec) (hb : c.code = cc) (hK : KX Γ s) (hP : XH Γ δ σ H) (i : Nat) (hκ : (1, i) ∈ δ.1) (hd : decode cc pc = .ok (.arraylength, 1))
    (kk : W p l e R s m args below meth c H locs cells slots Q (F0 m (pc + 1) ls (.int 8 :: rest))) : W p l e R s m args below meth c H locs cells slots Q (F0 m pc ls (.ref (adX δ (1, i)) :: rest)) := by
  obtain ⟨q0, h1, h2⟩ := x_at (Γ := Γ) (σ := σ) hκ rfl
  exact va_alen (ty := .object "SeenByOne$Shelf") hx hb hK.1 hP.1 q0 5 h2 rfl rfl hd kk
theorem x_rald (hx : p.tables.exec = Jvm.exec) (hb : c.code = cc) (hK : KX Γ s) (hP : XH Γ δ σ H) (i ci t0 : Nat) (hκ : (11, i) ∈ δ.1) (hci : ci = 12 ∧ t0 = 2 ∨ ci = 13 ∧ t0 = 3 ∨ ci = 14 ∧ t0 = 0) (hc : δ.2.2.1 i = ci) {j : Int32} (hin : vp_in j (δ.2.2.2 i)) (hd : decode cc pc = .ok ((if ci = 12 then .baload else if ci = 13 then .saload else .iaload), 1))
    (kk : W p l e R s m args below meth c H locs cells slots Q (F0 m (pc + 1) ls (.int (σ.1 11 i j.toNatClampNeg) :: rest))) : W p l e R s m args below meth c H locs cells slots Q (F0 m pc ls (.int j :: .ref (adX δ (11, i)) :: rest)) := by
  obtain ⟨q0, h1, h2⟩ := x_at (Γ := Γ) (σ := σ) hκ (cell11 (Γ := Γ) hci hc _ _ _)
  rcases hci with ⟨rfl, rfl⟩ | ⟨rfl, rfl⟩ | ⟨rfl, rfl⟩
  · exact va_bald hx hb hK.1 hP.1 q0 2 h2 rfl hin hd kk
  · exact va_sald hx hb hK.1 hP.1 q0 3 h2 rfl hin hd kk
  · exact va_iald hx hb hK.1 hP.1 q0 0 h2 rfl hin hd kk
theorem x_rlald (hx : p.tables.exec = Jvm.exec) (hb : c.code = cc) (hK : KX Γ s) (hP : XH Γ δ σ H) (i : Nat) (hκ : (11, i) ∈ δ.1) (hc : δ.2.2.1 i = 15) {j : Int32} (hin : vp_in j (δ.2.2.2 i)) (hd : decode cc pc = .ok (.laload, 1))
    (kk : W p l e R s m args below meth c H locs cells slots Q (F0 m (pc + 1) ls (.long (σ.2.1 11 i j.toNatClampNeg) :: rest))) : W p l e R s m args below meth c H locs cells slots Q (F0 m pc ls (.int j :: .ref (adX δ (11, i)) :: rest)) := by
  obtain ⟨q0, h1, h2⟩ := x_at (Γ := Γ) (σ := σ) hκ (cell11l (Γ := Γ) hc _ _ _)
  exact va_lald hx hb hK.1 hP.1 q0 1 h2 rfl hin hd kk
theorem x_rast (hx : p.tables.exec = Jvm.exec) (hb : c.code = cc) (hK : KX Γ s) (hD : gD δ.1 (adX δ) A) (hP : XH Γ δ σ H) (hS : va_S A H0 H locs) (i ci t0 : Nat) (hκ : (11, i) ∈ δ.1) (hci : ci = 12 ∧ t0 = 2 ∨ ci = 13 ∧ t0 = 3 ∨ ci = 14 ∧ t0 = 0) (hc : δ.2.2.1 i = ci) {j v : Int32} (hin : vp_in j (δ.2.2.2 i)) (hd : decode cc pc = .ok ((if ci = 12 then .bastore else if ci = 13 then .sastore else .iastore), 1))
    (kk : ∀ (H1 : Heap) (locs1 : List Loc), XH Γ δ (tI σ 11 i j.toNatClampNeg (if ci = 12 then vp_nar .byte v else if ci = 13 then vp_nar .short v else v)) H1 → va_S A H0 H1 locs1 → W p l e R s m args below meth c H1 locs1 cells slots Q (F0 m (pc + 1) ls rest)) : W p l e R s m args below meth c H locs cells slots Q (F0 m pc ls (.int v :: .int j :: .ref (adX δ (11, i)) :: rest)) := by
  have hcell := cell11 (Γ := Γ) hci hc
  obtain ⟨q0, h1, h2⟩ := x_at (Γ := Γ) (σ := σ) hκ (hcell _ _ _)
  rcases hci with ⟨rfl, rfl⟩ | ⟨rfl, rfl⟩ | ⟨rfl, rfl⟩
  · refine va_bast hx hb hK.1 hP.1 (hD.va (fun _ => rfl)) hS q0 2 h2 rfl hin hd (fun H1 locs1 hP1 _ hS1 => kk H1 locs1 ⟨?_, hP.2⟩ hS1)
    rw [g_set hD (κ := (11, i)) (g' := gX Γ δ (tI σ 11 i j.toNatClampNeg (vp_nar .byte v))) h1 (fun κ' hne => by rw [tI_a]; exact gX_ne1 κ' hne) (by rw [tI_a, gX_s1, hcell])] at hP1
    exact hP1
  · refine va_sast hx hb hK.1 hP.1 (hD.va (fun _ => rfl)) hS q0 3 h2 rfl hin hd (fun H1 locs1 hP1 _ hS1 => kk H1 locs1 ⟨?_, hP.2⟩ hS1)
    rw [g_set hD (κ := (11, i)) (g' := gX Γ δ (tI σ 11 i j.toNatClampNeg (vp_nar .short v))) h1 (fun κ' hne => by rw [tI_a]; exact gX_ne1 κ' hne) (by rw [tI_a, gX_s1, hcell])] at hP1
    exact hP1
  · refine va_iast hx hb hK.1 hP.1 (hD.va (fun _ => rfl)) hS q0 0 h2 rfl hin hd (fun H1 locs1 hP1 _ hS1 => kk H1 locs1 ⟨?_, hP.2⟩ hS1)
    rw [g_set hD (κ := (11, i)) (g' := gX Γ δ (tI σ 11 i j.toNatClampNeg v)) h1 (fun κ' hne => by rw [tI_a]; exact gX_ne1 κ' hne) (by rw [tI_a, gX_s1, hcell])] at hP1
    exact hP1
theorem x_rlast (hx : p.tables.exec = Jvm.exec) (hb : c.code = cc) (hK : KX Γ s) (hD : gD δ.1 (adX δ) A) (hP : XH Γ δ σ H) (hS : va_S A H0 H locs) (i : Nat) (hκ : (11, i) ∈ δ.1) (hc : δ.2.2.1 i = 15) {j : Int32} {v : Int64} (hin : vp_in j (δ.2.2.2 i)) (hd : decode cc pc = .ok (.lastore, 1))
    (kk : ∀ (H1 : Heap) (locs1 : List Loc), XH Γ δ (tJ σ 11 i j.toNatClampNeg v) H1 → va_S A H0 H1 locs1 → W p l e R s m args below meth c H1 locs1 cells slots Q (F0 m (pc + 1) ls rest)) : W p l e R s m args below meth c H locs cells slots Q (F0 m pc ls (.long v :: .int j :: .ref (adX δ (11, i)) :: rest)) := by
  have hcell := cell11l (Γ := Γ) hc
  obtain ⟨q0, h1, h2⟩ := x_at (Γ := Γ) (σ := σ) hκ (hcell _ _ _)
  refine va_last hx hb hK.1 hP.1 (hD.va (fun _ => rfl)) hS q0 1 h2 rfl hin hd (fun H1 locs1 hP1 _ hS1 => kk H1 locs1 ⟨?_, hP.2⟩ hS1)
  rw [g_set hD (κ := (11, i)) (g' := gX Γ δ (tJ σ 11 i j.toNatClampNeg v)) h1 (fun κ' hne => by rw [tJ_a]; exact gX_ne2 κ' hne) (by rw [tJ_a, gX_s2, hcell])] at hP1
  exact hP1
/-- a thing is put into a Ground's row of things -/
theorem x_aast (hx : p.tables.exec = Jvm.exec) (hb : c.code = cc) (hK : KX Γ s) (hO : XO δ) (hD : gD δ.1 (adX δ) A) (hP : XH Γ δ σ H) (hS : va_S A H0 H locs) (i : Nat) (hκ : (8, i) ∈ δ.1) (t : Nat) (ht : (7, t) ∈ δ.1) (hc : δ.2.2.1 t < 12) {j : Int32} (hin : vp_in j 8) (hd : decode cc pc = .ok (.aastore, 1))
    (kk : ∀ (H1 : Heap) (locs1 : List Loc), XH Γ δ (tP σ 8 i j.toNatClampNeg (some t)) H1 → va_S A H0 H1 locs1 → W p l e R s m args below meth c H1 locs1 cells slots Q (F0 m (pc + 1) ls rest)) : W p l e R s m args below meth c H locs cells slots Q (F0 m pc ls (.ref t :: .int j :: .ref (adX δ (8, i)) :: rest)) := by
  obtain ⟨q0, h1, h2⟩ := x_at (Γ := Γ) (σ := σ) hκ rfl
  refine va_astqM (E := "SeenByOne$Thing") hx hb hK.1 hP.1 (hD.va (fun _ => rfl)) hS q0 4 h2 rfl (x_any hK hO hP ht hc) hin hd (fun H1 locs1 hP1 _ hS1 => kk H1 locs1 ⟨?_, ?_⟩ hS1)
  · rw [g_set hD (κ := (8, i)) (g' := gX Γ δ (tP σ 8 i j.toNatClampNeg (some t))) h1 (fun κ' hne => by rw [tP_a]; exact gX_ne3 κ' hne) (by rw [tP_a, gX_s3]; rfl)] at hP1
    exact hP1
  · rw [tP_a]
    refine hP.2.t3 (fun j' t' h' => ?_)
    by_cases e : j' = j.toNatClampNeg
    · subst e
      rw [va_up_self] at h'
      cases h'
      exact ⟨ht, fun _ => hc, fun h => absurd h.1 (by decide)⟩
    · rw [va_up_ne _ _ e] at h'
      exact hP.2 (8, i) hκ j' t' h'
end XRW
