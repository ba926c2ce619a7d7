/-! the five texts: length, charAt -/
abbrev tsI (l : Launch) (y : MethodName) (b : ByteArray) (L : Nat) (ret : Option FieldType) (rm : Room) (Γ : GA) (δ : XSh) (avs : List Value) (σ : XSt) (K : Int32 → Prop) : Prop := ∀ sz : Nat, Met l y (ws_ y b L ret) rm (yPre Γ δ σ sz avs) (va_Qi (fun r u => K r ∧ u = (δ, σ)) (xB Γ δ sz) (AX δ sz)) 0 0 (AX δ sz)
abbrev tsV (l : Launch) (y : MethodName) (b : ByteArray) (L : Nat) (ret : Option FieldType) (rm : Room) (Γ : GA) (δ : XSh) (avs : List Value) (σ : XSt) : Prop := ∀ sz : Nat, Met l y (ws_ y b L ret) rm (yPre Γ δ σ sz avs) (va_Qv (fun u => u = (δ, σ)) (xB Γ δ sz) (AX δ sz)) 0 0 (AX δ sz)
theorem z_of {l : Launch} {Γ : GA} {δ : XSh} {σ : XSt} {avs : List Value} {mc ms : Nat} {y : MethodName} {bytes : ByteArray} {maxL : Nat} {ret : Option FieldType} {rm : Room} {sz : Nat} {Qc : Array Value → State → Outcome → State → Prop} (hy : plainName y.cls = true)
    (lv : List (Nat × Value)) (hlv : ∀ ls : Array Slot, lv_has ls maxL (lv_args 0 avs) → lv_has ls maxL lv) (hlen : (lg_sl avs).length ≤ maxL)
    (body : ∀ (p : Program) (e : Env) (s : State) (m : MethodId) (args : Array Value) (below : List Frame) (meth : Method) (c : Code), s.heap.size = sz → CX p s m args meth c bytes maxL ret y.cls Γ ∧ ZS Γ (AX δ s.heap.size) s s.heap → TX p l e rm s m args below meth c maxL 0 0 (MQ below Qc args s mc ms (AX δ s.heap.size)) Γ δ δ σ 0 lv []) : Met l y (ws_ y bytes maxL ret) rm (yPre Γ δ σ sz avs) Qc mc ms (AX δ sz) := by
  refine Met.ofW (cc := bytes) (maxL := maxL) (ret := ret) hy rfl ?_
  intro p e s m args below meth c s₁ B hml hv
  obtain ⟨rfl, hsz, hP, hK, hO, hD0, hZ⟩ := hv
  subst hsz
  have hts := atoms_spec (ws := ws_ y bytes maxL ret) B.pre
  have hts : ∀ w ∈ lw_all, w.before _ s = true := fun w h => hts w (List.mem_cons_of_mem _ h)
  have hown : s.vm.findClass y.cls = some m.cls := findClass_of_methodNamed B.named
  have hl := lv_entry avs (n := maxL) hlen
  rw [lg_entry_eq]
  exact body p e s m _ below meth c rfl ⟨⟨B.exec, B.bytes, hml, hown, hts, hK, B.returns, B.notSynchronized⟩, hZ⟩ s.heap [] _ hP hO (hD0.self _) va_S.rf (hlv _ hl)
theorem s_preV {s : State} {H : Heap} {locs : List Loc} {Γ : GA} {δ : XSh} {σ : XSt} {A : Nat → Prop} {avs : List Value} (hK : KX Γ s) (hO : XO δ) (hD : gD δ.1 (adX δ) A) (hA : ∀ q, s.heap.size ≤ q → A q) (hZ : ZS Γ A s s.heap) (hP : XH Γ δ σ H) (hS : va_S A s.heap H locs) {i : Nat} (hi : i < 5) : PreV s H "java/lang/String" (Γ.2 (10 + i)) (yPre Γ δ σ H.size (.ref (Γ.2 (10 + i)) :: avs)) avs := by
  refine ⟨yPre_blind, ?_, fun U hU hW => y_preU (avs := .ref (Γ.2 (10 + i)) :: avs) hK hO hD hA hZ hP hS U hU hW⟩
  obtain ⟨cell, a1, a2, a3, -⟩ := ((hZ.kept hS.2.1).2.2.1.1.1 i hi).1
  exact ⟨cell, a1, a2, a3⟩
theorem st_shr : ∀ i, i < 5 → nI (lenS.getD i 0) >>> ((0 : Int32) &&& 31) = nI (lenS.getD i 0) := by decide
theorem st_chr : ∀ i, i < 5 → ∀ k, k < 5 → ((((bytS.getD i []).getD k 0) &&& 255).toUInt32 % 65536).toInt32 = (bytS.getD i []).getD k 0 := by decide +kernel
theorem st_nar : ∀ i, i < 5 → ∀ k, k < 5 → narrow .char (.int ((bytS.getD i []).getD k 0)) = .int ((bytS.getD i []).getD k 0) := by decide +kernel
theorem st_len : ∀ i, i < 5 → lenS.getD i 0 ≤ 5 := by decide
theorem st_lt {x : Int32} {i : Nat} (hi : i < 5) (h : vp_in x (lenS.getD i 0)) : ¬ x < 0 ∧ x < nI (lenS.getD i 0) ∧ x.toNatClampNeg < 5 := by
  have h1 : ¬ x < 0 := fun q => h (Or.inl q)
  have h2 : ¬ lenS.getD i 0 ≤ x.toNatClampNeg := fun q => h (Or.inr q)
  have h3 := st_len i hi
  refine ⟨h1, ?_, by omega⟩
  have e1 : (nI (lenS.getD i 0)).toInt = (lenS.getD i 0 : Int) := by
    have : ∀ i, i < 5 → (nI (lenS.getD i 0)).toInt = (lenS.getD i 0 : Int) := by decide
    exact this i hi
  rw [Int32.lt_iff_toInt_lt, e1]
  rw [Int32.lt_iff_toInt_lt] at h1
  have e0 : (0 : Int32).toInt = 0 := by decide
  have e2 : x.toNatClampNeg = x.toInt.toNat := rfl
  omega
set_option maxHeartbeats 4000000 in
set_option maxRecDepth 100000 in
theorem st_coder {l : Launch} {Γ : GA} {δ : XSh} {σ : XSt} {i : Nat} (hi : i < 5) : tsI l yJ5_coder cJ5_coder 1 (some .byte) ({ frames := 0, cells := 0, slots := 0, locals := 0 } : Room) Γ δ [.ref (Γ.2 (10 + i))] σ (fun r => r = 0) := by
  intro sz
  refine z_of (by decide) [(0, .ref (Γ.2 (10 + i)))] (fun _ h => h) (Nat.le_of_ble_eq_true rfl) ?_
  intro p e s m args below meth c hsz X H locs ls hP hO hD hS hl
  subst hsz
  obtain ⟨⟨hx, hb, hml, hown, hts, hK, hr, hlk⟩, hZ⟩ := X
  have hA : ∀ q, s.heap.size ≤ q → AX δ s.heap.size q := fun q h => Or.inr h
  refine va_gets hx hb hZ.2.2.2.1 hS hown (hts _ q949) (fun _ h9 => h9) dJ5_coder_0 ?_
  refine lv_if_eq (tgt := 13) hx hb dJ5_coder_3 (by decide) (fun c1 => ?_) (fun c1 => ?_)
  · exact absurd c1 (by decide)
  · refine lv_aload_n hx hb dJ5_coder_6 rfl (lv_at hl 0 rfl) ?_
    refine va_getX (o := "java/lang/String") (n := "coder") (d := "B") (N := 5) (v := fun _ => .int 0) (ad := fun i => Γ.2 (10 + i)) (i := i) hx hb (fun i hi => (hZ.2.2.1.1.1 i hi).2.1) hi hS hown (hts _ q1853) (fun _ h9 => h9) dJ5_coder_7 ?_
    refine lv_goto (tgt := 14) hx hb dJ5_coder_10 (by decide) ?_
    exact W.zret (v := 0) hx hb hr (rfl) (fun t ht hW => ⟨⟨0, (δ, σ), rfl, ⟨rfl, rfl⟩, by rw [ht]; exact hP, hO, hD⟩, hS.F ht⟩) hS.2.2 dJ5_coder_14
set_option maxHeartbeats 4000000 in
set_option maxRecDepth 100000 in
theorem st_isLatin1 {l : Launch} {Γ : GA} {δ : XSh} {σ : XSt} {i : Nat} (hi : i < 5) : tsI l yJ5_isLatin1 cJ5_isLatin1 1 (some .boolean) ({ frames := 0, cells := 0, slots := 0, locals := 0 } : Room) Γ δ [.ref (Γ.2 (10 + i))] σ (fun r => r = 1) := by
  intro sz
  refine z_of (by decide) [(0, .ref (Γ.2 (10 + i)))] (fun _ h => h) (Nat.le_of_ble_eq_true rfl) ?_
  intro p e s m args below meth c hsz X H locs ls hP hO hD hS hl
  subst hsz
  obtain ⟨⟨hx, hb, hml, hown, hts, hK, hr, hlk⟩, hZ⟩ := X
  have hA : ∀ q, s.heap.size ≤ q → AX δ s.heap.size q := fun q h => Or.inr h
  refine va_gets hx hb hZ.2.2.2.1 hS hown (hts _ q949) (fun _ h9 => h9) dJ5_isLatin1_0 ?_
  refine lv_if_eq (tgt := 17) hx hb dJ5_isLatin1_3 (by decide) (fun c1 => ?_) (fun c1 => ?_)
  · exact absurd c1 (by decide)
  · refine lv_aload_n hx hb dJ5_isLatin1_6 rfl (lv_at hl 0 rfl) ?_
    refine va_getX (o := "java/lang/String") (n := "coder") (d := "B") (N := 5) (v := fun _ => .int 0) (ad := fun i => Γ.2 (10 + i)) (i := i) hx hb (fun i hi => (hZ.2.2.1.1.1 i hi).2.1) hi hS hown (hts _ q1853) (fun _ h9 => h9) dJ5_isLatin1_7 ?_
    refine lv_if_ne (tgt := 17) hx hb dJ5_isLatin1_10 (by decide) (fun c2 => ?_) (fun c2 => ?_)
    · exact absurd rfl c2
    · refine lv_iconst (v := 1) hx hb dJ5_isLatin1_13 (by decide) ?_
      refine lv_goto (tgt := 18) hx hb dJ5_isLatin1_14 (by decide) ?_
      exact W.zret (v := 1) hx hb hr (rfl) (fun t ht hW => ⟨⟨1, (δ, σ), rfl, ⟨rfl, rfl⟩, by rw [ht]; exact hP, hO, hD⟩, hS.F ht⟩) hS.2.2 dJ5_isLatin1_18
set_option maxHeartbeats 4000000 in
set_option maxRecDepth 100000 in
theorem st_length {l : Launch} {Γ : GA} {δ : XSh} {σ : XSt} {i : Nat} (hi : i < 5) : tsI l yJ5_length cJ5_length 1 (some .int) ({ frames := 1, cells := 0, slots := 0, locals := 20 } : Room) Γ δ [.ref (Γ.2 (10 + i))] σ (fun r => r = nI (lenS.getD i 0)) := by
  intro sz
  refine z_of (by decide) [(0, .ref (Γ.2 (10 + i)))] (fun _ h => h) (Nat.le_of_ble_eq_true rfl) ?_
  intro p e s m args below meth c hsz X H locs ls hP hO hD hS hl
  subst hsz
  obtain ⟨⟨hx, hb, hml, hown, hts, hK, hr, hlk⟩, hZ⟩ := X
  have hA : ∀ q, s.heap.size ≤ q → AX δ s.heap.size q := fun q h => Or.inr h
  refine lv_aload_n hx hb dJ5_length_0 rfl (lv_at hl 0 rfl) ?_
  refine va_getX (o := "java/lang/String") (n := "value") (d := "[B") (N := 5) (v := fun i => .ref (Γ.2 (20 + i))) (ad := fun i => Γ.2 (10 + i)) (i := i) hx hb (fun i hi => (hZ.2.2.1.1.1 i hi).2.2.1) hi hS hown (hts _ q1852) (fun _ h9 => h9) dJ5_length_1 ?_
  refine va_tlen (v := (nI (lenS.getD i 0))) hx hb (hZ.2.2.1.1.1 i hi).2.2.2 hS rfl dJ5_length_4 ?_
  refine lv_aload_n hx hb dJ5_length_5 rfl (lv_at hl 0 rfl) ?_
  refine x_goi (va_runV (As := []) (rest := [.int (nI (lenS.getD i 0))]) ⟨hx, hb, hml, hown, hts⟩ (st_coder hi H.size) (cwV 0 hts (lw_V q945 q946 q947 q85 q948) rfl rfl rfl (by decide +kernel) ⟨(Nat.le_of_ble_eq_true rfl), (Nat.le_of_ble_eq_true rfl)⟩) (s_preV hK hO hD hA hZ hP hS hi) rfl rfl hl.1 rfl (lv_room (Nat.le_of_ble_eq_true rfl)) dJ5_length_6 ⟨(Nat.le_of_ble_eq_true rfl), (Nat.le_of_ble_eq_true rfl)⟩) hD hA hS (fun r9 u H locs hk hP hO hD hS => ?_)
  obtain ⟨er, eu⟩ := hk
  subst eu
  subst er
  dsimp only at hP hO hD
  refine lv_ishr hx hb dJ5_length_9 ?_
  exact x_iret hx hb hr hlk hP hO hD hS ⟨st_shr i hi, rfl⟩ dJ5_length_10
set_option maxHeartbeats 4000000 in
set_option maxRecDepth 100000 in
theorem st_pre {l : Launch} {Γ : GA} {δ : XSh} {σ : XSt} {x y : Int32} {v : Value} (h0 : ¬ x < 0) (h1 : x < y) (hv : v = .null ∨ ∃ t : Nat, v = .ref t) : tsI l yJ11_checkIndex cJ11_checkIndex 3 (some .int) ({ frames := 0, cells := 0, slots := 0, locals := 0 } : Room) Γ δ [.int x, .int y, v] σ (fun r => r = x) := by
  intro sz
  refine z_of (by decide) [(0, .int x), (1, .int y)] (fun _ h => by rcases hv with rfl | ⟨t, rfl⟩ <;> exact lv_sub h [0, 1] rfl) (by rcases hv with rfl | ⟨t, rfl⟩ <;> exact (Nat.le_of_ble_eq_true rfl)) ?_
  intro p e s m args below meth c hsz X H locs ls hP hO hD hS hl
  subst hsz
  obtain ⟨⟨hx, hb, hml, hown, hts, hK, hr, hlk⟩, hZ⟩ := X
  have hA : ∀ q, s.heap.size ≤ q → AX δ s.heap.size q := fun q h => Or.inr h
  refine lv_iload_n hx hb dJ11_checkIndex_0 rfl (lv_at hl 0 rfl) ?_
  refine lv_if_lt (tgt := 9) hx hb dJ11_checkIndex_1 (by decide) (fun c1 => ?_) (fun c1 => ?_)
  · exact absurd c1 h0
  · refine lv_iload_n hx hb dJ11_checkIndex_4 rfl (lv_at hl 0 rfl) ?_
    refine lv_iload_n hx hb dJ11_checkIndex_5 rfl (lv_at hl 1 rfl) ?_
    refine lv_icmp_lt (tgt := 16) hx hb dJ11_checkIndex_6 (by decide) (fun c2 => ?_) (fun c2 => ?_)
    · refine lv_iload_n hx hb dJ11_checkIndex_16 rfl (lv_at hl 0 rfl) ?_
      exact x_iret hx hb hr hlk hP hO hD hS ⟨rfl, rfl⟩ dJ11_checkIndex_17
    · exact absurd h1 c2
set_option maxHeartbeats 4000000 in
set_option maxRecDepth 100000 in
theorem st_ck {l : Launch} {Γ : GA} {δ : XSh} {σ : XSt} {x y : Int32} (h0 : ¬ x < 0) (h1 : x < y) : tsV l yJ5_checkIndex cJ5_checkIndex 2 none ({ frames := 1, cells := 0, slots := 0, locals := 22 } : Room) Γ δ [.int x, .int y] σ := by
  intro sz
  refine z_of (by decide) [(0, .int x), (1, .int y)] (fun _ h => h) (Nat.le_of_ble_eq_true rfl) ?_
  intro p e s m args below meth c hsz X H locs ls hP hO hD hS hl
  subst hsz
  obtain ⟨⟨hx, hb, hml, hown, hts, hK, hr, hlk⟩, hZ⟩ := X
  have hA : ∀ q, s.heap.size ≤ q → AX δ s.heap.size q := fun q h => Or.inr h
  refine lv_iload_n hx hb dJ5_checkIndex_0 rfl (lv_at hl 0 rfl) ?_
  refine lv_iload_n hx hb dJ5_checkIndex_1 rfl (lv_at hl 1 rfl) ?_
  obtain ⟨v, iv, zv⟩ := zq_v hZ.2.2.2.2
  refine va_gets hx hb zv hS hown (hts _ q965) (fun _ h9 => h9) dJ5_checkIndex_2 ?_
  refine x_goi (va_runS (As := [.int x, .int y, v]) (rest := []) ⟨hx, hb, hml, hown, hts⟩ (st_pre h0 h1 iv H.size) (va_cwS 3 hts (lw_S q967 q968 q106 q969) rfl rfl rfl (by decide +kernel) ⟨(Nat.le_of_ble_eq_true rfl), (Nat.le_of_ble_eq_true rfl)⟩) (y_preS hK hO hD hA hZ hP hS) rfl rfl hl.1 rfl (lv_room (Nat.le_of_ble_eq_true rfl)) dJ5_checkIndex_5 ⟨(Nat.le_of_ble_eq_true rfl), (Nat.le_of_ble_eq_true rfl)⟩) hD hA hS (fun r9 u H locs hk hP hO hD hS => ?_)
  obtain ⟨er, eu⟩ := hk
  subst eu
  subst er
  dsimp only at hP hO hD
  refine lv_pop hx hb dJ5_checkIndex_8 rfl ?_
  exact x_vret hx hb hr hlk hP hO hD hS rfl dJ5_checkIndex_9
set_option maxHeartbeats 4000000 in
set_option maxRecDepth 100000 in
theorem st_lat {l : Launch} {Γ : GA} {δ : XSh} {σ : XSt} {i : Nat} (hi : i < 5) {x : Int32} (hx1 : vp_in x (lenS.getD i 0)) : tsI l yJ10_charAt cJ10_charAt 2 (some .char) ({ frames := 2, cells := 0, slots := 0, locals := 43 } : Room) Γ δ [.ref (Γ.2 (20 + i)), .int x] σ (fun r => r = (bytS.getD i []).getD x.toNatClampNeg 0) := by
  intro sz
  refine z_of (by decide) [(0, .ref (Γ.2 (20 + i))), (1, .int x)] (fun _ h => h) (Nat.le_of_ble_eq_true rfl) ?_
  intro p e s m args below meth c hsz X H locs ls hP hO hD hS hl
  subst hsz
  obtain ⟨⟨hx, hb, hml, hown, hts, hK, hr, hlk⟩, hZ⟩ := X
  have hA : ∀ q, s.heap.size ≤ q → AX δ s.heap.size q := fun q h => Or.inr h
  have hlt := st_lt hi hx1
  refine lv_iload_n hx hb dJ10_charAt_0 rfl (lv_at hl 1 rfl) ?_
  refine lv_aload_n hx hb dJ10_charAt_1 rfl (lv_at hl 0 rfl) ?_
  refine va_tlen (v := (nI (lenS.getD i 0))) hx hb (hZ.2.2.1.1.1 i hi).2.2.2 hS rfl dJ10_charAt_2 ?_
  refine x_gov (va_runS (As := [.int x, .int (nI (lenS.getD i 0))]) (rest := []) ⟨hx, hb, hml, hown, hts⟩ (st_ck hlt.1 hlt.2.1 H.size) (va_cwS 2 hts (lw_S q962 q963 q85 q964) rfl rfl rfl (by decide +kernel) ⟨(Nat.le_of_ble_eq_true rfl), (Nat.le_of_ble_eq_true rfl)⟩) (y_preS hK hO hD hA hZ hP hS) rfl rfl hl.1 rfl (lv_room (Nat.le_of_ble_eq_true rfl)) dJ10_charAt_3 ⟨(Nat.le_of_ble_eq_true rfl), (Nat.le_of_ble_eq_true rfl)⟩) hD hA hS (fun u H locs hk hP hO hD hS => ?_)
  subst hk
  dsimp only at hP hO hD
  refine lv_aload_n hx hb dJ10_charAt_6 rfl (lv_at hl 0 rfl) ?_
  refine lv_iload_n hx hb dJ10_charAt_7 rfl (lv_at hl 1 rfl) ?_
  refine va_tb (v := .int ((bytS.getD i []).getD x.toNatClampNeg 0)) hx hb (hZ.2.2.1.1.1 i hi).2.2.2 hS hx1 rfl dJ10_charAt_8 ?_
  refine lv_sipush (v := 255) hx hb dJ10_charAt_9 (by decide) ?_
  refine lv_iand hx hb dJ10_charAt_12 ?_
  refine lv_i2c (v := (bytS.getD i []).getD x.toNatClampNeg 0) hx hb dJ10_charAt_13 (st_chr i hi _ hlt.2.2) ?_
  exact W.zret (v := ((bytS.getD i []).getD x.toNatClampNeg 0)) hx hb hr (st_nar i hi _ hlt.2.2) (fun t ht hW => ⟨⟨((bytS.getD i []).getD x.toNatClampNeg 0), (δ, σ), rfl, ⟨rfl, rfl⟩, by rw [ht]; exact hP, hO, hD⟩, hS.F ht⟩) hS.2.2 dJ10_charAt_14
set_option maxHeartbeats 4000000 in
set_option maxRecDepth 100000 in
theorem st_charAt {l : Launch} {Γ : GA} {δ : XSh} {σ : XSt} {i : Nat} (hi : i < 5) {x : Int32} (hx1 : vp_in x (lenS.getD i 0)) : tsI l yJ5_charAt cJ5_charAt 2 (some .char) ({ frames := 3, cells := 0, slots := 0, locals := 64 } : Room) Γ δ [.ref (Γ.2 (10 + i)), .int x] σ (fun r => r = (bytS.getD i []).getD x.toNatClampNeg 0) := by
  intro sz
  refine z_of (by decide) [(0, .ref (Γ.2 (10 + i))), (1, .int x)] (fun _ h => h) (Nat.le_of_ble_eq_true rfl) ?_
  intro p e s m args below meth c hsz X H locs ls hP hO hD hS hl
  subst hsz
  obtain ⟨⟨hx, hb, hml, hown, hts, hK, hr, hlk⟩, hZ⟩ := X
  have hA : ∀ q, s.heap.size ≤ q → AX δ s.heap.size q := fun q h => Or.inr h
  have hlt := st_lt hi hx1
  refine lv_aload_n hx hb dJ5_charAt_0 rfl (lv_at hl 0 rfl) ?_
  refine x_goi (va_runV (As := []) (rest := []) ⟨hx, hb, hml, hown, hts⟩ (st_isLatin1 hi H.size) (cwV 0 hts (lw_V q955 q956 q957 q85 q958) rfl rfl rfl (by decide +kernel) ⟨(Nat.le_of_ble_eq_true rfl), (Nat.le_of_ble_eq_true rfl)⟩) (s_preV hK hO hD hA hZ hP hS hi) rfl rfl hl.1 rfl (lv_room (Nat.le_of_ble_eq_true rfl)) dJ5_charAt_1 ⟨(Nat.le_of_ble_eq_true rfl), (Nat.le_of_ble_eq_true rfl)⟩) hD hA hS (fun r9 u H locs hk hP hO hD hS => ?_)
  obtain ⟨er, eu⟩ := hk
  subst eu
  subst er
  dsimp only at hP hO hD
  refine lv_if_eq (tgt := 16) hx hb dJ5_charAt_4 (by decide) (fun c1 => ?_) (fun c1 => ?_)
  · exact absurd c1 (by decide)
  · refine lv_aload_n hx hb dJ5_charAt_7 rfl (lv_at hl 0 rfl) ?_
    refine va_getX (o := "java/lang/String") (n := "value") (d := "[B") (N := 5) (v := fun i => .ref (Γ.2 (20 + i))) (ad := fun i => Γ.2 (10 + i)) (i := i) hx hb (fun i hi => (hZ.2.2.1.1.1 i hi).2.2.1) hi hS hown (hts _ q1852) (fun _ h9 => h9) dJ5_charAt_8 ?_
    refine lv_iload_n hx hb dJ5_charAt_11 rfl (lv_at hl 1 rfl) ?_
    refine x_goi (va_runS (As := [.ref (Γ.2 (20 + i)), .int x]) (rest := []) ⟨hx, hb, hml, hown, hts⟩ (st_lat hi hx1 H.size) (va_cwS 2 hts (lw_S q959 q960 q105 q961) rfl rfl rfl (by decide +kernel) ⟨(Nat.le_of_ble_eq_true rfl), (Nat.le_of_ble_eq_true rfl)⟩) (y_preS hK hO hD hA hZ hP hS) rfl rfl hl.1 rfl (lv_room (Nat.le_of_ble_eq_true rfl)) dJ5_charAt_12 ⟨(Nat.le_of_ble_eq_true rfl), (Nat.le_of_ble_eq_true rfl)⟩) hD hA hS (fun r9 u H locs hk hP hO hD hS => ?_)
    obtain ⟨er, eu⟩ := hk
    subst eu
    subst er
    dsimp only at hP hO hD
    exact W.zret (v := ((bytS.getD i []).getD x.toNatClampNeg 0)) hx hb hr (st_nar i hi _ hlt.2.2) (fun t ht hW => ⟨⟨((bytS.getD i []).getD x.toNatClampNeg 0), (δ, σ), rfl, ⟨rfl, rfl⟩, by rw [ht]; exact hP, hO, hD⟩, hS.F ht⟩) hS.2.2 dJ5_charAt_15
