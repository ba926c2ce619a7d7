/-! rows: dispatch; small laws for casts -/
theorem o_cases (o : Option Nat) : o = none ∨ ∃ t, o = some t := by
  cases o with
  | none => exact Or.inl rfl
  | some t => exact Or.inr ⟨t, rfl⟩
theorem lt_in {n : Nat} {ok : List Nat} (h : n ∈ ok) (hk : ∀ z ∈ ok, z < 12 := by decide) : n < 12 := hk n h
theorem ge_in {n : Nat} {ok : List Nat} (h : n ∈ ok) (hk : ∀ z ∈ ok, 12 ≤ z := by decide) : 12 ≤ n := hk n h
theorem sub_in {n : Nat} {a b : List Nat} (h : n ∈ a) (hk : (a.all fun z => b.contains z) = true) : n ∈ b := by
  have := List.all_eq_true.mp hk n h
  simpa using this
theorem out_in {n : Nat} {P : Prop} (h0 : 5 ≤ n ∧ n < 16 ∧ P) (h : ¬ n ∈ [5, 6, 7, 8, 9, 10, 11]) : n ∈ [12, 13, 14, 15] := by
  simp at h ⊢
  omega
theorem Ext.cl {δ δ1 : XSh} {P : Nat → Prop} (h : Ext δ δ1) {t : Nat} (ht : (7, t) ∈ δ.1) (hc : P (δ.2.2.1 t)) : P (δ1.2.2.1 t) := by rw [(h.2 t ht).1]; exact hc
theorem own11 {δ : XSh} (hO : XO δ) {t : Nat} (ht : (7, t) ∈ δ.1) (hc : 12 ≤ δ.2.2.1 t) : (11, t) ∈ δ.1 := (hO.2.1 t ht).2.2 hc
theorem cellR {Γ : GA} {δ : XSh} {t : Nat} (h : 12 ≤ δ.2.2.1 t) {f : Nat → Int32} {g : Nat → Int64} {h' : Nat → Option Nat} : cellX Γ δ 7 t f g h' = .inr (δ.2.2.1 t, [.ref (δ.2.1 11 t)]) := by
  simp only [cellX, if_neg (show ¬ δ.2.2.1 t < 12 by omega)]
theorem rw_cases {δ : XSh} (hO : XO δ) {t : Nat} (ht : (7, t) ∈ δ.1) (hc : 12 ≤ δ.2.2.1 t) : δ.2.2.1 t = 12 ∨ δ.2.2.1 t = 13 ∨ δ.2.2.1 t = 14 ∨ δ.2.2.1 t = 15 := by
  have := (hO.2.1 t ht).2.1
  omega
theorem lw_U {own : String} {idx : Nat} {C owner : String} {x y : MethodName} {b : ByteArray} {L : Nat} {r : Option FieldType} (h1 : Cond.methodLink own idx x ∈ lw_all) (h2 : Cond.sameMethod x.cls owner x.name x.desc ∈ lw_all) (h4 : Cond.selects C x y ∈ lw_all) (h5 : Cond.instanceMethod y ∈ lw_all) (h6 : Cond.initialized y.cls ∈ lw_all) (h7 : Cond.code y b L r ∈ lw_all) : GoodIn lw_all (va_wsU own idx C owner x y (ws_ y b L r)) := by
  refine lw_app ?_ (lw_meth h7)
  intro w hw
  simp only [List.mem_cons, List.not_mem_nil, or_false] at hw
  rcases hw with rfl | rfl | rfl | rfl | rfl <;> assumption
/-! By_sort -/
def xw_By_sort (δ : XSh) (σ : XSt) (K : Int32 → Prop) (i0 : Nat) : Prop :=
  K 0
set_option maxHeartbeats 4000000 in
set_option maxRecDepth 100000 in
theorem xt_By_sort {l : Launch} {Γ : GA} {δ : XSh} {σ : XSt} {K : Int32 → Prop} {i0 : Nat} (h0 : (7, i0) ∈ δ.1) (c0 : δ.2.2.1 i0 = 12) (hwp : xw_By_sort δ σ K i0 ) : xI l yX7_sort cX7_sort 1 (some .int) ({ frames := 0, cells := 0, slots := 0, locals := 0 } : Room) 0 0 Γ δ [.ref i0] σ (fun r u => K r ∧ u = (δ, σ)) := by
  intro sz
  refine x_of (by decide) [(0, .ref i0)] (fun _ h => h) (Nat.le_of_ble_eq_true rfl) ?_
  intro p e s m args below meth c hsz X H locs ls hP hO hD hS hl
  subst hsz
  obtain ⟨hx, hb, hml, hown, hts, hK, hr, hlk⟩ := id X
  have hA : ∀ q, s.heap.size ≤ q → AX δ s.heap.size q := fun q h => Or.inr h
  unfold xw_By_sort at hwp
  refine lv_iconst (v := 0) hx hb dX7_sort_0 (by decide) ?_
  exact x_iret hx hb hr hlk hP hO hD hS ⟨hwp, rfl⟩ dX7_sort_1
/-! So_sort -/
def xw_So_sort (δ : XSh) (σ : XSt) (K : Int32 → Prop) (i0 : Nat) : Prop :=
  K 1
set_option maxHeartbeats 4000000 in
set_option maxRecDepth 100000 in
theorem xt_So_sort {l : Launch} {Γ : GA} {δ : XSh} {σ : XSt} {K : Int32 → Prop} {i0 : Nat} (h0 : (7, i0) ∈ δ.1) (c0 : δ.2.2.1 i0 = 13) (hwp : xw_So_sort δ σ K i0 ) : xI l yX8_sort cX8_sort 1 (some .int) ({ frames := 0, cells := 0, slots := 0, locals := 0 } : Room) 0 0 Γ δ [.ref i0] σ (fun r u => K r ∧ u = (δ, σ)) := by
  intro sz
  refine x_of (by decide) [(0, .ref i0)] (fun _ h => h) (Nat.le_of_ble_eq_true rfl) ?_
  intro p e s m args below meth c hsz X H locs ls hP hO hD hS hl
  subst hsz
  obtain ⟨hx, hb, hml, hown, hts, hK, hr, hlk⟩ := id X
  have hA : ∀ q, s.heap.size ≤ q → AX δ s.heap.size q := fun q h => Or.inr h
  unfold xw_So_sort at hwp
  refine lv_iconst (v := 1) hx hb dX8_sort_0 (by decide) ?_
  exact x_iret hx hb hr hlk hP hO hD hS ⟨hwp, rfl⟩ dX8_sort_1
/-! In_sort -/
def xw_In_sort (δ : XSh) (σ : XSt) (K : Int32 → Prop) (i0 : Nat) : Prop :=
  K 2
set_option maxHeartbeats 4000000 in
set_option maxRecDepth 100000 in
theorem xt_In_sort {l : Launch} {Γ : GA} {δ : XSh} {σ : XSt} {K : Int32 → Prop} {i0 : Nat} (h0 : (7, i0) ∈ δ.1) (c0 : δ.2.2.1 i0 = 14) (hwp : xw_In_sort δ σ K i0 ) : xI l yX9_sort cX9_sort 1 (some .int) ({ frames := 0, cells := 0, slots := 0, locals := 0 } : Room) 0 0 Γ δ [.ref i0] σ (fun r u => K r ∧ u = (δ, σ)) := by
  intro sz
  refine x_of (by decide) [(0, .ref i0)] (fun _ h => h) (Nat.le_of_ble_eq_true rfl) ?_
  intro p e s m args below meth c hsz X H locs ls hP hO hD hS hl
  subst hsz
  obtain ⟨hx, hb, hml, hown, hts, hK, hr, hlk⟩ := id X
  have hA : ∀ q, s.heap.size ≤ q → AX δ s.heap.size q := fun q h => Or.inr h
  unfold xw_In_sort at hwp
  refine lv_iconst (v := 2) hx hb dX9_sort_0 (by decide) ?_
  exact x_iret hx hb hr hlk hP hO hD hS ⟨hwp, rfl⟩ dX9_sort_1
/-! Lo_sort -/
def xw_Lo_sort (δ : XSh) (σ : XSt) (K : Int32 → Prop) (i0 : Nat) : Prop :=
  K 3
set_option maxHeartbeats 4000000 in
set_option maxRecDepth 100000 in
theorem xt_Lo_sort {l : Launch} {Γ : GA} {δ : XSh} {σ : XSt} {K : Int32 → Prop} {i0 : Nat} (h0 : (7, i0) ∈ δ.1) (c0 : δ.2.2.1 i0 = 15) (hwp : xw_Lo_sort δ σ K i0 ) : xI l yX10_sort cX10_sort 1 (some .int) ({ frames := 0, cells := 0, slots := 0, locals := 0 } : Room) 0 0 Γ δ [.ref i0] σ (fun r u => K r ∧ u = (δ, σ)) := by
  intro sz
  refine x_of (by decide) [(0, .ref i0)] (fun _ h => h) (Nat.le_of_ble_eq_true rfl) ?_
  intro p e s m args below meth c hsz X H locs ls hP hO hD hS hl
  subst hsz
  obtain ⟨hx, hb, hml, hown, hts, hK, hr, hlk⟩ := id X
  have hA : ∀ q, s.heap.size ≤ q → AX δ s.heap.size q := fun q h => Or.inr h
  unfold xw_Lo_sort at hwp
  refine lv_iconst (v := 3) hx hb dX10_sort_0 (by decide) ?_
  exact x_iret hx hb hr hlk hP hO hD hS ⟨hwp, rfl⟩ dX10_sort_1
/-! r:sort -/
def xv_R_sort (δ : XSh) (σ : XSt) (K : Int32 → Prop) (i0 : Nat) : Prop :=
  (δ.2.2.1 i0 = 12 → xw_By_sort δ σ K i0) ∧ (δ.2.2.1 i0 = 13 → xw_So_sort δ σ K i0) ∧ (δ.2.2.1 i0 = 14 → xw_In_sort δ σ K i0) ∧ (δ.2.2.1 i0 = 15 → xw_Lo_sort δ σ K i0)
set_option maxHeartbeats 4000000 in
set_option maxRecDepth 100000 in
theorem xr_R_sort {p : Program} {l : Launch} {e : Env} {R : Room} {s : State} {m : MethodId} {args : Array Value} {below : List Frame} {meth : Method} {c : Code} {H : Heap} {locs : List Loc} {cells slots : Nat} {cc : ByteArray} {pc nL index : Nat} {ls : Array Slot} {As rest st : List Value} {Γ : GA} {δ : XSh} {σ : XSt} {A : Nat → Prop} {own : String} {i0 : Nat} {K : Int32 → Prop} (S : CallFix p m c cc nL s args lw_all own) (hK : KX Γ s) (hD : gD δ.1 (adX δ) A) (hO : XO δ) (hP : XH Γ δ σ H) (h0 : (7, i0) ∈ δ.1) (c0 : 12 ≤ δ.2.2.1 i0) (hwp : xv_R_sort δ σ K i0) (hlk : Cond.methodLink own index ⟨"SeenByOne$Row", "sort", "()I"⟩ ∈ lw_all) (hR : 1 ≤ R.frames ∧ 20 ≤ R.locals) (hAs : As = []) (hsize : ls.size = nL) (hst : st = As.reverse ++ .ref i0 :: rest) (hW : (rest.map fun v => v.category).sum ≤ 8) (hd : decode cc pc = .ok (.invokevirtual index, 3)) (hf : cells + 0 ≤ R.cells ∧ slots + 0 ≤ R.slots) : va_Run p l e R s m args below meth c H locs cells slots 0 0 (F0 m pc ls st) rest (va_Qi (fun r u => K r ∧ u = (δ, σ)) (xB Γ δ H.size) (AX δ H.size) (.ref i0 :: As).toArray) (AX δ H.size) := by
  subst hAs
  rcases rw_cases hO h0 c0 with e | e | e | e
  · exact va_runU (C := RX7) (owner := "SeenByOne$Row") (As := []) (rest := rest) S (xt_By_sort h0 e (hwp.1 e) H.size) (va_cwA 0 S.2.2.2.2 (lw_U hlk q454 q455 q456 q89 q457) rfl rfl rfl (hK.2.1 (.declares ⟨RX6, "sort", "()I"⟩) (by simp [nwL])) (by decide +kernel) ⟨Nat.le_trans (Nat.le_of_ble_eq_true rfl) hR.1, Nat.le_trans (Nat.le_of_ble_eq_true rfl) hR.2⟩) (x_preV (avs := []) hK hO hD hP 7 i0 h0 (cellR c0) (by rw [e]; rfl)) rfl rfl hsize hst (lv_room hW) hd hf
  · exact va_runU (C := RX8) (owner := "SeenByOne$Row") (As := []) (rest := rest) S (xt_So_sort h0 e (hwp.2.1 e) H.size) (va_cwA 0 S.2.2.2.2 (lw_U hlk q454 q464 q465 q90 q466) rfl rfl rfl (hK.2.1 (.declares ⟨RX6, "sort", "()I"⟩) (by simp [nwL])) (by decide +kernel) ⟨Nat.le_trans (Nat.le_of_ble_eq_true rfl) hR.1, Nat.le_trans (Nat.le_of_ble_eq_true rfl) hR.2⟩) (x_preV (avs := []) hK hO hD hP 7 i0 h0 (cellR c0) (by rw [e]; rfl)) rfl rfl hsize hst (lv_room hW) hd hf
  · exact va_runU (C := RX9) (owner := "SeenByOne$Row") (As := []) (rest := rest) S (xt_In_sort h0 e (hwp.2.2.1 e) H.size) (va_cwA 0 S.2.2.2.2 (lw_U hlk q454 q458 q459 q91 q460) rfl rfl rfl (hK.2.1 (.declares ⟨RX6, "sort", "()I"⟩) (by simp [nwL])) (by decide +kernel) ⟨Nat.le_trans (Nat.le_of_ble_eq_true rfl) hR.1, Nat.le_trans (Nat.le_of_ble_eq_true rfl) hR.2⟩) (x_preV (avs := []) hK hO hD hP 7 i0 h0 (cellR c0) (by rw [e]; rfl)) rfl rfl hsize hst (lv_room hW) hd hf
  · exact va_runU (C := RX10) (owner := "SeenByOne$Row") (As := []) (rest := rest) S (xt_Lo_sort h0 e (hwp.2.2.2 e) H.size) (va_cwA 0 S.2.2.2.2 (lw_U hlk q454 q461 q462 q92 q463) rfl rfl rfl (hK.2.1 (.declares ⟨RX6, "sort", "()I"⟩) (by simp [nwL])) (by decide +kernel) ⟨Nat.le_trans (Nat.le_of_ble_eq_true rfl) hR.1, Nat.le_trans (Nat.le_of_ble_eq_true rfl) hR.2⟩) (x_preV (avs := []) hK hO hD hP 7 i0 h0 (cellR c0) (by rw [e]; rfl)) rfl rfl hsize hst (lv_room hW) hd hf
/-! By_length -/
def xw_By_length (δ : XSh) (σ : XSt) (K : Int32 → Prop) (i0 : Nat) : Prop :=
  K (nI (δ.2.2.2 i0))
set_option maxHeartbeats 4000000 in
set_option maxRecDepth 100000 in
theorem xt_By_length {l : Launch} {Γ : GA} {δ : XSh} {σ : XSt} {K : Int32 → Prop} {i0 : Nat} (h0 : (7, i0) ∈ δ.1) (c0 : δ.2.2.1 i0 = 12) (hwp : xw_By_length δ σ K i0 ) : xI l yX7_length cX7_length 1 (some .int) ({ frames := 0, cells := 0, slots := 0, locals := 0 } : Room) 0 0 Γ δ [.ref i0] σ (fun r u => K r ∧ u = (δ, σ)) := by
  intro sz
  refine x_of (by decide) [(0, .ref i0)] (fun _ h => h) (Nat.le_of_ble_eq_true rfl) ?_
  intro p e s m args below meth c hsz X H locs ls hP hO hD hS hl
  subst hsz
  obtain ⟨hx, hb, hml, hown, hts, hK, hr, hlk⟩ := id X
  have hA : ∀ q, s.heap.size ≤ q → AX δ s.heap.size q := fun q h => Or.inr h
  unfold xw_By_length at hwp
  refine lv_aload_n hx hb dX7_length_0 rfl (lv_at hl 0 rfl) ?_
  refine x_get hx hb hts hown hK hP 7 i0 h0 (by simp only [cellX]; rw [if_neg (by rw [c0]; decide), c0]) rfl in_X7 0 (by decide) q361 rfl (v := .ref (δ.2.1 11 i0)) rfl dX7_length_1 ?_
  refine x_alen hx hb hK hP i0 12 2 ((hO.2.1 _ h0).2.2 (by rw [c0]; decide)) (Or.inl ⟨rfl, rfl⟩) c0 dX7_length_4 ?_
  exact x_iret hx hb hr hlk hP hO hD hS ⟨hwp, rfl⟩ dX7_length_5
/-! So_length -/
def xw_So_length (δ : XSh) (σ : XSt) (K : Int32 → Prop) (i0 : Nat) : Prop :=
  K (nI (δ.2.2.2 i0))
set_option maxHeartbeats 4000000 in
set_option maxRecDepth 100000 in
theorem xt_So_length {l : Launch} {Γ : GA} {δ : XSh} {σ : XSt} {K : Int32 → Prop} {i0 : Nat} (h0 : (7, i0) ∈ δ.1) (c0 : δ.2.2.1 i0 = 13) (hwp : xw_So_length δ σ K i0 ) : xI l yX8_length cX8_length 1 (some .int) ({ frames := 0, cells := 0, slots := 0, locals := 0 } : Room) 0 0 Γ δ [.ref i0] σ (fun r u => K r ∧ u = (δ, σ)) := by
  intro sz
  refine x_of (by decide) [(0, .ref i0)] (fun _ h => h) (Nat.le_of_ble_eq_true rfl) ?_
  intro p e s m args below meth c hsz X H locs ls hP hO hD hS hl
  subst hsz
  obtain ⟨hx, hb, hml, hown, hts, hK, hr, hlk⟩ := id X
  have hA : ∀ q, s.heap.size ≤ q → AX δ s.heap.size q := fun q h => Or.inr h
  unfold xw_So_length at hwp
  refine lv_aload_n hx hb dX8_length_0 rfl (lv_at hl 0 rfl) ?_
  refine x_get hx hb hts hown hK hP 7 i0 h0 (by simp only [cellX]; rw [if_neg (by rw [c0]; decide), c0]) rfl in_X8 0 (by decide) q371 rfl (v := .ref (δ.2.1 11 i0)) rfl dX8_length_1 ?_
  refine x_alen hx hb hK hP i0 13 3 ((hO.2.1 _ h0).2.2 (by rw [c0]; decide)) (Or.inr (Or.inl ⟨rfl, rfl⟩)) c0 dX8_length_4 ?_
  exact x_iret hx hb hr hlk hP hO hD hS ⟨hwp, rfl⟩ dX8_length_5
/-! In_length -/
def xw_In_length (δ : XSh) (σ : XSt) (K : Int32 → Prop) (i0 : Nat) : Prop :=
  K (nI (δ.2.2.2 i0))
set_option maxHeartbeats 4000000 in
set_option maxRecDepth 100000 in
theorem xt_In_length {l : Launch} {Γ : GA} {δ : XSh} {σ : XSt} {K : Int32 → Prop} {i0 : Nat} (h0 : (7, i0) ∈ δ.1) (c0 : δ.2.2.1 i0 = 14) (hwp : xw_In_length δ σ K i0 ) : xI l yX9_length cX9_length 1 (some .int) ({ frames := 0, cells := 0, slots := 0, locals := 0 } : Room) 0 0 Γ δ [.ref i0] σ (fun r u => K r ∧ u = (δ, σ)) := by
  intro sz
  refine x_of (by decide) [(0, .ref i0)] (fun _ h => h) (Nat.le_of_ble_eq_true rfl) ?_
  intro p e s m args below meth c hsz X H locs ls hP hO hD hS hl
  subst hsz
  obtain ⟨hx, hb, hml, hown, hts, hK, hr, hlk⟩ := id X
  have hA : ∀ q, s.heap.size ≤ q → AX δ s.heap.size q := fun q h => Or.inr h
  unfold xw_In_length at hwp
  refine lv_aload_n hx hb dX9_length_0 rfl (lv_at hl 0 rfl) ?_
  refine x_get hx hb hts hown hK hP 7 i0 h0 (by simp only [cellX]; rw [if_neg (by rw [c0]; decide), c0]) rfl in_X9 0 (by decide) q382 rfl (v := .ref (δ.2.1 11 i0)) rfl dX9_length_1 ?_
  refine x_alen hx hb hK hP i0 14 0 ((hO.2.1 _ h0).2.2 (by rw [c0]; decide)) (Or.inr (Or.inr ⟨rfl, rfl⟩)) c0 dX9_length_4 ?_
  exact x_iret hx hb hr hlk hP hO hD hS ⟨hwp, rfl⟩ dX9_length_5
/-! Lo_length -/
def xw_Lo_length (δ : XSh) (σ : XSt) (K : Int32 → Prop) (i0 : Nat) : Prop :=
  K (nI (δ.2.2.2 i0))
set_option maxHeartbeats 4000000 in
set_option maxRecDepth 100000 in
theorem xt_Lo_length {l : Launch} {Γ : GA} {δ : XSh} {σ : XSt} {K : Int32 → Prop} {i0 : Nat} (h0 : (7, i0) ∈ δ.1) (c0 : δ.2.2.1 i0 = 15) (hwp : xw_Lo_length δ σ K i0 ) : xI l yX10_length cX10_length 1 (some .int) ({ frames := 0, cells := 0, slots := 0, locals := 0 } : Room) 0 0 Γ δ [.ref i0] σ (fun r u => K r ∧ u = (δ, σ)) := by
  intro sz
  refine x_of (by decide) [(0, .ref i0)] (fun _ h => h) (Nat.le_of_ble_eq_true rfl) ?_
  intro p e s m args below meth c hsz X H locs ls hP hO hD hS hl
  subst hsz
  obtain ⟨hx, hb, hml, hown, hts, hK, hr, hlk⟩ := id X
  have hA : ∀ q, s.heap.size ≤ q → AX δ s.heap.size q := fun q h => Or.inr h
  unfold xw_Lo_length at hwp
  refine lv_aload_n hx hb dX10_length_0 rfl (lv_at hl 0 rfl) ?_
  refine x_get hx hb hts hown hK hP 7 i0 h0 (by simp only [cellX]; rw [if_neg (by rw [c0]; decide), c0]) rfl in_X10 0 (by decide) q392 rfl (v := .ref (δ.2.1 11 i0)) rfl dX10_length_1 ?_
  refine x_alenl hx hb hK hP i0 ((hO.2.1 _ h0).2.2 (by rw [c0]; decide)) c0 dX10_length_4 ?_
  exact x_iret hx hb hr hlk hP hO hD hS ⟨hwp, rfl⟩ dX10_length_5
/-! r:length -/
def xv_R_length (δ : XSh) (σ : XSt) (K : Int32 → Prop) (i0 : Nat) : Prop :=
  (δ.2.2.1 i0 = 12 → xw_By_length δ σ K i0) ∧ (δ.2.2.1 i0 = 13 → xw_So_length δ σ K i0) ∧ (δ.2.2.1 i0 = 14 → xw_In_length δ σ K i0) ∧ (δ.2.2.1 i0 = 15 → xw_Lo_length δ σ K i0)
set_option maxHeartbeats 4000000 in
set_option maxRecDepth 100000 in
theorem xr_R_length {p : Program} {l : Launch} {e : Env} {R : Room} {s : State} {m : MethodId} {args : Array Value} {below : List Frame} {meth : Method} {c : Code} {H : Heap} {locs : List Loc} {cells slots : Nat} {cc : ByteArray} {pc nL index : Nat} {ls : Array Slot} {As rest st : List Value} {Γ : GA} {δ : XSh} {σ : XSt} {A : Nat → Prop} {own : String} {i0 : Nat} {K : Int32 → Prop} (S : CallFix p m c cc nL s args lw_all own) (hK : KX Γ s) (hD : gD δ.1 (adX δ) A) (hO : XO δ) (hP : XH Γ δ σ H) (h0 : (7, i0) ∈ δ.1) (c0 : 12 ≤ δ.2.2.1 i0) (hwp : xv_R_length δ σ K i0) (hlk : Cond.methodLink own index ⟨"SeenByOne$Row", "length", "()I"⟩ ∈ lw_all) (hR : 1 ≤ R.frames ∧ 20 ≤ R.locals) (hAs : As = []) (hsize : ls.size = nL) (hst : st = As.reverse ++ .ref i0 :: rest) (hW : (rest.map fun v => v.category).sum ≤ 8) (hd : decode cc pc = .ok (.invokevirtual index, 3)) (hf : cells + 0 ≤ R.cells ∧ slots + 0 ≤ R.slots) : va_Run p l e R s m args below meth c H locs cells slots 0 0 (F0 m pc ls st) rest (va_Qi (fun r u => K r ∧ u = (δ, σ)) (xB Γ δ H.size) (AX δ H.size) (.ref i0 :: As).toArray) (AX δ H.size) := by
  subst hAs
  rcases rw_cases hO h0 c0 with e | e | e | e
  · exact va_runU (C := RX7) (owner := "SeenByOne$Row") (As := []) (rest := rest) S (xt_By_length h0 e (hwp.1 e) H.size) (va_cwA 0 S.2.2.2.2 (lw_U hlk q914 q915 q916 q89 q917) rfl rfl rfl (hK.2.1 (.declares ⟨RX6, "length", "()I"⟩) (by simp [nwL])) (by decide +kernel) ⟨Nat.le_trans (Nat.le_of_ble_eq_true rfl) hR.1, Nat.le_trans (Nat.le_of_ble_eq_true rfl) hR.2⟩) (x_preV (avs := []) hK hO hD hP 7 i0 h0 (cellR c0) (by rw [e]; rfl)) rfl rfl hsize hst (lv_room hW) hd hf
  · exact va_runU (C := RX8) (owner := "SeenByOne$Row") (As := []) (rest := rest) S (xt_So_length h0 e (hwp.2.1 e) H.size) (va_cwA 0 S.2.2.2.2 (lw_U hlk q914 q924 q925 q90 q926) rfl rfl rfl (hK.2.1 (.declares ⟨RX6, "length", "()I"⟩) (by simp [nwL])) (by decide +kernel) ⟨Nat.le_trans (Nat.le_of_ble_eq_true rfl) hR.1, Nat.le_trans (Nat.le_of_ble_eq_true rfl) hR.2⟩) (x_preV (avs := []) hK hO hD hP 7 i0 h0 (cellR c0) (by rw [e]; rfl)) rfl rfl hsize hst (lv_room hW) hd hf
  · exact va_runU (C := RX9) (owner := "SeenByOne$Row") (As := []) (rest := rest) S (xt_In_length h0 e (hwp.2.2.1 e) H.size) (va_cwA 0 S.2.2.2.2 (lw_U hlk q914 q918 q919 q91 q920) rfl rfl rfl (hK.2.1 (.declares ⟨RX6, "length", "()I"⟩) (by simp [nwL])) (by decide +kernel) ⟨Nat.le_trans (Nat.le_of_ble_eq_true rfl) hR.1, Nat.le_trans (Nat.le_of_ble_eq_true rfl) hR.2⟩) (x_preV (avs := []) hK hO hD hP 7 i0 h0 (cellR c0) (by rw [e]; rfl)) rfl rfl hsize hst (lv_room hW) hd hf
  · exact va_runU (C := RX10) (owner := "SeenByOne$Row") (As := []) (rest := rest) S (xt_Lo_length h0 e (hwp.2.2.2 e) H.size) (va_cwA 0 S.2.2.2.2 (lw_U hlk q914 q921 q922 q92 q923) rfl rfl rfl (hK.2.1 (.declares ⟨RX6, "length", "()I"⟩) (by simp [nwL])) (by decide +kernel) ⟨Nat.le_trans (Nat.le_of_ble_eq_true rfl) hR.1, Nat.le_trans (Nat.le_of_ble_eq_true rfl) hR.2⟩) (x_preV (avs := []) hK hO hD hP 7 i0 h0 (cellR c0) (by rw [e]; rfl)) rfl rfl hsize hst (lv_room hW) hd hf
/-! By_get -/
def xw_By_get (δ : XSh) (σ : XSt) (K : Int64 → Prop) (i0 : Nat) (x1 : Int32) : Prop :=
  vp_in x1 (δ.2.2.2 i0) ∧ (K ((σ.1 11 i0 x1.toNatClampNeg).toInt64))
set_option maxHeartbeats 4000000 in
set_option maxRecDepth 100000 in
theorem xt_By_get {l : Launch} {Γ : GA} {δ : XSh} {σ : XSt} {K : Int64 → Prop} {i0 : Nat} (h0 : (7, i0) ∈ δ.1) (c0 : δ.2.2.1 i0 = 12) {x1 : Int32} (hwp : xw_By_get δ σ K i0 x1) : xL l yX7_get cX7_get 2 (some .long) ({ frames := 0, cells := 0, slots := 0, locals := 0 } : Room) 0 0 Γ δ [.ref i0, .int x1] σ (fun r u => K r ∧ u = (δ, σ)) := by
  intro sz
  refine x_of (by decide) [(0, .ref i0), (1, .int x1)] (fun _ h => h) (Nat.le_of_ble_eq_true rfl) ?_
  intro p e s m args below meth c hsz X H locs ls hP hO hD hS hl
  subst hsz
  obtain ⟨hx, hb, hml, hown, hts, hK, hr, hlk⟩ := id X
  have hA : ∀ q, s.heap.size ≤ q → AX δ s.heap.size q := fun q h => Or.inr h
  unfold xw_By_get at hwp
  refine lv_aload_n hx hb dX7_get_0 rfl (lv_at hl 0 rfl) ?_
  refine x_get hx hb hts hown hK hP 7 i0 h0 (by simp only [cellX]; rw [if_neg (by rw [c0]; decide), c0]) rfl in_X7 0 (by decide) q361 rfl (v := .ref (δ.2.1 11 i0)) rfl dX7_get_1 ?_
  refine lv_iload_n hx hb dX7_get_4 rfl (lv_at hl 1 rfl) ?_
  obtain ⟨hi1, hwp⟩ := hwp
  refine x_rald hx hb hK hP i0 12 2 ((hO.2.1 _ h0).2.2 (by rw [c0]; decide)) (Or.inl ⟨rfl, rfl⟩) c0 hi1 dX7_get_5 ?_
  refine lv_i2l (v := (σ.1 11 i0 x1.toNatClampNeg).toInt64) hx hb dX7_get_6 rfl ?_
  exact x_lret hx hb hr hlk hP hO hD hS ⟨hwp, rfl⟩ dX7_get_7
/-! So_get -/
def xw_So_get (δ : XSh) (σ : XSt) (K : Int64 → Prop) (i0 : Nat) (x1 : Int32) : Prop :=
  vp_in x1 (δ.2.2.2 i0) ∧ (K ((σ.1 11 i0 x1.toNatClampNeg).toInt64))
set_option maxHeartbeats 4000000 in
set_option maxRecDepth 100000 in
theorem xt_So_get {l : Launch} {Γ : GA} {δ : XSh} {σ : XSt} {K : Int64 → Prop} {i0 : Nat} (h0 : (7, i0) ∈ δ.1) (c0 : δ.2.2.1 i0 = 13) {x1 : Int32} (hwp : xw_So_get δ σ K i0 x1) : xL l yX8_get cX8_get 2 (some .long) ({ frames := 0, cells := 0, slots := 0, locals := 0 } : Room) 0 0 Γ δ [.ref i0, .int x1] σ (fun r u => K r ∧ u = (δ, σ)) := by
  intro sz
  refine x_of (by decide) [(0, .ref i0), (1, .int x1)] (fun _ h => h) (Nat.le_of_ble_eq_true rfl) ?_
  intro p e s m args below meth c hsz X H locs ls hP hO hD hS hl
  subst hsz
  obtain ⟨hx, hb, hml, hown, hts, hK, hr, hlk⟩ := id X
  have hA : ∀ q, s.heap.size ≤ q → AX δ s.heap.size q := fun q h => Or.inr h
  unfold xw_So_get at hwp
  refine lv_aload_n hx hb dX8_get_0 rfl (lv_at hl 0 rfl) ?_
  refine x_get hx hb hts hown hK hP 7 i0 h0 (by simp only [cellX]; rw [if_neg (by rw [c0]; decide), c0]) rfl in_X8 0 (by decide) q371 rfl (v := .ref (δ.2.1 11 i0)) rfl dX8_get_1 ?_
  refine lv_iload_n hx hb dX8_get_4 rfl (lv_at hl 1 rfl) ?_
  obtain ⟨hi1, hwp⟩ := hwp
  refine x_rald hx hb hK hP i0 13 3 ((hO.2.1 _ h0).2.2 (by rw [c0]; decide)) (Or.inr (Or.inl ⟨rfl, rfl⟩)) c0 hi1 dX8_get_5 ?_
  refine lv_i2l (v := (σ.1 11 i0 x1.toNatClampNeg).toInt64) hx hb dX8_get_6 rfl ?_
  exact x_lret hx hb hr hlk hP hO hD hS ⟨hwp, rfl⟩ dX8_get_7
/-! In_get -/
def xw_In_get (δ : XSh) (σ : XSt) (K : Int64 → Prop) (i0 : Nat) (x1 : Int32) : Prop :=
  vp_in x1 (δ.2.2.2 i0) ∧ (K ((σ.1 11 i0 x1.toNatClampNeg).toInt64))
set_option maxHeartbeats 4000000 in
set_option maxRecDepth 100000 in
theorem xt_In_get {l : Launch} {Γ : GA} {δ : XSh} {σ : XSt} {K : Int64 → Prop} {i0 : Nat} (h0 : (7, i0) ∈ δ.1) (c0 : δ.2.2.1 i0 = 14) {x1 : Int32} (hwp : xw_In_get δ σ K i0 x1) : xL l yX9_get cX9_get 2 (some .long) ({ frames := 0, cells := 0, slots := 0, locals := 0 } : Room) 0 0 Γ δ [.ref i0, .int x1] σ (fun r u => K r ∧ u = (δ, σ)) := by
  intro sz
  refine x_of (by decide) [(0, .ref i0), (1, .int x1)] (fun _ h => h) (Nat.le_of_ble_eq_true rfl) ?_
  intro p e s m args below meth c hsz X H locs ls hP hO hD hS hl
  subst hsz
  obtain ⟨hx, hb, hml, hown, hts, hK, hr, hlk⟩ := id X
  have hA : ∀ q, s.heap.size ≤ q → AX δ s.heap.size q := fun q h => Or.inr h
  unfold xw_In_get at hwp
  refine lv_aload_n hx hb dX9_get_0 rfl (lv_at hl 0 rfl) ?_
  refine x_get hx hb hts hown hK hP 7 i0 h0 (by simp only [cellX]; rw [if_neg (by rw [c0]; decide), c0]) rfl in_X9 0 (by decide) q382 rfl (v := .ref (δ.2.1 11 i0)) rfl dX9_get_1 ?_
  refine lv_iload_n hx hb dX9_get_4 rfl (lv_at hl 1 rfl) ?_
  obtain ⟨hi1, hwp⟩ := hwp
  refine x_rald hx hb hK hP i0 14 0 ((hO.2.1 _ h0).2.2 (by rw [c0]; decide)) (Or.inr (Or.inr ⟨rfl, rfl⟩)) c0 hi1 dX9_get_5 ?_
  refine lv_i2l (v := (σ.1 11 i0 x1.toNatClampNeg).toInt64) hx hb dX9_get_6 rfl ?_
  exact x_lret hx hb hr hlk hP hO hD hS ⟨hwp, rfl⟩ dX9_get_7
/-! Lo_get -/
def xw_Lo_get (δ : XSh) (σ : XSt) (K : Int64 → Prop) (i0 : Nat) (x1 : Int32) : Prop :=
  vp_in x1 (δ.2.2.2 i0) ∧ (K (σ.2.1 11 i0 x1.toNatClampNeg))
set_option maxHeartbeats 4000000 in
set_option maxRecDepth 100000 in
theorem xt_Lo_get {l : Launch} {Γ : GA} {δ : XSh} {σ : XSt} {K : Int64 → Prop} {i0 : Nat} (h0 : (7, i0) ∈ δ.1) (c0 : δ.2.2.1 i0 = 15) {x1 : Int32} (hwp : xw_Lo_get δ σ K i0 x1) : xL l yX10_get cX10_get 2 (some .long) ({ frames := 0, cells := 0, slots := 0, locals := 0 } : Room) 0 0 Γ δ [.ref i0, .int x1] σ (fun r u => K r ∧ u = (δ, σ)) := by
  intro sz
  refine x_of (by decide) [(0, .ref i0), (1, .int x1)] (fun _ h => h) (Nat.le_of_ble_eq_true rfl) ?_
  intro p e s m args below meth c hsz X H locs ls hP hO hD hS hl
  subst hsz
  obtain ⟨hx, hb, hml, hown, hts, hK, hr, hlk⟩ := id X
  have hA : ∀ q, s.heap.size ≤ q → AX δ s.heap.size q := fun q h => Or.inr h
  unfold xw_Lo_get at hwp
  refine lv_aload_n hx hb dX10_get_0 rfl (lv_at hl 0 rfl) ?_
  refine x_get hx hb hts hown hK hP 7 i0 h0 (by simp only [cellX]; rw [if_neg (by rw [c0]; decide), c0]) rfl in_X10 0 (by decide) q392 rfl (v := .ref (δ.2.1 11 i0)) rfl dX10_get_1 ?_
  refine lv_iload_n hx hb dX10_get_4 rfl (lv_at hl 1 rfl) ?_
  obtain ⟨hi1, hwp⟩ := hwp
  refine x_rlald hx hb hK hP i0 ((hO.2.1 _ h0).2.2 (by rw [c0]; decide)) c0 hi1 dX10_get_5 ?_
  exact x_lret hx hb hr hlk hP hO hD hS ⟨hwp, rfl⟩ dX10_get_6
/-! r:get -/
def xv_R_get (δ : XSh) (σ : XSt) (K : Int64 → Prop) (i0 : Nat) (x1 : Int32) : Prop :=
  (δ.2.2.1 i0 = 12 → xw_By_get δ σ K i0 x1) ∧ (δ.2.2.1 i0 = 13 → xw_So_get δ σ K i0 x1) ∧ (δ.2.2.1 i0 = 14 → xw_In_get δ σ K i0 x1) ∧ (δ.2.2.1 i0 = 15 → xw_Lo_get δ σ K i0 x1)
set_option maxHeartbeats 4000000 in
set_option maxRecDepth 100000 in
theorem xr_R_get {p : Program} {l : Launch} {e : Env} {R : Room} {s : State} {m : MethodId} {args : Array Value} {below : List Frame} {meth : Method} {c : Code} {H : Heap} {locs : List Loc} {cells slots : Nat} {cc : ByteArray} {pc nL index : Nat} {ls : Array Slot} {As rest st : List Value} {Γ : GA} {δ : XSh} {σ : XSt} {A : Nat → Prop} {own : String} {i0 : Nat} {K : Int64 → Prop} {x1 : Int32} (S : CallFix p m c cc nL s args lw_all own) (hK : KX Γ s) (hD : gD δ.1 (adX δ) A) (hO : XO δ) (hP : XH Γ δ σ H) (h0 : (7, i0) ∈ δ.1) (c0 : 12 ≤ δ.2.2.1 i0) (hwp : xv_R_get δ σ K i0 x1) (hlk : Cond.methodLink own index ⟨"SeenByOne$Row", "get", "(I)J"⟩ ∈ lw_all) (hR : 1 ≤ R.frames ∧ 21 ≤ R.locals) (hAs : As = [.int x1]) (hsize : ls.size = nL) (hst : st = As.reverse ++ .ref i0 :: rest) (hW : (rest.map fun v => v.category).sum ≤ 8) (hd : decode cc pc = .ok (.invokevirtual index, 3)) (hf : cells + 0 ≤ R.cells ∧ slots + 0 ≤ R.slots) : va_Run p l e R s m args below meth c H locs cells slots 0 0 (F0 m pc ls st) rest (va_Ql (fun r u => K r ∧ u = (δ, σ)) (xB Γ δ H.size) (AX δ H.size) (.ref i0 :: As).toArray) (AX δ H.size) := by
  subst hAs
  rcases rw_cases hO h0 c0 with e | e | e | e
  · exact va_runU (C := RX7) (owner := "SeenByOne$Row") (As := [.int x1]) (rest := rest) S (xt_By_get h0 e (hwp.1 e) H.size) (va_cwA 1 S.2.2.2.2 (lw_U hlk q491 q492 q493 q89 q494) rfl rfl rfl (hK.2.1 (.declares ⟨RX6, "get", "(I)J"⟩) (by simp [nwL])) (by decide +kernel) ⟨Nat.le_trans (Nat.le_of_ble_eq_true rfl) hR.1, Nat.le_trans (Nat.le_of_ble_eq_true rfl) hR.2⟩) (x_preV (avs := [.int x1]) hK hO hD hP 7 i0 h0 (cellR c0) (by rw [e]; rfl)) rfl rfl hsize hst (lv_room hW) hd hf
  · exact va_runU (C := RX8) (owner := "SeenByOne$Row") (As := [.int x1]) (rest := rest) S (xt_So_get h0 e (hwp.2.1 e) H.size) (va_cwA 1 S.2.2.2.2 (lw_U hlk q491 q501 q502 q90 q503) rfl rfl rfl (hK.2.1 (.declares ⟨RX6, "get", "(I)J"⟩) (by simp [nwL])) (by decide +kernel) ⟨Nat.le_trans (Nat.le_of_ble_eq_true rfl) hR.1, Nat.le_trans (Nat.le_of_ble_eq_true rfl) hR.2⟩) (x_preV (avs := [.int x1]) hK hO hD hP 7 i0 h0 (cellR c0) (by rw [e]; rfl)) rfl rfl hsize hst (lv_room hW) hd hf
  · exact va_runU (C := RX9) (owner := "SeenByOne$Row") (As := [.int x1]) (rest := rest) S (xt_In_get h0 e (hwp.2.2.1 e) H.size) (va_cwA 1 S.2.2.2.2 (lw_U hlk q491 q495 q496 q91 q497) rfl rfl rfl (hK.2.1 (.declares ⟨RX6, "get", "(I)J"⟩) (by simp [nwL])) (by decide +kernel) ⟨Nat.le_trans (Nat.le_of_ble_eq_true rfl) hR.1, Nat.le_trans (Nat.le_of_ble_eq_true rfl) hR.2⟩) (x_preV (avs := [.int x1]) hK hO hD hP 7 i0 h0 (cellR c0) (by rw [e]; rfl)) rfl rfl hsize hst (lv_room hW) hd hf
  · exact va_runU (C := RX10) (owner := "SeenByOne$Row") (As := [.int x1]) (rest := rest) S (xt_Lo_get h0 e (hwp.2.2.2 e) H.size) (va_cwA 1 S.2.2.2.2 (lw_U hlk q491 q498 q499 q92 q500) rfl rfl rfl (hK.2.1 (.declares ⟨RX6, "get", "(I)J"⟩) (by simp [nwL])) (by decide +kernel) ⟨Nat.le_trans (Nat.le_of_ble_eq_true rfl) hR.1, Nat.le_trans (Nat.le_of_ble_eq_true rfl) hR.2⟩) (x_preV (avs := [.int x1]) hK hO hD hP 7 i0 h0 (cellR c0) (by rw [e]; rfl)) rfl rfl hsize hst (lv_room hW) hd hf
/-! By_held -/
def xw_By_held (δ : XSh) (σ : XSt) (K : Prop) (i0 : Nat) : Prop :=
  K
set_option maxHeartbeats 4000000 in
set_option maxRecDepth 100000 in
theorem xt_By_held {l : Launch} {Γ : GA} {δ : XSh} {σ : XSt} {K : Prop} {i0 : Nat} (h0 : (7, i0) ∈ δ.1) (c0 : δ.2.2.1 i0 = 12) (hwp : xw_By_held δ σ K i0 ) : xR l yX7_held cX7_held 1 (some (.object "java/lang/Object")) ({ frames := 0, cells := 0, slots := 0, locals := 0 } : Room) 0 0 Γ δ [.ref i0] σ (fun r u => (K ∧ u = (δ, σ)) ∧ r = δ.2.1 11 i0) := by
  intro sz
  refine x_of (by decide) [(0, .ref i0)] (fun _ h => h) (Nat.le_of_ble_eq_true rfl) ?_
  intro p e s m args below meth c hsz X H locs ls hP hO hD hS hl
  subst hsz
  obtain ⟨hx, hb, hml, hown, hts, hK, hr, hlk⟩ := id X
  have hA : ∀ q, s.heap.size ≤ q → AX δ s.heap.size q := fun q h => Or.inr h
  unfold xw_By_held at hwp
  refine lv_aload_n hx hb dX7_held_0 rfl (lv_at hl 0 rfl) ?_
  refine x_get hx hb hts hown hK hP 7 i0 h0 (by simp only [cellX]; rw [if_neg (by rw [c0]; decide), c0]) rfl in_X7 0 (by decide) q361 rfl (v := .ref (δ.2.1 11 i0)) rfl dX7_held_1 ?_
  exact x_aret hx hb hr (Or.inl ⟨_, rfl⟩) hlk hP hO hD hS ⟨⟨hwp, rfl⟩, rfl⟩ dX7_held_4
/-! So_held -/
def xw_So_held (δ : XSh) (σ : XSt) (K : Prop) (i0 : Nat) : Prop :=
  K
set_option maxHeartbeats 4000000 in
set_option maxRecDepth 100000 in
theorem xt_So_held {l : Launch} {Γ : GA} {δ : XSh} {σ : XSt} {K : Prop} {i0 : Nat} (h0 : (7, i0) ∈ δ.1) (c0 : δ.2.2.1 i0 = 13) (hwp : xw_So_held δ σ K i0 ) : xR l yX8_held cX8_held 1 (some (.object "java/lang/Object")) ({ frames := 0, cells := 0, slots := 0, locals := 0 } : Room) 0 0 Γ δ [.ref i0] σ (fun r u => (K ∧ u = (δ, σ)) ∧ r = δ.2.1 11 i0) := by
  intro sz
  refine x_of (by decide) [(0, .ref i0)] (fun _ h => h) (Nat.le_of_ble_eq_true rfl) ?_
  intro p e s m args below meth c hsz X H locs ls hP hO hD hS hl
  subst hsz
  obtain ⟨hx, hb, hml, hown, hts, hK, hr, hlk⟩ := id X
  have hA : ∀ q, s.heap.size ≤ q → AX δ s.heap.size q := fun q h => Or.inr h
  unfold xw_So_held at hwp
  refine lv_aload_n hx hb dX8_held_0 rfl (lv_at hl 0 rfl) ?_
  refine x_get hx hb hts hown hK hP 7 i0 h0 (by simp only [cellX]; rw [if_neg (by rw [c0]; decide), c0]) rfl in_X8 0 (by decide) q371 rfl (v := .ref (δ.2.1 11 i0)) rfl dX8_held_1 ?_
  exact x_aret hx hb hr (Or.inl ⟨_, rfl⟩) hlk hP hO hD hS ⟨⟨hwp, rfl⟩, rfl⟩ dX8_held_4
/-! In_held -/
def xw_In_held (δ : XSh) (σ : XSt) (K : Prop) (i0 : Nat) : Prop :=
  K
set_option maxHeartbeats 4000000 in
set_option maxRecDepth 100000 in
theorem xt_In_held {l : Launch} {Γ : GA} {δ : XSh} {σ : XSt} {K : Prop} {i0 : Nat} (h0 : (7, i0) ∈ δ.1) (c0 : δ.2.2.1 i0 = 14) (hwp : xw_In_held δ σ K i0 ) : xR l yX9_held cX9_held 1 (some (.object "java/lang/Object")) ({ frames := 0, cells := 0, slots := 0, locals := 0 } : Room) 0 0 Γ δ [.ref i0] σ (fun r u => (K ∧ u = (δ, σ)) ∧ r = δ.2.1 11 i0) := by
  intro sz
  refine x_of (by decide) [(0, .ref i0)] (fun _ h => h) (Nat.le_of_ble_eq_true rfl) ?_
  intro p e s m args below meth c hsz X H locs ls hP hO hD hS hl
  subst hsz
  obtain ⟨hx, hb, hml, hown, hts, hK, hr, hlk⟩ := id X
  have hA : ∀ q, s.heap.size ≤ q → AX δ s.heap.size q := fun q h => Or.inr h
  unfold xw_In_held at hwp
  refine lv_aload_n hx hb dX9_held_0 rfl (lv_at hl 0 rfl) ?_
  refine x_get hx hb hts hown hK hP 7 i0 h0 (by simp only [cellX]; rw [if_neg (by rw [c0]; decide), c0]) rfl in_X9 0 (by decide) q382 rfl (v := .ref (δ.2.1 11 i0)) rfl dX9_held_1 ?_
  exact x_aret hx hb hr (Or.inl ⟨_, rfl⟩) hlk hP hO hD hS ⟨⟨hwp, rfl⟩, rfl⟩ dX9_held_4
/-! Lo_held -/
def xw_Lo_held (δ : XSh) (σ : XSt) (K : Prop) (i0 : Nat) : Prop :=
  K
set_option maxHeartbeats 4000000 in
set_option maxRecDepth 100000 in
theorem xt_Lo_held {l : Launch} {Γ : GA} {δ : XSh} {σ : XSt} {K : Prop} {i0 : Nat} (h0 : (7, i0) ∈ δ.1) (c0 : δ.2.2.1 i0 = 15) (hwp : xw_Lo_held δ σ K i0 ) : xR l yX10_held cX10_held 1 (some (.object "java/lang/Object")) ({ frames := 0, cells := 0, slots := 0, locals := 0 } : Room) 0 0 Γ δ [.ref i0] σ (fun r u => (K ∧ u = (δ, σ)) ∧ r = δ.2.1 11 i0) := by
  intro sz
  refine x_of (by decide) [(0, .ref i0)] (fun _ h => h) (Nat.le_of_ble_eq_true rfl) ?_
  intro p e s m args below meth c hsz X H locs ls hP hO hD hS hl
  subst hsz
  obtain ⟨hx, hb, hml, hown, hts, hK, hr, hlk⟩ := id X
  have hA : ∀ q, s.heap.size ≤ q → AX δ s.heap.size q := fun q h => Or.inr h
  unfold xw_Lo_held at hwp
  refine lv_aload_n hx hb dX10_held_0 rfl (lv_at hl 0 rfl) ?_
  refine x_get hx hb hts hown hK hP 7 i0 h0 (by simp only [cellX]; rw [if_neg (by rw [c0]; decide), c0]) rfl in_X10 0 (by decide) q392 rfl (v := .ref (δ.2.1 11 i0)) rfl dX10_held_1 ?_
  exact x_aret hx hb hr (Or.inl ⟨_, rfl⟩) hlk hP hO hD hS ⟨⟨hwp, rfl⟩, rfl⟩ dX10_held_4
/-! r:held -/
def xv_R_held (δ : XSh) (σ : XSt) (K : Prop) (i0 : Nat) : Prop :=
  (δ.2.2.1 i0 = 12 → xw_By_held δ σ K i0) ∧ (δ.2.2.1 i0 = 13 → xw_So_held δ σ K i0) ∧ (δ.2.2.1 i0 = 14 → xw_In_held δ σ K i0) ∧ (δ.2.2.1 i0 = 15 → xw_Lo_held δ σ K i0)
set_option maxHeartbeats 4000000 in
set_option maxRecDepth 100000 in
theorem xr_R_held {p : Program} {l : Launch} {e : Env} {R : Room} {s : State} {m : MethodId} {args : Array Value} {below : List Frame} {meth : Method} {c : Code} {H : Heap} {locs : List Loc} {cells slots : Nat} {cc : ByteArray} {pc nL index : Nat} {ls : Array Slot} {As rest st : List Value} {Γ : GA} {δ : XSh} {σ : XSt} {A : Nat → Prop} {own : String} {i0 : Nat} {K : Prop} (S : CallFix p m c cc nL s args lw_all own) (hK : KX Γ s) (hD : gD δ.1 (adX δ) A) (hO : XO δ) (hP : XH Γ δ σ H) (h0 : (7, i0) ∈ δ.1) (c0 : 12 ≤ δ.2.2.1 i0) (hwp : xv_R_held δ σ K i0) (hlk : Cond.methodLink own index ⟨"SeenByOne$Row", "held", "()Ljava/lang/Object;"⟩ ∈ lw_all) (hR : 1 ≤ R.frames ∧ 20 ≤ R.locals) (hAs : As = []) (hsize : ls.size = nL) (hst : st = As.reverse ++ .ref i0 :: rest) (hW : (rest.map fun v => v.category).sum ≤ 8) (hd : decode cc pc = .ok (.invokevirtual index, 3)) (hf : cells + 0 ≤ R.cells ∧ slots + 0 ≤ R.slots) : va_Run p l e R s m args below meth c H locs cells slots 0 0 (F0 m pc ls st) rest (va_Qr (fun _ : XU => True) (fun u a t => (fun r u => (K ∧ u = (δ, σ)) ∧ r = δ.2.1 11 i0) a u ∧ xB Γ δ H.size u t) (AX δ H.size) (.ref i0 :: As).toArray) (AX δ H.size) := by
  subst hAs
  rcases rw_cases hO h0 c0 with e | e | e | e
  · exact va_runU (C := RX7) (owner := "SeenByOne$Row") (As := []) (rest := rest) S (xt_By_held h0 e (hwp.1 e) H.size) (va_cwA 0 S.2.2.2.2 (lw_U hlk q469 q470 q471 q89 q472) rfl rfl rfl (hK.2.1 (.declares ⟨RX6, "held", "()Ljava/lang/Object;"⟩) (by simp [nwL])) (by decide +kernel) ⟨Nat.le_trans (Nat.le_of_ble_eq_true rfl) hR.1, Nat.le_trans (Nat.le_of_ble_eq_true rfl) hR.2⟩) (x_preV (avs := []) hK hO hD hP 7 i0 h0 (cellR c0) (by rw [e]; rfl)) rfl rfl hsize hst (lv_room hW) hd hf
  · exact va_runU (C := RX8) (owner := "SeenByOne$Row") (As := []) (rest := rest) S (xt_So_held h0 e (hwp.2.1 e) H.size) (va_cwA 0 S.2.2.2.2 (lw_U hlk q469 q479 q480 q90 q481) rfl rfl rfl (hK.2.1 (.declares ⟨RX6, "held", "()Ljava/lang/Object;"⟩) (by simp [nwL])) (by decide +kernel) ⟨Nat.le_trans (Nat.le_of_ble_eq_true rfl) hR.1, Nat.le_trans (Nat.le_of_ble_eq_true rfl) hR.2⟩) (x_preV (avs := []) hK hO hD hP 7 i0 h0 (cellR c0) (by rw [e]; rfl)) rfl rfl hsize hst (lv_room hW) hd hf
  · exact va_runU (C := RX9) (owner := "SeenByOne$Row") (As := []) (rest := rest) S (xt_In_held h0 e (hwp.2.2.1 e) H.size) (va_cwA 0 S.2.2.2.2 (lw_U hlk q469 q473 q474 q91 q475) rfl rfl rfl (hK.2.1 (.declares ⟨RX6, "held", "()Ljava/lang/Object;"⟩) (by simp [nwL])) (by decide +kernel) ⟨Nat.le_trans (Nat.le_of_ble_eq_true rfl) hR.1, Nat.le_trans (Nat.le_of_ble_eq_true rfl) hR.2⟩) (x_preV (avs := []) hK hO hD hP 7 i0 h0 (cellR c0) (by rw [e]; rfl)) rfl rfl hsize hst (lv_room hW) hd hf
  · exact va_runU (C := RX10) (owner := "SeenByOne$Row") (As := []) (rest := rest) S (xt_Lo_held h0 e (hwp.2.2.2 e) H.size) (va_cwA 0 S.2.2.2.2 (lw_U hlk q469 q476 q477 q92 q478) rfl rfl rfl (hK.2.1 (.declares ⟨RX6, "held", "()Ljava/lang/Object;"⟩) (by simp [nwL])) (by decide +kernel) ⟨Nat.le_trans (Nat.le_of_ble_eq_true rfl) hR.1, Nat.le_trans (Nat.le_of_ble_eq_true rfl) hR.2⟩) (x_preV (avs := []) hK hO hD hP 7 i0 h0 (cellR c0) (by rw [e]; rfl)) rfl rfl hsize hst (lv_room hW) hd hf
/-! Ro_asInt -/
def xw_Ro_asInt (δ : XSh) (σ : XSt) (K : Int32 → Prop) (i0 : Nat) (x1 : Int32) : Prop :=
  xv_R_get δ σ (fun r1 => K r1.toInt32) i0 x1
set_option maxHeartbeats 4000000 in
set_option maxRecDepth 100000 in
theorem xt_Ro_asInt {l : Launch} {Γ : GA} {δ : XSh} {σ : XSt} {K : Int32 → Prop} {i0 : Nat} (h0 : (7, i0) ∈ δ.1) (c0 : 12 ≤ δ.2.2.1 i0) {x1 : Int32} (hwp : xw_Ro_asInt δ σ K i0 x1) : xI l yX6_asInt cX6_asInt 2 (some .int) ({ frames := 1, cells := 0, slots := 0, locals := 21 } : Room) 0 0 Γ δ [.ref i0, .int x1] σ (fun r u => K r ∧ u = (δ, σ)) := by
  intro sz
  refine x_of (by decide) [(0, .ref i0), (1, .int x1)] (fun _ h => h) (Nat.le_of_ble_eq_true rfl) ?_
  intro p e s m args below meth c hsz X H locs ls hP hO hD hS hl
  subst hsz
  obtain ⟨hx, hb, hml, hown, hts, hK, hr, hlk⟩ := id X
  have hA : ∀ q, s.heap.size ≤ q → AX δ s.heap.size q := fun q h => Or.inr h
  unfold xw_Ro_asInt at hwp
  refine lv_aload_n hx hb dX6_asInt_0 rfl (lv_at hl 0 rfl) ?_
  refine lv_iload_n hx hb dX6_asInt_1 rfl (lv_at hl 1 rfl) ?_
  refine x_gol (xr_R_get (As := [.int x1]) (rest := []) ⟨hx, hb, hml, hown, hts⟩ hK hD hO hP h0 c0 hwp q935 ⟨(Nat.le_of_ble_eq_true rfl), (Nat.le_of_ble_eq_true rfl)⟩ rfl hl.1 rfl (Nat.le_of_ble_eq_true rfl) dX6_asInt_2 ⟨(Nat.le_of_ble_eq_true rfl), (Nat.le_of_ble_eq_true rfl)⟩) hD hA hS (fun r1 u H locs hk hP hO hD hS => ?_)
  obtain ⟨hwp, eu⟩ := hk
  subst eu
  dsimp only at hP hO hD
  refine lv_l2i (v := r1.toInt32) hx hb dX6_asInt_5 rfl ?_
  exact x_iret hx hb hr hlk hP hO hD hS ⟨hwp, rfl⟩ dX6_asInt_6
/-! as -/
def xv_R_asInt (δ : XSh) (σ : XSt) (K : Int32 → Prop) (i0 : Nat) (x1 : Int32) : Prop :=
  xw_Ro_asInt δ σ K i0 x1
set_option maxHeartbeats 4000000 in
set_option maxRecDepth 100000 in
theorem xr_R_asInt {p : Program} {l : Launch} {e : Env} {R : Room} {s : State} {m : MethodId} {args : Array Value} {below : List Frame} {meth : Method} {c : Code} {H : Heap} {locs : List Loc} {cells slots : Nat} {cc : ByteArray} {pc nL index : Nat} {ls : Array Slot} {As rest st : List Value} {Γ : GA} {δ : XSh} {σ : XSt} {A : Nat → Prop} {own : String} {i0 : Nat} {K : Int32 → Prop} {x1 : Int32} (S : CallFix p m c cc nL s args lw_all own) (hK : KX Γ s) (hD : gD δ.1 (adX δ) A) (hO : XO δ) (hP : XH Γ δ σ H) (h0 : (7, i0) ∈ δ.1) (c0 : 12 ≤ δ.2.2.1 i0) (hwp : xv_R_asInt δ σ K i0 x1) (hlk : Cond.methodLink own index ⟨"SeenByOne$Row", "asInt", "(I)I"⟩ ∈ lw_all) (hR : 2 ≤ R.frames ∧ 42 ≤ R.locals) (hAs : As = [.int x1]) (hsize : ls.size = nL) (hst : st = As.reverse ++ .ref i0 :: rest) (hW : (rest.map fun v => v.category).sum ≤ 8) (hd : decode cc pc = .ok (.invokevirtual index, 3)) (hf : cells + 0 ≤ R.cells ∧ slots + 0 ≤ R.slots) : va_Run p l e R s m args below meth c H locs cells slots 0 0 (F0 m pc ls st) rest (va_Qi (fun r u => K r ∧ u = (δ, σ)) (xB Γ δ H.size) (AX δ H.size) (.ref i0 :: As).toArray) (AX δ H.size) := by
  subst hAs
  rcases rw_cases hO h0 c0 with e | e | e | e
  · exact va_runU (C := RX7) (owner := "SeenByOne$Row") (As := [.int x1]) (rest := rest) S (xt_Ro_asInt h0 c0 hwp H.size) (va_cwO 1 S.2.2.2.2 (lw_O hlk q929 q928 q930 q928 q88 q934) rfl rfl rfl q934 (by decide +kernel) ⟨Nat.le_trans (Nat.le_of_ble_eq_true rfl) hR.1, Nat.le_trans (Nat.le_of_ble_eq_true rfl) hR.2⟩) (x_preV (avs := [.int x1]) hK hO hD hP 7 i0 h0 (cellR c0) (by rw [e]; rfl)) rfl rfl hsize hst (lv_room hW) hd hf
  · exact va_runU (C := RX8) (owner := "SeenByOne$Row") (As := [.int x1]) (rest := rest) S (xt_Ro_asInt h0 c0 hwp H.size) (va_cwO 1 S.2.2.2.2 (lw_O hlk q929 q928 q933 q928 q88 q934) rfl rfl rfl q934 (by decide +kernel) ⟨Nat.le_trans (Nat.le_of_ble_eq_true rfl) hR.1, Nat.le_trans (Nat.le_of_ble_eq_true rfl) hR.2⟩) (x_preV (avs := [.int x1]) hK hO hD hP 7 i0 h0 (cellR c0) (by rw [e]; rfl)) rfl rfl hsize hst (lv_room hW) hd hf
  · exact va_runU (C := RX9) (owner := "SeenByOne$Row") (As := [.int x1]) (rest := rest) S (xt_Ro_asInt h0 c0 hwp H.size) (va_cwO 1 S.2.2.2.2 (lw_O hlk q929 q928 q931 q928 q88 q934) rfl rfl rfl q934 (by decide +kernel) ⟨Nat.le_trans (Nat.le_of_ble_eq_true rfl) hR.1, Nat.le_trans (Nat.le_of_ble_eq_true rfl) hR.2⟩) (x_preV (avs := [.int x1]) hK hO hD hP 7 i0 h0 (cellR c0) (by rw [e]; rfl)) rfl rfl hsize hst (lv_room hW) hd hf
  · exact va_runU (C := RX10) (owner := "SeenByOne$Row") (As := [.int x1]) (rest := rest) S (xt_Ro_asInt h0 c0 hwp H.size) (va_cwO 1 S.2.2.2.2 (lw_O hlk q929 q928 q932 q928 q88 q934) rfl rfl rfl q934 (by decide +kernel) ⟨Nat.le_trans (Nat.le_of_ble_eq_true rfl) hR.1, Nat.le_trans (Nat.le_of_ble_eq_true rfl) hR.2⟩) (x_preV (avs := [.int x1]) hK hO hD hP 7 i0 h0 (cellR c0) (by rw [e]; rfl)) rfl rfl hsize hst (lv_room hW) hd hf
/-! By_put -/
def xw_By_put (K : XSh → XSt → Prop) (X : XSh → XSt → Prop) (i0 : Nat) (x1 : Int32) (x2 : Int64) (δ : XSh) (σ : XSt) : Prop :=
  ((vp_in x1 (δ.2.2.2 i0)) → (∀ σ2, σ2 = tI σ 11 i0 x1.toNatClampNeg (vp_nar .byte x2.toInt32.toInt8.toInt32) → (K δ σ2))) ∧ ((¬ vp_in x1 (δ.2.2.2 i0)) → (δ.2.2.2 i0 < 2147483648 ∧ (X δ σ)))
set_option maxHeartbeats 4000000 in
set_option maxRecDepth 100000 in
theorem xk_By_put_e {p : Program} {l : Launch} {e : Env} {s : State} {m : MethodId} {args : Array Value} {below : List Frame} {meth : Method} {c : Code} {Γ : GA} {δ0 : XSh} {K : XSh → XSt → Prop} {X : XSh → XSt → Prop} {i0 : Nat} (hst : l.stackTraces = false) (Xc : CY p s m args meth c cX7_put 4 none RX7 Γ δ0 (tableOf [])) (h0 : (7, i0) ∈ δ0.1) (c0 : δ0.2.2.1 i0 = 12) {x1 : Int32} {x2 : Int64} : ∀ (δ : XSh) (σ : XSt), Ext δ0 δ → xw_By_put K X i0 x1 x2 δ σ → TX p l e ({ frames := 9, cells := 3, slots := 910, locals := 10300 } : Room) s m args below meth c 4 0 0 (VV below (fun u => K u.1 u.2 ∧ Ext δ0 u.1) (fun E q u => E = "java/lang/ArrayIndexOutOfBoundsException" ∧ X u.1 u.2 ∧ Ext δ0 u.1) 3 910 Γ δ0 s args) Γ δ0 δ σ 0 [(0, .ref i0), (1, .int x1), (2, .long x2)] [] := by
  obtain ⟨⟨hx, hb, hml, hown, hts, hK, hr, hlk⟩, hZ, htb⟩ := id Xc
  have hA : ∀ q, s.heap.size ≤ q → AX δ0 s.heap.size q := fun q h => Or.inr h
  intro δ σ hE hwp H locs ls hP hO hD hS hl
  unfold xw_By_put at hwp
  refine lv_aload_n hx hb dX7_put_0 rfl (lv_at hl 0 rfl) ?_
  refine x_get hx hb hts hown hK hP 7 i0 (hE.m h0) (by simp only [cellX]; rw [if_neg (by rw [(hE.eq h0 c0)]; decide), (hE.eq h0 c0)]) rfl in_X7 0 (by decide) q361 rfl (v := .ref (δ.2.1 11 i0)) rfl dX7_put_1 ?_
  refine lv_iload_n hx hb dX7_put_4 rfl (lv_at hl 1 rfl) ?_
  refine lv_lload_n hx hb dX7_put_5 rfl (lv_at hl 2 rfl) ?_
  refine lv_l2i (v := x2.toInt32) hx hb dX7_put_6 rfl ?_
  refine lv_i2b (v := x2.toInt32.toInt8.toInt32) hx hb dX7_put_7 rfl ?_
  by_cases hi1 : vp_in x1 (δ.2.2.2 i0)
  · replace hwp := hwp.1 hi1
    refine x_rast hx hb hK hD hP hS i0 12 2 ((hO.2.1 _ (hE.m h0)).2.2 (by rw [(hE.eq h0 c0)]; decide)) (Or.inl ⟨rfl, rfl⟩) (hE.eq h0 c0) hi1 dX7_put_8 (fun H locs hP hS => ?_)
    obtain ⟨σ2, eσ2⟩ : ∃ z, z = tI σ 11 i0 x1.toNatClampNeg (vp_nar .byte x2.toInt32.toInt8.toInt32) := ⟨_, rfl⟩
    replace hP : XH Γ δ σ2 H := by rw [eσ2]; exact hP
    replace hwp := hwp σ2 eσ2
    refine W.widen (k := 3) (n := 910) (Nat.le_of_ble_eq_true rfl) (Nat.le_of_ble_eq_true rfl) ?_
    refine vx_ret ?_
    exact x_vret hx hb hr hlk hP hO hD hS ⟨hwp, hE⟩ dX7_put_9
  · replace hwp := hwp.2 hi1
    obtain ⟨hln, hwp⟩ := hwp
    obtain ⟨q0, _, hq0⟩ := x_at (Γ := Γ) (σ := σ) ((hO.2.1 _ (hE.m h0)).2.2 (by rw [(hE.eq h0 c0)]; decide)) (cell11 (Γ := Γ) (Or.inl ⟨rfl, rfl⟩) (hE.eq h0 c0) _ _ _)
    refine vx_bastZ hx hb hK.1 hP.1 q0 2 hq0 rfl hi1 dX7_put_8 (fun tx etx => ?_)
    refine y_vmAI hx hst hts hK hZ hP hS (hl.1.trans hml.symm) hlk (by rw [etx]; exact index_text_modelled _ _) (Nat.le_trans (by rw [etx]; exact index_text_bytes _ hln) (by decide)) ⟨(Nat.le_of_ble_eq_true rfl), (Nat.le_of_ble_eq_true rfl), (Nat.le_of_ble_eq_true rfl), (Nat.le_of_ble_eq_true rfl)⟩ (fun H q ce hP hS k1 k2 k3 => ?_)
    exact y_out hown hlk (fun z hz => by rw [htb] at hz; exact nomatch hz) hP hO hD hS k1 k2 k3 ⟨rfl, hwp, hE⟩ (Nat.le_of_ble_eq_true rfl) (Nat.le_of_ble_eq_true rfl)
set_option maxHeartbeats 4000000 in
set_option maxRecDepth 100000 in
theorem xt_By_put {l : Launch} (hst : l.stackTraces = false) {Γ : GA} {δ0 : XSh} {σ : XSt} {K : XSh → XSt → Prop} {X : XSh → XSt → Prop} {i0 : Nat} (h0 : (7, i0) ∈ δ0.1) (c0 : δ0.2.2.1 i0 = 12) {x1 : Int32} {x2 : Int64} (hwp : xw_By_put K X i0 x1 x2 δ0 σ) : yV l yX7_put (ws_ yX7_put cX7_put 4 none) ({ frames := 9, cells := 3, slots := 910, locals := 10300 } : Room) 3 910 Γ δ0 [.ref i0, .int x1, .long x2] σ (fun u => K u.1 u.2 ∧ Ext δ0 u.1) (fun E q u => E = "java/lang/ArrayIndexOutOfBoundsException" ∧ X u.1 u.2 ∧ Ext δ0 u.1) := by
  intro sz
  refine y_of (by decide) [(0, .ref i0), (1, .int x1), (2, .long x2)] (fun _ h => h) (Nat.le_of_ble_eq_true rfl) ?_
  intro p e s m args below meth c hsz Xc
  subst hsz
  exact xk_By_put_e hst Xc h0 c0 δ0 σ Ext.rf hwp
/-! So_put -/
def xw_So_put (K : XSh → XSt → Prop) (X : XSh → XSt → Prop) (i0 : Nat) (x1 : Int32) (x2 : Int64) (δ : XSh) (σ : XSt) : Prop :=
  ((vp_in x1 (δ.2.2.2 i0)) → (∀ σ2, σ2 = tI σ 11 i0 x1.toNatClampNeg (vp_nar .short x2.toInt32.toInt16.toInt32) → (K δ σ2))) ∧ ((¬ vp_in x1 (δ.2.2.2 i0)) → (δ.2.2.2 i0 < 2147483648 ∧ (X δ σ)))
set_option maxHeartbeats 4000000 in
set_option maxRecDepth 100000 in
theorem xk_So_put_e {p : Program} {l : Launch} {e : Env} {s : State} {m : MethodId} {args : Array Value} {below : List Frame} {meth : Method} {c : Code} {Γ : GA} {δ0 : XSh} {K : XSh → XSt → Prop} {X : XSh → XSt → Prop} {i0 : Nat} (hst : l.stackTraces = false) (Xc : CY p s m args meth c cX8_put 4 none RX8 Γ δ0 (tableOf [])) (h0 : (7, i0) ∈ δ0.1) (c0 : δ0.2.2.1 i0 = 13) {x1 : Int32} {x2 : Int64} : ∀ (δ : XSh) (σ : XSt), Ext δ0 δ → xw_So_put K X i0 x1 x2 δ σ → TX p l e ({ frames := 9, cells := 3, slots := 910, locals := 10300 } : Room) s m args below meth c 4 0 0 (VV below (fun u => K u.1 u.2 ∧ Ext δ0 u.1) (fun E q u => E = "java/lang/ArrayIndexOutOfBoundsException" ∧ X u.1 u.2 ∧ Ext δ0 u.1) 3 910 Γ δ0 s args) Γ δ0 δ σ 0 [(0, .ref i0), (1, .int x1), (2, .long x2)] [] := by
  obtain ⟨⟨hx, hb, hml, hown, hts, hK, hr, hlk⟩, hZ, htb⟩ := id Xc
  have hA : ∀ q, s.heap.size ≤ q → AX δ0 s.heap.size q := fun q h => Or.inr h
  intro δ σ hE hwp H locs ls hP hO hD hS hl
  unfold xw_So_put at hwp
  refine lv_aload_n hx hb dX8_put_0 rfl (lv_at hl 0 rfl) ?_
  refine x_get hx hb hts hown hK hP 7 i0 (hE.m h0) (by simp only [cellX]; rw [if_neg (by rw [(hE.eq h0 c0)]; decide), (hE.eq h0 c0)]) rfl in_X8 0 (by decide) q371 rfl (v := .ref (δ.2.1 11 i0)) rfl dX8_put_1 ?_
  refine lv_iload_n hx hb dX8_put_4 rfl (lv_at hl 1 rfl) ?_
  refine lv_lload_n hx hb dX8_put_5 rfl (lv_at hl 2 rfl) ?_
  refine lv_l2i (v := x2.toInt32) hx hb dX8_put_6 rfl ?_
  refine lv_i2s (v := x2.toInt32.toInt16.toInt32) hx hb dX8_put_7 rfl ?_
  by_cases hi1 : vp_in x1 (δ.2.2.2 i0)
  · replace hwp := hwp.1 hi1
    refine x_rast hx hb hK hD hP hS i0 13 3 ((hO.2.1 _ (hE.m h0)).2.2 (by rw [(hE.eq h0 c0)]; decide)) (Or.inr (Or.inl ⟨rfl, rfl⟩)) (hE.eq h0 c0) hi1 dX8_put_8 (fun H locs hP hS => ?_)
    obtain ⟨σ2, eσ2⟩ : ∃ z, z = tI σ 11 i0 x1.toNatClampNeg (vp_nar .short x2.toInt32.toInt16.toInt32) := ⟨_, rfl⟩
    replace hP : XH Γ δ σ2 H := by rw [eσ2]; exact hP
    replace hwp := hwp σ2 eσ2
    refine W.widen (k := 3) (n := 910) (Nat.le_of_ble_eq_true rfl) (Nat.le_of_ble_eq_true rfl) ?_
    refine vx_ret ?_
    exact x_vret hx hb hr hlk hP hO hD hS ⟨hwp, hE⟩ dX8_put_9
  · replace hwp := hwp.2 hi1
    obtain ⟨hln, hwp⟩ := hwp
    obtain ⟨q0, _, hq0⟩ := x_at (Γ := Γ) (σ := σ) ((hO.2.1 _ (hE.m h0)).2.2 (by rw [(hE.eq h0 c0)]; decide)) (cell11 (Γ := Γ) (Or.inr (Or.inl ⟨rfl, rfl⟩)) (hE.eq h0 c0) _ _ _)
    refine vx_sastZ hx hb hK.1 hP.1 q0 3 hq0 rfl hi1 dX8_put_8 (fun tx etx => ?_)
    refine y_vmAI hx hst hts hK hZ hP hS (hl.1.trans hml.symm) hlk (by rw [etx]; exact index_text_modelled _ _) (Nat.le_trans (by rw [etx]; exact index_text_bytes _ hln) (by decide)) ⟨(Nat.le_of_ble_eq_true rfl), (Nat.le_of_ble_eq_true rfl), (Nat.le_of_ble_eq_true rfl), (Nat.le_of_ble_eq_true rfl)⟩ (fun H q ce hP hS k1 k2 k3 => ?_)
    exact y_out hown hlk (fun z hz => by rw [htb] at hz; exact nomatch hz) hP hO hD hS k1 k2 k3 ⟨rfl, hwp, hE⟩ (Nat.le_of_ble_eq_true rfl) (Nat.le_of_ble_eq_true rfl)
set_option maxHeartbeats 4000000 in
set_option maxRecDepth 100000 in
theorem xt_So_put {l : Launch} (hst : l.stackTraces = false) {Γ : GA} {δ0 : XSh} {σ : XSt} {K : XSh → XSt → Prop} {X : XSh → XSt → Prop} {i0 : Nat} (h0 : (7, i0) ∈ δ0.1) (c0 : δ0.2.2.1 i0 = 13) {x1 : Int32} {x2 : Int64} (hwp : xw_So_put K X i0 x1 x2 δ0 σ) : yV l yX8_put (ws_ yX8_put cX8_put 4 none) ({ frames := 9, cells := 3, slots := 910, locals := 10300 } : Room) 3 910 Γ δ0 [.ref i0, .int x1, .long x2] σ (fun u => K u.1 u.2 ∧ Ext δ0 u.1) (fun E q u => E = "java/lang/ArrayIndexOutOfBoundsException" ∧ X u.1 u.2 ∧ Ext δ0 u.1) := by
  intro sz
  refine y_of (by decide) [(0, .ref i0), (1, .int x1), (2, .long x2)] (fun _ h => h) (Nat.le_of_ble_eq_true rfl) ?_
  intro p e s m args below meth c hsz Xc
  subst hsz
  exact xk_So_put_e hst Xc h0 c0 δ0 σ Ext.rf hwp
/-! In_put -/
def xw_In_put (K : XSh → XSt → Prop) (X : XSh → XSt → Prop) (i0 : Nat) (x1 : Int32) (x2 : Int64) (δ : XSh) (σ : XSt) : Prop :=
  ((vp_in x1 (δ.2.2.2 i0)) → (∀ σ2, σ2 = tI σ 11 i0 x1.toNatClampNeg x2.toInt32 → (K δ σ2))) ∧ ((¬ vp_in x1 (δ.2.2.2 i0)) → (δ.2.2.2 i0 < 2147483648 ∧ (X δ σ)))
set_option maxHeartbeats 4000000 in
set_option maxRecDepth 100000 in
theorem xk_In_put_e {p : Program} {l : Launch} {e : Env} {s : State} {m : MethodId} {args : Array Value} {below : List Frame} {meth : Method} {c : Code} {Γ : GA} {δ0 : XSh} {K : XSh → XSt → Prop} {X : XSh → XSt → Prop} {i0 : Nat} (hst : l.stackTraces = false) (Xc : CY p s m args meth c cX9_put 4 none RX9 Γ δ0 (tableOf [])) (h0 : (7, i0) ∈ δ0.1) (c0 : δ0.2.2.1 i0 = 14) {x1 : Int32} {x2 : Int64} : ∀ (δ : XSh) (σ : XSt), Ext δ0 δ → xw_In_put K X i0 x1 x2 δ σ → TX p l e ({ frames := 9, cells := 3, slots := 910, locals := 10300 } : Room) s m args below meth c 4 0 0 (VV below (fun u => K u.1 u.2 ∧ Ext δ0 u.1) (fun E q u => E = "java/lang/ArrayIndexOutOfBoundsException" ∧ X u.1 u.2 ∧ Ext δ0 u.1) 3 910 Γ δ0 s args) Γ δ0 δ σ 0 [(0, .ref i0), (1, .int x1), (2, .long x2)] [] := by
  obtain ⟨⟨hx, hb, hml, hown, hts, hK, hr, hlk⟩, hZ, htb⟩ := id Xc
  have hA : ∀ q, s.heap.size ≤ q → AX δ0 s.heap.size q := fun q h => Or.inr h
  intro δ σ hE hwp H locs ls hP hO hD hS hl
  unfold xw_In_put at hwp
  refine lv_aload_n hx hb dX9_put_0 rfl (lv_at hl 0 rfl) ?_
  refine x_get hx hb hts hown hK hP 7 i0 (hE.m h0) (by simp only [cellX]; rw [if_neg (by rw [(hE.eq h0 c0)]; decide), (hE.eq h0 c0)]) rfl in_X9 0 (by decide) q382 rfl (v := .ref (δ.2.1 11 i0)) rfl dX9_put_1 ?_
  refine lv_iload_n hx hb dX9_put_4 rfl (lv_at hl 1 rfl) ?_
  refine lv_lload_n hx hb dX9_put_5 rfl (lv_at hl 2 rfl) ?_
  refine lv_l2i (v := x2.toInt32) hx hb dX9_put_6 rfl ?_
  by_cases hi1 : vp_in x1 (δ.2.2.2 i0)
  · replace hwp := hwp.1 hi1
    refine x_rast hx hb hK hD hP hS i0 14 0 ((hO.2.1 _ (hE.m h0)).2.2 (by rw [(hE.eq h0 c0)]; decide)) (Or.inr (Or.inr ⟨rfl, rfl⟩)) (hE.eq h0 c0) hi1 dX9_put_7 (fun H locs hP hS => ?_)
    obtain ⟨σ2, eσ2⟩ : ∃ z, z = tI σ 11 i0 x1.toNatClampNeg x2.toInt32 := ⟨_, rfl⟩
    replace hP : XH Γ δ σ2 H := by rw [eσ2]; exact hP
    replace hwp := hwp σ2 eσ2
    refine W.widen (k := 3) (n := 910) (Nat.le_of_ble_eq_true rfl) (Nat.le_of_ble_eq_true rfl) ?_
    refine vx_ret ?_
    exact x_vret hx hb hr hlk hP hO hD hS ⟨hwp, hE⟩ dX9_put_8
  · replace hwp := hwp.2 hi1
    obtain ⟨hln, hwp⟩ := hwp
    obtain ⟨q0, _, hq0⟩ := x_at (Γ := Γ) (σ := σ) ((hO.2.1 _ (hE.m h0)).2.2 (by rw [(hE.eq h0 c0)]; decide)) (cell11 (Γ := Γ) (Or.inr (Or.inr ⟨rfl, rfl⟩)) (hE.eq h0 c0) _ _ _)
    refine vx_iastZ hx hb hK.1 hP.1 q0 0 hq0 rfl hi1 dX9_put_7 (fun tx etx => ?_)
    refine y_vmAI hx hst hts hK hZ hP hS (hl.1.trans hml.symm) hlk (by rw [etx]; exact index_text_modelled _ _) (Nat.le_trans (by rw [etx]; exact index_text_bytes _ hln) (by decide)) ⟨(Nat.le_of_ble_eq_true rfl), (Nat.le_of_ble_eq_true rfl), (Nat.le_of_ble_eq_true rfl), (Nat.le_of_ble_eq_true rfl)⟩ (fun H q ce hP hS k1 k2 k3 => ?_)
    exact y_out hown hlk (fun z hz => by rw [htb] at hz; exact nomatch hz) hP hO hD hS k1 k2 k3 ⟨rfl, hwp, hE⟩ (Nat.le_of_ble_eq_true rfl) (Nat.le_of_ble_eq_true rfl)
set_option maxHeartbeats 4000000 in
set_option maxRecDepth 100000 in
theorem xt_In_put {l : Launch} (hst : l.stackTraces = false) {Γ : GA} {δ0 : XSh} {σ : XSt} {K : XSh → XSt → Prop} {X : XSh → XSt → Prop} {i0 : Nat} (h0 : (7, i0) ∈ δ0.1) (c0 : δ0.2.2.1 i0 = 14) {x1 : Int32} {x2 : Int64} (hwp : xw_In_put K X i0 x1 x2 δ0 σ) : yV l yX9_put (ws_ yX9_put cX9_put 4 none) ({ frames := 9, cells := 3, slots := 910, locals := 10300 } : Room) 3 910 Γ δ0 [.ref i0, .int x1, .long x2] σ (fun u => K u.1 u.2 ∧ Ext δ0 u.1) (fun E q u => E = "java/lang/ArrayIndexOutOfBoundsException" ∧ X u.1 u.2 ∧ Ext δ0 u.1) := by
  intro sz
  refine y_of (by decide) [(0, .ref i0), (1, .int x1), (2, .long x2)] (fun _ h => h) (Nat.le_of_ble_eq_true rfl) ?_
  intro p e s m args below meth c hsz Xc
  subst hsz
  exact xk_In_put_e hst Xc h0 c0 δ0 σ Ext.rf hwp
/-! Lo_put -/
def xw_Lo_put (K : XSh → XSt → Prop) (X : XSh → XSt → Prop) (i0 : Nat) (x1 : Int32) (x2 : Int64) (δ : XSh) (σ : XSt) : Prop :=
  ((vp_in x1 (δ.2.2.2 i0)) → (∀ σ2, σ2 = tJ σ 11 i0 x1.toNatClampNeg x2 → (K δ σ2))) ∧ ((¬ vp_in x1 (δ.2.2.2 i0)) → (δ.2.2.2 i0 < 2147483648 ∧ (X δ σ)))
set_option maxHeartbeats 4000000 in
set_option maxRecDepth 100000 in
theorem xk_Lo_put_e {p : Program} {l : Launch} {e : Env} {s : State} {m : MethodId} {args : Array Value} {below : List Frame} {meth : Method} {c : Code} {Γ : GA} {δ0 : XSh} {K : XSh → XSt → Prop} {X : XSh → XSt → Prop} {i0 : Nat} (hst : l.stackTraces = false) (Xc : CY p s m args meth c cX10_put 4 none RX10 Γ δ0 (tableOf [])) (h0 : (7, i0) ∈ δ0.1) (c0 : δ0.2.2.1 i0 = 15) {x1 : Int32} {x2 : Int64} : ∀ (δ : XSh) (σ : XSt), Ext δ0 δ → xw_Lo_put K X i0 x1 x2 δ σ → TX p l e ({ frames := 9, cells := 3, slots := 910, locals := 10300 } : Room) s m args below meth c 4 0 0 (VV below (fun u => K u.1 u.2 ∧ Ext δ0 u.1) (fun E q u => E = "java/lang/ArrayIndexOutOfBoundsException" ∧ X u.1 u.2 ∧ Ext δ0 u.1) 3 910 Γ δ0 s args) Γ δ0 δ σ 0 [(0, .ref i0), (1, .int x1), (2, .long x2)] [] := by
  obtain ⟨⟨hx, hb, hml, hown, hts, hK, hr, hlk⟩, hZ, htb⟩ := id Xc
  have hA : ∀ q, s.heap.size ≤ q → AX δ0 s.heap.size q := fun q h => Or.inr h
  intro δ σ hE hwp H locs ls hP hO hD hS hl
  unfold xw_Lo_put at hwp
  refine lv_aload_n hx hb dX10_put_0 rfl (lv_at hl 0 rfl) ?_
  refine x_get hx hb hts hown hK hP 7 i0 (hE.m h0) (by simp only [cellX]; rw [if_neg (by rw [(hE.eq h0 c0)]; decide), (hE.eq h0 c0)]) rfl in_X10 0 (by decide) q392 rfl (v := .ref (δ.2.1 11 i0)) rfl dX10_put_1 ?_
  refine lv_iload_n hx hb dX10_put_4 rfl (lv_at hl 1 rfl) ?_
  refine lv_lload_n hx hb dX10_put_5 rfl (lv_at hl 2 rfl) ?_
  by_cases hi1 : vp_in x1 (δ.2.2.2 i0)
  · replace hwp := hwp.1 hi1
    refine x_rlast hx hb hK hD hP hS i0 ((hO.2.1 _ (hE.m h0)).2.2 (by rw [(hE.eq h0 c0)]; decide)) (hE.eq h0 c0) hi1 dX10_put_6 (fun H locs hP hS => ?_)
    obtain ⟨σ2, eσ2⟩ : ∃ z, z = tJ σ 11 i0 x1.toNatClampNeg x2 := ⟨_, rfl⟩
    replace hP : XH Γ δ σ2 H := by rw [eσ2]; exact hP
    replace hwp := hwp σ2 eσ2
    refine W.widen (k := 3) (n := 910) (Nat.le_of_ble_eq_true rfl) (Nat.le_of_ble_eq_true rfl) ?_
    refine vx_ret ?_
    exact x_vret hx hb hr hlk hP hO hD hS ⟨hwp, hE⟩ dX10_put_7
  · replace hwp := hwp.2 hi1
    obtain ⟨hln, hwp⟩ := hwp
    obtain ⟨q0, _, hq0⟩ := x_at (Γ := Γ) (σ := σ) ((hO.2.1 _ (hE.m h0)).2.2 (by rw [(hE.eq h0 c0)]; decide)) (cell11l (Γ := Γ) (hE.eq h0 c0) _ _ _)
    refine vx_lastZ hx hb hK.1 hP.1 q0 1 hq0 rfl hi1 dX10_put_6 (fun tx etx => ?_)
    refine y_vmAI hx hst hts hK hZ hP hS (hl.1.trans hml.symm) hlk (by rw [etx]; exact index_text_modelled _ _) (Nat.le_trans (by rw [etx]; exact index_text_bytes _ hln) (by decide)) ⟨(Nat.le_of_ble_eq_true rfl), (Nat.le_of_ble_eq_true rfl), (Nat.le_of_ble_eq_true rfl), (Nat.le_of_ble_eq_true rfl)⟩ (fun H q ce hP hS k1 k2 k3 => ?_)
    exact y_out hown hlk (fun z hz => by rw [htb] at hz; exact nomatch hz) hP hO hD hS k1 k2 k3 ⟨rfl, hwp, hE⟩ (Nat.le_of_ble_eq_true rfl) (Nat.le_of_ble_eq_true rfl)
set_option maxHeartbeats 4000000 in
set_option maxRecDepth 100000 in
theorem xt_Lo_put {l : Launch} (hst : l.stackTraces = false) {Γ : GA} {δ0 : XSh} {σ : XSt} {K : XSh → XSt → Prop} {X : XSh → XSt → Prop} {i0 : Nat} (h0 : (7, i0) ∈ δ0.1) (c0 : δ0.2.2.1 i0 = 15) {x1 : Int32} {x2 : Int64} (hwp : xw_Lo_put K X i0 x1 x2 δ0 σ) : yV l yX10_put (ws_ yX10_put cX10_put 4 none) ({ frames := 9, cells := 3, slots := 910, locals := 10300 } : Room) 3 910 Γ δ0 [.ref i0, .int x1, .long x2] σ (fun u => K u.1 u.2 ∧ Ext δ0 u.1) (fun E q u => E = "java/lang/ArrayIndexOutOfBoundsException" ∧ X u.1 u.2 ∧ Ext δ0 u.1) := by
  intro sz
  refine y_of (by decide) [(0, .ref i0), (1, .int x1), (2, .long x2)] (fun _ h => h) (Nat.le_of_ble_eq_true rfl) ?_
  intro p e s m args below meth c hsz Xc
  subst hsz
  exact xk_Lo_put_e hst Xc h0 c0 δ0 σ Ext.rf hwp
/-! rx:put -/
def xv_R_put (K : XSh → XSt → Prop) (X : XSh → XSt → Prop) (i0 : Nat) (x1 : Int32) (x2 : Int64) (δ : XSh) (σ : XSt) : Prop :=
  (δ.2.2.1 i0 = 12 → xw_By_put K X i0 x1 x2 δ σ) ∧ (δ.2.2.1 i0 = 13 → xw_So_put K X i0 x1 x2 δ σ) ∧ (δ.2.2.1 i0 = 14 → xw_In_put K X i0 x1 x2 δ σ) ∧ (δ.2.2.1 i0 = 15 → xw_Lo_put K X i0 x1 x2 δ σ)
set_option maxHeartbeats 4000000 in
set_option maxRecDepth 100000 in
theorem xr_R_put {p : Program} {l : Launch} (hst0 : l.stackTraces = false) {e : Env} {R : Room} {s : State} {m : MethodId} {args : Array Value} {below : List Frame} {meth : Method} {c : Code} {H : Heap} {locs : List Loc} {cells slots : Nat} {cc : ByteArray} {pc nL index : Nat} {ls : Array Slot} {As rest st : List Value} {Γ : GA} {δ : XSh} {σ : XSt} {A : Nat → Prop} {own : String} {i0 : Nat} {K : XSh → XSt → Prop} {X : XSh → XSt → Prop} {x1 : Int32} {x2 : Int64} (S : CallFix p m c cc nL s args lw_all own) (hK : KX Γ s) (hD : gD δ.1 (adX δ) A) (hA : ∀ q, s.heap.size ≤ q → A q) (hZ : ZS Γ A s s.heap) (hO : XO δ) (hP : XH Γ δ σ H) (hS : va_S A s.heap H locs) (h0 : (7, i0) ∈ δ.1) (c0 : 12 ≤ δ.2.2.1 i0) (hwp : xv_R_put K X i0 x1 x2 δ σ) (hlk : Cond.methodLink own index ⟨"SeenByOne$Row", "put", "(IJ)V"⟩ ∈ lw_all) (hR : 10 ≤ R.frames ∧ 10323 ≤ R.locals) (hAs : As = [.int x1, .long x2]) (hsize : ls.size = nL) (hst : st = As.reverse ++ .ref i0 :: rest) (hW : (rest.map fun v => v.category).sum ≤ 8) (hd : decode cc pc = .ok (.invokevirtual index, 3)) (hf : cells + 3 ≤ R.cells ∧ slots + 910 ≤ R.slots) : vx_Run p l e R s m args below meth c H locs cells slots 3 910 (F0 m pc ls st) rest (va_Qv (fun u => K u.1 u.2 ∧ Ext δ u.1) (xB Γ δ H.size) (AX δ H.size) (.ref i0 :: As).toArray) (yX Γ δ H.size (fun E q u => E = "java/lang/ArrayIndexOutOfBoundsException" ∧ X u.1 u.2 ∧ Ext δ u.1)) (AX δ H.size) := by
  subst hAs
  rcases rw_cases hO h0 c0 with e | e | e | e
  · exact vx_runU (C := RX7) (owner := "SeenByOne$Row") (As := [.int x1, .long x2]) (rest := rest) S (xt_By_put hst0 h0 e (hwp.1 e) H.size) (va_cwA 2 S.2.2.2.2 (lw_U hlk q429 q430 q431 q89 q432) rfl rfl rfl (hK.2.1 (.declares ⟨RX6, "put", "(IJ)V"⟩) (by simp [nwL])) (by decide +kernel) ⟨Nat.le_trans (Nat.le_of_ble_eq_true rfl) hR.1, Nat.le_trans (Nat.le_of_ble_eq_true rfl) hR.2⟩) (y_preV (avs := [.int x1, .long x2]) hK hO hD hA hZ hP hS 7 i0 h0 (cellR c0) (by rw [e]; rfl)) rfl rfl hsize hst (lv_room hW) hd hf
  · exact vx_runU (C := RX8) (owner := "SeenByOne$Row") (As := [.int x1, .long x2]) (rest := rest) S (xt_So_put hst0 h0 e (hwp.2.1 e) H.size) (va_cwA 2 S.2.2.2.2 (lw_U hlk q429 q439 q440 q90 q441) rfl rfl rfl (hK.2.1 (.declares ⟨RX6, "put", "(IJ)V"⟩) (by simp [nwL])) (by decide +kernel) ⟨Nat.le_trans (Nat.le_of_ble_eq_true rfl) hR.1, Nat.le_trans (Nat.le_of_ble_eq_true rfl) hR.2⟩) (y_preV (avs := [.int x1, .long x2]) hK hO hD hA hZ hP hS 7 i0 h0 (cellR c0) (by rw [e]; rfl)) rfl rfl hsize hst (lv_room hW) hd hf
  · exact vx_runU (C := RX9) (owner := "SeenByOne$Row") (As := [.int x1, .long x2]) (rest := rest) S (xt_In_put hst0 h0 e (hwp.2.2.1 e) H.size) (va_cwA 2 S.2.2.2.2 (lw_U hlk q429 q433 q434 q91 q435) rfl rfl rfl (hK.2.1 (.declares ⟨RX6, "put", "(IJ)V"⟩) (by simp [nwL])) (by decide +kernel) ⟨Nat.le_trans (Nat.le_of_ble_eq_true rfl) hR.1, Nat.le_trans (Nat.le_of_ble_eq_true rfl) hR.2⟩) (y_preV (avs := [.int x1, .long x2]) hK hO hD hA hZ hP hS 7 i0 h0 (cellR c0) (by rw [e]; rfl)) rfl rfl hsize hst (lv_room hW) hd hf
  · exact vx_runU (C := RX10) (owner := "SeenByOne$Row") (As := [.int x1, .long x2]) (rest := rest) S (xt_Lo_put hst0 h0 e (hwp.2.2.2 e) H.size) (va_cwA 2 S.2.2.2.2 (lw_U hlk q429 q436 q437 q92 q438) rfl rfl rfl (hK.2.1 (.declares ⟨RX6, "put", "(IJ)V"⟩) (by simp [nwL])) (by decide +kernel) ⟨Nat.le_trans (Nat.le_of_ble_eq_true rfl) hR.1, Nat.le_trans (Nat.le_of_ble_eq_true rfl) hR.2⟩) (y_preV (avs := [.int x1, .long x2]) hK hO hD hA hZ hP hS 7 i0 h0 (cellR c0) (by rw [e]; rfl)) rfl rfl hsize hst (lv_room hW) hd hf
/-! By_getX -/
def xw_By_getX (K : Int64 → XSh → XSt → Prop) (X : XSh → XSt → Prop) (i0 : Nat) (x1 : Int32) (δ : XSh) (σ : XSt) : Prop :=
  ((vp_in x1 (δ.2.2.2 i0)) → (K ((σ.1 11 i0 x1.toNatClampNeg).toInt64) δ σ)) ∧ ((¬ vp_in x1 (δ.2.2.2 i0)) → (δ.2.2.2 i0 < 2147483648 ∧ (X δ σ)))
set_option maxHeartbeats 4000000 in
set_option maxRecDepth 100000 in
theorem xk_By_getX_e {p : Program} {l : Launch} {e : Env} {s : State} {m : MethodId} {args : Array Value} {below : List Frame} {meth : Method} {c : Code} {Γ : GA} {δ0 : XSh} {K : Int64 → XSh → XSt → Prop} {X : XSh → XSt → Prop} {i0 : Nat} (hst : l.stackTraces = false) (Xc : CY p s m args meth c cX7_get 2 (some .long) RX7 Γ δ0 (tableOf [])) (h0 : (7, i0) ∈ δ0.1) (c0 : δ0.2.2.1 i0 = 12) {x1 : Int32} : ∀ (δ : XSh) (σ : XSt), Ext δ0 δ → xw_By_getX K X i0 x1 δ σ → TX p l e ({ frames := 9, cells := 3, slots := 910, locals := 10300 } : Room) s m args below meth c 2 0 0 (VL below (fun r u => K r u.1 u.2 ∧ Ext δ0 u.1) (fun E q u => E = "java/lang/ArrayIndexOutOfBoundsException" ∧ X u.1 u.2 ∧ Ext δ0 u.1) 3 910 Γ δ0 s args) Γ δ0 δ σ 0 [(0, .ref i0), (1, .int x1)] [] := by
  obtain ⟨⟨hx, hb, hml, hown, hts, hK, hr, hlk⟩, hZ, htb⟩ := id Xc
  have hA : ∀ q, s.heap.size ≤ q → AX δ0 s.heap.size q := fun q h => Or.inr h
  intro δ σ hE hwp H locs ls hP hO hD hS hl
  unfold xw_By_getX at hwp
  refine lv_aload_n hx hb dX7_get_0 rfl (lv_at hl 0 rfl) ?_
  refine x_get hx hb hts hown hK hP 7 i0 (hE.m h0) (by simp only [cellX]; rw [if_neg (by rw [(hE.eq h0 c0)]; decide), (hE.eq h0 c0)]) rfl in_X7 0 (by decide) q361 rfl (v := .ref (δ.2.1 11 i0)) rfl dX7_get_1 ?_
  refine lv_iload_n hx hb dX7_get_4 rfl (lv_at hl 1 rfl) ?_
  by_cases hi1 : vp_in x1 (δ.2.2.2 i0)
  · replace hwp := hwp.1 hi1
    refine x_rald hx hb hK hP i0 12 2 ((hO.2.1 _ (hE.m h0)).2.2 (by rw [(hE.eq h0 c0)]; decide)) (Or.inl ⟨rfl, rfl⟩) (hE.eq h0 c0) hi1 dX7_get_5 ?_
    refine lv_i2l (v := (σ.1 11 i0 x1.toNatClampNeg).toInt64) hx hb dX7_get_6 rfl ?_
    refine W.widen (k := 3) (n := 910) (Nat.le_of_ble_eq_true rfl) (Nat.le_of_ble_eq_true rfl) ?_
    refine vx_ret ?_
    exact x_lret hx hb hr hlk hP hO hD hS ⟨hwp, hE⟩ dX7_get_7
  · replace hwp := hwp.2 hi1
    obtain ⟨hln, hwp⟩ := hwp
    obtain ⟨q0, _, hq0⟩ := x_at (Γ := Γ) (σ := σ) ((hO.2.1 _ (hE.m h0)).2.2 (by rw [(hE.eq h0 c0)]; decide)) (cell11 (Γ := Γ) (Or.inl ⟨rfl, rfl⟩) (hE.eq h0 c0) _ _ _)
    refine vx_baldZ hx hb hK.1 hP.1 q0 2 hq0 rfl hi1 dX7_get_5 (fun tx etx => ?_)
    refine y_vmAI hx hst hts hK hZ hP hS (hl.1.trans hml.symm) hlk (by rw [etx]; exact index_text_modelled _ _) (Nat.le_trans (by rw [etx]; exact index_text_bytes _ hln) (by decide)) ⟨(Nat.le_of_ble_eq_true rfl), (Nat.le_of_ble_eq_true rfl), (Nat.le_of_ble_eq_true rfl), (Nat.le_of_ble_eq_true rfl)⟩ (fun H q ce hP hS k1 k2 k3 => ?_)
    exact y_out hown hlk (fun z hz => by rw [htb] at hz; exact nomatch hz) hP hO hD hS k1 k2 k3 ⟨rfl, hwp, hE⟩ (Nat.le_of_ble_eq_true rfl) (Nat.le_of_ble_eq_true rfl)
set_option maxHeartbeats 4000000 in
set_option maxRecDepth 100000 in
theorem xt_By_getX {l : Launch} (hst : l.stackTraces = false) {Γ : GA} {δ0 : XSh} {σ : XSt} {K : Int64 → XSh → XSt → Prop} {X : XSh → XSt → Prop} {i0 : Nat} (h0 : (7, i0) ∈ δ0.1) (c0 : δ0.2.2.1 i0 = 12) {x1 : Int32} (hwp : xw_By_getX K X i0 x1 δ0 σ) : yL l yX7_get (ws_ yX7_get cX7_get 2 (some .long)) ({ frames := 9, cells := 3, slots := 910, locals := 10300 } : Room) 3 910 Γ δ0 [.ref i0, .int x1] σ (fun r u => K r u.1 u.2 ∧ Ext δ0 u.1) (fun E q u => E = "java/lang/ArrayIndexOutOfBoundsException" ∧ X u.1 u.2 ∧ Ext δ0 u.1) := by
  intro sz
  refine y_of (by decide) [(0, .ref i0), (1, .int x1)] (fun _ h => h) (Nat.le_of_ble_eq_true rfl) ?_
  intro p e s m args below meth c hsz Xc
  subst hsz
  exact xk_By_getX_e hst Xc h0 c0 δ0 σ Ext.rf hwp
/-! So_getX -/
def xw_So_getX (K : Int64 → XSh → XSt → Prop) (X : XSh → XSt → Prop) (i0 : Nat) (x1 : Int32) (δ : XSh) (σ : XSt) : Prop :=
  ((vp_in x1 (δ.2.2.2 i0)) → (K ((σ.1 11 i0 x1.toNatClampNeg).toInt64) δ σ)) ∧ ((¬ vp_in x1 (δ.2.2.2 i0)) → (δ.2.2.2 i0 < 2147483648 ∧ (X δ σ)))
set_option maxHeartbeats 4000000 in
set_option maxRecDepth 100000 in
theorem xk_So_getX_e {p : Program} {l : Launch} {e : Env} {s : State} {m : MethodId} {args : Array Value} {below : List Frame} {meth : Method} {c : Code} {Γ : GA} {δ0 : XSh} {K : Int64 → XSh → XSt → Prop} {X : XSh → XSt → Prop} {i0 : Nat} (hst : l.stackTraces = false) (Xc : CY p s m args meth c cX8_get 2 (some .long) RX8 Γ δ0 (tableOf [])) (h0 : (7, i0) ∈ δ0.1) (c0 : δ0.2.2.1 i0 = 13) {x1 : Int32} : ∀ (δ : XSh) (σ : XSt), Ext δ0 δ → xw_So_getX K X i0 x1 δ σ → TX p l e ({ frames := 9, cells := 3, slots := 910, locals := 10300 } : Room) s m args below meth c 2 0 0 (VL below (fun r u => K r u.1 u.2 ∧ Ext δ0 u.1) (fun E q u => E = "java/lang/ArrayIndexOutOfBoundsException" ∧ X u.1 u.2 ∧ Ext δ0 u.1) 3 910 Γ δ0 s args) Γ δ0 δ σ 0 [(0, .ref i0), (1, .int x1)] [] := by
  obtain ⟨⟨hx, hb, hml, hown, hts, hK, hr, hlk⟩, hZ, htb⟩ := id Xc
  have hA : ∀ q, s.heap.size ≤ q → AX δ0 s.heap.size q := fun q h => Or.inr h
  intro δ σ hE hwp H locs ls hP hO hD hS hl
  unfold xw_So_getX at hwp
  refine lv_aload_n hx hb dX8_get_0 rfl (lv_at hl 0 rfl) ?_
  refine x_get hx hb hts hown hK hP 7 i0 (hE.m h0) (by simp only [cellX]; rw [if_neg (by rw [(hE.eq h0 c0)]; decide), (hE.eq h0 c0)]) rfl in_X8 0 (by decide) q371 rfl (v := .ref (δ.2.1 11 i0)) rfl dX8_get_1 ?_
  refine lv_iload_n hx hb dX8_get_4 rfl (lv_at hl 1 rfl) ?_
  by_cases hi1 : vp_in x1 (δ.2.2.2 i0)
  · replace hwp := hwp.1 hi1
    refine x_rald hx hb hK hP i0 13 3 ((hO.2.1 _ (hE.m h0)).2.2 (by rw [(hE.eq h0 c0)]; decide)) (Or.inr (Or.inl ⟨rfl, rfl⟩)) (hE.eq h0 c0) hi1 dX8_get_5 ?_
    refine lv_i2l (v := (σ.1 11 i0 x1.toNatClampNeg).toInt64) hx hb dX8_get_6 rfl ?_
    refine W.widen (k := 3) (n := 910) (Nat.le_of_ble_eq_true rfl) (Nat.le_of_ble_eq_true rfl) ?_
    refine vx_ret ?_
    exact x_lret hx hb hr hlk hP hO hD hS ⟨hwp, hE⟩ dX8_get_7
  · replace hwp := hwp.2 hi1
    obtain ⟨hln, hwp⟩ := hwp
    obtain ⟨q0, _, hq0⟩ := x_at (Γ := Γ) (σ := σ) ((hO.2.1 _ (hE.m h0)).2.2 (by rw [(hE.eq h0 c0)]; decide)) (cell11 (Γ := Γ) (Or.inr (Or.inl ⟨rfl, rfl⟩)) (hE.eq h0 c0) _ _ _)
    refine vx_saldZ hx hb hK.1 hP.1 q0 3 hq0 rfl hi1 dX8_get_5 (fun tx etx => ?_)
    refine y_vmAI hx hst hts hK hZ hP hS (hl.1.trans hml.symm) hlk (by rw [etx]; exact index_text_modelled _ _) (Nat.le_trans (by rw [etx]; exact index_text_bytes _ hln) (by decide)) ⟨(Nat.le_of_ble_eq_true rfl), (Nat.le_of_ble_eq_true rfl), (Nat.le_of_ble_eq_true rfl), (Nat.le_of_ble_eq_true rfl)⟩ (fun H q ce hP hS k1 k2 k3 => ?_)
    exact y_out hown hlk (fun z hz => by rw [htb] at hz; exact nomatch hz) hP hO hD hS k1 k2 k3 ⟨rfl, hwp, hE⟩ (Nat.le_of_ble_eq_true rfl) (Nat.le_of_ble_eq_true rfl)
set_option maxHeartbeats 4000000 in
set_option maxRecDepth 100000 in
theorem xt_So_getX {l : Launch} (hst : l.stackTraces = false) {Γ : GA} {δ0 : XSh} {σ : XSt} {K : Int64 → XSh → XSt → Prop} {X : XSh → XSt → Prop} {i0 : Nat} (h0 : (7, i0) ∈ δ0.1) (c0 : δ0.2.2.1 i0 = 13) {x1 : Int32} (hwp : xw_So_getX K X i0 x1 δ0 σ) : yL l yX8_get (ws_ yX8_get cX8_get 2 (some .long)) ({ frames := 9, cells := 3, slots := 910, locals := 10300 } : Room) 3 910 Γ δ0 [.ref i0, .int x1] σ (fun r u => K r u.1 u.2 ∧ Ext δ0 u.1) (fun E q u => E = "java/lang/ArrayIndexOutOfBoundsException" ∧ X u.1 u.2 ∧ Ext δ0 u.1) := by
  intro sz
  refine y_of (by decide) [(0, .ref i0), (1, .int x1)] (fun _ h => h) (Nat.le_of_ble_eq_true rfl) ?_
  intro p e s m args below meth c hsz Xc
  subst hsz
  exact xk_So_getX_e hst Xc h0 c0 δ0 σ Ext.rf hwp
/-! In_getX -/
def xw_In_getX (K : Int64 → XSh → XSt → Prop) (X : XSh → XSt → Prop) (i0 : Nat) (x1 : Int32) (δ : XSh) (σ : XSt) : Prop :=
  ((vp_in x1 (δ.2.2.2 i0)) → (K ((σ.1 11 i0 x1.toNatClampNeg).toInt64) δ σ)) ∧ ((¬ vp_in x1 (δ.2.2.2 i0)) → (δ.2.2.2 i0 < 2147483648 ∧ (X δ σ)))
set_option maxHeartbeats 4000000 in
set_option maxRecDepth 100000 in
theorem xk_In_getX_e {p : Program} {l : Launch} {e : Env} {s : State} {m : MethodId} {args : Array Value} {below : List Frame} {meth : Method} {c : Code} {Γ : GA} {δ0 : XSh} {K : Int64 → XSh → XSt → Prop} {X : XSh → XSt → Prop} {i0 : Nat} (hst : l.stackTraces = false) (Xc : CY p s m args meth c cX9_get 2 (some .long) RX9 Γ δ0 (tableOf [])) (h0 : (7, i0) ∈ δ0.1) (c0 : δ0.2.2.1 i0 = 14) {x1 : Int32} : ∀ (δ : XSh) (σ : XSt), Ext δ0 δ → xw_In_getX K X i0 x1 δ σ → TX p l e ({ frames := 9, cells := 3, slots := 910, locals := 10300 } : Room) s m args below meth c 2 0 0 (VL below (fun r u => K r u.1 u.2 ∧ Ext δ0 u.1) (fun E q u => E = "java/lang/ArrayIndexOutOfBoundsException" ∧ X u.1 u.2 ∧ Ext δ0 u.1) 3 910 Γ δ0 s args) Γ δ0 δ σ 0 [(0, .ref i0), (1, .int x1)] [] := by
  obtain ⟨⟨hx, hb, hml, hown, hts, hK, hr, hlk⟩, hZ, htb⟩ := id Xc
  have hA : ∀ q, s.heap.size ≤ q → AX δ0 s.heap.size q := fun q h => Or.inr h
  intro δ σ hE hwp H locs ls hP hO hD hS hl
  unfold xw_In_getX at hwp
  refine lv_aload_n hx hb dX9_get_0 rfl (lv_at hl 0 rfl) ?_
  refine x_get hx hb hts hown hK hP 7 i0 (hE.m h0) (by simp only [cellX]; rw [if_neg (by rw [(hE.eq h0 c0)]; decide), (hE.eq h0 c0)]) rfl in_X9 0 (by decide) q382 rfl (v := .ref (δ.2.1 11 i0)) rfl dX9_get_1 ?_
  refine lv_iload_n hx hb dX9_get_4 rfl (lv_at hl 1 rfl) ?_
  by_cases hi1 : vp_in x1 (δ.2.2.2 i0)
  · replace hwp := hwp.1 hi1
    refine x_rald hx hb hK hP i0 14 0 ((hO.2.1 _ (hE.m h0)).2.2 (by rw [(hE.eq h0 c0)]; decide)) (Or.inr (Or.inr ⟨rfl, rfl⟩)) (hE.eq h0 c0) hi1 dX9_get_5 ?_
    refine lv_i2l (v := (σ.1 11 i0 x1.toNatClampNeg).toInt64) hx hb dX9_get_6 rfl ?_
    refine W.widen (k := 3) (n := 910) (Nat.le_of_ble_eq_true rfl) (Nat.le_of_ble_eq_true rfl) ?_
    refine vx_ret ?_
    exact x_lret hx hb hr hlk hP hO hD hS ⟨hwp, hE⟩ dX9_get_7
  · replace hwp := hwp.2 hi1
    obtain ⟨hln, hwp⟩ := hwp
    obtain ⟨q0, _, hq0⟩ := x_at (Γ := Γ) (σ := σ) ((hO.2.1 _ (hE.m h0)).2.2 (by rw [(hE.eq h0 c0)]; decide)) (cell11 (Γ := Γ) (Or.inr (Or.inr ⟨rfl, rfl⟩)) (hE.eq h0 c0) _ _ _)
    refine vx_ialdZ hx hb hK.1 hP.1 q0 0 hq0 rfl hi1 dX9_get_5 (fun tx etx => ?_)
    refine y_vmAI hx hst hts hK hZ hP hS (hl.1.trans hml.symm) hlk (by rw [etx]; exact index_text_modelled _ _) (Nat.le_trans (by rw [etx]; exact index_text_bytes _ hln) (by decide)) ⟨(Nat.le_of_ble_eq_true rfl), (Nat.le_of_ble_eq_true rfl), (Nat.le_of_ble_eq_true rfl), (Nat.le_of_ble_eq_true rfl)⟩ (fun H q ce hP hS k1 k2 k3 => ?_)
    exact y_out hown hlk (fun z hz => by rw [htb] at hz; exact nomatch hz) hP hO hD hS k1 k2 k3 ⟨rfl, hwp, hE⟩ (Nat.le_of_ble_eq_true rfl) (Nat.le_of_ble_eq_true rfl)
set_option maxHeartbeats 4000000 in
set_option maxRecDepth 100000 in
theorem xt_In_getX {l : Launch} (hst : l.stackTraces = false) {Γ : GA} {δ0 : XSh} {σ : XSt} {K : Int64 → XSh → XSt → Prop} {X : XSh → XSt → Prop} {i0 : Nat} (h0 : (7, i0) ∈ δ0.1) (c0 : δ0.2.2.1 i0 = 14) {x1 : Int32} (hwp : xw_In_getX K X i0 x1 δ0 σ) : yL l yX9_get (ws_ yX9_get cX9_get 2 (some .long)) ({ frames := 9, cells := 3, slots := 910, locals := 10300 } : Room) 3 910 Γ δ0 [.ref i0, .int x1] σ (fun r u => K r u.1 u.2 ∧ Ext δ0 u.1) (fun E q u => E = "java/lang/ArrayIndexOutOfBoundsException" ∧ X u.1 u.2 ∧ Ext δ0 u.1) := by
  intro sz
  refine y_of (by decide) [(0, .ref i0), (1, .int x1)] (fun _ h => h) (Nat.le_of_ble_eq_true rfl) ?_
  intro p e s m args below meth c hsz Xc
  subst hsz
  exact xk_In_getX_e hst Xc h0 c0 δ0 σ Ext.rf hwp
/-! Lo_getX -/
def xw_Lo_getX (K : Int64 → XSh → XSt → Prop) (X : XSh → XSt → Prop) (i0 : Nat) (x1 : Int32) (δ : XSh) (σ : XSt) : Prop :=
  ((vp_in x1 (δ.2.2.2 i0)) → (K (σ.2.1 11 i0 x1.toNatClampNeg) δ σ)) ∧ ((¬ vp_in x1 (δ.2.2.2 i0)) → (δ.2.2.2 i0 < 2147483648 ∧ (X δ σ)))
set_option maxHeartbeats 4000000 in
set_option maxRecDepth 100000 in
theorem xk_Lo_getX_e {p : Program} {l : Launch} {e : Env} {s : State} {m : MethodId} {args : Array Value} {below : List Frame} {meth : Method} {c : Code} {Γ : GA} {δ0 : XSh} {K : Int64 → XSh → XSt → Prop} {X : XSh → XSt → Prop} {i0 : Nat} (hst : l.stackTraces = false) (Xc : CY p s m args meth c cX10_get 2 (some .long) RX10 Γ δ0 (tableOf [])) (h0 : (7, i0) ∈ δ0.1) (c0 : δ0.2.2.1 i0 = 15) {x1 : Int32} : ∀ (δ : XSh) (σ : XSt), Ext δ0 δ → xw_Lo_getX K X i0 x1 δ σ → TX p l e ({ frames := 9, cells := 3, slots := 910, locals := 10300 } : Room) s m args below meth c 2 0 0 (VL below (fun r u => K r u.1 u.2 ∧ Ext δ0 u.1) (fun E q u => E = "java/lang/ArrayIndexOutOfBoundsException" ∧ X u.1 u.2 ∧ Ext δ0 u.1) 3 910 Γ δ0 s args) Γ δ0 δ σ 0 [(0, .ref i0), (1, .int x1)] [] := by
  obtain ⟨⟨hx, hb, hml, hown, hts, hK, hr, hlk⟩, hZ, htb⟩ := id Xc
  have hA : ∀ q, s.heap.size ≤ q → AX δ0 s.heap.size q := fun q h => Or.inr h
  intro δ σ hE hwp H locs ls hP hO hD hS hl
  unfold xw_Lo_getX at hwp
  refine lv_aload_n hx hb dX10_get_0 rfl (lv_at hl 0 rfl) ?_
  refine x_get hx hb hts hown hK hP 7 i0 (hE.m h0) (by simp only [cellX]; rw [if_neg (by rw [(hE.eq h0 c0)]; decide), (hE.eq h0 c0)]) rfl in_X10 0 (by decide) q392 rfl (v := .ref (δ.2.1 11 i0)) rfl dX10_get_1 ?_
  refine lv_iload_n hx hb dX10_get_4 rfl (lv_at hl 1 rfl) ?_
  by_cases hi1 : vp_in x1 (δ.2.2.2 i0)
  · replace hwp := hwp.1 hi1
    refine x_rlald hx hb hK hP i0 ((hO.2.1 _ (hE.m h0)).2.2 (by rw [(hE.eq h0 c0)]; decide)) (hE.eq h0 c0) hi1 dX10_get_5 ?_
    refine W.widen (k := 3) (n := 910) (Nat.le_of_ble_eq_true rfl) (Nat.le_of_ble_eq_true rfl) ?_
    refine vx_ret ?_
    exact x_lret hx hb hr hlk hP hO hD hS ⟨hwp, hE⟩ dX10_get_6
  · replace hwp := hwp.2 hi1
    obtain ⟨hln, hwp⟩ := hwp
    obtain ⟨q0, _, hq0⟩ := x_at (Γ := Γ) (σ := σ) ((hO.2.1 _ (hE.m h0)).2.2 (by rw [(hE.eq h0 c0)]; decide)) (cell11l (Γ := Γ) (hE.eq h0 c0) _ _ _)
    refine vx_laldZ hx hb hK.1 hP.1 q0 1 hq0 rfl hi1 dX10_get_5 (fun tx etx => ?_)
    refine y_vmAI hx hst hts hK hZ hP hS (hl.1.trans hml.symm) hlk (by rw [etx]; exact index_text_modelled _ _) (Nat.le_trans (by rw [etx]; exact index_text_bytes _ hln) (by decide)) ⟨(Nat.le_of_ble_eq_true rfl), (Nat.le_of_ble_eq_true rfl), (Nat.le_of_ble_eq_true rfl), (Nat.le_of_ble_eq_true rfl)⟩ (fun H q ce hP hS k1 k2 k3 => ?_)
    exact y_out hown hlk (fun z hz => by rw [htb] at hz; exact nomatch hz) hP hO hD hS k1 k2 k3 ⟨rfl, hwp, hE⟩ (Nat.le_of_ble_eq_true rfl) (Nat.le_of_ble_eq_true rfl)
set_option maxHeartbeats 4000000 in
set_option maxRecDepth 100000 in
theorem xt_Lo_getX {l : Launch} (hst : l.stackTraces = false) {Γ : GA} {δ0 : XSh} {σ : XSt} {K : Int64 → XSh → XSt → Prop} {X : XSh → XSt → Prop} {i0 : Nat} (h0 : (7, i0) ∈ δ0.1) (c0 : δ0.2.2.1 i0 = 15) {x1 : Int32} (hwp : xw_Lo_getX K X i0 x1 δ0 σ) : yL l yX10_get (ws_ yX10_get cX10_get 2 (some .long)) ({ frames := 9, cells := 3, slots := 910, locals := 10300 } : Room) 3 910 Γ δ0 [.ref i0, .int x1] σ (fun r u => K r u.1 u.2 ∧ Ext δ0 u.1) (fun E q u => E = "java/lang/ArrayIndexOutOfBoundsException" ∧ X u.1 u.2 ∧ Ext δ0 u.1) := by
  intro sz
  refine y_of (by decide) [(0, .ref i0), (1, .int x1)] (fun _ h => h) (Nat.le_of_ble_eq_true rfl) ?_
  intro p e s m args below meth c hsz Xc
  subst hsz
  exact xk_Lo_getX_e hst Xc h0 c0 δ0 σ Ext.rf hwp
/-! rx:get -/
def xv_R_getX (K : Int64 → XSh → XSt → Prop) (X : XSh → XSt → Prop) (i0 : Nat) (x1 : Int32) (δ : XSh) (σ : XSt) : Prop :=
  (δ.2.2.1 i0 = 12 → xw_By_getX K X i0 x1 δ σ) ∧ (δ.2.2.1 i0 = 13 → xw_So_getX K X i0 x1 δ σ) ∧ (δ.2.2.1 i0 = 14 → xw_In_getX K X i0 x1 δ σ) ∧ (δ.2.2.1 i0 = 15 → xw_Lo_getX K X i0 x1 δ σ)
set_option maxHeartbeats 4000000 in
set_option maxRecDepth 100000 in
theorem xr_R_getX {p : Program} {l : Launch} (hst0 : l.stackTraces = false) {e : Env} {R : Room} {s : State} {m : MethodId} {args : Array Value} {below : List Frame} {meth : Method} {c : Code} {H : Heap} {locs : List Loc} {cells slots : Nat} {cc : ByteArray} {pc nL index : Nat} {ls : Array Slot} {As rest st : List Value} {Γ : GA} {δ : XSh} {σ : XSt} {A : Nat → Prop} {own : String} {i0 : Nat} {K : Int64 → XSh → XSt → Prop} {X : XSh → XSt → Prop} {x1 : Int32} (S : CallFix p m c cc nL s args lw_all own) (hK : KX Γ s) (hD : gD δ.1 (adX δ) A) (hA : ∀ q, s.heap.size ≤ q → A q) (hZ : ZS Γ A s s.heap) (hO : XO δ) (hP : XH Γ δ σ H) (hS : va_S A s.heap H locs) (h0 : (7, i0) ∈ δ.1) (c0 : 12 ≤ δ.2.2.1 i0) (hwp : xv_R_getX K X i0 x1 δ σ) (hlk : Cond.methodLink own index ⟨"SeenByOne$Row", "get", "(I)J"⟩ ∈ lw_all) (hR : 10 ≤ R.frames ∧ 10321 ≤ R.locals) (hAs : As = [.int x1]) (hsize : ls.size = nL) (hst : st = As.reverse ++ .ref i0 :: rest) (hW : (rest.map fun v => v.category).sum ≤ 8) (hd : decode cc pc = .ok (.invokevirtual index, 3)) (hf : cells + 3 ≤ R.cells ∧ slots + 910 ≤ R.slots) : vx_Run p l e R s m args below meth c H locs cells slots 3 910 (F0 m pc ls st) rest (va_Ql (fun r u => K r u.1 u.2 ∧ Ext δ u.1) (xB Γ δ H.size) (AX δ H.size) (.ref i0 :: As).toArray) (yX Γ δ H.size (fun E q u => E = "java/lang/ArrayIndexOutOfBoundsException" ∧ X u.1 u.2 ∧ Ext δ u.1)) (AX δ H.size) := by
  subst hAs
  rcases rw_cases hO h0 c0 with e | e | e | e
  · exact vx_runU (C := RX7) (owner := "SeenByOne$Row") (As := [.int x1]) (rest := rest) S (xt_By_getX hst0 h0 e (hwp.1 e) H.size) (va_cwA 1 S.2.2.2.2 (lw_U hlk q491 q492 q493 q89 q494) rfl rfl rfl (hK.2.1 (.declares ⟨RX6, "get", "(I)J"⟩) (by simp [nwL])) (by decide +kernel) ⟨Nat.le_trans (Nat.le_of_ble_eq_true rfl) hR.1, Nat.le_trans (Nat.le_of_ble_eq_true rfl) hR.2⟩) (y_preV (avs := [.int x1]) hK hO hD hA hZ hP hS 7 i0 h0 (cellR c0) (by rw [e]; rfl)) rfl rfl hsize hst (lv_room hW) hd hf
  · exact vx_runU (C := RX8) (owner := "SeenByOne$Row") (As := [.int x1]) (rest := rest) S (xt_So_getX hst0 h0 e (hwp.2.1 e) H.size) (va_cwA 1 S.2.2.2.2 (lw_U hlk q491 q501 q502 q90 q503) rfl rfl rfl (hK.2.1 (.declares ⟨RX6, "get", "(I)J"⟩) (by simp [nwL])) (by decide +kernel) ⟨Nat.le_trans (Nat.le_of_ble_eq_true rfl) hR.1, Nat.le_trans (Nat.le_of_ble_eq_true rfl) hR.2⟩) (y_preV (avs := [.int x1]) hK hO hD hA hZ hP hS 7 i0 h0 (cellR c0) (by rw [e]; rfl)) rfl rfl hsize hst (lv_room hW) hd hf
  · exact vx_runU (C := RX9) (owner := "SeenByOne$Row") (As := [.int x1]) (rest := rest) S (xt_In_getX hst0 h0 e (hwp.2.2.1 e) H.size) (va_cwA 1 S.2.2.2.2 (lw_U hlk q491 q495 q496 q91 q497) rfl rfl rfl (hK.2.1 (.declares ⟨RX6, "get", "(I)J"⟩) (by simp [nwL])) (by decide +kernel) ⟨Nat.le_trans (Nat.le_of_ble_eq_true rfl) hR.1, Nat.le_trans (Nat.le_of_ble_eq_true rfl) hR.2⟩) (y_preV (avs := [.int x1]) hK hO hD hA hZ hP hS 7 i0 h0 (cellR c0) (by rw [e]; rfl)) rfl rfl hsize hst (lv_room hW) hd hf
  · exact vx_runU (C := RX10) (owner := "SeenByOne$Row") (As := [.int x1]) (rest := rest) S (xt_Lo_getX hst0 h0 e (hwp.2.2.2 e) H.size) (va_cwA 1 S.2.2.2.2 (lw_U hlk q491 q498 q499 q92 q500) rfl rfl rfl (hK.2.1 (.declares ⟨RX6, "get", "(I)J"⟩) (by simp [nwL])) (by decide +kernel) ⟨Nat.le_trans (Nat.le_of_ble_eq_true rfl) hR.1, Nat.le_trans (Nat.le_of_ble_eq_true rfl) hR.2⟩) (y_preV (avs := [.int x1]) hK hO hD hA hZ hP hS 7 i0 h0 (cellR c0) (by rw [e]; rfl)) rfl rfl hsize hst (lv_room hW) hd hf
