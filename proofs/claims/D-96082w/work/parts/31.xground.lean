/-! G_isThing -/
def xw_G_isThing (δ : XSh) (σ : XSt) (K : Int32 → Prop) (i0 : Nat) (x1 : Int32) : Prop :=
  xw_S_in δ σ (fun r1 => (r1 = 0 ∨ r1 = 1) ∧ K r1) x1.toInt64 0 (((σ.1 6 i0 0) - 1).toInt64)
set_option maxHeartbeats 4000000 in
set_option maxRecDepth 100000 in
theorem xt_G_isThing {l : Launch} {Γ : GA} {δ : XSh} {σ : XSt} {K : Int32 → Prop} {i0 : Nat} (h0 : (6, i0) ∈ δ.1) {x1 : Int32} (hwp : xw_G_isThing δ σ K i0 x1) : xI l yX2_isThing cX2_isThing 2 (some .boolean) ({ frames := 1, cells := 0, slots := 0, locals := 25 } : Room) 0 0 Γ δ [.ref i0, .int x1] σ (fun r u => K r ∧ u = (δ, σ)) := by
  intro sz
  refine x_of (by decide) [(0, .ref i0), (1, .int x1)] (fun _ h => h) (Nat.le_of_ble_eq_true rfl) ?_
  intro p e s m args below meth c hsz X H locs ls hP hO hD hS hl
  subst hsz
  obtain ⟨hx, hb, hml, hown, hts, hK, hr, hlk⟩ := id X
  have hA : ∀ q, s.heap.size ≤ q → AX δ s.heap.size q := fun q h => Or.inr h
  unfold xw_G_isThing at hwp
  refine lv_iload_n hx hb dX2_isThing_0 rfl (lv_at hl 1 rfl) ?_
  refine lv_i2l (v := x1.toInt64) hx hb dX2_isThing_1 rfl ?_
  refine lv_lconst (v := 0) hx hb dX2_isThing_2 (by decide) ?_
  refine lv_aload_n hx hb dX2_isThing_3 rfl (lv_at hl 0 rfl) ?_
  refine x_get hx hb hts hown hK hP 6 i0 h0 rfl rfl in_X2 0 (by decide) q143 rfl (v := .int (σ.1 6 i0 0)) rfl dX2_isThing_4 ?_
  refine lv_iconst (v := 1) hx hb dX2_isThing_7 (by decide) ?_
  refine lv_isub hx hb dX2_isThing_8 ?_
  refine lv_i2l (v := ((σ.1 6 i0 0) - 1).toInt64) hx hb dX2_isThing_9 rfl ?_
  refine x_goi (va_runS (As := [.long x1.toInt64, .long 0, .long (((σ.1 6 i0 0) - 1).toInt64)]) (rest := []) ⟨hx, hb, hml, hown, hts⟩ (xt_S_in hwp H.size) (va_cwS 3 hts (lw_S q516 q333 q75 q334) rfl rfl rfl (by decide +kernel) ⟨Nat.le_of_ble_eq_true rfl, Nat.le_of_ble_eq_true rfl⟩) (x_preS hK hO hD hP) rfl rfl hl.1 rfl (lv_room (Nat.le_of_ble_eq_true rfl)) dX2_isThing_10 ⟨Nat.le_of_ble_eq_true rfl, Nat.le_of_ble_eq_true rfl⟩) hD hA hS (fun r1 u H locs hk hP hO hD hS => ?_)
  obtain ⟨hwp, eu⟩ := hk
  subst eu
  dsimp only at hP hO hD
  obtain ⟨hv01, hwp⟩ := hwp
  exact x_zret hx hb hr hlk hP hO hD hS hv01 ⟨hwp, rfl⟩ dX2_isThing_13
/-! G_isHouse -/
def xw_G_isHouse (δ : XSh) (σ : XSt) (K : Int32 → Prop) (i0 : Nat) (x1 : Int32) : Prop :=
  xw_G_isThing δ σ (fun r1 => ((r1 = 0) → (K 0)) ∧ ((¬ (r1 = 0)) → (vp_in x1 8 ∧ ∃ o4, σ.2.2 8 i0 x1.toNatClampNeg = some o4 ∧ (xv_T_isHouse δ σ (fun r5 => ((r5 = 0) → (K 0)) ∧ ((¬ (r5 = 0)) → (K 1))) o4)))) i0 x1
set_option maxHeartbeats 4000000 in
set_option maxRecDepth 100000 in
theorem xt_G_isHouse {l : Launch} {Γ : GA} {δ : XSh} {σ : XSt} {K : Int32 → Prop} {i0 : Nat} (h0 : (6, i0) ∈ δ.1) {x1 : Int32} (hwp : xw_G_isHouse δ σ K i0 x1) : xI l yX2_isHouse cX2_isHouse 2 (some .boolean) ({ frames := 2, cells := 0, slots := 0, locals := 46 } : Room) 0 0 Γ δ [.ref i0, .int x1] σ (fun r u => K r ∧ u = (δ, σ)) := by
  intro sz
  refine x_of (by decide) [(0, .ref i0), (1, .int x1)] (fun _ h => h) (Nat.le_of_ble_eq_true rfl) ?_
  intro p e s m args below meth c hsz X H locs ls hP hO hD hS hl
  subst hsz
  obtain ⟨hx, hb, hml, hown, hts, hK, hr, hlk⟩ := id X
  have hA : ∀ q, s.heap.size ≤ q → AX δ s.heap.size q := fun q h => Or.inr h
  unfold xw_G_isHouse at hwp
  refine lv_aload_n hx hb dX2_isHouse_0 rfl (lv_at hl 0 rfl) ?_
  refine lv_iload_n hx hb dX2_isHouse_1 rfl (lv_at hl 1 rfl) ?_
  refine x_goi (va_runV (As := [.int x1]) (rest := []) ⟨hx, hb, hml, hown, hts⟩ (xt_G_isThing h0 hwp H.size) (cwV 1 hts (lw_V q545 q513 q514 q77 q515) rfl rfl rfl (by decide +kernel) ⟨Nat.le_of_ble_eq_true rfl, Nat.le_of_ble_eq_true rfl⟩) (x_preV hK hO hD hP 6 i0 h0 rfl rfl) rfl rfl hl.1 rfl (lv_room (Nat.le_of_ble_eq_true rfl)) dX2_isHouse_2 ⟨Nat.le_of_ble_eq_true rfl, Nat.le_of_ble_eq_true rfl⟩) hD hA hS (fun r1 u H locs hk hP hO hD hS => ?_)
  obtain ⟨hwp, eu⟩ := hk
  subst eu
  dsimp only at hP hO hD
  refine lv_if_eq (tgt := 24) hx hb dX2_isHouse_5 (by decide) (fun c2 => ?_) (fun c2 => ?_)
  · replace hwp := hwp.1 c2
    refine lv_iconst (v := 0) hx hb dX2_isHouse_24 (by decide) ?_
    exact x_zret (v := 0) hx hb hr hlk hP hO hD hS (Or.inl rfl) ⟨hwp, rfl⟩ dX2_isHouse_25
  · replace hwp := hwp.2 c2
    refine lv_aload_n hx hb dX2_isHouse_8 rfl (lv_at hl 0 rfl) ?_
    refine x_get hx hb hts hown hK hP 6 i0 h0 rfl rfl in_X2 6 (by decide) q159 rfl (v := .ref (δ.2.1 8 i0)) rfl dX2_isHouse_9 ?_
    refine lv_iload_n hx hb dX2_isHouse_12 rfl (lv_at hl 1 rfl) ?_
    obtain ⟨hi3, o4, eo4, hwp⟩ := hwp
    refine x_aald hx hb hK hP 8 i0 ((hO.1 _ h0).1) (Or.inl rfl) hi3 eo4 dX2_isHouse_13 (fun ho4 co4 => ?_)
    refine x_goi (xr_T_isHouse (As := []) (rest := []) ⟨hx, hb, hml, hown, hts⟩ hK hD hO hP ho4 (co4.1 rfl) hwp q546 ⟨Nat.le_of_ble_eq_true rfl, Nat.le_of_ble_eq_true rfl⟩ rfl hl.1 rfl (Nat.le_of_ble_eq_true rfl) dX2_isHouse_14 ⟨Nat.le_of_ble_eq_true rfl, Nat.le_of_ble_eq_true rfl⟩) hD hA hS (fun r5 u H locs hk hP hO hD hS => ?_)
    obtain ⟨hwp, eu⟩ := hk
    subst eu
    dsimp only at hP hO hD
    refine lv_if_eq (tgt := 24) hx hb dX2_isHouse_17 (by decide) (fun c6 => ?_) (fun c6 => ?_)
    · replace hwp := hwp.1 c6
      refine lv_iconst (v := 0) hx hb dX2_isHouse_24 (by decide) ?_
      exact x_zret (v := 0) hx hb hr hlk hP hO hD hS (Or.inl rfl) ⟨hwp, rfl⟩ dX2_isHouse_25
    · replace hwp := hwp.2 c6
      refine lv_iconst (v := 1) hx hb dX2_isHouse_20 (by decide) ?_
      refine lv_goto (tgt := 25) hx hb dX2_isHouse_21 (by decide) ?_
      exact x_zret (v := 1) hx hb hr hlk hP hO hD hS (Or.inr rfl) ⟨hwp, rfl⟩ dX2_isHouse_25
/-! G_houses -/
def xw_G_houses_4_b (δ : XSh) (σ : XSt) (K : Int32 → Prop) (i0 : Nat) (L4 : Int32 → Int32 → Prop) (x1 : Int32) (x2 : Int32) : Prop :=
  (((σ.1 6 i0 0) ≤ x2) → (K x1)) ∧ ((¬ ((σ.1 6 i0 0) ≤ x2)) → (vp_in x2 8 ∧ ∃ o3, σ.2.2 8 i0 x2.toNatClampNeg = some o3 ∧ (xv_T_isHouse δ σ (fun r4 => ((r4 = 0) → (L4 (x1 ||| 0) (x2 + 1))) ∧ ((¬ (r4 = 0)) → (L4 (x1 ||| ((1 : Int32) <<< (x2 &&& 31))) (x2 + 1)))) o3)))
def xw_G_houses_4 (δ : XSh) (σ : XSt) (K : Int32 → Prop) (i0 : Nat) : Nat → Int32 → Int32 → Prop
  | 0 => fun _ _ => False
  | n + 1 => fun x1 x2 => xw_G_houses_4_b δ σ K i0 (xw_G_houses_4 δ σ K i0 n) x1 x2
set_option maxHeartbeats 4000000 in
set_option maxRecDepth 100000 in
theorem xk_G_houses_4_b {p : Program} {l : Launch} {e : Env} {s : State} {m : MethodId} {args : Array Value} {below : List Frame} {meth : Method} {c : Code} {Γ : GA} {δ : XSh} {σ : XSt} {K : Int32 → Prop} {i0 : Nat} (X : CX p s m args meth c cX2_houses 3 (some .int) RX2 Γ) (h0 : (6, i0) ∈ δ.1) {L4 : Int32 → Int32 → Prop} (hL4 : ∀ (x1 : Int32) (x2 : Int32), L4 x1 x2 → TX p l e ({ frames := 1, cells := 0, slots := 0, locals := 20 } : Room) s m args below meth c 3 0 0 (YI below (fun r u => K r ∧ u = (δ, σ)) 0 0 Γ δ s args) Γ δ δ σ 4 [(0, .ref i0), (1, .int x1), (2, .int x2)] []) : ∀ (x1 : Int32) (x2 : Int32), xw_G_houses_4_b δ σ K i0 L4 x1 x2 → TX p l e ({ frames := 1, cells := 0, slots := 0, locals := 20 } : Room) s m args below meth c 3 0 0 (YI below (fun r u => K r ∧ u = (δ, σ)) 0 0 Γ δ s args) Γ δ δ σ 4 [(0, .ref i0), (1, .int x1), (2, .int x2)] [] := by
  obtain ⟨hx, hb, hml, hown, hts, hK, hr, hlk⟩ := id X
  have hA : ∀ q, s.heap.size ≤ q → AX δ s.heap.size q := fun q h => Or.inr h
  intro x1 x2 hwp H locs ls hP hO hD hS hl
  unfold xw_G_houses_4_b at hwp
  refine lv_iload_n hx hb dX2_houses_4 rfl (lv_at hl 2 rfl) ?_
  refine lv_aload_n hx hb dX2_houses_5 rfl (lv_at hl 0 rfl) ?_
  refine x_get hx hb hts hown hK hP 6 i0 h0 rfl rfl in_X2 0 (by decide) q143 rfl (v := .int (σ.1 6 i0 0)) rfl dX2_houses_6 ?_
  refine lv_icmp_ge (tgt := 40) hx hb dX2_houses_9 (by decide) (fun c1 => ?_) (fun c1 => ?_)
  · replace hwp := hwp.1 c1
    refine lv_iload_n hx hb dX2_houses_40 rfl (lv_at hl 1 rfl) ?_
    exact x_iret hx hb hr hlk hP hO hD hS ⟨hwp, rfl⟩ dX2_houses_41
  · replace hwp := hwp.2 c1
    refine lv_iload_n hx hb dX2_houses_12 rfl (lv_at hl 1 rfl) ?_
    refine lv_aload_n hx hb dX2_houses_13 rfl (lv_at hl 0 rfl) ?_
    refine x_get hx hb hts hown hK hP 6 i0 h0 rfl rfl in_X2 6 (by decide) q159 rfl (v := .ref (δ.2.1 8 i0)) rfl dX2_houses_14 ?_
    refine lv_iload_n hx hb dX2_houses_17 rfl (lv_at hl 2 rfl) ?_
    obtain ⟨hi2, o3, eo3, hwp⟩ := hwp
    refine x_aald hx hb hK hP 8 i0 ((hO.1 _ h0).1) (Or.inl rfl) hi2 eo3 dX2_houses_18 (fun ho3 co3 => ?_)
    refine x_goi (xr_T_isHouse (As := []) (rest := [.int x1]) ⟨hx, hb, hml, hown, hts⟩ hK hD hO hP ho3 (co3.1 rfl) hwp q546 ⟨Nat.le_of_ble_eq_true rfl, Nat.le_of_ble_eq_true rfl⟩ rfl hl.1 rfl (Nat.le_of_ble_eq_true rfl) dX2_houses_19 ⟨Nat.le_of_ble_eq_true rfl, Nat.le_of_ble_eq_true rfl⟩) hD hA hS (fun r4 u H locs hk hP hO hD hS => ?_)
    obtain ⟨hwp, eu⟩ := hk
    subst eu
    dsimp only at hP hO hD
    refine lv_if_eq (tgt := 31) hx hb dX2_houses_22 (by decide) (fun c5 => ?_) (fun c5 => ?_)
    · replace hwp := hwp.1 c5
      refine lv_iconst (v := 0) hx hb dX2_houses_31 (by decide) ?_
      refine lv_ior hx hb dX2_houses_32 ?_
      refine lv_istore_n (lv' := [(1, .int (x1 ||| 0)), (0, .ref i0), (2, .int x2)]) hx hb dX2_houses_33 rfl hl (by decide) rfl (fun ls hl => ?_)
      refine lv_iinc (v := x2 + 1) (lv' := [(2, .int (x2 + 1)), (1, .int (x1 ||| 0)), (0, .ref i0)]) hx hb dX2_houses_34 hl (k := 2) rfl rfl (by decide) rfl (fun ls hl => ?_)
      refine lv_goto (tgt := 4) hx hb dX2_houses_37 (by decide) ?_
      exact hL4 _ _ hwp H locs ls hP hO hD hS (lv_sub hl [2, 1, 0] rfl)
    · replace hwp := hwp.2 c5
      refine lv_iconst (v := 1) hx hb dX2_houses_25 (by decide) ?_
      refine lv_iload_n hx hb dX2_houses_26 rfl (lv_at hl 2 rfl) ?_
      refine lv_ishl hx hb dX2_houses_27 ?_
      refine lv_goto (tgt := 32) hx hb dX2_houses_28 (by decide) ?_
      refine lv_ior hx hb dX2_houses_32 ?_
      refine lv_istore_n (lv' := [(1, .int (x1 ||| ((1 : Int32) <<< (x2 &&& 31)))), (0, .ref i0), (2, .int x2)]) hx hb dX2_houses_33 rfl hl (by decide) rfl (fun ls hl => ?_)
      refine lv_iinc (v := x2 + 1) (lv' := [(2, .int (x2 + 1)), (1, .int (x1 ||| ((1 : Int32) <<< (x2 &&& 31)))), (0, .ref i0)]) hx hb dX2_houses_34 hl (k := 2) rfl rfl (by decide) rfl (fun ls hl => ?_)
      refine lv_goto (tgt := 4) hx hb dX2_houses_37 (by decide) ?_
      exact hL4 _ _ hwp H locs ls hP hO hD hS (lv_sub hl [2, 1, 0] rfl)
set_option maxHeartbeats 4000000 in
set_option maxRecDepth 100000 in
theorem xk_G_houses_4 {p : Program} {l : Launch} {e : Env} {s : State} {m : MethodId} {args : Array Value} {below : List Frame} {meth : Method} {c : Code} {Γ : GA} {δ : XSh} {σ : XSt} {K : Int32 → Prop} {i0 : Nat} (X : CX p s m args meth c cX2_houses 3 (some .int) RX2 Γ) (h0 : (6, i0) ∈ δ.1) : ∀ n (x1 : Int32) (x2 : Int32), xw_G_houses_4 δ σ K i0 n x1 x2 → TX p l e ({ frames := 1, cells := 0, slots := 0, locals := 20 } : Room) s m args below meth c 3 0 0 (YI below (fun r u => K r ∧ u = (δ, σ)) 0 0 Γ δ s args) Γ δ δ σ 4 [(0, .ref i0), (1, .int x1), (2, .int x2)] [] := by
  intro n
  induction n with
  | zero => intro _ _ hwp; exact hwp.elim
  | succ n ih => intro x1 x2 hwp; exact xk_G_houses_4_b X h0 ih x1 x2 hwp
def xw_G_houses (δ : XSh) (σ : XSt) (K : Int32 → Prop) (i0 : Nat) : Prop :=
  ∃ n, xw_G_houses_4 δ σ K i0 n 0 0
set_option maxHeartbeats 4000000 in
set_option maxRecDepth 100000 in
theorem xt_G_houses {l : Launch} {Γ : GA} {δ : XSh} {σ : XSt} {K : Int32 → Prop} {i0 : Nat} (h0 : (6, i0) ∈ δ.1) (hwp : xw_G_houses δ σ K i0 ) : xI l yX2_houses cX2_houses 3 (some .int) ({ frames := 1, cells := 0, slots := 0, locals := 20 } : Room) 0 0 Γ δ [.ref i0] σ (fun r u => K r ∧ u = (δ, σ)) := by
  intro sz
  refine x_of (by decide) [(0, .ref i0)] (fun _ h => h) (Nat.le_of_ble_eq_true rfl) ?_
  intro p e s m args below meth c hsz X H locs ls hP hO hD hS hl
  subst hsz
  obtain ⟨hx, hb, hml, hown, hts, hK, hr, hlk⟩ := id X
  have hA : ∀ q, s.heap.size ≤ q → AX δ s.heap.size q := fun q h => Or.inr h
  unfold xw_G_houses at hwp
  refine lv_iconst (v := 0) hx hb dX2_houses_0 (by decide) ?_
  refine lv_istore_n (lv' := [(1, .int 0), (0, .ref i0)]) hx hb dX2_houses_1 rfl hl (by decide) rfl (fun ls hl => ?_)
  refine lv_iconst (v := 0) hx hb dX2_houses_2 (by decide) ?_
  refine lv_istore_n (lv' := [(2, .int 0), (1, .int 0), (0, .ref i0)]) hx hb dX2_houses_3 rfl hl (by decide) rfl (fun ls hl => ?_)
  obtain ⟨n, hwp⟩ := hwp
  exact xk_G_houses_4 X h0 n _ _ hwp H locs ls hP hO hD hS (lv_sub hl [2, 1, 0] rfl)
/-! G_isFree -/
def xw_G_isFree_2_b (δ : XSh) (σ : XSt) (K : Int32 → Prop) (i0 : Nat) (L2 : Int32 → Int32 → Int32 → Prop) (x1 : Int32) (x2 : Int32) (x3 : Int32) : Prop :=
  (((σ.1 6 i0 0) ≤ x3) → (K 1)) ∧ ((¬ ((σ.1 6 i0 0) ≤ x3)) → (vp_in x3 8 ∧ ∃ o3, σ.2.2 8 i0 x3.toNatClampNeg = some o3 ∧ (((¬ ((σ.1 7 o3 1) = x1)) → (L2 x1 x2 (x3 + 1))) ∧ (((σ.1 7 o3 1) = x1) → (vp_in x3 8 ∧ ∃ o6, σ.2.2 8 i0 x3.toNatClampNeg = some o6 ∧ (((¬ ((σ.1 7 o6 2) = x2)) → (L2 x1 x2 (x3 + 1))) ∧ (((σ.1 7 o6 2) = x2) → (K 0))))))))
def xw_G_isFree_2 (δ : XSh) (σ : XSt) (K : Int32 → Prop) (i0 : Nat) : Nat → Int32 → Int32 → Int32 → Prop
  | 0 => fun _ _ _ => False
  | n + 1 => fun x1 x2 x3 => xw_G_isFree_2_b δ σ K i0 (xw_G_isFree_2 δ σ K i0 n) x1 x2 x3
set_option maxHeartbeats 4000000 in
set_option maxRecDepth 100000 in
theorem xk_G_isFree_2_b {p : Program} {l : Launch} {e : Env} {s : State} {m : MethodId} {args : Array Value} {below : List Frame} {meth : Method} {c : Code} {Γ : GA} {δ : XSh} {σ : XSt} {K : Int32 → Prop} {i0 : Nat} (X : CX p s m args meth c cX2_isFree 4 (some .boolean) RX2 Γ) (h0 : (6, i0) ∈ δ.1) {L2 : Int32 → Int32 → Int32 → Prop} (hL2 : ∀ (x1 : Int32) (x2 : Int32) (x3 : Int32), L2 x1 x2 x3 → TX p l e ({ frames := 0, cells := 0, slots := 0, locals := 0 } : Room) s m args below meth c 4 0 0 (YI below (fun r u => K r ∧ u = (δ, σ)) 0 0 Γ δ s args) Γ δ δ σ 2 [(0, .ref i0), (1, .int x1), (2, .int x2), (3, .int x3)] []) : ∀ (x1 : Int32) (x2 : Int32) (x3 : Int32), xw_G_isFree_2_b δ σ K i0 L2 x1 x2 x3 → TX p l e ({ frames := 0, cells := 0, slots := 0, locals := 0 } : Room) s m args below meth c 4 0 0 (YI below (fun r u => K r ∧ u = (δ, σ)) 0 0 Γ δ s args) Γ δ δ σ 2 [(0, .ref i0), (1, .int x1), (2, .int x2), (3, .int x3)] [] := by
  obtain ⟨hx, hb, hml, hown, hts, hK, hr, hlk⟩ := id X
  have hA : ∀ q, s.heap.size ≤ q → AX δ s.heap.size q := fun q h => Or.inr h
  intro x1 x2 x3 hwp H locs ls hP hO hD hS hl
  unfold xw_G_isFree_2_b at hwp
  refine lv_iload_n hx hb dX2_isFree_2 rfl (lv_at hl 3 rfl) ?_
  refine lv_aload_n hx hb dX2_isFree_3 rfl (lv_at hl 0 rfl) ?_
  refine x_get hx hb hts hown hK hP 6 i0 h0 rfl rfl in_X2 0 (by decide) q143 rfl (v := .int (σ.1 6 i0 0)) rfl dX2_isFree_4 ?_
  refine lv_icmp_ge (tgt := 44) hx hb dX2_isFree_7 (by decide) (fun c1 => ?_) (fun c1 => ?_)
  · replace hwp := hwp.1 c1
    refine lv_iconst (v := 1) hx hb dX2_isFree_44 (by decide) ?_
    exact x_zret (v := 1) hx hb hr hlk hP hO hD hS (Or.inr rfl) ⟨hwp, rfl⟩ dX2_isFree_45
  · replace hwp := hwp.2 c1
    refine lv_aload_n hx hb dX2_isFree_10 rfl (lv_at hl 0 rfl) ?_
    refine x_get hx hb hts hown hK hP 6 i0 h0 rfl rfl in_X2 6 (by decide) q159 rfl (v := .ref (δ.2.1 8 i0)) rfl dX2_isFree_11 ?_
    refine lv_iload_n hx hb dX2_isFree_14 rfl (lv_at hl 3 rfl) ?_
    obtain ⟨hi2, o3, eo3, hwp⟩ := hwp
    refine x_aald hx hb hK hP 8 i0 ((hO.1 _ h0).1) (Or.inl rfl) hi2 eo3 dX2_isFree_15 (fun ho3 co3 => ?_)
    refine x_getT hx hb hts hown hK hO hP o3 ho3 (co3.1 rfl) 1 (by decide) q728 (fun _ h9 => h9) dX2_isFree_16 ?_
    refine lv_iload_n hx hb dX2_isFree_19 rfl (lv_at hl 1 rfl) ?_
    refine lv_icmp_ne (tgt := 38) hx hb dX2_isFree_20 (by decide) (fun c4 => ?_) (fun c4 => ?_)
    · replace hwp := hwp.1 c4
      refine lv_iinc (v := x3 + 1) (lv' := [(3, .int (x3 + 1)), (0, .ref i0), (1, .int x1), (2, .int x2)]) hx hb dX2_isFree_38 hl (k := 3) rfl rfl (by decide) rfl (fun ls hl => ?_)
      refine lv_goto (tgt := 2) hx hb dX2_isFree_41 (by decide) ?_
      exact hL2 _ _ _ hwp H locs ls hP hO hD hS (lv_sub hl [1, 2, 3, 0] rfl)
    · replace hwp := hwp.2 c4
      refine lv_aload_n hx hb dX2_isFree_23 rfl (lv_at hl 0 rfl) ?_
      refine x_get hx hb hts hown hK hP 6 i0 h0 rfl rfl in_X2 6 (by decide) q159 rfl (v := .ref (δ.2.1 8 i0)) rfl dX2_isFree_24 ?_
      refine lv_iload_n hx hb dX2_isFree_27 rfl (lv_at hl 3 rfl) ?_
      obtain ⟨hi5, o6, eo6, hwp⟩ := hwp
      refine x_aald hx hb hK hP 8 i0 ((hO.1 _ h0).1) (Or.inl rfl) hi5 eo6 dX2_isFree_28 (fun ho6 co6 => ?_)
      refine x_getT hx hb hts hown hK hO hP o6 ho6 (co6.1 rfl) 2 (by decide) q731 (fun _ h9 => h9) dX2_isFree_29 ?_
      refine lv_iload_n hx hb dX2_isFree_32 rfl (lv_at hl 2 rfl) ?_
      refine lv_icmp_ne (tgt := 38) hx hb dX2_isFree_33 (by decide) (fun c7 => ?_) (fun c7 => ?_)
      · replace hwp := hwp.1 c7
        refine lv_iinc (v := x3 + 1) (lv' := [(3, .int (x3 + 1)), (0, .ref i0), (1, .int x1), (2, .int x2)]) hx hb dX2_isFree_38 hl (k := 3) rfl rfl (by decide) rfl (fun ls hl => ?_)
        refine lv_goto (tgt := 2) hx hb dX2_isFree_41 (by decide) ?_
        exact hL2 _ _ _ hwp H locs ls hP hO hD hS (lv_sub hl [1, 2, 3, 0] rfl)
      · replace hwp := hwp.2 c7
        refine lv_iconst (v := 0) hx hb dX2_isFree_36 (by decide) ?_
        exact x_zret (v := 0) hx hb hr hlk hP hO hD hS (Or.inl rfl) ⟨hwp, rfl⟩ dX2_isFree_37
set_option maxHeartbeats 4000000 in
set_option maxRecDepth 100000 in
theorem xk_G_isFree_2 {p : Program} {l : Launch} {e : Env} {s : State} {m : MethodId} {args : Array Value} {below : List Frame} {meth : Method} {c : Code} {Γ : GA} {δ : XSh} {σ : XSt} {K : Int32 → Prop} {i0 : Nat} (X : CX p s m args meth c cX2_isFree 4 (some .boolean) RX2 Γ) (h0 : (6, i0) ∈ δ.1) : ∀ n (x1 : Int32) (x2 : Int32) (x3 : Int32), xw_G_isFree_2 δ σ K i0 n x1 x2 x3 → TX p l e ({ frames := 0, cells := 0, slots := 0, locals := 0 } : Room) s m args below meth c 4 0 0 (YI below (fun r u => K r ∧ u = (δ, σ)) 0 0 Γ δ s args) Γ δ δ σ 2 [(0, .ref i0), (1, .int x1), (2, .int x2), (3, .int x3)] [] := by
  intro n
  induction n with
  | zero => intro _ _ _ hwp; exact hwp.elim
  | succ n ih => intro x1 x2 x3 hwp; exact xk_G_isFree_2_b X h0 ih x1 x2 x3 hwp
def xw_G_isFree (δ : XSh) (σ : XSt) (K : Int32 → Prop) (i0 : Nat) (x1 : Int32) (x2 : Int32) : Prop :=
  ∃ n, xw_G_isFree_2 δ σ K i0 n x1 x2 0
set_option maxHeartbeats 4000000 in
set_option maxRecDepth 100000 in
theorem xt_G_isFree {l : Launch} {Γ : GA} {δ : XSh} {σ : XSt} {K : Int32 → Prop} {i0 : Nat} (h0 : (6, i0) ∈ δ.1) {x1 : Int32} {x2 : Int32} (hwp : xw_G_isFree δ σ K i0 x1 x2) : xI l yX2_isFree cX2_isFree 4 (some .boolean) ({ frames := 0, cells := 0, slots := 0, locals := 0 } : Room) 0 0 Γ δ [.ref i0, .int x1, .int x2] σ (fun r u => K r ∧ u = (δ, σ)) := by
  intro sz
  refine x_of (by decide) [(0, .ref i0), (1, .int x1), (2, .int x2)] (fun _ h => h) (Nat.le_of_ble_eq_true rfl) ?_
  intro p e s m args below meth c hsz X H locs ls hP hO hD hS hl
  subst hsz
  obtain ⟨hx, hb, hml, hown, hts, hK, hr, hlk⟩ := id X
  have hA : ∀ q, s.heap.size ≤ q → AX δ s.heap.size q := fun q h => Or.inr h
  unfold xw_G_isFree at hwp
  refine lv_iconst (v := 0) hx hb dX2_isFree_0 (by decide) ?_
  refine lv_istore_n (lv' := [(3, .int 0), (0, .ref i0), (1, .int x1), (2, .int x2)]) hx hb dX2_isFree_1 rfl hl (by decide) rfl (fun ls hl => ?_)
  obtain ⟨n, hwp⟩ := hwp
  exact xk_G_isFree_2 X h0 n _ _ _ hwp H locs ls hP hO hD hS (lv_sub hl [1, 2, 3, 0] rfl)
/-! G_tall -/
def xw_G_tall (δ : XSh) (σ : XSt) (K : Int32 → Prop) (i0 : Nat) (x1 : Int32) : Prop :=
  vp_in x1 8 ∧ ∃ o2, σ.2.2 8 i0 x1.toNatClampNeg = some o2 ∧ (vp_in x1 8 ∧ (xv_T_tall δ σ (fun r4 => K r4) o2 (σ.1 9 i0 x1.toNatClampNeg) (σ.1 6 i0 1)))
set_option maxHeartbeats 4000000 in
set_option maxRecDepth 100000 in
theorem xt_G_tall {l : Launch} {Γ : GA} {δ : XSh} {σ : XSt} {K : Int32 → Prop} {i0 : Nat} (h0 : (6, i0) ∈ δ.1) {x1 : Int32} (hwp : xw_G_tall δ σ K i0 x1) : xI l yX2_tall cX2_tall 2 (some .int) ({ frames := 3, cells := 0, slots := 0, locals := 66 } : Room) 0 0 Γ δ [.ref i0, .int x1] σ (fun r u => K r ∧ u = (δ, σ)) := by
  intro sz
  refine x_of (by decide) [(0, .ref i0), (1, .int x1)] (fun _ h => h) (Nat.le_of_ble_eq_true rfl) ?_
  intro p e s m args below meth c hsz X H locs ls hP hO hD hS hl
  subst hsz
  obtain ⟨hx, hb, hml, hown, hts, hK, hr, hlk⟩ := id X
  have hA : ∀ q, s.heap.size ≤ q → AX δ s.heap.size q := fun q h => Or.inr h
  unfold xw_G_tall at hwp
  refine lv_aload_n hx hb dX2_tall_0 rfl (lv_at hl 0 rfl) ?_
  refine x_get hx hb hts hown hK hP 6 i0 h0 rfl rfl in_X2 6 (by decide) q159 rfl (v := .ref (δ.2.1 8 i0)) rfl dX2_tall_1 ?_
  refine lv_iload_n hx hb dX2_tall_4 rfl (lv_at hl 1 rfl) ?_
  obtain ⟨hi1, o2, eo2, hwp⟩ := hwp
  refine x_aald hx hb hK hP 8 i0 ((hO.1 _ h0).1) (Or.inl rfl) hi1 eo2 dX2_tall_5 (fun ho2 co2 => ?_)
  refine lv_aload_n hx hb dX2_tall_6 rfl (lv_at hl 0 rfl) ?_
  refine x_get hx hb hts hown hK hP 6 i0 h0 rfl rfl in_X2 7 (by decide) q161 rfl (v := .ref (δ.2.1 9 i0)) rfl dX2_tall_7 ?_
  refine lv_iload_n hx hb dX2_tall_10 rfl (lv_at hl 1 rfl) ?_
  obtain ⟨hi3, hwp⟩ := hwp
  refine x_iald hx hb hK hP 9 i0 ((hO.1 _ h0).2.1) rfl hi3 dX2_tall_11 ?_
  refine lv_aload_n hx hb dX2_tall_12 rfl (lv_at hl 0 rfl) ?_
  refine x_get hx hb hts hown hK hP 6 i0 h0 rfl rfl in_X2 1 (by decide) q146 rfl (v := .int (σ.1 6 i0 1)) rfl dX2_tall_13 ?_
  refine x_goi (xr_T_tall (As := [.int (σ.1 9 i0 x1.toNatClampNeg), .int (σ.1 6 i0 1)]) (rest := []) ⟨hx, hb, hml, hown, hts⟩ hK hD hO hP ho2 (co2.1 rfl) hwp q611 ⟨Nat.le_of_ble_eq_true rfl, Nat.le_of_ble_eq_true rfl⟩ rfl hl.1 rfl (Nat.le_of_ble_eq_true rfl) dX2_tall_16 ⟨Nat.le_of_ble_eq_true rfl, Nat.le_of_ble_eq_true rfl⟩) hD hA hS (fun r4 u H locs hk hP hO hD hS => ?_)
  obtain ⟨hwp, eu⟩ := hk
  subst eu
  dsimp only at hP hO hD
  exact x_iret hx hb hr hlk hP hO hD hS ⟨hwp, rfl⟩ dX2_tall_19
/-! G_distance -/
def xw_G_distance (δ : XSh) (σ : XSt) (K : Int32 → Prop) (i0 : Nat) (x1 : Int32) (x2 : Int32) : Prop :=
  vp_in x1 8 ∧ ∃ o2, σ.2.2 8 i0 x1.toNatClampNeg = some o2 ∧ (vp_in x2 8 ∧ ∃ o4, σ.2.2 8 i0 x2.toNatClampNeg = some o4 ∧ (∀ r5, r5 = (if 0 ≤ ((σ.1 7 o2 1) - (σ.1 7 o4 1)) then ((σ.1 7 o2 1) - (σ.1 7 o4 1)) else 0 - ((σ.1 7 o2 1) - (σ.1 7 o4 1))) → (vp_in x1 8 ∧ ∃ o7, σ.2.2 8 i0 x1.toNatClampNeg = some o7 ∧ (vp_in x2 8 ∧ ∃ o9, σ.2.2 8 i0 x2.toNatClampNeg = some o9 ∧ (∀ r10, r10 = (if 0 ≤ ((σ.1 7 o7 2) - (σ.1 7 o9 2)) then ((σ.1 7 o7 2) - (σ.1 7 o9 2)) else 0 - ((σ.1 7 o7 2) - (σ.1 7 o9 2))) → (∀ r11, r11 = (if r5 < r10 then r10 else r5) → (K r11)))))))
set_option maxHeartbeats 4000000 in
set_option maxRecDepth 100000 in
theorem xt_G_distance {l : Launch} {Γ : GA} {δ : XSh} {σ : XSt} {K : Int32 → Prop} {i0 : Nat} (h0 : (6, i0) ∈ δ.1) {x1 : Int32} {x2 : Int32} (hwp : xw_G_distance δ σ K i0 x1 x2) : xI l yX2_distance cX2_distance 3 (some .int) ({ frames := 1, cells := 0, slots := 0, locals := 60 } : Room) 0 0 Γ δ [.ref i0, .int x1, .int x2] σ (fun r u => K r ∧ u = (δ, σ)) := by
  intro sz
  refine x_of (by decide) [(0, .ref i0), (1, .int x1), (2, .int x2)] (fun _ h => h) (Nat.le_of_ble_eq_true rfl) ?_
  intro p e s m args below meth c hsz X H locs ls hP hO hD hS hl
  subst hsz
  obtain ⟨hx, hb, hml, hown, hts, hK, hr, hlk⟩ := id X
  have hA : ∀ q, s.heap.size ≤ q → AX δ s.heap.size q := fun q h => Or.inr h
  unfold xw_G_distance at hwp
  refine lv_aload_n hx hb dX2_distance_0 rfl (lv_at hl 0 rfl) ?_
  refine x_get hx hb hts hown hK hP 6 i0 h0 rfl rfl in_X2 6 (by decide) q159 rfl (v := .ref (δ.2.1 8 i0)) rfl dX2_distance_1 ?_
  refine lv_iload_n hx hb dX2_distance_4 rfl (lv_at hl 1 rfl) ?_
  obtain ⟨hi1, o2, eo2, hwp⟩ := hwp
  refine x_aald hx hb hK hP 8 i0 ((hO.1 _ h0).1) (Or.inl rfl) hi1 eo2 dX2_distance_5 (fun ho2 co2 => ?_)
  refine x_getT hx hb hts hown hK hO hP o2 ho2 (co2.1 rfl) 1 (by decide) q728 (fun _ h9 => h9) dX2_distance_6 ?_
  refine lv_aload_n hx hb dX2_distance_9 rfl (lv_at hl 0 rfl) ?_
  refine x_get hx hb hts hown hK hP 6 i0 h0 rfl rfl in_X2 6 (by decide) q159 rfl (v := .ref (δ.2.1 8 i0)) rfl dX2_distance_10 ?_
  refine lv_iload_n hx hb dX2_distance_13 rfl (lv_at hl 2 rfl) ?_
  obtain ⟨hi3, o4, eo4, hwp⟩ := hwp
  refine x_aald hx hb hK hP 8 i0 ((hO.1 _ h0).1) (Or.inl rfl) hi3 eo4 dX2_distance_14 (fun ho4 co4 => ?_)
  refine x_getT hx hb hts hown hK hO hP o4 ho4 (co4.1 rfl) 1 (by decide) q728 (fun _ h9 => h9) dX2_distance_15 ?_
  refine lv_isub hx hb dX2_distance_18 ?_
  refine va_mabs hx hb (hml.trans hl.1.symm) hown (hts _ q590) (hts _ q591) (hts _ q95) (hts _ q592) (Nat.le_of_ble_eq_true rfl) (Nat.le_of_ble_eq_true rfl) (Nat.le_of_ble_eq_true rfl) (Nat.le_of_ble_eq_true rfl) dX2_distance_19 ?_
  refine lv_topi (fun r5 er5 => ?_)
  replace hwp := hwp r5 er5
  refine lv_aload_n hx hb dX2_distance_22 rfl (lv_at hl 0 rfl) ?_
  refine x_get hx hb hts hown hK hP 6 i0 h0 rfl rfl in_X2 6 (by decide) q159 rfl (v := .ref (δ.2.1 8 i0)) rfl dX2_distance_23 ?_
  refine lv_iload_n hx hb dX2_distance_26 rfl (lv_at hl 1 rfl) ?_
  obtain ⟨hi6, o7, eo7, hwp⟩ := hwp
  refine x_aald hx hb hK hP 8 i0 ((hO.1 _ h0).1) (Or.inl rfl) hi6 eo7 dX2_distance_27 (fun ho7 co7 => ?_)
  refine x_getT hx hb hts hown hK hO hP o7 ho7 (co7.1 rfl) 2 (by decide) q731 (fun _ h9 => h9) dX2_distance_28 ?_
  refine lv_aload_n hx hb dX2_distance_31 rfl (lv_at hl 0 rfl) ?_
  refine x_get hx hb hts hown hK hP 6 i0 h0 rfl rfl in_X2 6 (by decide) q159 rfl (v := .ref (δ.2.1 8 i0)) rfl dX2_distance_32 ?_
  refine lv_iload_n hx hb dX2_distance_35 rfl (lv_at hl 2 rfl) ?_
  obtain ⟨hi8, o9, eo9, hwp⟩ := hwp
  refine x_aald hx hb hK hP 8 i0 ((hO.1 _ h0).1) (Or.inl rfl) hi8 eo9 dX2_distance_36 (fun ho9 co9 => ?_)
  refine x_getT hx hb hts hown hK hO hP o9 ho9 (co9.1 rfl) 2 (by decide) q731 (fun _ h9 => h9) dX2_distance_37 ?_
  refine lv_isub hx hb dX2_distance_40 ?_
  refine va_mabs hx hb (hml.trans hl.1.symm) hown (hts _ q590) (hts _ q591) (hts _ q95) (hts _ q592) (Nat.le_of_ble_eq_true rfl) (Nat.le_of_ble_eq_true rfl) (Nat.le_of_ble_eq_true rfl) (Nat.le_of_ble_eq_true rfl) dX2_distance_41 ?_
  refine lv_topi (fun r10 er10 => ?_)
  replace hwp := hwp r10 er10
  refine va_mmax hx hb (hml.trans hl.1.symm) hown (hts _ q593) (hts _ q594) (hts _ q95) (hts _ q595) (Nat.le_of_ble_eq_true rfl) (Nat.le_of_ble_eq_true rfl) (Nat.le_of_ble_eq_true rfl) (Nat.le_of_ble_eq_true rfl) dX2_distance_44 ?_
  refine lv_topi (fun r11 er11 => ?_)
  replace hwp := hwp r11 er11
  exact x_iret hx hb hr hlk hP hO hD hS ⟨hwp, rfl⟩ dX2_distance_47
/-! G_common -/
def xw_G_common_b (δ : XSh) (σ : XSt) (L : (Int32 → Prop) → Int32 → Int32 → Prop) (K : Int32 → Prop) (x0 : Int32) (x1 : Int32) : Prop :=
  ((¬ (x1 = 0)) → ((¬ x1 = 0) ∧ (L (fun r3 => K r3) x1 (x0 - x0 / x1 * x1)))) ∧ ((x1 = 0) → (K x0))
def xw_G_common (δ : XSh) (σ : XSt) : Nat → (Int32 → Prop) → Int32 → Int32 → Prop
  | 0 => fun _ _ _ => False
  | n + 1 => fun K x0 x1 => xw_G_common_b δ σ (xw_G_common δ σ n) K x0 x1
set_option maxHeartbeats 4000000 in
set_option maxRecDepth 100000 in
theorem xt_G_common {l : Launch} {Γ : GA} {δ : XSh} {σ : XSt} : ∀ (n : Nat) {K : Int32 → Prop} {x0 : Int32} {x1 : Int32}, xw_G_common δ σ n K x0 x1 → xI l yX2_common cX2_common 2 (some .int) ({ frames := n, cells := 0, slots := 0, locals := n * 21 } : Room) 0 0 Γ δ [.int x0, .int x1] σ (fun r u => K r ∧ u = (δ, σ)) := by
  intro n
  induction n with
  | zero => intro _ _ _ hwp; exact hwp.elim
  | succ n ih =>
    intro K x0 x1 hwp
    replace hwp : xw_G_common_b δ σ (xw_G_common δ σ n) K x0 x1 := hwp
    unfold xw_G_common_b at hwp
    intro sz
    refine x_of (by decide) [(0, .int x0), (1, .int x1)] (fun _ h => h) (Nat.le_of_ble_eq_true rfl) ?_
    intro p e s m args below meth c hsz X H locs ls hP hO hD hS hl
    subst hsz
    obtain ⟨hx, hb, hml, hown, hts, hK, hr, hlk⟩ := id X
    have hA : ∀ q, s.heap.size ≤ q → AX δ s.heap.size q := fun q h => Or.inr h
    refine lv_iload_n hx hb dX2_common_0 rfl (lv_at hl 1 rfl) ?_
    refine lv_if_ne (tgt := 8) hx hb dX2_common_1 (by decide) (fun c1 => ?_) (fun c1 => ?_)
    · replace hwp := hwp.1 c1
      refine lv_iload_n hx hb dX2_common_8 rfl (lv_at hl 1 rfl) ?_
      refine lv_iload_n hx hb dX2_common_9 rfl (lv_at hl 0 rfl) ?_
      refine lv_iload_n hx hb dX2_common_10 rfl (lv_at hl 1 rfl) ?_
      obtain ⟨hz2, hwp⟩ := hwp
      refine lv_irem hx hb dX2_common_11 hz2 ?_
      refine x_goi (va_runS (As := [.int x1, .int (x0 - x0 / x1 * x1)]) (rest := []) ⟨hx, hb, hml, hown, hts⟩ (ih hwp H.size) (va_cwS 2 hts (lw_S q604 q605 q77 q606) rfl rfl rfl (by decide +kernel) ⟨Nat.le_refl _, by show _ ≤ _; simp only; omega⟩) (x_preS hK hO hD hP) rfl rfl hl.1 rfl (lv_room (Nat.le_of_ble_eq_true rfl)) dX2_common_12 ⟨Nat.le_of_ble_eq_true rfl, Nat.le_of_ble_eq_true rfl⟩) hD hA hS (fun r3 u H locs hk hP hO hD hS => ?_)
      obtain ⟨hwp, eu⟩ := hk
      subst eu
      dsimp only at hP hO hD
      exact x_iret hx hb hr hlk hP hO hD hS ⟨hwp, rfl⟩ dX2_common_15
    · replace hwp := hwp.2 c1
      refine lv_iload_n hx hb dX2_common_4 rfl (lv_at hl 0 rfl) ?_
      refine lv_goto (tgt := 15) hx hb dX2_common_5 (by decide) ?_
      exact x_iret hx hb hr hlk hP hO hD hS ⟨hwp, rfl⟩ dX2_common_15
/-! G_isInWay -/
def xw_G_isInWay_132 (δ : XSh) (σ : XSt) (K : Int32 → Prop) (i0 : Nat) (L60 : Int32 → Int32 → Int32 → Int32 → Int32 → Int32 → Int32 → Int32 → Prop) (x1 : Int32) (x2 : Int32) (x3 : Int32) (x4 : Int32) (x5 : Int32) (x6 : Int32) (x7 : Int32) (x8 : Int32) (t0 : Int32) : Prop :=
  ((t0 = 0) → (L60 x1 x2 x3 x4 x5 x6 x7 (x8 + 1))) ∧ ((¬ (t0 = 0)) → (xw_G_tall δ σ (fun r2 => vp_in x3 8 ∧ ((((r2 * x7) ≤ ((x4 * (x7 - x8)) + ((σ.1 9 i0 x3.toNatClampNeg) * x8))) → (K 0)) ∧ ((¬ ((r2 * x7) ≤ ((x4 * (x7 - x8)) + ((σ.1 9 i0 x3.toNatClampNeg) * x8)))) → (K 1)))) i0 x1))
set_option maxHeartbeats 4000000 in
set_option maxRecDepth 100000 in
theorem xk_G_isInWay_132 {p : Program} {l : Launch} {e : Env} {s : State} {m : MethodId} {args : Array Value} {below : List Frame} {meth : Method} {c : Code} {Γ : GA} {δ : XSh} {σ : XSt} {K : Int32 → Prop} {i0 : Nat} (X : CX p s m args meth c cX2_isInWay 10 (some .boolean) RX2 Γ) (h0 : (6, i0) ∈ δ.1) {L60 : Int32 → Int32 → Int32 → Int32 → Int32 → Int32 → Int32 → Int32 → Prop} (hL60 : ∀ (x1 : Int32) (x2 : Int32) (x3 : Int32) (x4 : Int32) (x5 : Int32) (x6 : Int32) (x7 : Int32) (x8 : Int32), L60 x1 x2 x3 x4 x5 x6 x7 x8 → TX p l e ({ frames := 17, cells := 0, slots := 0, locals := 357 } : Room) s m args below meth c 10 0 0 (YI below (fun r u => K r ∧ u = (δ, σ)) 0 0 Γ δ s args) Γ δ δ σ 60 [(0, .ref i0), (1, .int x1), (2, .int x2), (3, .int x3), (4, .int x4), (5, .int x5), (6, .int x6), (7, .int x7), (8, .int x8)] []) : ∀ (x1 : Int32) (x2 : Int32) (x3 : Int32) (x4 : Int32) (x5 : Int32) (x6 : Int32) (x7 : Int32) (x8 : Int32) (t0 : Int32), xw_G_isInWay_132 δ σ K i0 L60 x1 x2 x3 x4 x5 x6 x7 x8 t0 → TX p l e ({ frames := 17, cells := 0, slots := 0, locals := 357 } : Room) s m args below meth c 10 0 0 (YI below (fun r u => K r ∧ u = (δ, σ)) 0 0 Γ δ s args) Γ δ δ σ 132 [(0, .ref i0), (1, .int x1), (2, .int x2), (3, .int x3), (4, .int x4), (5, .int x5), (6, .int x6), (7, .int x7), (8, .int x8)] [.int t0] := by
  obtain ⟨hx, hb, hml, hown, hts, hK, hr, hlk⟩ := id X
  have hA : ∀ q, s.heap.size ≤ q → AX δ s.heap.size q := fun q h => Or.inr h
  intro x1 x2 x3 x4 x5 x6 x7 x8 t0 hwp H locs ls hP hO hD hS hl
  unfold xw_G_isInWay_132 at hwp
  refine lv_istore (lv' := [(9, .int t0), (0, .ref i0), (1, .int x1), (2, .int x2), (3, .int x3), (4, .int x4), (5, .int x5), (6, .int x6), (7, .int x7), (8, .int x8)]) hx hb dX2_isInWay_132 hl (by decide) rfl (fun ls hl => ?_)
  refine lv_iload hx hb dX2_isInWay_134 (lv_at hl 0 rfl) ?_
  refine lv_if_eq (tgt := 174) hx hb dX2_isInWay_136 (by decide) (fun c1 => ?_) (fun c1 => ?_)
  · replace hwp := hwp.1 c1
    refine lv_iinc (v := x8 + 1) (lv' := [(8, .int (x8 + 1)), (9, .int t0), (0, .ref i0), (1, .int x1), (2, .int x2), (3, .int x3), (4, .int x4), (5, .int x5), (6, .int x6), (7, .int x7)]) hx hb dX2_isInWay_174 hl (k := 9) rfl rfl (by decide) rfl (fun ls hl => ?_)
    refine lv_goto (tgt := 60) hx hb dX2_isInWay_177 (by decide) ?_
    exact hL60 _ _ _ _ _ _ _ _ hwp H locs ls hP hO hD hS (lv_sub hl [2, 3, 4, 5, 6, 7, 8, 9, 0] rfl)
  · replace hwp := hwp.2 c1
    refine lv_aload_n hx hb dX2_isInWay_139 rfl (lv_at hl 1 rfl) ?_
    refine lv_iload_n hx hb dX2_isInWay_140 rfl (lv_at hl 2 rfl) ?_
    refine x_goi (va_runV (As := [.int x1]) (rest := []) ⟨hx, hb, hml, hown, hts⟩ (xt_G_tall h0 hwp H.size) (cwV 1 hts (lw_V q607 q608 q609 q77 q610) rfl rfl rfl (by decide +kernel) ⟨Nat.le_of_ble_eq_true rfl, Nat.le_of_ble_eq_true rfl⟩) (x_preV hK hO hD hP 6 i0 h0 rfl rfl) rfl rfl hl.1 rfl (lv_room (Nat.le_of_ble_eq_true rfl)) dX2_isInWay_141 ⟨Nat.le_of_ble_eq_true rfl, Nat.le_of_ble_eq_true rfl⟩) hD hA hS (fun r2 u H locs hk hP hO hD hS => ?_)
    obtain ⟨hwp, eu⟩ := hk
    subst eu
    dsimp only at hP hO hD
    refine lv_iload hx hb dX2_isInWay_144 (lv_at hl 8 rfl) ?_
    refine lv_imul hx hb dX2_isInWay_146 ?_
    refine lv_iload hx hb dX2_isInWay_147 (lv_at hl 5 rfl) ?_
    refine lv_iload hx hb dX2_isInWay_149 (lv_at hl 8 rfl) ?_
    refine lv_iload hx hb dX2_isInWay_151 (lv_at hl 9 rfl) ?_
    refine lv_isub hx hb dX2_isInWay_153 ?_
    refine lv_imul hx hb dX2_isInWay_154 ?_
    refine lv_aload_n hx hb dX2_isInWay_155 rfl (lv_at hl 1 rfl) ?_
    refine x_get hx hb hts hown hK hP 6 i0 h0 rfl rfl in_X2 7 (by decide) q161 rfl (v := .ref (δ.2.1 9 i0)) rfl dX2_isInWay_156 ?_
    refine lv_iload_n hx hb dX2_isInWay_159 rfl (lv_at hl 4 rfl) ?_
    obtain ⟨hi3, hwp⟩ := hwp
    refine x_iald hx hb hK hP 9 i0 ((hO.1 _ h0).2.1) rfl hi3 dX2_isInWay_160 ?_
    refine lv_iload hx hb dX2_isInWay_161 (lv_at hl 9 rfl) ?_
    refine lv_imul hx hb dX2_isInWay_163 ?_
    refine lv_iadd hx hb dX2_isInWay_164 ?_
    refine lv_icmp_le (tgt := 172) hx hb dX2_isInWay_165 (by decide) (fun c4 => ?_) (fun c4 => ?_)
    · replace hwp := hwp.1 c4
      refine lv_iconst (v := 0) hx hb dX2_isInWay_172 (by decide) ?_
      exact x_zret (v := 0) hx hb hr hlk hP hO hD hS (Or.inl rfl) ⟨hwp, rfl⟩ dX2_isInWay_173
    · replace hwp := hwp.2 c4
      refine lv_iconst (v := 1) hx hb dX2_isInWay_168 (by decide) ?_
      refine lv_goto (tgt := 173) hx hb dX2_isInWay_169 (by decide) ?_
      exact x_zret (v := 1) hx hb hr hlk hP hO hD hS (Or.inr rfl) ⟨hwp, rfl⟩ dX2_isInWay_173
def xw_G_isInWay_131 (δ : XSh) (σ : XSt) (K : Int32 → Prop) (i0 : Nat) (L60 : Int32 → Int32 → Int32 → Int32 → Int32 → Int32 → Int32 → Int32 → Prop) (x1 : Int32) (x2 : Int32) (x3 : Int32) (x4 : Int32) (x5 : Int32) (x6 : Int32) (x7 : Int32) (x8 : Int32) : Prop :=
  xw_G_isInWay_132 δ σ K i0 L60 x1 x2 x3 x4 x5 x6 x7 x8 0
set_option maxHeartbeats 4000000 in
set_option maxRecDepth 100000 in
theorem xk_G_isInWay_131 {p : Program} {l : Launch} {e : Env} {s : State} {m : MethodId} {args : Array Value} {below : List Frame} {meth : Method} {c : Code} {Γ : GA} {δ : XSh} {σ : XSt} {K : Int32 → Prop} {i0 : Nat} (X : CX p s m args meth c cX2_isInWay 10 (some .boolean) RX2 Γ) (h0 : (6, i0) ∈ δ.1) {L60 : Int32 → Int32 → Int32 → Int32 → Int32 → Int32 → Int32 → Int32 → Prop} (hL60 : ∀ (x1 : Int32) (x2 : Int32) (x3 : Int32) (x4 : Int32) (x5 : Int32) (x6 : Int32) (x7 : Int32) (x8 : Int32), L60 x1 x2 x3 x4 x5 x6 x7 x8 → TX p l e ({ frames := 17, cells := 0, slots := 0, locals := 357 } : Room) s m args below meth c 10 0 0 (YI below (fun r u => K r ∧ u = (δ, σ)) 0 0 Γ δ s args) Γ δ δ σ 60 [(0, .ref i0), (1, .int x1), (2, .int x2), (3, .int x3), (4, .int x4), (5, .int x5), (6, .int x6), (7, .int x7), (8, .int x8)] []) : ∀ (x1 : Int32) (x2 : Int32) (x3 : Int32) (x4 : Int32) (x5 : Int32) (x6 : Int32) (x7 : Int32) (x8 : Int32), xw_G_isInWay_131 δ σ K i0 L60 x1 x2 x3 x4 x5 x6 x7 x8 → TX p l e ({ frames := 17, cells := 0, slots := 0, locals := 357 } : Room) s m args below meth c 10 0 0 (YI below (fun r u => K r ∧ u = (δ, σ)) 0 0 Γ δ s args) Γ δ δ σ 131 [(0, .ref i0), (1, .int x1), (2, .int x2), (3, .int x3), (4, .int x4), (5, .int x5), (6, .int x6), (7, .int x7), (8, .int x8)] [] := by
  obtain ⟨hx, hb, hml, hown, hts, hK, hr, hlk⟩ := id X
  have hA : ∀ q, s.heap.size ≤ q → AX δ s.heap.size q := fun q h => Or.inr h
  intro x1 x2 x3 x4 x5 x6 x7 x8 hwp H locs ls hP hO hD hS hl
  unfold xw_G_isInWay_131 at hwp
  refine lv_iconst (v := 0) hx hb dX2_isInWay_131 (by decide) ?_
  exact xk_G_isInWay_132 X h0 hL60 _ _ _ _ _ _ _ _ _ hwp H locs ls hP hO hD hS (lv_sub hl [0, 1, 2, 3, 4, 5, 6, 7, 8] rfl)
def xw_G_isInWay_60_b (δ : XSh) (σ : XSt) (K : Int32 → Prop) (i0 : Nat) (L60 : Int32 → Int32 → Int32 → Int32 → Int32 → Int32 → Int32 → Int32 → Prop) (x1 : Int32) (x2 : Int32) (x3 : Int32) (x4 : Int32) (x5 : Int32) (x6 : Int32) (x7 : Int32) (x8 : Int32) : Prop :=
  ((x7 ≤ x8) → (K 0)) ∧ ((¬ (x7 ≤ x8)) → (vp_in x1 8 ∧ ∃ o3, σ.2.2 8 i0 x1.toNatClampNeg = some o3 ∧ (vp_in x2 8 ∧ ∃ o5, σ.2.2 8 i0 x2.toNatClampNeg = some o5 ∧ ((¬ x7 = 0) ∧ (((¬ ((σ.1 7 o3 1) = ((σ.1 7 o5 1) + ((x5 / x7) * x8)))) → (xw_G_isInWay_131 δ σ K i0 L60 x1 x2 x3 x4 x5 x6 x7 x8)) ∧ (((σ.1 7 o3 1) = ((σ.1 7 o5 1) + ((x5 / x7) * x8))) → (vp_in x1 8 ∧ ∃ o9, σ.2.2 8 i0 x1.toNatClampNeg = some o9 ∧ (vp_in x2 8 ∧ ∃ o11, σ.2.2 8 i0 x2.toNatClampNeg = some o11 ∧ ((¬ x7 = 0) ∧ (((¬ ((σ.1 7 o9 2) = ((σ.1 7 o11 2) + ((x6 / x7) * x8)))) → (xw_G_isInWay_131 δ σ K i0 L60 x1 x2 x3 x4 x5 x6 x7 x8)) ∧ (((σ.1 7 o9 2) = ((σ.1 7 o11 2) + ((x6 / x7) * x8))) → (xw_G_isInWay_132 δ σ K i0 L60 x1 x2 x3 x4 x5 x6 x7 x8 1))))))))))))
def xw_G_isInWay_60 (δ : XSh) (σ : XSt) (K : Int32 → Prop) (i0 : Nat) : Nat → Int32 → Int32 → Int32 → Int32 → Int32 → Int32 → Int32 → Int32 → Prop
  | 0 => fun _ _ _ _ _ _ _ _ => False
  | n + 1 => fun x1 x2 x3 x4 x5 x6 x7 x8 => xw_G_isInWay_60_b δ σ K i0 (xw_G_isInWay_60 δ σ K i0 n) x1 x2 x3 x4 x5 x6 x7 x8
set_option maxHeartbeats 4000000 in
set_option maxRecDepth 100000 in
theorem xk_G_isInWay_60_b {p : Program} {l : Launch} {e : Env} {s : State} {m : MethodId} {args : Array Value} {below : List Frame} {meth : Method} {c : Code} {Γ : GA} {δ : XSh} {σ : XSt} {K : Int32 → Prop} {i0 : Nat} (X : CX p s m args meth c cX2_isInWay 10 (some .boolean) RX2 Γ) (h0 : (6, i0) ∈ δ.1) {L60 : Int32 → Int32 → Int32 → Int32 → Int32 → Int32 → Int32 → Int32 → Prop} (hL60 : ∀ (x1 : Int32) (x2 : Int32) (x3 : Int32) (x4 : Int32) (x5 : Int32) (x6 : Int32) (x7 : Int32) (x8 : Int32), L60 x1 x2 x3 x4 x5 x6 x7 x8 → TX p l e ({ frames := 17, cells := 0, slots := 0, locals := 357 } : Room) s m args below meth c 10 0 0 (YI below (fun r u => K r ∧ u = (δ, σ)) 0 0 Γ δ s args) Γ δ δ σ 60 [(0, .ref i0), (1, .int x1), (2, .int x2), (3, .int x3), (4, .int x4), (5, .int x5), (6, .int x6), (7, .int x7), (8, .int x8)] []) : ∀ (x1 : Int32) (x2 : Int32) (x3 : Int32) (x4 : Int32) (x5 : Int32) (x6 : Int32) (x7 : Int32) (x8 : Int32), xw_G_isInWay_60_b δ σ K i0 L60 x1 x2 x3 x4 x5 x6 x7 x8 → TX p l e ({ frames := 17, cells := 0, slots := 0, locals := 357 } : Room) s m args below meth c 10 0 0 (YI below (fun r u => K r ∧ u = (δ, σ)) 0 0 Γ δ s args) Γ δ δ σ 60 [(0, .ref i0), (1, .int x1), (2, .int x2), (3, .int x3), (4, .int x4), (5, .int x5), (6, .int x6), (7, .int x7), (8, .int x8)] [] := by
  obtain ⟨hx, hb, hml, hown, hts, hK, hr, hlk⟩ := id X
  have hA : ∀ q, s.heap.size ≤ q → AX δ s.heap.size q := fun q h => Or.inr h
  intro x1 x2 x3 x4 x5 x6 x7 x8 hwp H locs ls hP hO hD hS hl
  unfold xw_G_isInWay_60_b at hwp
  refine lv_iload hx hb dX2_isInWay_60 (lv_at hl 8 rfl) ?_
  refine lv_iload hx hb dX2_isInWay_62 (lv_at hl 7 rfl) ?_
  refine lv_icmp_ge (tgt := 180) hx hb dX2_isInWay_64 (by decide) (fun c1 => ?_) (fun c1 => ?_)
  · replace hwp := hwp.1 c1
    refine lv_iconst (v := 0) hx hb dX2_isInWay_180 (by decide) ?_
    exact x_zret (v := 0) hx hb hr hlk hP hO hD hS (Or.inl rfl) ⟨hwp, rfl⟩ dX2_isInWay_181
  · replace hwp := hwp.2 c1
    refine lv_aload_n hx hb dX2_isInWay_67 rfl (lv_at hl 0 rfl) ?_
    refine x_get hx hb hts hown hK hP 6 i0 h0 rfl rfl in_X2 6 (by decide) q159 rfl (v := .ref (δ.2.1 8 i0)) rfl dX2_isInWay_68 ?_
    refine lv_iload_n hx hb dX2_isInWay_71 rfl (lv_at hl 1 rfl) ?_
    obtain ⟨hi2, o3, eo3, hwp⟩ := hwp
    refine x_aald hx hb hK hP 8 i0 ((hO.1 _ h0).1) (Or.inl rfl) hi2 eo3 dX2_isInWay_72 (fun ho3 co3 => ?_)
    refine x_getT hx hb hts hown hK hO hP o3 ho3 (co3.1 rfl) 1 (by decide) q728 (fun _ h9 => h9) dX2_isInWay_73 ?_
    refine lv_aload_n hx hb dX2_isInWay_76 rfl (lv_at hl 0 rfl) ?_
    refine x_get hx hb hts hown hK hP 6 i0 h0 rfl rfl in_X2 6 (by decide) q159 rfl (v := .ref (δ.2.1 8 i0)) rfl dX2_isInWay_77 ?_
    refine lv_iload_n hx hb dX2_isInWay_80 rfl (lv_at hl 2 rfl) ?_
    obtain ⟨hi4, o5, eo5, hwp⟩ := hwp
    refine x_aald hx hb hK hP 8 i0 ((hO.1 _ h0).1) (Or.inl rfl) hi4 eo5 dX2_isInWay_81 (fun ho5 co5 => ?_)
    refine x_getT hx hb hts hown hK hO hP o5 ho5 (co5.1 rfl) 1 (by decide) q728 (fun _ h9 => h9) dX2_isInWay_82 ?_
    refine lv_iload hx hb dX2_isInWay_85 (lv_at hl 5 rfl) ?_
    refine lv_iload hx hb dX2_isInWay_87 (lv_at hl 7 rfl) ?_
    obtain ⟨hz6, hwp⟩ := hwp
    refine lv_idiv hx hb dX2_isInWay_89 hz6 ?_
    refine lv_iload hx hb dX2_isInWay_90 (lv_at hl 8 rfl) ?_
    refine lv_imul hx hb dX2_isInWay_92 ?_
    refine lv_iadd hx hb dX2_isInWay_93 ?_
    refine lv_icmp_ne (tgt := 131) hx hb dX2_isInWay_94 (by decide) (fun c7 => ?_) (fun c7 => ?_)
    · replace hwp := hwp.1 c7
      exact xk_G_isInWay_131 X h0 hL60 _ _ _ _ _ _ _ _ hwp H locs ls hP hO hD hS (lv_sub hl [0, 1, 2, 3, 4, 5, 6, 7, 8] rfl)
    · replace hwp := hwp.2 c7
      refine lv_aload_n hx hb dX2_isInWay_97 rfl (lv_at hl 0 rfl) ?_
      refine x_get hx hb hts hown hK hP 6 i0 h0 rfl rfl in_X2 6 (by decide) q159 rfl (v := .ref (δ.2.1 8 i0)) rfl dX2_isInWay_98 ?_
      refine lv_iload_n hx hb dX2_isInWay_101 rfl (lv_at hl 1 rfl) ?_
      obtain ⟨hi8, o9, eo9, hwp⟩ := hwp
      refine x_aald hx hb hK hP 8 i0 ((hO.1 _ h0).1) (Or.inl rfl) hi8 eo9 dX2_isInWay_102 (fun ho9 co9 => ?_)
      refine x_getT hx hb hts hown hK hO hP o9 ho9 (co9.1 rfl) 2 (by decide) q731 (fun _ h9 => h9) dX2_isInWay_103 ?_
      refine lv_aload_n hx hb dX2_isInWay_106 rfl (lv_at hl 0 rfl) ?_
      refine x_get hx hb hts hown hK hP 6 i0 h0 rfl rfl in_X2 6 (by decide) q159 rfl (v := .ref (δ.2.1 8 i0)) rfl dX2_isInWay_107 ?_
      refine lv_iload_n hx hb dX2_isInWay_110 rfl (lv_at hl 2 rfl) ?_
      obtain ⟨hi10, o11, eo11, hwp⟩ := hwp
      refine x_aald hx hb hK hP 8 i0 ((hO.1 _ h0).1) (Or.inl rfl) hi10 eo11 dX2_isInWay_111 (fun ho11 co11 => ?_)
      refine x_getT hx hb hts hown hK hO hP o11 ho11 (co11.1 rfl) 2 (by decide) q731 (fun _ h9 => h9) dX2_isInWay_112 ?_
      refine lv_iload hx hb dX2_isInWay_115 (lv_at hl 6 rfl) ?_
      refine lv_iload hx hb dX2_isInWay_117 (lv_at hl 7 rfl) ?_
      obtain ⟨hz12, hwp⟩ := hwp
      refine lv_idiv hx hb dX2_isInWay_119 hz12 ?_
      refine lv_iload hx hb dX2_isInWay_120 (lv_at hl 8 rfl) ?_
      refine lv_imul hx hb dX2_isInWay_122 ?_
      refine lv_iadd hx hb dX2_isInWay_123 ?_
      refine lv_icmp_ne (tgt := 131) hx hb dX2_isInWay_124 (by decide) (fun c13 => ?_) (fun c13 => ?_)
      · replace hwp := hwp.1 c13
        exact xk_G_isInWay_131 X h0 hL60 _ _ _ _ _ _ _ _ hwp H locs ls hP hO hD hS (lv_sub hl [0, 1, 2, 3, 4, 5, 6, 7, 8] rfl)
      · replace hwp := hwp.2 c13
        refine lv_iconst (v := 1) hx hb dX2_isInWay_127 (by decide) ?_
        refine lv_goto (tgt := 132) hx hb dX2_isInWay_128 (by decide) ?_
        exact xk_G_isInWay_132 X h0 hL60 _ _ _ _ _ _ _ _ _ hwp H locs ls hP hO hD hS (lv_sub hl [0, 1, 2, 3, 4, 5, 6, 7, 8] rfl)
set_option maxHeartbeats 4000000 in
set_option maxRecDepth 100000 in
theorem xk_G_isInWay_60 {p : Program} {l : Launch} {e : Env} {s : State} {m : MethodId} {args : Array Value} {below : List Frame} {meth : Method} {c : Code} {Γ : GA} {δ : XSh} {σ : XSt} {K : Int32 → Prop} {i0 : Nat} (X : CX p s m args meth c cX2_isInWay 10 (some .boolean) RX2 Γ) (h0 : (6, i0) ∈ δ.1) : ∀ n (x1 : Int32) (x2 : Int32) (x3 : Int32) (x4 : Int32) (x5 : Int32) (x6 : Int32) (x7 : Int32) (x8 : Int32), xw_G_isInWay_60 δ σ K i0 n x1 x2 x3 x4 x5 x6 x7 x8 → TX p l e ({ frames := 17, cells := 0, slots := 0, locals := 357 } : Room) s m args below meth c 10 0 0 (YI below (fun r u => K r ∧ u = (δ, σ)) 0 0 Γ δ s args) Γ δ δ σ 60 [(0, .ref i0), (1, .int x1), (2, .int x2), (3, .int x3), (4, .int x4), (5, .int x5), (6, .int x6), (7, .int x7), (8, .int x8)] [] := by
  intro n
  induction n with
  | zero => intro _ _ _ _ _ _ _ _ hwp; exact hwp.elim
  | succ n ih => intro x1 x2 x3 x4 x5 x6 x7 x8 hwp; exact xk_G_isInWay_60_b X h0 ih x1 x2 x3 x4 x5 x6 x7 x8 hwp
def xw_G_isInWay (δ : XSh) (σ : XSt) (K : Int32 → Prop) (i0 : Nat) (x1 : Int32) (x2 : Int32) (x3 : Int32) (x4 : Int32) : Prop :=
  vp_in x3 8 ∧ ∃ o2, σ.2.2 8 i0 x3.toNatClampNeg = some o2 ∧ (vp_in x2 8 ∧ ∃ o4, σ.2.2 8 i0 x2.toNatClampNeg = some o4 ∧ (vp_in x3 8 ∧ ∃ o6, σ.2.2 8 i0 x3.toNatClampNeg = some o6 ∧ (vp_in x2 8 ∧ ∃ o8, σ.2.2 8 i0 x2.toNatClampNeg = some o8 ∧ (∀ r9, r9 = (if 0 ≤ ((σ.1 7 o2 1) - (σ.1 7 o4 1)) then ((σ.1 7 o2 1) - (σ.1 7 o4 1)) else 0 - ((σ.1 7 o2 1) - (σ.1 7 o4 1))) → (∀ r10, r10 = (if 0 ≤ ((σ.1 7 o6 2) - (σ.1 7 o8 2)) then ((σ.1 7 o6 2) - (σ.1 7 o8 2)) else 0 - ((σ.1 7 o6 2) - (σ.1 7 o8 2))) → (xw_G_common δ σ 16 (fun r11 => ∃ n, xw_G_isInWay_60 δ σ K i0 n x1 x2 x3 x4 ((σ.1 7 o2 1) - (σ.1 7 o4 1)) ((σ.1 7 o6 2) - (σ.1 7 o8 2)) r11 1) r9 r10))))))
set_option maxHeartbeats 4000000 in
set_option maxRecDepth 100000 in
theorem xt_G_isInWay {l : Launch} {Γ : GA} {δ : XSh} {σ : XSt} {K : Int32 → Prop} {i0 : Nat} (h0 : (6, i0) ∈ δ.1) {x1 : Int32} {x2 : Int32} {x3 : Int32} {x4 : Int32} (hwp : xw_G_isInWay δ σ K i0 x1 x2 x3 x4) : xI l yX2_isInWay cX2_isInWay 10 (some .boolean) ({ frames := 17, cells := 0, slots := 0, locals := 357 } : Room) 0 0 Γ δ [.ref i0, .int x1, .int x2, .int x3, .int x4] σ (fun r u => K r ∧ u = (δ, σ)) := by
  intro sz
  refine x_of (by decide) [(0, .ref i0), (1, .int x1), (2, .int x2), (3, .int x3), (4, .int x4)] (fun _ h => h) (Nat.le_of_ble_eq_true rfl) ?_
  intro p e s m args below meth c hsz X H locs ls hP hO hD hS hl
  subst hsz
  obtain ⟨hx, hb, hml, hown, hts, hK, hr, hlk⟩ := id X
  have hA : ∀ q, s.heap.size ≤ q → AX δ s.heap.size q := fun q h => Or.inr h
  unfold xw_G_isInWay at hwp
  refine lv_aload_n hx hb dX2_isInWay_0 rfl (lv_at hl 0 rfl) ?_
  refine x_get hx hb hts hown hK hP 6 i0 h0 rfl rfl in_X2 6 (by decide) q159 rfl (v := .ref (δ.2.1 8 i0)) rfl dX2_isInWay_1 ?_
  refine lv_iload_n hx hb dX2_isInWay_4 rfl (lv_at hl 3 rfl) ?_
  obtain ⟨hi1, o2, eo2, hwp⟩ := hwp
  refine x_aald hx hb hK hP 8 i0 ((hO.1 _ h0).1) (Or.inl rfl) hi1 eo2 dX2_isInWay_5 (fun ho2 co2 => ?_)
  refine x_getT hx hb hts hown hK hO hP o2 ho2 (co2.1 rfl) 1 (by decide) q728 (fun _ h9 => h9) dX2_isInWay_6 ?_
  refine lv_aload_n hx hb dX2_isInWay_9 rfl (lv_at hl 0 rfl) ?_
  refine x_get hx hb hts hown hK hP 6 i0 h0 rfl rfl in_X2 6 (by decide) q159 rfl (v := .ref (δ.2.1 8 i0)) rfl dX2_isInWay_10 ?_
  refine lv_iload_n hx hb dX2_isInWay_13 rfl (lv_at hl 2 rfl) ?_
  obtain ⟨hi3, o4, eo4, hwp⟩ := hwp
  refine x_aald hx hb hK hP 8 i0 ((hO.1 _ h0).1) (Or.inl rfl) hi3 eo4 dX2_isInWay_14 (fun ho4 co4 => ?_)
  refine x_getT hx hb hts hown hK hO hP o4 ho4 (co4.1 rfl) 1 (by decide) q728 (fun _ h9 => h9) dX2_isInWay_15 ?_
  refine lv_isub hx hb dX2_isInWay_18 ?_
  refine lv_istore (lv' := [(5, .int ((σ.1 7 o2 1) - (σ.1 7 o4 1))), (0, .ref i0), (1, .int x1), (2, .int x2), (3, .int x3), (4, .int x4)]) hx hb dX2_isInWay_19 hl (by decide) rfl (fun ls hl => ?_)
  refine lv_aload_n hx hb dX2_isInWay_21 rfl (lv_at hl 1 rfl) ?_
  refine x_get hx hb hts hown hK hP 6 i0 h0 rfl rfl in_X2 6 (by decide) q159 rfl (v := .ref (δ.2.1 8 i0)) rfl dX2_isInWay_22 ?_
  refine lv_iload_n hx hb dX2_isInWay_25 rfl (lv_at hl 4 rfl) ?_
  obtain ⟨hi5, o6, eo6, hwp⟩ := hwp
  refine x_aald hx hb hK hP 8 i0 ((hO.1 _ h0).1) (Or.inl rfl) hi5 eo6 dX2_isInWay_26 (fun ho6 co6 => ?_)
  refine x_getT hx hb hts hown hK hO hP o6 ho6 (co6.1 rfl) 2 (by decide) q731 (fun _ h9 => h9) dX2_isInWay_27 ?_
  refine lv_aload_n hx hb dX2_isInWay_30 rfl (lv_at hl 1 rfl) ?_
  refine x_get hx hb hts hown hK hP 6 i0 h0 rfl rfl in_X2 6 (by decide) q159 rfl (v := .ref (δ.2.1 8 i0)) rfl dX2_isInWay_31 ?_
  refine lv_iload_n hx hb dX2_isInWay_34 rfl (lv_at hl 3 rfl) ?_
  obtain ⟨hi7, o8, eo8, hwp⟩ := hwp
  refine x_aald hx hb hK hP 8 i0 ((hO.1 _ h0).1) (Or.inl rfl) hi7 eo8 dX2_isInWay_35 (fun ho8 co8 => ?_)
  refine x_getT hx hb hts hown hK hO hP o8 ho8 (co8.1 rfl) 2 (by decide) q731 (fun _ h9 => h9) dX2_isInWay_36 ?_
  refine lv_isub hx hb dX2_isInWay_39 ?_
  refine lv_istore (lv' := [(6, .int ((σ.1 7 o6 2) - (σ.1 7 o8 2))), (5, .int ((σ.1 7 o2 1) - (σ.1 7 o4 1))), (0, .ref i0), (1, .int x1), (2, .int x2), (3, .int x3), (4, .int x4)]) hx hb dX2_isInWay_40 hl (by decide) rfl (fun ls hl => ?_)
  refine lv_iload hx hb dX2_isInWay_42 (lv_at hl 1 rfl) ?_
  refine va_mabs hx hb (hml.trans hl.1.symm) hown (hts _ q590) (hts _ q591) (hts _ q95) (hts _ q592) (Nat.le_of_ble_eq_true rfl) (Nat.le_of_ble_eq_true rfl) (Nat.le_of_ble_eq_true rfl) (Nat.le_of_ble_eq_true rfl) dX2_isInWay_44 ?_
  refine lv_topi (fun r9 er9 => ?_)
  replace hwp := hwp r9 er9
  refine lv_iload hx hb dX2_isInWay_47 (lv_at hl 0 rfl) ?_
  refine va_mabs hx hb (hml.trans hl.1.symm) hown (hts _ q590) (hts _ q591) (hts _ q95) (hts _ q592) (Nat.le_of_ble_eq_true rfl) (Nat.le_of_ble_eq_true rfl) (Nat.le_of_ble_eq_true rfl) (Nat.le_of_ble_eq_true rfl) dX2_isInWay_49 ?_
  refine lv_topi (fun r10 er10 => ?_)
  replace hwp := hwp r10 er10
  refine x_goi (va_runS (As := [.int r9, .int r10]) (rest := []) ⟨hx, hb, hml, hown, hts⟩ (xt_G_common 16 hwp H.size) (va_cwS 2 hts (lw_S q604 q605 q77 q606) rfl rfl rfl (by decide +kernel) ⟨Nat.le_of_ble_eq_true rfl, Nat.le_of_ble_eq_true rfl⟩) (x_preS hK hO hD hP) rfl rfl hl.1 rfl (lv_room (Nat.le_of_ble_eq_true rfl)) dX2_isInWay_52 ⟨Nat.le_of_ble_eq_true rfl, Nat.le_of_ble_eq_true rfl⟩) hD hA hS (fun r11 u H locs hk hP hO hD hS => ?_)
  obtain ⟨hwp, eu⟩ := hk
  subst eu
  dsimp only at hP hO hD
  refine lv_istore (lv' := [(7, .int r11), (6, .int ((σ.1 7 o6 2) - (σ.1 7 o8 2))), (5, .int ((σ.1 7 o2 1) - (σ.1 7 o4 1))), (0, .ref i0), (1, .int x1), (2, .int x2), (3, .int x3), (4, .int x4)]) hx hb dX2_isInWay_55 hl (by decide) rfl (fun ls hl => ?_)
  refine lv_iconst (v := 1) hx hb dX2_isInWay_57 (by decide) ?_
  refine lv_istore (lv' := [(8, .int 1), (7, .int r11), (6, .int ((σ.1 7 o6 2) - (σ.1 7 o8 2))), (5, .int ((σ.1 7 o2 1) - (σ.1 7 o4 1))), (0, .ref i0), (1, .int x1), (2, .int x2), (3, .int x3), (4, .int x4)]) hx hb dX2_isInWay_58 hl (by decide) rfl (fun ls hl => ?_)
  obtain ⟨n, hwp⟩ := hwp
  exact xk_G_isInWay_60 X h0 n _ _ _ _ _ _ _ _ hwp H locs ls hP hO hD hS (lv_sub hl [4, 5, 6, 7, 8, 3, 2, 1, 0] rfl)
/-! G_bars -/
def xw_G_bars_47_b (δ : XSh) (σ : XSt) (K : Int32 → Prop) (i0 : Nat) (L47 : Int32 → Int32 → Int32 → Int32 → Prop) (x1 : Int32) (x2 : Int32) (x3 : Int32) (x4 : Int32) : Prop :=
  (((σ.1 6 i0 0) ≤ x4) → (K (-1))) ∧ ((¬ ((σ.1 6 i0 0) ≤ x4)) → (((x4 = x1) → (L47 x1 x2 x3 (x4 + 1))) ∧ ((¬ (x4 = x1)) → (((x4 = x2) → (L47 x1 x2 x3 (x4 + 1))) ∧ ((¬ (x4 = x2)) → (xw_G_isInWay δ σ (fun r4 => ((r4 = 0) → (L47 x1 x2 x3 (x4 + 1))) ∧ ((¬ (r4 = 0)) → (K x4))) i0 x4 x1 x2 x3))))))
def xw_G_bars_47 (δ : XSh) (σ : XSt) (K : Int32 → Prop) (i0 : Nat) : Nat → Int32 → Int32 → Int32 → Int32 → Prop
  | 0 => fun _ _ _ _ => False
  | n + 1 => fun x1 x2 x3 x4 => xw_G_bars_47_b δ σ K i0 (xw_G_bars_47 δ σ K i0 n) x1 x2 x3 x4
set_option maxHeartbeats 4000000 in
set_option maxRecDepth 100000 in
theorem xk_G_bars_47_b {p : Program} {l : Launch} {e : Env} {s : State} {m : MethodId} {args : Array Value} {below : List Frame} {meth : Method} {c : Code} {Γ : GA} {δ : XSh} {σ : XSt} {K : Int32 → Prop} {i0 : Nat} (X : CX p s m args meth c cX2_bars 5 (some .int) RX2 Γ) (h0 : (6, i0) ∈ δ.1) {L47 : Int32 → Int32 → Int32 → Int32 → Prop} (hL47 : ∀ (x1 : Int32) (x2 : Int32) (x3 : Int32) (x4 : Int32), L47 x1 x2 x3 x4 → TX p l e ({ frames := 18, cells := 0, slots := 0, locals := 386 } : Room) s m args below meth c 5 0 0 (YI below (fun r u => K r ∧ u = (δ, σ)) 0 0 Γ δ s args) Γ δ δ σ 47 [(0, .ref i0), (1, .int x1), (2, .int x2), (3, .int x3), (4, .int x4)] []) : ∀ (x1 : Int32) (x2 : Int32) (x3 : Int32) (x4 : Int32), xw_G_bars_47_b δ σ K i0 L47 x1 x2 x3 x4 → TX p l e ({ frames := 18, cells := 0, slots := 0, locals := 386 } : Room) s m args below meth c 5 0 0 (YI below (fun r u => K r ∧ u = (δ, σ)) 0 0 Γ δ s args) Γ δ δ σ 47 [(0, .ref i0), (1, .int x1), (2, .int x2), (3, .int x3), (4, .int x4)] [] := by
  obtain ⟨hx, hb, hml, hown, hts, hK, hr, hlk⟩ := id X
  have hA : ∀ q, s.heap.size ≤ q → AX δ s.heap.size q := fun q h => Or.inr h
  intro x1 x2 x3 x4 hwp H locs ls hP hO hD hS hl
  unfold xw_G_bars_47_b at hwp
  refine lv_iload hx hb dX2_bars_47 (lv_at hl 4 rfl) ?_
  refine lv_aload_n hx hb dX2_bars_49 rfl (lv_at hl 0 rfl) ?_
  refine x_get hx hb hts hown hK hP 6 i0 h0 rfl rfl in_X2 0 (by decide) q143 rfl (v := .int (σ.1 6 i0 0)) rfl dX2_bars_50 ?_
  refine lv_icmp_ge (tgt := 89) hx hb dX2_bars_53 (by decide) (fun c1 => ?_) (fun c1 => ?_)
  · replace hwp := hwp.1 c1
    refine lv_iconst (v := (-1)) hx hb dX2_bars_89 (by decide) ?_
    exact x_iret hx hb hr hlk hP hO hD hS ⟨hwp, rfl⟩ dX2_bars_90
  · replace hwp := hwp.2 c1
    refine lv_iload hx hb dX2_bars_56 (lv_at hl 4 rfl) ?_
    refine lv_iload_n hx hb dX2_bars_58 rfl (lv_at hl 1 rfl) ?_
    refine lv_icmp_eq (tgt := 83) hx hb dX2_bars_59 (by decide) (fun c2 => ?_) (fun c2 => ?_)
    · replace hwp := hwp.1 c2
      refine lv_iinc (v := x4 + 1) (lv' := [(4, .int (x4 + 1)), (0, .ref i0), (1, .int x1), (2, .int x2), (3, .int x3)]) hx hb dX2_bars_83 hl (k := 4) rfl rfl (by decide) rfl (fun ls hl => ?_)
      refine lv_goto (tgt := 47) hx hb dX2_bars_86 (by decide) ?_
      exact hL47 _ _ _ _ hwp H locs ls hP hO hD hS (lv_sub hl [1, 2, 3, 4, 0] rfl)
    · replace hwp := hwp.2 c2
      refine lv_iload hx hb dX2_bars_62 (lv_at hl 4 rfl) ?_
      refine lv_iload_n hx hb dX2_bars_64 rfl (lv_at hl 2 rfl) ?_
      refine lv_icmp_eq (tgt := 83) hx hb dX2_bars_65 (by decide) (fun c3 => ?_) (fun c3 => ?_)
      · replace hwp := hwp.1 c3
        refine lv_iinc (v := x4 + 1) (lv' := [(4, .int (x4 + 1)), (0, .ref i0), (1, .int x1), (2, .int x2), (3, .int x3)]) hx hb dX2_bars_83 hl (k := 4) rfl rfl (by decide) rfl (fun ls hl => ?_)
        refine lv_goto (tgt := 47) hx hb dX2_bars_86 (by decide) ?_
        exact hL47 _ _ _ _ hwp H locs ls hP hO hD hS (lv_sub hl [1, 2, 3, 4, 0] rfl)
      · replace hwp := hwp.2 c3
        refine lv_aload_n hx hb dX2_bars_68 rfl (lv_at hl 0 rfl) ?_
        refine lv_iload hx hb dX2_bars_69 (lv_at hl 4 rfl) ?_
        refine lv_iload_n hx hb dX2_bars_71 rfl (lv_at hl 1 rfl) ?_
        refine lv_iload_n hx hb dX2_bars_72 rfl (lv_at hl 2 rfl) ?_
        refine lv_iload_n hx hb dX2_bars_73 rfl (lv_at hl 3 rfl) ?_
        refine x_goi (va_runV (As := [.int x4, .int x1, .int x2, .int x3]) (rest := []) ⟨hx, hb, hml, hown, hts⟩ (xt_G_isInWay h0 hwp H.size) (cwV 4 hts (lw_V q600 q602 qs4 q77 q603) rfl rfl rfl (by decide +kernel) ⟨Nat.le_of_ble_eq_true rfl, Nat.le_of_ble_eq_true rfl⟩) (x_preV hK hO hD hP 6 i0 h0 rfl rfl) rfl rfl hl.1 rfl (lv_room (Nat.le_of_ble_eq_true rfl)) dX2_bars_74 ⟨Nat.le_of_ble_eq_true rfl, Nat.le_of_ble_eq_true rfl⟩) hD hA hS (fun r4 u H locs hk hP hO hD hS => ?_)
        obtain ⟨hwp, eu⟩ := hk
        subst eu
        dsimp only at hP hO hD
        refine lv_if_eq (tgt := 83) hx hb dX2_bars_77 (by decide) (fun c5 => ?_) (fun c5 => ?_)
        · replace hwp := hwp.1 c5
          refine lv_iinc (v := x4 + 1) (lv' := [(4, .int (x4 + 1)), (0, .ref i0), (1, .int x1), (2, .int x2), (3, .int x3)]) hx hb dX2_bars_83 hl (k := 4) rfl rfl (by decide) rfl (fun ls hl => ?_)
          refine lv_goto (tgt := 47) hx hb dX2_bars_86 (by decide) ?_
          exact hL47 _ _ _ _ hwp H locs ls hP hO hD hS (lv_sub hl [1, 2, 3, 4, 0] rfl)
        · replace hwp := hwp.2 c5
          refine lv_iload hx hb dX2_bars_80 (lv_at hl 4 rfl) ?_
          exact x_iret hx hb hr hlk hP hO hD hS ⟨hwp, rfl⟩ dX2_bars_82
set_option maxHeartbeats 4000000 in
set_option maxRecDepth 100000 in
theorem xk_G_bars_47 {p : Program} {l : Launch} {e : Env} {s : State} {m : MethodId} {args : Array Value} {below : List Frame} {meth : Method} {c : Code} {Γ : GA} {δ : XSh} {σ : XSt} {K : Int32 → Prop} {i0 : Nat} (X : CX p s m args meth c cX2_bars 5 (some .int) RX2 Γ) (h0 : (6, i0) ∈ δ.1) : ∀ n (x1 : Int32) (x2 : Int32) (x3 : Int32) (x4 : Int32), xw_G_bars_47 δ σ K i0 n x1 x2 x3 x4 → TX p l e ({ frames := 18, cells := 0, slots := 0, locals := 386 } : Room) s m args below meth c 5 0 0 (YI below (fun r u => K r ∧ u = (δ, σ)) 0 0 Γ δ s args) Γ δ δ σ 47 [(0, .ref i0), (1, .int x1), (2, .int x2), (3, .int x3), (4, .int x4)] [] := by
  intro n
  induction n with
  | zero => intro _ _ _ _ hwp; exact hwp.elim
  | succ n ih => intro x1 x2 x3 x4 hwp; exact xk_G_bars_47_b X h0 ih x1 x2 x3 x4 hwp
def xw_G_bars (δ : XSh) (σ : XSt) (K : Int32 → Prop) (i0 : Nat) (x1 : Int32) (x2 : Int32) : Prop :=
  vp_in x1 8 ∧ ∃ o2, σ.2.2 8 i0 x1.toNatClampNeg = some o2 ∧ (vp_in x1 8 ∧ (xv_T_eyes δ σ (fun r4 => ((¬ (r4 = (-1))) → (vp_in x1 8 ∧ ∃ o7, σ.2.2 8 i0 x1.toNatClampNeg = some o7 ∧ (vp_in x1 8 ∧ (xv_T_eyes δ σ (fun r9 => ∃ n, xw_G_bars_47 δ σ K i0 n x1 x2 r9 0) o7 (σ.1 9 i0 x1.toNatClampNeg))))) ∧ ((r4 = (-1)) → (vp_in x1 8 ∧ (∃ n, xw_G_bars_47 δ σ K i0 n x1 x2 (σ.1 9 i0 x1.toNatClampNeg) 0)))) o2 (σ.1 9 i0 x1.toNatClampNeg)))
set_option maxHeartbeats 4000000 in
set_option maxRecDepth 100000 in
theorem xt_G_bars {l : Launch} {Γ : GA} {δ : XSh} {σ : XSt} {K : Int32 → Prop} {i0 : Nat} (h0 : (6, i0) ∈ δ.1) {x1 : Int32} {x2 : Int32} (hwp : xw_G_bars δ σ K i0 x1 x2) : xI l yX2_bars cX2_bars 5 (some .int) ({ frames := 18, cells := 0, slots := 0, locals := 386 } : Room) 0 0 Γ δ [.ref i0, .int x1, .int x2] σ (fun r u => K r ∧ u = (δ, σ)) := by
  intro sz
  refine x_of (by decide) [(0, .ref i0), (1, .int x1), (2, .int x2)] (fun _ h => h) (Nat.le_of_ble_eq_true rfl) ?_
  intro p e s m args below meth c hsz X H locs ls hP hO hD hS hl
  subst hsz
  obtain ⟨hx, hb, hml, hown, hts, hK, hr, hlk⟩ := id X
  have hA : ∀ q, s.heap.size ≤ q → AX δ s.heap.size q := fun q h => Or.inr h
  unfold xw_G_bars at hwp
  refine lv_aload_n hx hb dX2_bars_0 rfl (lv_at hl 0 rfl) ?_
  refine x_get hx hb hts hown hK hP 6 i0 h0 rfl rfl in_X2 6 (by decide) q159 rfl (v := .ref (δ.2.1 8 i0)) rfl dX2_bars_1 ?_
  refine lv_iload_n hx hb dX2_bars_4 rfl (lv_at hl 1 rfl) ?_
  obtain ⟨hi1, o2, eo2, hwp⟩ := hwp
  refine x_aald hx hb hK hP 8 i0 ((hO.1 _ h0).1) (Or.inl rfl) hi1 eo2 dX2_bars_5 (fun ho2 co2 => ?_)
  refine lv_aload_n hx hb dX2_bars_6 rfl (lv_at hl 0 rfl) ?_
  refine x_get hx hb hts hown hK hP 6 i0 h0 rfl rfl in_X2 7 (by decide) q161 rfl (v := .ref (δ.2.1 9 i0)) rfl dX2_bars_7 ?_
  refine lv_iload_n hx hb dX2_bars_10 rfl (lv_at hl 1 rfl) ?_
  obtain ⟨hi3, hwp⟩ := hwp
  refine x_iald hx hb hK hP 9 i0 ((hO.1 _ h0).2.1) rfl hi3 dX2_bars_11 ?_
  refine x_goi (xr_T_eyes (As := [.int (σ.1 9 i0 x1.toNatClampNeg)]) (rest := []) ⟨hx, hb, hml, hown, hts⟩ hK hD hO hP ho2 (co2.1 rfl) hwp q567 ⟨Nat.le_of_ble_eq_true rfl, Nat.le_of_ble_eq_true rfl⟩ rfl hl.1 rfl (Nat.le_of_ble_eq_true rfl) dX2_bars_12 ⟨Nat.le_of_ble_eq_true rfl, Nat.le_of_ble_eq_true rfl⟩) hD hA hS (fun r4 u H locs hk hP hO hD hS => ?_)
  obtain ⟨hwp, eu⟩ := hk
  subst eu
  dsimp only at hP hO hD
  refine lv_iconst (v := (-1)) hx hb dX2_bars_15 (by decide) ?_
  refine lv_icmp_ne (tgt := 28) hx hb dX2_bars_16 (by decide) (fun c5 => ?_) (fun c5 => ?_)
  · replace hwp := hwp.1 c5
    refine lv_aload_n hx hb dX2_bars_28 rfl (lv_at hl 0 rfl) ?_
    refine x_get hx hb hts hown hK hP 6 i0 h0 rfl rfl in_X2 6 (by decide) q159 rfl (v := .ref (δ.2.1 8 i0)) rfl dX2_bars_29 ?_
    refine lv_iload_n hx hb dX2_bars_32 rfl (lv_at hl 1 rfl) ?_
    obtain ⟨hi6, o7, eo7, hwp⟩ := hwp
    refine x_aald hx hb hK hP 8 i0 ((hO.1 _ h0).1) (Or.inl rfl) hi6 eo7 dX2_bars_33 (fun ho7 co7 => ?_)
    refine lv_aload_n hx hb dX2_bars_34 rfl (lv_at hl 0 rfl) ?_
    refine x_get hx hb hts hown hK hP 6 i0 h0 rfl rfl in_X2 7 (by decide) q161 rfl (v := .ref (δ.2.1 9 i0)) rfl dX2_bars_35 ?_
    refine lv_iload_n hx hb dX2_bars_38 rfl (lv_at hl 1 rfl) ?_
    obtain ⟨hi8, hwp⟩ := hwp
    refine x_iald hx hb hK hP 9 i0 ((hO.1 _ h0).2.1) rfl hi8 dX2_bars_39 ?_
    refine x_goi (xr_T_eyes (As := [.int (σ.1 9 i0 x1.toNatClampNeg)]) (rest := []) ⟨hx, hb, hml, hown, hts⟩ hK hD hO hP ho7 (co7.1 rfl) hwp q567 ⟨Nat.le_of_ble_eq_true rfl, Nat.le_of_ble_eq_true rfl⟩ rfl hl.1 rfl (Nat.le_of_ble_eq_true rfl) dX2_bars_40 ⟨Nat.le_of_ble_eq_true rfl, Nat.le_of_ble_eq_true rfl⟩) hD hA hS (fun r9 u H locs hk hP hO hD hS => ?_)
    obtain ⟨hwp, eu⟩ := hk
    subst eu
    dsimp only at hP hO hD
    refine lv_istore_n (lv' := [(3, .int r9), (0, .ref i0), (1, .int x1), (2, .int x2)]) hx hb dX2_bars_43 rfl hl (by decide) rfl (fun ls hl => ?_)
    refine lv_iconst (v := 0) hx hb dX2_bars_44 (by decide) ?_
    refine lv_istore (lv' := [(4, .int 0), (3, .int r9), (0, .ref i0), (1, .int x1), (2, .int x2)]) hx hb dX2_bars_45 hl (by decide) rfl (fun ls hl => ?_)
    obtain ⟨n, hwp⟩ := hwp
    exact xk_G_bars_47 X h0 n _ _ _ _ hwp H locs ls hP hO hD hS (lv_sub hl [2, 3, 4, 1, 0] rfl)
  · replace hwp := hwp.2 c5
    refine lv_aload_n hx hb dX2_bars_19 rfl (lv_at hl 0 rfl) ?_
    refine x_get hx hb hts hown hK hP 6 i0 h0 rfl rfl in_X2 7 (by decide) q161 rfl (v := .ref (δ.2.1 9 i0)) rfl dX2_bars_20 ?_
    refine lv_iload_n hx hb dX2_bars_23 rfl (lv_at hl 1 rfl) ?_
    obtain ⟨hi10, hwp⟩ := hwp
    refine x_iald hx hb hK hP 9 i0 ((hO.1 _ h0).2.1) rfl hi10 dX2_bars_24 ?_
    refine lv_goto (tgt := 43) hx hb dX2_bars_25 (by decide) ?_
    refine lv_istore_n (lv' := [(3, .int (σ.1 9 i0 x1.toNatClampNeg)), (0, .ref i0), (1, .int x1), (2, .int x2)]) hx hb dX2_bars_43 rfl hl (by decide) rfl (fun ls hl => ?_)
    refine lv_iconst (v := 0) hx hb dX2_bars_44 (by decide) ?_
    refine lv_istore (lv' := [(4, .int 0), (3, .int (σ.1 9 i0 x1.toNatClampNeg)), (0, .ref i0), (1, .int x1), (2, .int x2)]) hx hb dX2_bars_45 hl (by decide) rfl (fun ls hl => ?_)
    obtain ⟨n, hwp⟩ := hwp
    exact xk_G_bars_47 X h0 n _ _ _ _ hwp H locs ls hP hO hD hS (lv_sub hl [2, 3, 4, 1, 0] rfl)
/-! G_looksInto -/
def xw_G_looksInto (δ : XSh) (σ : XSt) (K : Int32 → Prop) (i0 : Nat) (x1 : Int32) (x2 : Int32) : Prop :=
  vp_in x1 8 ∧ ∃ o2, σ.2.2 8 i0 x1.toNatClampNeg = some o2 ∧ (vp_in x1 8 ∧ (xv_T_eyes δ σ (fun r4 => ((r4 = (-1)) → (K 0)) ∧ ((¬ (r4 = (-1))) → (xw_G_distance δ σ (fun r6 => (((σ.1 6 i0 2) < r6) → (K 0)) ∧ ((¬ ((σ.1 6 i0 2) < r6)) → (xw_G_bars δ σ (fun r8 => ((¬ (r8 = (-1))) → (K 0)) ∧ ((r8 = (-1)) → (K 1))) i0 x1 x2))) i0 x1 x2))) o2 (σ.1 9 i0 x1.toNatClampNeg)))
set_option maxHeartbeats 4000000 in
set_option maxRecDepth 100000 in
theorem xt_G_looksInto {l : Launch} {Γ : GA} {δ : XSh} {σ : XSt} {K : Int32 → Prop} {i0 : Nat} (h0 : (6, i0) ∈ δ.1) {x1 : Int32} {x2 : Int32} (hwp : xw_G_looksInto δ σ K i0 x1 x2) : xI l yX2_looksInto cX2_looksInto 3 (some .boolean) ({ frames := 19, cells := 0, slots := 0, locals := 410 } : Room) 0 0 Γ δ [.ref i0, .int x1, .int x2] σ (fun r u => K r ∧ u = (δ, σ)) := by
  intro sz
  refine x_of (by decide) [(0, .ref i0), (1, .int x1), (2, .int x2)] (fun _ h => h) (Nat.le_of_ble_eq_true rfl) ?_
  intro p e s m args below meth c hsz X H locs ls hP hO hD hS hl
  subst hsz
  obtain ⟨hx, hb, hml, hown, hts, hK, hr, hlk⟩ := id X
  have hA : ∀ q, s.heap.size ≤ q → AX δ s.heap.size q := fun q h => Or.inr h
  unfold xw_G_looksInto at hwp
  refine lv_aload_n hx hb dX2_looksInto_0 rfl (lv_at hl 0 rfl) ?_
  refine x_get hx hb hts hown hK hP 6 i0 h0 rfl rfl in_X2 6 (by decide) q159 rfl (v := .ref (δ.2.1 8 i0)) rfl dX2_looksInto_1 ?_
  refine lv_iload_n hx hb dX2_looksInto_4 rfl (lv_at hl 1 rfl) ?_
  obtain ⟨hi1, o2, eo2, hwp⟩ := hwp
  refine x_aald hx hb hK hP 8 i0 ((hO.1 _ h0).1) (Or.inl rfl) hi1 eo2 dX2_looksInto_5 (fun ho2 co2 => ?_)
  refine lv_aload_n hx hb dX2_looksInto_6 rfl (lv_at hl 0 rfl) ?_
  refine x_get hx hb hts hown hK hP 6 i0 h0 rfl rfl in_X2 7 (by decide) q161 rfl (v := .ref (δ.2.1 9 i0)) rfl dX2_looksInto_7 ?_
  refine lv_iload_n hx hb dX2_looksInto_10 rfl (lv_at hl 1 rfl) ?_
  obtain ⟨hi3, hwp⟩ := hwp
  refine x_iald hx hb hK hP 9 i0 ((hO.1 _ h0).2.1) rfl hi3 dX2_looksInto_11 ?_
  refine x_goi (xr_T_eyes (As := [.int (σ.1 9 i0 x1.toNatClampNeg)]) (rest := []) ⟨hx, hb, hml, hown, hts⟩ hK hD hO hP ho2 (co2.1 rfl) hwp q567 ⟨Nat.le_of_ble_eq_true rfl, Nat.le_of_ble_eq_true rfl⟩ rfl hl.1 rfl (Nat.le_of_ble_eq_true rfl) dX2_looksInto_12 ⟨Nat.le_of_ble_eq_true rfl, Nat.le_of_ble_eq_true rfl⟩) hD hA hS (fun r4 u H locs hk hP hO hD hS => ?_)
  obtain ⟨hwp, eu⟩ := hk
  subst eu
  dsimp only at hP hO hD
  refine lv_iconst (v := (-1)) hx hb dX2_looksInto_15 (by decide) ?_
  refine lv_icmp_eq (tgt := 46) hx hb dX2_looksInto_16 (by decide) (fun c5 => ?_) (fun c5 => ?_)
  · replace hwp := hwp.1 c5
    refine lv_iconst (v := 0) hx hb dX2_looksInto_46 (by decide) ?_
    exact x_zret (v := 0) hx hb hr hlk hP hO hD hS (Or.inl rfl) ⟨hwp, rfl⟩ dX2_looksInto_47
  · replace hwp := hwp.2 c5
    refine lv_aload_n hx hb dX2_looksInto_19 rfl (lv_at hl 0 rfl) ?_
    refine lv_iload_n hx hb dX2_looksInto_20 rfl (lv_at hl 1 rfl) ?_
    refine lv_iload_n hx hb dX2_looksInto_21 rfl (lv_at hl 2 rfl) ?_
    refine x_goi (va_runV (As := [.int x1, .int x2]) (rest := []) ⟨hx, hb, hml, hown, hts⟩ (xt_G_distance h0 hwp H.size) (cwV 2 hts (lw_V q586 q587 q588 q77 q589) rfl rfl rfl (by decide +kernel) ⟨Nat.le_of_ble_eq_true rfl, Nat.le_of_ble_eq_true rfl⟩) (x_preV hK hO hD hP 6 i0 h0 rfl rfl) rfl rfl hl.1 rfl (lv_room (Nat.le_of_ble_eq_true rfl)) dX2_looksInto_22 ⟨Nat.le_of_ble_eq_true rfl, Nat.le_of_ble_eq_true rfl⟩) hD hA hS (fun r6 u H locs hk hP hO hD hS => ?_)
    obtain ⟨hwp, eu⟩ := hk
    subst eu
    dsimp only at hP hO hD
    refine lv_aload_n hx hb dX2_looksInto_25 rfl (lv_at hl 0 rfl) ?_
    refine x_get hx hb hts hown hK hP 6 i0 h0 rfl rfl in_X2 2 (by decide) q149 rfl (v := .int (σ.1 6 i0 2)) rfl dX2_looksInto_26 ?_
    refine lv_icmp_gt (tgt := 46) hx hb dX2_looksInto_29 (by decide) (fun c7 => ?_) (fun c7 => ?_)
    · replace hwp := hwp.1 c7
      refine lv_iconst (v := 0) hx hb dX2_looksInto_46 (by decide) ?_
      exact x_zret (v := 0) hx hb hr hlk hP hO hD hS (Or.inl rfl) ⟨hwp, rfl⟩ dX2_looksInto_47
    · replace hwp := hwp.2 c7
      refine lv_aload_n hx hb dX2_looksInto_32 rfl (lv_at hl 0 rfl) ?_
      refine lv_iload_n hx hb dX2_looksInto_33 rfl (lv_at hl 1 rfl) ?_
      refine lv_iload_n hx hb dX2_looksInto_34 rfl (lv_at hl 2 rfl) ?_
      refine x_goi (va_runV (As := [.int x1, .int x2]) (rest := []) ⟨hx, hb, hml, hown, hts⟩ (xt_G_bars h0 hwp H.size) (cwV 2 hts (lw_V q596 q597 q598 q77 q599) rfl rfl rfl (by decide +kernel) ⟨Nat.le_of_ble_eq_true rfl, Nat.le_of_ble_eq_true rfl⟩) (x_preV hK hO hD hP 6 i0 h0 rfl rfl) rfl rfl hl.1 rfl (lv_room (Nat.le_of_ble_eq_true rfl)) dX2_looksInto_35 ⟨Nat.le_of_ble_eq_true rfl, Nat.le_of_ble_eq_true rfl⟩) hD hA hS (fun r8 u H locs hk hP hO hD hS => ?_)
      obtain ⟨hwp, eu⟩ := hk
      subst eu
      dsimp only at hP hO hD
      refine lv_iconst (v := (-1)) hx hb dX2_looksInto_38 (by decide) ?_
      refine lv_icmp_ne (tgt := 46) hx hb dX2_looksInto_39 (by decide) (fun c9 => ?_) (fun c9 => ?_)
      · replace hwp := hwp.1 c9
        refine lv_iconst (v := 0) hx hb dX2_looksInto_46 (by decide) ?_
        exact x_zret (v := 0) hx hb hr hlk hP hO hD hS (Or.inl rfl) ⟨hwp, rfl⟩ dX2_looksInto_47
      · replace hwp := hwp.2 c9
        refine lv_iconst (v := 1) hx hb dX2_looksInto_42 (by decide) ?_
        refine lv_goto (tgt := 47) hx hb dX2_looksInto_43 (by decide) ?_
        exact x_zret (v := 1) hx hb hr hlk hP hO hD hS (Or.inr rfl) ⟨hwp, rfl⟩ dX2_looksInto_47
/-! G_seesInto -/
def xw_G_seesInto (δ : XSh) (σ : XSt) (K : Int32 → Prop) (i0 : Nat) (x1 : Int32) (x2 : Int32) : Prop :=
  ((¬ ((((σ.1 6 i0 3) >>> (x1 &&& 31)) &&& 1) = 0)) → (K 0)) ∧ (((((σ.1 6 i0 3) >>> (x1 &&& 31)) &&& 1) = 0) → (vp_in x2 8 ∧ (((¬ ((((σ.1 10 i0 x2.toNatClampNeg) >>> (x1 &&& 31)) &&& 1) = 0)) → (K 0)) ∧ (((((σ.1 10 i0 x2.toNatClampNeg) >>> (x1 &&& 31)) &&& 1) = 0) → (xw_G_looksInto δ σ (fun r4 => ((r4 = 0) → (K 0)) ∧ ((¬ (r4 = 0)) → (K 1))) i0 x1 x2)))))
set_option maxHeartbeats 4000000 in
set_option maxRecDepth 100000 in
theorem xt_G_seesInto {l : Launch} {Γ : GA} {δ : XSh} {σ : XSt} {K : Int32 → Prop} {i0 : Nat} (h0 : (6, i0) ∈ δ.1) {x1 : Int32} {x2 : Int32} (hwp : xw_G_seesInto δ σ K i0 x1 x2) : xI l yX2_seesInto cX2_seesInto 3 (some .boolean) ({ frames := 20, cells := 0, slots := 0, locals := 432 } : Room) 0 0 Γ δ [.ref i0, .int x1, .int x2] σ (fun r u => K r ∧ u = (δ, σ)) := by
  intro sz
  refine x_of (by decide) [(0, .ref i0), (1, .int x1), (2, .int x2)] (fun _ h => h) (Nat.le_of_ble_eq_true rfl) ?_
  intro p e s m args below meth c hsz X H locs ls hP hO hD hS hl
  subst hsz
  obtain ⟨hx, hb, hml, hown, hts, hK, hr, hlk⟩ := id X
  have hA : ∀ q, s.heap.size ≤ q → AX δ s.heap.size q := fun q h => Or.inr h
  unfold xw_G_seesInto at hwp
  refine lv_aload_n hx hb dX2_seesInto_0 rfl (lv_at hl 0 rfl) ?_
  refine x_get hx hb hts hown hK hP 6 i0 h0 rfl rfl in_X2 3 (by decide) q152 rfl (v := .int (σ.1 6 i0 3)) rfl dX2_seesInto_1 ?_
  refine lv_iload_n hx hb dX2_seesInto_4 rfl (lv_at hl 1 rfl) ?_
  refine lv_ishr hx hb dX2_seesInto_5 ?_
  refine lv_iconst (v := 1) hx hb dX2_seesInto_6 (by decide) ?_
  refine lv_iand hx hb dX2_seesInto_7 ?_
  refine lv_if_ne (tgt := 37) hx hb dX2_seesInto_8 (by decide) (fun c1 => ?_) (fun c1 => ?_)
  · replace hwp := hwp.1 c1
    refine lv_iconst (v := 0) hx hb dX2_seesInto_37 (by decide) ?_
    exact x_zret (v := 0) hx hb hr hlk hP hO hD hS (Or.inl rfl) ⟨hwp, rfl⟩ dX2_seesInto_38
  · replace hwp := hwp.2 c1
    refine lv_aload_n hx hb dX2_seesInto_11 rfl (lv_at hl 0 rfl) ?_
    refine x_get hx hb hts hown hK hP 6 i0 h0 rfl rfl in_X2 8 (by decide) q164 rfl (v := .ref (δ.2.1 10 i0)) rfl dX2_seesInto_12 ?_
    refine lv_iload_n hx hb dX2_seesInto_15 rfl (lv_at hl 2 rfl) ?_
    obtain ⟨hi2, hwp⟩ := hwp
    refine x_iald hx hb hK hP 10 i0 ((hO.1 _ h0).2.2) rfl hi2 dX2_seesInto_16 ?_
    refine lv_iload_n hx hb dX2_seesInto_17 rfl (lv_at hl 1 rfl) ?_
    refine lv_ishr hx hb dX2_seesInto_18 ?_
    refine lv_iconst (v := 1) hx hb dX2_seesInto_19 (by decide) ?_
    refine lv_iand hx hb dX2_seesInto_20 ?_
    refine lv_if_ne (tgt := 37) hx hb dX2_seesInto_21 (by decide) (fun c3 => ?_) (fun c3 => ?_)
    · replace hwp := hwp.1 c3
      refine lv_iconst (v := 0) hx hb dX2_seesInto_37 (by decide) ?_
      exact x_zret (v := 0) hx hb hr hlk hP hO hD hS (Or.inl rfl) ⟨hwp, rfl⟩ dX2_seesInto_38
    · replace hwp := hwp.2 c3
      refine lv_aload_n hx hb dX2_seesInto_24 rfl (lv_at hl 0 rfl) ?_
      refine lv_iload_n hx hb dX2_seesInto_25 rfl (lv_at hl 1 rfl) ?_
      refine lv_iload_n hx hb dX2_seesInto_26 rfl (lv_at hl 2 rfl) ?_
      refine x_goi (va_runV (As := [.int x1, .int x2]) (rest := []) ⟨hx, hb, hml, hown, hts⟩ (xt_G_looksInto h0 hwp H.size) (cwV 2 hts (lw_V q563 q564 q565 q77 q566) rfl rfl rfl (by decide +kernel) ⟨Nat.le_of_ble_eq_true rfl, Nat.le_of_ble_eq_true rfl⟩) (x_preV hK hO hD hP 6 i0 h0 rfl rfl) rfl rfl hl.1 rfl (lv_room (Nat.le_of_ble_eq_true rfl)) dX2_seesInto_27 ⟨Nat.le_of_ble_eq_true rfl, Nat.le_of_ble_eq_true rfl⟩) hD hA hS (fun r4 u H locs hk hP hO hD hS => ?_)
      obtain ⟨hwp, eu⟩ := hk
      subst eu
      dsimp only at hP hO hD
      refine lv_if_eq (tgt := 37) hx hb dX2_seesInto_30 (by decide) (fun c5 => ?_) (fun c5 => ?_)
      · replace hwp := hwp.1 c5
        refine lv_iconst (v := 0) hx hb dX2_seesInto_37 (by decide) ?_
        exact x_zret (v := 0) hx hb hr hlk hP hO hD hS (Or.inl rfl) ⟨hwp, rfl⟩ dX2_seesInto_38
      · replace hwp := hwp.2 c5
        refine lv_iconst (v := 1) hx hb dX2_seesInto_33 (by decide) ?_
        refine lv_goto (tgt := 38) hx hb dX2_seesInto_34 (by decide) ?_
        exact x_zret (v := 1) hx hb hr hlk hP hO hD hS (Or.inr rfl) ⟨hwp, rfl⟩ dX2_seesInto_38
/-! G_into -/
def xw_G_into_4_b (δ : XSh) (σ : XSt) (K : Int32 → Prop) (i0 : Nat) (L4 : Int32 → Int32 → Int32 → Prop) (x1 : Int32) (x2 : Int32) (x3 : Int32) : Prop :=
  (((σ.1 6 i0 0) ≤ x3) → (K x2)) ∧ ((¬ ((σ.1 6 i0 0) ≤ x3)) → (((x3 = x1) → (L4 x1 (x2 ||| 0) (x3 + 1))) ∧ ((¬ (x3 = x1)) → (xw_G_isHouse δ σ (fun r3 => ((r3 = 0) → (L4 x1 (x2 ||| 0) (x3 + 1))) ∧ ((¬ (r3 = 0)) → (xw_G_isHouse δ σ (fun r5 => ((r5 = 0) → (L4 x1 (x2 ||| 0) (x3 + 1))) ∧ ((¬ (r5 = 0)) → (xw_G_seesInto δ σ (fun r7 => ((r7 = 0) → (L4 x1 (x2 ||| 0) (x3 + 1))) ∧ ((¬ (r7 = 0)) → (L4 x1 (x2 ||| ((1 : Int32) <<< (x3 &&& 31))) (x3 + 1)))) i0 x3 x1))) i0 x1))) i0 x3))))
def xw_G_into_4 (δ : XSh) (σ : XSt) (K : Int32 → Prop) (i0 : Nat) : Nat → Int32 → Int32 → Int32 → Prop
  | 0 => fun _ _ _ => False
  | n + 1 => fun x1 x2 x3 => xw_G_into_4_b δ σ K i0 (xw_G_into_4 δ σ K i0 n) x1 x2 x3
set_option maxHeartbeats 4000000 in
set_option maxRecDepth 100000 in
theorem xk_G_into_4_b {p : Program} {l : Launch} {e : Env} {s : State} {m : MethodId} {args : Array Value} {below : List Frame} {meth : Method} {c : Code} {Γ : GA} {δ : XSh} {σ : XSt} {K : Int32 → Prop} {i0 : Nat} (X : CX p s m args meth c cX2_into 4 (some .int) RX2 Γ) (h0 : (6, i0) ∈ δ.1) {L4 : Int32 → Int32 → Int32 → Prop} (hL4 : ∀ (x1 : Int32) (x2 : Int32) (x3 : Int32), L4 x1 x2 x3 → TX p l e ({ frames := 21, cells := 0, slots := 0, locals := 454 } : Room) s m args below meth c 4 0 0 (YI below (fun r u => K r ∧ u = (δ, σ)) 0 0 Γ δ s args) Γ δ δ σ 4 [(0, .ref i0), (1, .int x1), (2, .int x2), (3, .int x3)] []) : ∀ (x1 : Int32) (x2 : Int32) (x3 : Int32), xw_G_into_4_b δ σ K i0 L4 x1 x2 x3 → TX p l e ({ frames := 21, cells := 0, slots := 0, locals := 454 } : Room) s m args below meth c 4 0 0 (YI below (fun r u => K r ∧ u = (δ, σ)) 0 0 Γ δ s args) Γ δ δ σ 4 [(0, .ref i0), (1, .int x1), (2, .int x2), (3, .int x3)] [] := by
  obtain ⟨hx, hb, hml, hown, hts, hK, hr, hlk⟩ := id X
  have hA : ∀ q, s.heap.size ≤ q → AX δ s.heap.size q := fun q h => Or.inr h
  intro x1 x2 x3 hwp H locs ls hP hO hD hS hl
  unfold xw_G_into_4_b at hwp
  refine lv_iload_n hx hb dX2_into_4 rfl (lv_at hl 3 rfl) ?_
  refine lv_aload_n hx hb dX2_into_5 rfl (lv_at hl 0 rfl) ?_
  refine x_get hx hb hts hown hK hP 6 i0 h0 rfl rfl in_X2 0 (by decide) q143 rfl (v := .int (σ.1 6 i0 0)) rfl dX2_into_6 ?_
  refine lv_icmp_ge (tgt := 58) hx hb dX2_into_9 (by decide) (fun c1 => ?_) (fun c1 => ?_)
  · replace hwp := hwp.1 c1
    refine lv_iload_n hx hb dX2_into_58 rfl (lv_at hl 2 rfl) ?_
    exact x_iret hx hb hr hlk hP hO hD hS ⟨hwp, rfl⟩ dX2_into_59
  · replace hwp := hwp.2 c1
    refine lv_iload_n hx hb dX2_into_12 rfl (lv_at hl 2 rfl) ?_
    refine lv_iload_n hx hb dX2_into_13 rfl (lv_at hl 3 rfl) ?_
    refine lv_iload_n hx hb dX2_into_14 rfl (lv_at hl 1 rfl) ?_
    refine lv_icmp_eq (tgt := 49) hx hb dX2_into_15 (by decide) (fun c2 => ?_) (fun c2 => ?_)
    · replace hwp := hwp.1 c2
      refine lv_iconst (v := 0) hx hb dX2_into_49 (by decide) ?_
      refine lv_ior hx hb dX2_into_50 ?_
      refine lv_istore_n (lv' := [(2, .int (x2 ||| 0)), (0, .ref i0), (1, .int x1), (3, .int x3)]) hx hb dX2_into_51 rfl hl (by decide) rfl (fun ls hl => ?_)
      refine lv_iinc (v := x3 + 1) (lv' := [(3, .int (x3 + 1)), (2, .int (x2 ||| 0)), (0, .ref i0), (1, .int x1)]) hx hb dX2_into_52 hl (k := 3) rfl rfl (by decide) rfl (fun ls hl => ?_)
      refine lv_goto (tgt := 4) hx hb dX2_into_55 (by decide) ?_
      exact hL4 _ _ _ hwp H locs ls hP hO hD hS (lv_sub hl [2, 3, 1, 0] rfl)
    · replace hwp := hwp.2 c2
      refine lv_aload_n hx hb dX2_into_18 rfl (lv_at hl 0 rfl) ?_
      refine lv_iload_n hx hb dX2_into_19 rfl (lv_at hl 3 rfl) ?_
      refine x_goi (va_runV (As := [.int x3]) (rest := [.int x2]) ⟨hx, hb, hml, hown, hts⟩ (xt_G_isHouse h0 hwp H.size) (cwV 1 hts (lw_V q541 q542 q543 q77 q544) rfl rfl rfl (by decide +kernel) ⟨Nat.le_of_ble_eq_true rfl, Nat.le_of_ble_eq_true rfl⟩) (x_preV hK hO hD hP 6 i0 h0 rfl rfl) rfl rfl hl.1 rfl (lv_room (Nat.le_of_ble_eq_true rfl)) dX2_into_20 ⟨Nat.le_of_ble_eq_true rfl, Nat.le_of_ble_eq_true rfl⟩) hD hA hS (fun r3 u H locs hk hP hO hD hS => ?_)
      obtain ⟨hwp, eu⟩ := hk
      subst eu
      dsimp only at hP hO hD
      refine lv_if_eq (tgt := 49) hx hb dX2_into_23 (by decide) (fun c4 => ?_) (fun c4 => ?_)
      · replace hwp := hwp.1 c4
        refine lv_iconst (v := 0) hx hb dX2_into_49 (by decide) ?_
        refine lv_ior hx hb dX2_into_50 ?_
        refine lv_istore_n (lv' := [(2, .int (x2 ||| 0)), (0, .ref i0), (1, .int x1), (3, .int x3)]) hx hb dX2_into_51 rfl hl (by decide) rfl (fun ls hl => ?_)
        refine lv_iinc (v := x3 + 1) (lv' := [(3, .int (x3 + 1)), (2, .int (x2 ||| 0)), (0, .ref i0), (1, .int x1)]) hx hb dX2_into_52 hl (k := 3) rfl rfl (by decide) rfl (fun ls hl => ?_)
        refine lv_goto (tgt := 4) hx hb dX2_into_55 (by decide) ?_
        exact hL4 _ _ _ hwp H locs ls hP hO hD hS (lv_sub hl [2, 3, 1, 0] rfl)
      · replace hwp := hwp.2 c4
        refine lv_aload_n hx hb dX2_into_26 rfl (lv_at hl 0 rfl) ?_
        refine lv_iload_n hx hb dX2_into_27 rfl (lv_at hl 1 rfl) ?_
        refine x_goi (va_runV (As := [.int x1]) (rest := [.int x2]) ⟨hx, hb, hml, hown, hts⟩ (xt_G_isHouse h0 hwp H.size) (cwV 1 hts (lw_V q541 q542 q543 q77 q544) rfl rfl rfl (by decide +kernel) ⟨Nat.le_of_ble_eq_true rfl, Nat.le_of_ble_eq_true rfl⟩) (x_preV hK hO hD hP 6 i0 h0 rfl rfl) rfl rfl hl.1 rfl (lv_room (Nat.le_of_ble_eq_true rfl)) dX2_into_28 ⟨Nat.le_of_ble_eq_true rfl, Nat.le_of_ble_eq_true rfl⟩) hD hA hS (fun r5 u H locs hk hP hO hD hS => ?_)
        obtain ⟨hwp, eu⟩ := hk
        subst eu
        dsimp only at hP hO hD
        refine lv_if_eq (tgt := 49) hx hb dX2_into_31 (by decide) (fun c6 => ?_) (fun c6 => ?_)
        · replace hwp := hwp.1 c6
          refine lv_iconst (v := 0) hx hb dX2_into_49 (by decide) ?_
          refine lv_ior hx hb dX2_into_50 ?_
          refine lv_istore_n (lv' := [(2, .int (x2 ||| 0)), (0, .ref i0), (1, .int x1), (3, .int x3)]) hx hb dX2_into_51 rfl hl (by decide) rfl (fun ls hl => ?_)
          refine lv_iinc (v := x3 + 1) (lv' := [(3, .int (x3 + 1)), (2, .int (x2 ||| 0)), (0, .ref i0), (1, .int x1)]) hx hb dX2_into_52 hl (k := 3) rfl rfl (by decide) rfl (fun ls hl => ?_)
          refine lv_goto (tgt := 4) hx hb dX2_into_55 (by decide) ?_
          exact hL4 _ _ _ hwp H locs ls hP hO hD hS (lv_sub hl [2, 3, 1, 0] rfl)
        · replace hwp := hwp.2 c6
          refine lv_aload_n hx hb dX2_into_34 rfl (lv_at hl 0 rfl) ?_
          refine lv_iload_n hx hb dX2_into_35 rfl (lv_at hl 3 rfl) ?_
          refine lv_iload_n hx hb dX2_into_36 rfl (lv_at hl 1 rfl) ?_
          refine x_goi (va_runV (As := [.int x3, .int x1]) (rest := [.int x2]) ⟨hx, hb, hml, hown, hts⟩ (xt_G_seesInto h0 hwp H.size) (cwV 2 hts (lw_V q559 q560 q561 q77 q562) rfl rfl rfl (by decide +kernel) ⟨Nat.le_of_ble_eq_true rfl, Nat.le_of_ble_eq_true rfl⟩) (x_preV hK hO hD hP 6 i0 h0 rfl rfl) rfl rfl hl.1 rfl (lv_room (Nat.le_of_ble_eq_true rfl)) dX2_into_37 ⟨Nat.le_of_ble_eq_true rfl, Nat.le_of_ble_eq_true rfl⟩) hD hA hS (fun r7 u H locs hk hP hO hD hS => ?_)
          obtain ⟨hwp, eu⟩ := hk
          subst eu
          dsimp only at hP hO hD
          refine lv_if_eq (tgt := 49) hx hb dX2_into_40 (by decide) (fun c8 => ?_) (fun c8 => ?_)
          · replace hwp := hwp.1 c8
            refine lv_iconst (v := 0) hx hb dX2_into_49 (by decide) ?_
            refine lv_ior hx hb dX2_into_50 ?_
            refine lv_istore_n (lv' := [(2, .int (x2 ||| 0)), (0, .ref i0), (1, .int x1), (3, .int x3)]) hx hb dX2_into_51 rfl hl (by decide) rfl (fun ls hl => ?_)
            refine lv_iinc (v := x3 + 1) (lv' := [(3, .int (x3 + 1)), (2, .int (x2 ||| 0)), (0, .ref i0), (1, .int x1)]) hx hb dX2_into_52 hl (k := 3) rfl rfl (by decide) rfl (fun ls hl => ?_)
            refine lv_goto (tgt := 4) hx hb dX2_into_55 (by decide) ?_
            exact hL4 _ _ _ hwp H locs ls hP hO hD hS (lv_sub hl [2, 3, 1, 0] rfl)
          · replace hwp := hwp.2 c8
            refine lv_iconst (v := 1) hx hb dX2_into_43 (by decide) ?_
            refine lv_iload_n hx hb dX2_into_44 rfl (lv_at hl 3 rfl) ?_
            refine lv_ishl hx hb dX2_into_45 ?_
            refine lv_goto (tgt := 50) hx hb dX2_into_46 (by decide) ?_
            refine lv_ior hx hb dX2_into_50 ?_
            refine lv_istore_n (lv' := [(2, .int (x2 ||| ((1 : Int32) <<< (x3 &&& 31)))), (0, .ref i0), (1, .int x1), (3, .int x3)]) hx hb dX2_into_51 rfl hl (by decide) rfl (fun ls hl => ?_)
            refine lv_iinc (v := x3 + 1) (lv' := [(3, .int (x3 + 1)), (2, .int (x2 ||| ((1 : Int32) <<< (x3 &&& 31)))), (0, .ref i0), (1, .int x1)]) hx hb dX2_into_52 hl (k := 3) rfl rfl (by decide) rfl (fun ls hl => ?_)
            refine lv_goto (tgt := 4) hx hb dX2_into_55 (by decide) ?_
            exact hL4 _ _ _ hwp H locs ls hP hO hD hS (lv_sub hl [2, 3, 1, 0] rfl)
set_option maxHeartbeats 4000000 in
set_option maxRecDepth 100000 in
theorem xk_G_into_4 {p : Program} {l : Launch} {e : Env} {s : State} {m : MethodId} {args : Array Value} {below : List Frame} {meth : Method} {c : Code} {Γ : GA} {δ : XSh} {σ : XSt} {K : Int32 → Prop} {i0 : Nat} (X : CX p s m args meth c cX2_into 4 (some .int) RX2 Γ) (h0 : (6, i0) ∈ δ.1) : ∀ n (x1 : Int32) (x2 : Int32) (x3 : Int32), xw_G_into_4 δ σ K i0 n x1 x2 x3 → TX p l e ({ frames := 21, cells := 0, slots := 0, locals := 454 } : Room) s m args below meth c 4 0 0 (YI below (fun r u => K r ∧ u = (δ, σ)) 0 0 Γ δ s args) Γ δ δ σ 4 [(0, .ref i0), (1, .int x1), (2, .int x2), (3, .int x3)] [] := by
  intro n
  induction n with
  | zero => intro _ _ _ hwp; exact hwp.elim
  | succ n ih => intro x1 x2 x3 hwp; exact xk_G_into_4_b X h0 ih x1 x2 x3 hwp
def xw_G_into (δ : XSh) (σ : XSt) (K : Int32 → Prop) (i0 : Nat) (x1 : Int32) : Prop :=
  ∃ n, xw_G_into_4 δ σ K i0 n x1 0 0
set_option maxHeartbeats 4000000 in
set_option maxRecDepth 100000 in
theorem xt_G_into {l : Launch} {Γ : GA} {δ : XSh} {σ : XSt} {K : Int32 → Prop} {i0 : Nat} (h0 : (6, i0) ∈ δ.1) {x1 : Int32} (hwp : xw_G_into δ σ K i0 x1) : xI l yX2_into cX2_into 4 (some .int) ({ frames := 21, cells := 0, slots := 0, locals := 454 } : Room) 0 0 Γ δ [.ref i0, .int x1] σ (fun r u => K r ∧ u = (δ, σ)) := by
  intro sz
  refine x_of (by decide) [(0, .ref i0), (1, .int x1)] (fun _ h => h) (Nat.le_of_ble_eq_true rfl) ?_
  intro p e s m args below meth c hsz X H locs ls hP hO hD hS hl
  subst hsz
  obtain ⟨hx, hb, hml, hown, hts, hK, hr, hlk⟩ := id X
  have hA : ∀ q, s.heap.size ≤ q → AX δ s.heap.size q := fun q h => Or.inr h
  unfold xw_G_into at hwp
  refine lv_iconst (v := 0) hx hb dX2_into_0 (by decide) ?_
  refine lv_istore_n (lv' := [(2, .int 0), (0, .ref i0), (1, .int x1)]) hx hb dX2_into_1 rfl hl (by decide) rfl (fun ls hl => ?_)
  refine lv_iconst (v := 0) hx hb dX2_into_2 (by decide) ?_
  refine lv_istore_n (lv' := [(3, .int 0), (2, .int 0), (0, .ref i0), (1, .int x1)]) hx hb dX2_into_3 rfl hl (by decide) rfl (fun ls hl => ?_)
  obtain ⟨n, hwp⟩ := hwp
  exact xk_G_into_4 X h0 n _ _ _ hwp H locs ls hP hO hD hS (lv_sub hl [2, 3, 1, 0] rfl)
/-! G_seers -/
def xw_G_seers_8_b (δ : XSh) (σ : XSt) (K : Int32 → Prop) (i0 : Nat) (L8 : Int32 → Int32 → Prop) (x2 : Int32) (x3 : Int32) : Prop :=
  (((σ.1 6 i0 0) ≤ x3) → (K x2)) ∧ ((¬ ((σ.1 6 i0 0) ≤ x3)) → (vp_in x3 8 ∧ ∃ o3, σ.2.2 8 i0 x3.toNatClampNeg = some o3 ∧ (xv_T_counts δ σ (fun r4 => ((r4 = 0) → (L8 (x2 &&& (((1 : Int32) <<< (x3 &&& 31)) ^^^ (-1))) (x3 + 1))) ∧ ((¬ (r4 = 0)) → (L8 (x2 &&& (-1)) (x3 + 1)))) o3)))
def xw_G_seers_8 (δ : XSh) (σ : XSt) (K : Int32 → Prop) (i0 : Nat) : Nat → Int32 → Int32 → Prop
  | 0 => fun _ _ => False
  | n + 1 => fun x2 x3 => xw_G_seers_8_b δ σ K i0 (xw_G_seers_8 δ σ K i0 n) x2 x3
set_option maxHeartbeats 4000000 in
set_option maxRecDepth 100000 in
theorem xk_G_seers_8_b {p : Program} {l : Launch} {e : Env} {s : State} {m : MethodId} {args : Array Value} {below : List Frame} {meth : Method} {c : Code} {Γ : GA} {δ : XSh} {σ : XSt} {K : Int32 → Prop} {i0 : Nat} (X : CX p s m args meth c cX2_seers 4 (some .int) RX2 Γ) (h0 : (6, i0) ∈ δ.1) {L8 : Int32 → Int32 → Prop} (hL8 : ∀ (x2 : Int32) (x3 : Int32), L8 x2 x3 → TX p l e ({ frames := 22, cells := 0, slots := 0, locals := 477 } : Room) s m args below meth c 4 0 0 (YI below (fun r u => K r ∧ u = (δ, σ)) 0 0 Γ δ s args) Γ δ δ σ 8 [(0, .ref i0), (2, .int x2), (3, .int x3)] []) : ∀ (x2 : Int32) (x3 : Int32), xw_G_seers_8_b δ σ K i0 L8 x2 x3 → TX p l e ({ frames := 22, cells := 0, slots := 0, locals := 477 } : Room) s m args below meth c 4 0 0 (YI below (fun r u => K r ∧ u = (δ, σ)) 0 0 Γ δ s args) Γ δ δ σ 8 [(0, .ref i0), (2, .int x2), (3, .int x3)] [] := by
  obtain ⟨hx, hb, hml, hown, hts, hK, hr, hlk⟩ := id X
  have hA : ∀ q, s.heap.size ≤ q → AX δ s.heap.size q := fun q h => Or.inr h
  intro x2 x3 hwp H locs ls hP hO hD hS hl
  unfold xw_G_seers_8_b at hwp
  refine lv_iload_n hx hb dX2_seers_8 rfl (lv_at hl 2 rfl) ?_
  refine lv_aload_n hx hb dX2_seers_9 rfl (lv_at hl 0 rfl) ?_
  refine x_get hx hb hts hown hK hP 6 i0 h0 rfl rfl in_X2 0 (by decide) q143 rfl (v := .int (σ.1 6 i0 0)) rfl dX2_seers_10 ?_
  refine lv_icmp_ge (tgt := 46) hx hb dX2_seers_13 (by decide) (fun c1 => ?_) (fun c1 => ?_)
  · replace hwp := hwp.1 c1
    refine lv_iload_n hx hb dX2_seers_46 rfl (lv_at hl 1 rfl) ?_
    exact x_iret hx hb hr hlk hP hO hD hS ⟨hwp, rfl⟩ dX2_seers_47
  · replace hwp := hwp.2 c1
    refine lv_iload_n hx hb dX2_seers_16 rfl (lv_at hl 1 rfl) ?_
    refine lv_aload_n hx hb dX2_seers_17 rfl (lv_at hl 0 rfl) ?_
    refine x_get hx hb hts hown hK hP 6 i0 h0 rfl rfl in_X2 6 (by decide) q159 rfl (v := .ref (δ.2.1 8 i0)) rfl dX2_seers_18 ?_
    refine lv_iload_n hx hb dX2_seers_21 rfl (lv_at hl 2 rfl) ?_
    obtain ⟨hi2, o3, eo3, hwp⟩ := hwp
    refine x_aald hx hb hK hP 8 i0 ((hO.1 _ h0).1) (Or.inl rfl) hi2 eo3 dX2_seers_22 (fun ho3 co3 => ?_)
    refine x_goi (xr_T_counts (As := []) (rest := [.int x2]) ⟨hx, hb, hml, hown, hts⟩ hK hD hO hP ho3 (co3.1 rfl) hwp q630 ⟨Nat.le_of_ble_eq_true rfl, Nat.le_of_ble_eq_true rfl⟩ rfl hl.1 rfl (Nat.le_of_ble_eq_true rfl) dX2_seers_23 ⟨Nat.le_of_ble_eq_true rfl, Nat.le_of_ble_eq_true rfl⟩) hD hA hS (fun r4 u H locs hk hP hO hD hS => ?_)
    obtain ⟨hwp, eu⟩ := hk
    subst eu
    dsimp only at hP hO hD
    refine lv_if_eq (tgt := 33) hx hb dX2_seers_26 (by decide) (fun c5 => ?_) (fun c5 => ?_)
    · replace hwp := hwp.1 c5
      refine lv_iconst (v := 1) hx hb dX2_seers_33 (by decide) ?_
      refine lv_iload_n hx hb dX2_seers_34 rfl (lv_at hl 2 rfl) ?_
      refine lv_ishl hx hb dX2_seers_35 ?_
      refine lv_iconst (v := (-1)) hx hb dX2_seers_36 (by decide) ?_
      refine lv_ixor hx hb dX2_seers_37 ?_
      refine lv_iand hx hb dX2_seers_38 ?_
      refine lv_istore_n (lv' := [(2, .int (x2 &&& (((1 : Int32) <<< (x3 &&& 31)) ^^^ (-1)))), (0, .ref i0), (3, .int x3)]) hx hb dX2_seers_39 rfl hl (by decide) rfl (fun ls hl => ?_)
      refine lv_iinc (v := x3 + 1) (lv' := [(3, .int (x3 + 1)), (2, .int (x2 &&& (((1 : Int32) <<< (x3 &&& 31)) ^^^ (-1)))), (0, .ref i0)]) hx hb dX2_seers_40 hl (k := 2) rfl rfl (by decide) rfl (fun ls hl => ?_)
      refine lv_goto (tgt := 8) hx hb dX2_seers_43 (by decide) ?_
      exact hL8 _ _ hwp H locs ls hP hO hD hS (lv_sub hl [2, 1, 0] rfl)
    · replace hwp := hwp.2 c5
      refine lv_iconst (v := (-1)) hx hb dX2_seers_29 (by decide) ?_
      refine lv_goto (tgt := 38) hx hb dX2_seers_30 (by decide) ?_
      refine lv_iand hx hb dX2_seers_38 ?_
      refine lv_istore_n (lv' := [(2, .int (x2 &&& (-1))), (0, .ref i0), (3, .int x3)]) hx hb dX2_seers_39 rfl hl (by decide) rfl (fun ls hl => ?_)
      refine lv_iinc (v := x3 + 1) (lv' := [(3, .int (x3 + 1)), (2, .int (x2 &&& (-1))), (0, .ref i0)]) hx hb dX2_seers_40 hl (k := 2) rfl rfl (by decide) rfl (fun ls hl => ?_)
      refine lv_goto (tgt := 8) hx hb dX2_seers_43 (by decide) ?_
      exact hL8 _ _ hwp H locs ls hP hO hD hS (lv_sub hl [2, 1, 0] rfl)
set_option maxHeartbeats 4000000 in
set_option maxRecDepth 100000 in
theorem xk_G_seers_8 {p : Program} {l : Launch} {e : Env} {s : State} {m : MethodId} {args : Array Value} {below : List Frame} {meth : Method} {c : Code} {Γ : GA} {δ : XSh} {σ : XSt} {K : Int32 → Prop} {i0 : Nat} (X : CX p s m args meth c cX2_seers 4 (some .int) RX2 Γ) (h0 : (6, i0) ∈ δ.1) : ∀ n (x2 : Int32) (x3 : Int32), xw_G_seers_8 δ σ K i0 n x2 x3 → TX p l e ({ frames := 22, cells := 0, slots := 0, locals := 477 } : Room) s m args below meth c 4 0 0 (YI below (fun r u => K r ∧ u = (δ, σ)) 0 0 Γ δ s args) Γ δ δ σ 8 [(0, .ref i0), (2, .int x2), (3, .int x3)] [] := by
  intro n
  induction n with
  | zero => intro _ _ hwp; exact hwp.elim
  | succ n ih => intro x2 x3 hwp; exact xk_G_seers_8_b X h0 ih x2 x3 hwp
def xw_G_seers (δ : XSh) (σ : XSt) (K : Int32 → Prop) (i0 : Nat) (x1 : Int32) : Prop :=
  xw_G_into δ σ (fun r1 => ∃ n, xw_G_seers_8 δ σ K i0 n r1 0) i0 x1
set_option maxHeartbeats 4000000 in
set_option maxRecDepth 100000 in
theorem xt_G_seers {l : Launch} {Γ : GA} {δ : XSh} {σ : XSt} {K : Int32 → Prop} {i0 : Nat} (h0 : (6, i0) ∈ δ.1) {x1 : Int32} (hwp : xw_G_seers δ σ K i0 x1) : xI l yX2_seers cX2_seers 4 (some .int) ({ frames := 22, cells := 0, slots := 0, locals := 477 } : Room) 0 0 Γ δ [.ref i0, .int x1] σ (fun r u => K r ∧ u = (δ, σ)) := by
  intro sz
  refine x_of (by decide) [(0, .ref i0), (1, .int x1)] (fun _ h => h) (Nat.le_of_ble_eq_true rfl) ?_
  intro p e s m args below meth c hsz X H locs ls hP hO hD hS hl
  subst hsz
  obtain ⟨hx, hb, hml, hown, hts, hK, hr, hlk⟩ := id X
  have hA : ∀ q, s.heap.size ≤ q → AX δ s.heap.size q := fun q h => Or.inr h
  unfold xw_G_seers at hwp
  refine lv_aload_n hx hb dX2_seers_0 rfl (lv_at hl 0 rfl) ?_
  refine lv_iload_n hx hb dX2_seers_1 rfl (lv_at hl 1 rfl) ?_
  refine x_goi (va_runV (As := [.int x1]) (rest := []) ⟨hx, hb, hml, hown, hts⟩ (xt_G_into h0 hwp H.size) (cwV 1 hts (lw_V q537 q538 q539 q77 q540) rfl rfl rfl (by decide +kernel) ⟨Nat.le_of_ble_eq_true rfl, Nat.le_of_ble_eq_true rfl⟩) (x_preV hK hO hD hP 6 i0 h0 rfl rfl) rfl rfl hl.1 rfl (lv_room (Nat.le_of_ble_eq_true rfl)) dX2_seers_2 ⟨Nat.le_of_ble_eq_true rfl, Nat.le_of_ble_eq_true rfl⟩) hD hA hS (fun r1 u H locs hk hP hO hD hS => ?_)
  obtain ⟨hwp, eu⟩ := hk
  subst eu
  dsimp only at hP hO hD
  refine lv_istore_n (lv' := [(2, .int r1), (0, .ref i0), (1, .int x1)]) hx hb dX2_seers_5 rfl hl (by decide) rfl (fun ls hl => ?_)
  refine lv_iconst (v := 0) hx hb dX2_seers_6 (by decide) ?_
  refine lv_istore_n (lv' := [(3, .int 0), (2, .int r1), (0, .ref i0), (1, .int x1)]) hx hb dX2_seers_7 rfl hl (by decide) rfl (fun ls hl => ?_)
  obtain ⟨n, hwp⟩ := hwp
  exact xk_G_seers_8 X h0 n _ _ hwp H locs ls hP hO hD hS (lv_sub hl [2, 1, 0] rfl)
/-! G_isRight -/
def xw_G_isRight (δ : XSh) (σ : XSt) (K : Int32 → Prop) (i0 : Nat) (x1 : Int32) : Prop :=
  xw_G_seers δ σ (fun r1 => xw_Jn_bitCount δ σ (fun r2 => vp_in x1 8 ∧ ∃ o4, σ.2.2 8 i0 x1.toNatClampNeg = some o4 ∧ (xv_T_wanted δ σ (fun r5 => ((¬ (r2 = r5)) → (K 0)) ∧ ((r2 = r5) → (K 1))) o4)) r1) i0 x1
set_option maxHeartbeats 4000000 in
set_option maxRecDepth 100000 in
theorem xt_G_isRight {l : Launch} {Γ : GA} {δ : XSh} {σ : XSt} {K : Int32 → Prop} {i0 : Nat} (h0 : (6, i0) ∈ δ.1) {x1 : Int32} (hwp : xw_G_isRight δ σ K i0 x1) : xI l yX2_isRight cX2_isRight 2 (some .boolean) ({ frames := 23, cells := 0, slots := 0, locals := 500 } : Room) 0 0 Γ δ [.ref i0, .int x1] σ (fun r u => K r ∧ u = (δ, σ)) := by
  intro sz
  refine x_of (by decide) [(0, .ref i0), (1, .int x1)] (fun _ h => h) (Nat.le_of_ble_eq_true rfl) ?_
  intro p e s m args below meth c hsz X H locs ls hP hO hD hS hl
  subst hsz
  obtain ⟨hx, hb, hml, hown, hts, hK, hr, hlk⟩ := id X
  have hA : ∀ q, s.heap.size ≤ q → AX δ s.heap.size q := fun q h => Or.inr h
  unfold xw_G_isRight at hwp
  refine lv_aload_n hx hb dX2_isRight_0 rfl (lv_at hl 0 rfl) ?_
  refine lv_iload_n hx hb dX2_isRight_1 rfl (lv_at hl 1 rfl) ?_
  refine x_goi (va_runV (As := [.int x1]) (rest := []) ⟨hx, hb, hml, hown, hts⟩ (xt_G_seers h0 hwp H.size) (cwV 1 hts (lw_V q659 q534 q535 q77 q536) rfl rfl rfl (by decide +kernel) ⟨Nat.le_of_ble_eq_true rfl, Nat.le_of_ble_eq_true rfl⟩) (x_preV hK hO hD hP 6 i0 h0 rfl rfl) rfl rfl hl.1 rfl (lv_room (Nat.le_of_ble_eq_true rfl)) dX2_isRight_2 ⟨Nat.le_of_ble_eq_true rfl, Nat.le_of_ble_eq_true rfl⟩) hD hA hS (fun r1 u H locs hk hP hO hD hS => ?_)
  obtain ⟨hwp, eu⟩ := hk
  subst eu
  dsimp only at hP hO hD
  refine x_goi (va_runS (As := [.int r1]) (rest := []) ⟨hx, hb, hml, hown, hts⟩ (xt_Jn_bitCount hwp H.size) (va_cwS 1 hts (lw_S q660 q644 q96 q645) rfl rfl rfl (by decide +kernel) ⟨Nat.le_of_ble_eq_true rfl, Nat.le_of_ble_eq_true rfl⟩) (x_preS hK hO hD hP) rfl rfl hl.1 rfl (lv_room (Nat.le_of_ble_eq_true rfl)) dX2_isRight_5 ⟨Nat.le_of_ble_eq_true rfl, Nat.le_of_ble_eq_true rfl⟩) hD hA hS (fun r2 u H locs hk hP hO hD hS => ?_)
  obtain ⟨hwp, eu⟩ := hk
  subst eu
  dsimp only at hP hO hD
  refine lv_aload_n hx hb dX2_isRight_8 rfl (lv_at hl 0 rfl) ?_
  refine x_get hx hb hts hown hK hP 6 i0 h0 rfl rfl in_X2 6 (by decide) q159 rfl (v := .ref (δ.2.1 8 i0)) rfl dX2_isRight_9 ?_
  refine lv_iload_n hx hb dX2_isRight_12 rfl (lv_at hl 1 rfl) ?_
  obtain ⟨hi3, o4, eo4, hwp⟩ := hwp
  refine x_aald hx hb hK hP 8 i0 ((hO.1 _ h0).1) (Or.inl rfl) hi3 eo4 dX2_isRight_13 (fun ho4 co4 => ?_)
  refine x_goi (xr_T_wanted (As := []) (rest := [.int r2]) ⟨hx, hb, hml, hown, hts⟩ hK hD hO hP ho4 (co4.1 rfl) hwp q661 ⟨Nat.le_of_ble_eq_true rfl, Nat.le_of_ble_eq_true rfl⟩ rfl hl.1 rfl (Nat.le_of_ble_eq_true rfl) dX2_isRight_14 ⟨Nat.le_of_ble_eq_true rfl, Nat.le_of_ble_eq_true rfl⟩) hD hA hS (fun r5 u H locs hk hP hO hD hS => ?_)
  obtain ⟨hwp, eu⟩ := hk
  subst eu
  dsimp only at hP hO hD
  refine lv_icmp_ne (tgt := 24) hx hb dX2_isRight_17 (by decide) (fun c6 => ?_) (fun c6 => ?_)
  · replace hwp := hwp.1 c6
    refine lv_iconst (v := 0) hx hb dX2_isRight_24 (by decide) ?_
    exact x_zret (v := 0) hx hb hr hlk hP hO hD hS (Or.inl rfl) ⟨hwp, rfl⟩ dX2_isRight_25
  · replace hwp := hwp.2 c6
    refine lv_iconst (v := 1) hx hb dX2_isRight_20 (by decide) ?_
    refine lv_goto (tgt := 25) hx hb dX2_isRight_21 (by decide) ?_
    exact x_zret (v := 1) hx hb hr hlk hP hO hD hS (Or.inr rfl) ⟨hwp, rfl⟩ dX2_isRight_25
/-! G_right -/
def xw_G_right_4_b (δ : XSh) (σ : XSt) (K : Int32 → Prop) (i0 : Nat) (L4 : Int32 → Int32 → Prop) (x1 : Int32) (x2 : Int32) : Prop :=
  (((σ.1 6 i0 0) ≤ x2) → (K x1)) ∧ ((¬ ((σ.1 6 i0 0) ≤ x2)) → (xw_G_isHouse δ σ (fun r2 => ((r2 = 0) → (L4 (x1 ||| 0) (x2 + 1))) ∧ ((¬ (r2 = 0)) → (xw_G_isRight δ σ (fun r4 => ((r4 = 0) → (L4 (x1 ||| 0) (x2 + 1))) ∧ ((¬ (r4 = 0)) → (L4 (x1 ||| ((1 : Int32) <<< (x2 &&& 31))) (x2 + 1)))) i0 x2))) i0 x2))
def xw_G_right_4 (δ : XSh) (σ : XSt) (K : Int32 → Prop) (i0 : Nat) : Nat → Int32 → Int32 → Prop
  | 0 => fun _ _ => False
  | n + 1 => fun x1 x2 => xw_G_right_4_b δ σ K i0 (xw_G_right_4 δ σ K i0 n) x1 x2
set_option maxHeartbeats 4000000 in
set_option maxRecDepth 100000 in
theorem xk_G_right_4_b {p : Program} {l : Launch} {e : Env} {s : State} {m : MethodId} {args : Array Value} {below : List Frame} {meth : Method} {c : Code} {Γ : GA} {δ : XSh} {σ : XSt} {K : Int32 → Prop} {i0 : Nat} (X : CX p s m args meth c cX2_right 3 (some .int) RX2 Γ) (h0 : (6, i0) ∈ δ.1) {L4 : Int32 → Int32 → Prop} (hL4 : ∀ (x1 : Int32) (x2 : Int32), L4 x1 x2 → TX p l e ({ frames := 24, cells := 0, slots := 0, locals := 521 } : Room) s m args below meth c 3 0 0 (YI below (fun r u => K r ∧ u = (δ, σ)) 0 0 Γ δ s args) Γ δ δ σ 4 [(0, .ref i0), (1, .int x1), (2, .int x2)] []) : ∀ (x1 : Int32) (x2 : Int32), xw_G_right_4_b δ σ K i0 L4 x1 x2 → TX p l e ({ frames := 24, cells := 0, slots := 0, locals := 521 } : Room) s m args below meth c 3 0 0 (YI below (fun r u => K r ∧ u = (δ, σ)) 0 0 Γ δ s args) Γ δ δ σ 4 [(0, .ref i0), (1, .int x1), (2, .int x2)] [] := by
  obtain ⟨hx, hb, hml, hown, hts, hK, hr, hlk⟩ := id X
  have hA : ∀ q, s.heap.size ≤ q → AX δ s.heap.size q := fun q h => Or.inr h
  intro x1 x2 hwp H locs ls hP hO hD hS hl
  unfold xw_G_right_4_b at hwp
  refine lv_iload_n hx hb dX2_right_4 rfl (lv_at hl 2 rfl) ?_
  refine lv_aload_n hx hb dX2_right_5 rfl (lv_at hl 0 rfl) ?_
  refine x_get hx hb hts hown hK hP 6 i0 h0 rfl rfl in_X2 0 (by decide) q143 rfl (v := .int (σ.1 6 i0 0)) rfl dX2_right_6 ?_
  refine lv_icmp_ge (tgt := 44) hx hb dX2_right_9 (by decide) (fun c1 => ?_) (fun c1 => ?_)
  · replace hwp := hwp.1 c1
    refine lv_iload_n hx hb dX2_right_44 rfl (lv_at hl 1 rfl) ?_
    exact x_iret hx hb hr hlk hP hO hD hS ⟨hwp, rfl⟩ dX2_right_45
  · replace hwp := hwp.2 c1
    refine lv_iload_n hx hb dX2_right_12 rfl (lv_at hl 1 rfl) ?_
    refine lv_aload_n hx hb dX2_right_13 rfl (lv_at hl 0 rfl) ?_
    refine lv_iload_n hx hb dX2_right_14 rfl (lv_at hl 2 rfl) ?_
    refine x_goi (va_runV (As := [.int x2]) (rest := [.int x1]) ⟨hx, hb, hml, hown, hts⟩ (xt_G_isHouse h0 hwp H.size) (cwV 1 hts (lw_V q541 q542 q543 q77 q544) rfl rfl rfl (by decide +kernel) ⟨Nat.le_of_ble_eq_true rfl, Nat.le_of_ble_eq_true rfl⟩) (x_preV hK hO hD hP 6 i0 h0 rfl rfl) rfl rfl hl.1 rfl (lv_room (Nat.le_of_ble_eq_true rfl)) dX2_right_15 ⟨Nat.le_of_ble_eq_true rfl, Nat.le_of_ble_eq_true rfl⟩) hD hA hS (fun r2 u H locs hk hP hO hD hS => ?_)
    obtain ⟨hwp, eu⟩ := hk
    subst eu
    dsimp only at hP hO hD
    refine lv_if_eq (tgt := 35) hx hb dX2_right_18 (by decide) (fun c3 => ?_) (fun c3 => ?_)
    · replace hwp := hwp.1 c3
      refine lv_iconst (v := 0) hx hb dX2_right_35 (by decide) ?_
      refine lv_ior hx hb dX2_right_36 ?_
      refine lv_istore_n (lv' := [(1, .int (x1 ||| 0)), (0, .ref i0), (2, .int x2)]) hx hb dX2_right_37 rfl hl (by decide) rfl (fun ls hl => ?_)
      refine lv_iinc (v := x2 + 1) (lv' := [(2, .int (x2 + 1)), (1, .int (x1 ||| 0)), (0, .ref i0)]) hx hb dX2_right_38 hl (k := 2) rfl rfl (by decide) rfl (fun ls hl => ?_)
      refine lv_goto (tgt := 4) hx hb dX2_right_41 (by decide) ?_
      exact hL4 _ _ hwp H locs ls hP hO hD hS (lv_sub hl [2, 1, 0] rfl)
    · replace hwp := hwp.2 c3
      refine lv_aload_n hx hb dX2_right_21 rfl (lv_at hl 0 rfl) ?_
      refine lv_iload_n hx hb dX2_right_22 rfl (lv_at hl 2 rfl) ?_
      refine x_goi (va_runV (As := [.int x2]) (rest := [.int x1]) ⟨hx, hb, hml, hown, hts⟩ (xt_G_isRight h0 hwp H.size) (cwV 1 hts (lw_V q1068 q656 q657 q77 q658) rfl rfl rfl (by decide +kernel) ⟨Nat.le_of_ble_eq_true rfl, Nat.le_of_ble_eq_true rfl⟩) (x_preV hK hO hD hP 6 i0 h0 rfl rfl) rfl rfl hl.1 rfl (lv_room (Nat.le_of_ble_eq_true rfl)) dX2_right_23 ⟨Nat.le_of_ble_eq_true rfl, Nat.le_of_ble_eq_true rfl⟩) hD hA hS (fun r4 u H locs hk hP hO hD hS => ?_)
      obtain ⟨hwp, eu⟩ := hk
      subst eu
      dsimp only at hP hO hD
      refine lv_if_eq (tgt := 35) hx hb dX2_right_26 (by decide) (fun c5 => ?_) (fun c5 => ?_)
      · replace hwp := hwp.1 c5
        refine lv_iconst (v := 0) hx hb dX2_right_35 (by decide) ?_
        refine lv_ior hx hb dX2_right_36 ?_
        refine lv_istore_n (lv' := [(1, .int (x1 ||| 0)), (0, .ref i0), (2, .int x2)]) hx hb dX2_right_37 rfl hl (by decide) rfl (fun ls hl => ?_)
        refine lv_iinc (v := x2 + 1) (lv' := [(2, .int (x2 + 1)), (1, .int (x1 ||| 0)), (0, .ref i0)]) hx hb dX2_right_38 hl (k := 2) rfl rfl (by decide) rfl (fun ls hl => ?_)
        refine lv_goto (tgt := 4) hx hb dX2_right_41 (by decide) ?_
        exact hL4 _ _ hwp H locs ls hP hO hD hS (lv_sub hl [2, 1, 0] rfl)
      · replace hwp := hwp.2 c5
        refine lv_iconst (v := 1) hx hb dX2_right_29 (by decide) ?_
        refine lv_iload_n hx hb dX2_right_30 rfl (lv_at hl 2 rfl) ?_
        refine lv_ishl hx hb dX2_right_31 ?_
        refine lv_goto (tgt := 36) hx hb dX2_right_32 (by decide) ?_
        refine lv_ior hx hb dX2_right_36 ?_
        refine lv_istore_n (lv' := [(1, .int (x1 ||| ((1 : Int32) <<< (x2 &&& 31)))), (0, .ref i0), (2, .int x2)]) hx hb dX2_right_37 rfl hl (by decide) rfl (fun ls hl => ?_)
        refine lv_iinc (v := x2 + 1) (lv' := [(2, .int (x2 + 1)), (1, .int (x1 ||| ((1 : Int32) <<< (x2 &&& 31)))), (0, .ref i0)]) hx hb dX2_right_38 hl (k := 2) rfl rfl (by decide) rfl (fun ls hl => ?_)
        refine lv_goto (tgt := 4) hx hb dX2_right_41 (by decide) ?_
        exact hL4 _ _ hwp H locs ls hP hO hD hS (lv_sub hl [2, 1, 0] rfl)
set_option maxHeartbeats 4000000 in
set_option maxRecDepth 100000 in
theorem xk_G_right_4 {p : Program} {l : Launch} {e : Env} {s : State} {m : MethodId} {args : Array Value} {below : List Frame} {meth : Method} {c : Code} {Γ : GA} {δ : XSh} {σ : XSt} {K : Int32 → Prop} {i0 : Nat} (X : CX p s m args meth c cX2_right 3 (some .int) RX2 Γ) (h0 : (6, i0) ∈ δ.1) : ∀ n (x1 : Int32) (x2 : Int32), xw_G_right_4 δ σ K i0 n x1 x2 → TX p l e ({ frames := 24, cells := 0, slots := 0, locals := 521 } : Room) s m args below meth c 3 0 0 (YI below (fun r u => K r ∧ u = (δ, σ)) 0 0 Γ δ s args) Γ δ δ σ 4 [(0, .ref i0), (1, .int x1), (2, .int x2)] [] := by
  intro n
  induction n with
  | zero => intro _ _ hwp; exact hwp.elim
  | succ n ih => intro x1 x2 hwp; exact xk_G_right_4_b X h0 ih x1 x2 hwp
def xw_G_right (δ : XSh) (σ : XSt) (K : Int32 → Prop) (i0 : Nat) : Prop :=
  ∃ n, xw_G_right_4 δ σ K i0 n 0 0
set_option maxHeartbeats 4000000 in
set_option maxRecDepth 100000 in
theorem xt_G_right {l : Launch} {Γ : GA} {δ : XSh} {σ : XSt} {K : Int32 → Prop} {i0 : Nat} (h0 : (6, i0) ∈ δ.1) (hwp : xw_G_right δ σ K i0 ) : xI l yX2_right cX2_right 3 (some .int) ({ frames := 24, cells := 0, slots := 0, locals := 521 } : Room) 0 0 Γ δ [.ref i0] σ (fun r u => K r ∧ u = (δ, σ)) := by
  intro sz
  refine x_of (by decide) [(0, .ref i0)] (fun _ h => h) (Nat.le_of_ble_eq_true rfl) ?_
  intro p e s m args below meth c hsz X H locs ls hP hO hD hS hl
  subst hsz
  obtain ⟨hx, hb, hml, hown, hts, hK, hr, hlk⟩ := id X
  have hA : ∀ q, s.heap.size ≤ q → AX δ s.heap.size q := fun q h => Or.inr h
  unfold xw_G_right at hwp
  refine lv_iconst (v := 0) hx hb dX2_right_0 (by decide) ?_
  refine lv_istore_n (lv' := [(1, .int 0), (0, .ref i0)]) hx hb dX2_right_1 rfl hl (by decide) rfl (fun ls hl => ?_)
  refine lv_iconst (v := 0) hx hb dX2_right_2 (by decide) ?_
  refine lv_istore_n (lv' := [(2, .int 0), (1, .int 0), (0, .ref i0)]) hx hb dX2_right_3 rfl hl (by decide) rfl (fun ls hl => ?_)
  obtain ⟨n, hwp⟩ := hwp
  exact xk_G_right_4 X h0 n _ _ hwp H locs ls hP hO hD hS (lv_sub hl [2, 1, 0] rfl)
/-! G_rights -/
def xw_G_rights (δ : XSh) (σ : XSt) (K : Int32 → Prop) (i0 : Nat) : Prop :=
  xw_G_right δ σ (fun r1 => xw_Jn_bitCount δ σ (fun r2 => K r2) r1) i0
set_option maxHeartbeats 4000000 in
set_option maxRecDepth 100000 in
theorem xt_G_rights {l : Launch} {Γ : GA} {δ : XSh} {σ : XSt} {K : Int32 → Prop} {i0 : Nat} (h0 : (6, i0) ∈ δ.1) (hwp : xw_G_rights δ σ K i0 ) : xI l yX2_rights cX2_rights 1 (some .int) ({ frames := 25, cells := 0, slots := 0, locals := 543 } : Room) 0 0 Γ δ [.ref i0] σ (fun r u => K r ∧ u = (δ, σ)) := by
  intro sz
  refine x_of (by decide) [(0, .ref i0)] (fun _ h => h) (Nat.le_of_ble_eq_true rfl) ?_
  intro p e s m args below meth c hsz X H locs ls hP hO hD hS hl
  subst hsz
  obtain ⟨hx, hb, hml, hown, hts, hK, hr, hlk⟩ := id X
  have hA : ∀ q, s.heap.size ≤ q → AX δ s.heap.size q := fun q h => Or.inr h
  unfold xw_G_rights at hwp
  refine lv_aload_n hx hb dX2_rights_0 rfl (lv_at hl 0 rfl) ?_
  refine x_goi (va_runV (As := []) (rest := []) ⟨hx, hb, hml, hown, hts⟩ (xt_G_right h0 hwp H.size) (cwV 0 hts (lw_V q1155 q1065 q1066 q77 q1067) rfl rfl rfl (by decide +kernel) ⟨Nat.le_of_ble_eq_true rfl, Nat.le_of_ble_eq_true rfl⟩) (x_preV hK hO hD hP 6 i0 h0 rfl rfl) rfl rfl hl.1 rfl (lv_room (Nat.le_of_ble_eq_true rfl)) dX2_rights_1 ⟨Nat.le_of_ble_eq_true rfl, Nat.le_of_ble_eq_true rfl⟩) hD hA hS (fun r1 u H locs hk hP hO hD hS => ?_)
  obtain ⟨hwp, eu⟩ := hk
  subst eu
  dsimp only at hP hO hD
  refine x_goi (va_runS (As := [.int r1]) (rest := []) ⟨hx, hb, hml, hown, hts⟩ (xt_Jn_bitCount hwp H.size) (va_cwS 1 hts (lw_S q660 q644 q96 q645) rfl rfl rfl (by decide +kernel) ⟨Nat.le_of_ble_eq_true rfl, Nat.le_of_ble_eq_true rfl⟩) (x_preS hK hO hD hP) rfl rfl hl.1 rfl (lv_room (Nat.le_of_ble_eq_true rfl)) dX2_rights_4 ⟨Nat.le_of_ble_eq_true rfl, Nat.le_of_ble_eq_true rfl⟩) hD hA hS (fun r2 u H locs hk hP hO hD hS => ?_)
  obtain ⟨hwp, eu⟩ := hk
  subst eu
  dsimp only at hP hO hD
  exact x_iret hx hb hr hlk hP hO hD hS ⟨hwp, rfl⟩ dX2_rights_7
/-! G_cost -/
def xw_G_cost (δ : XSh) (σ : XSt) (K : Int32 → Prop) (i0 : Nat) (x1 : Int32) (x2 : Int32) : Prop :=
  xw_G_distance δ σ (fun r1 => vp_in x2 8 ∧ ∃ o3, σ.2.2 8 i0 x2.toNatClampNeg = some o3 ∧ (K (r1 + (σ.1 7 o3 3)))) i0 x1 x2
set_option maxHeartbeats 4000000 in
set_option maxRecDepth 100000 in
theorem xt_G_cost {l : Launch} {Γ : GA} {δ : XSh} {σ : XSt} {K : Int32 → Prop} {i0 : Nat} (h0 : (6, i0) ∈ δ.1) {x1 : Int32} {x2 : Int32} (hwp : xw_G_cost δ σ K i0 x1 x2) : xI l yX2_cost cX2_cost 3 (some .int) ({ frames := 2, cells := 0, slots := 0, locals := 82 } : Room) 0 0 Γ δ [.ref i0, .int x1, .int x2] σ (fun r u => K r ∧ u = (δ, σ)) := by
  intro sz
  refine x_of (by decide) [(0, .ref i0), (1, .int x1), (2, .int x2)] (fun _ h => h) (Nat.le_of_ble_eq_true rfl) ?_
  intro p e s m args below meth c hsz X H locs ls hP hO hD hS hl
  subst hsz
  obtain ⟨hx, hb, hml, hown, hts, hK, hr, hlk⟩ := id X
  have hA : ∀ q, s.heap.size ≤ q → AX δ s.heap.size q := fun q h => Or.inr h
  unfold xw_G_cost at hwp
  refine lv_aload_n hx hb dX2_cost_0 rfl (lv_at hl 0 rfl) ?_
  refine lv_iload_n hx hb dX2_cost_1 rfl (lv_at hl 1 rfl) ?_
  refine lv_iload_n hx hb dX2_cost_2 rfl (lv_at hl 2 rfl) ?_
  refine x_goi (va_runV (As := [.int x1, .int x2]) (rest := []) ⟨hx, hb, hml, hown, hts⟩ (xt_G_distance h0 hwp H.size) (cwV 2 hts (lw_V q586 q587 q588 q77 q589) rfl rfl rfl (by decide +kernel) ⟨Nat.le_of_ble_eq_true rfl, Nat.le_of_ble_eq_true rfl⟩) (x_preV hK hO hD hP 6 i0 h0 rfl rfl) rfl rfl hl.1 rfl (lv_room (Nat.le_of_ble_eq_true rfl)) dX2_cost_3 ⟨Nat.le_of_ble_eq_true rfl, Nat.le_of_ble_eq_true rfl⟩) hD hA hS (fun r1 u H locs hk hP hO hD hS => ?_)
  obtain ⟨hwp, eu⟩ := hk
  subst eu
  dsimp only at hP hO hD
  refine lv_aload_n hx hb dX2_cost_6 rfl (lv_at hl 0 rfl) ?_
  refine x_get hx hb hts hown hK hP 6 i0 h0 rfl rfl in_X2 6 (by decide) q159 rfl (v := .ref (δ.2.1 8 i0)) rfl dX2_cost_7 ?_
  refine lv_iload_n hx hb dX2_cost_10 rfl (lv_at hl 2 rfl) ?_
  obtain ⟨hi2, o3, eo3, hwp⟩ := hwp
  refine x_aald hx hb hK hP 8 i0 ((hO.1 _ h0).1) (Or.inl rfl) hi2 eo3 dX2_cost_11 (fun ho3 co3 => ?_)
  refine x_getT hx hb hts hown hK hO hP o3 ho3 (co3.1 rfl) 3 (by decide) q742 (fun _ h9 => h9) dX2_cost_12 ?_
  refine lv_iadd hx hb dX2_cost_15 ?_
  exact x_iret hx hb hr hlk hP hO hD hS ⟨hwp, rfl⟩ dX2_cost_16
/-! G_dearest -/
def xw_G_dearest_34 (δ : XSh) (σ : XSt) (K : Int32 → Prop) (i0 : Nat) (L11 : Int32 → Int32 → Int32 → Int32 → Prop) (x1 : Int32) (x2 : Int32) (x3 : Int32) (x4 : Int32) (t0 : Int32) : Prop :=
  ((t0 = 0) → (L11 x1 x2 x3 (x4 + 1))) ∧ ((¬ (t0 = 0)) → (((x3 = (-1)) → (L11 x1 x2 x4 (x4 + 1))) ∧ ((¬ (x3 = (-1))) → (xw_G_cost δ σ (fun r3 => xw_G_cost δ σ (fun r4 => ((r3 ≤ r4) → (L11 x1 x2 x3 (x4 + 1))) ∧ ((¬ (r3 ≤ r4)) → (L11 x1 x2 x4 (x4 + 1)))) i0 x3 x1) i0 x4 x1))))
set_option maxHeartbeats 4000000 in
set_option maxRecDepth 100000 in
theorem xk_G_dearest_34 {p : Program} {l : Launch} {e : Env} {s : State} {m : MethodId} {args : Array Value} {below : List Frame} {meth : Method} {c : Code} {Γ : GA} {δ : XSh} {σ : XSt} {K : Int32 → Prop} {i0 : Nat} (X : CX p s m args meth c cX2_dearest 6 (some .int) RX2 Γ) (h0 : (6, i0) ∈ δ.1) {L11 : Int32 → Int32 → Int32 → Int32 → Prop} (hL11 : ∀ (x1 : Int32) (x2 : Int32) (x3 : Int32) (x4 : Int32), L11 x1 x2 x3 x4 → TX p l e ({ frames := 23, cells := 0, slots := 0, locals := 500 } : Room) s m args below meth c 6 0 0 (YI below (fun r u => K r ∧ u = (δ, σ)) 0 0 Γ δ s args) Γ δ δ σ 11 [(0, .ref i0), (1, .int x1), (2, .int x2), (3, .int x3), (4, .int x4)] []) : ∀ (x1 : Int32) (x2 : Int32) (x3 : Int32) (x4 : Int32) (t0 : Int32), xw_G_dearest_34 δ σ K i0 L11 x1 x2 x3 x4 t0 → TX p l e ({ frames := 23, cells := 0, slots := 0, locals := 500 } : Room) s m args below meth c 6 0 0 (YI below (fun r u => K r ∧ u = (δ, σ)) 0 0 Γ δ s args) Γ δ δ σ 34 [(0, .ref i0), (1, .int x1), (2, .int x2), (3, .int x3), (4, .int x4)] [.int t0] := by
  obtain ⟨hx, hb, hml, hown, hts, hK, hr, hlk⟩ := id X
  have hA : ∀ q, s.heap.size ≤ q → AX δ s.heap.size q := fun q h => Or.inr h
  intro x1 x2 x3 x4 t0 hwp H locs ls hP hO hD hS hl
  unfold xw_G_dearest_34 at hwp
  refine lv_istore (lv' := [(5, .int t0), (0, .ref i0), (1, .int x1), (2, .int x2), (3, .int x3), (4, .int x4)]) hx hb dX2_dearest_34 hl (by decide) rfl (fun ls hl => ?_)
  refine lv_iload hx hb dX2_dearest_36 (lv_at hl 0 rfl) ?_
  refine lv_if_eq (tgt := 67) hx hb dX2_dearest_38 (by decide) (fun c1 => ?_) (fun c1 => ?_)
  · replace hwp := hwp.1 c1
    refine lv_iload_n hx hb dX2_dearest_67 rfl (lv_at hl 4 rfl) ?_
    refine lv_istore_n (lv' := [(3, .int x3), (5, .int t0), (0, .ref i0), (1, .int x1), (2, .int x2), (4, .int x4)]) hx hb dX2_dearest_68 rfl hl (by decide) rfl (fun ls hl => ?_)
    refine lv_iinc (v := x4 + 1) (lv' := [(4, .int (x4 + 1)), (3, .int x3), (5, .int t0), (0, .ref i0), (1, .int x1), (2, .int x2)]) hx hb dX2_dearest_69 hl (k := 5) rfl rfl (by decide) rfl (fun ls hl => ?_)
    refine lv_goto (tgt := 11) hx hb dX2_dearest_72 (by decide) ?_
    exact hL11 _ _ _ _ hwp H locs ls hP hO hD hS (lv_sub hl [3, 4, 5, 1, 0] rfl)
  · replace hwp := hwp.2 c1
    refine lv_iload_n hx hb dX2_dearest_41 rfl (lv_at hl 4 rfl) ?_
    refine lv_iconst (v := (-1)) hx hb dX2_dearest_42 (by decide) ?_
    refine lv_icmp_eq (tgt := 62) hx hb dX2_dearest_43 (by decide) (fun c2 => ?_) (fun c2 => ?_)
    · replace hwp := hwp.1 c2
      refine lv_iload hx hb dX2_dearest_62 (lv_at hl 5 rfl) ?_
      refine lv_goto (tgt := 68) hx hb dX2_dearest_64 (by decide) ?_
      refine lv_istore_n (lv' := [(3, .int x4), (5, .int t0), (0, .ref i0), (1, .int x1), (2, .int x2), (4, .int x4)]) hx hb dX2_dearest_68 rfl hl (by decide) rfl (fun ls hl => ?_)
      refine lv_iinc (v := x4 + 1) (lv' := [(4, .int (x4 + 1)), (3, .int x4), (5, .int t0), (0, .ref i0), (1, .int x1), (2, .int x2)]) hx hb dX2_dearest_69 hl (k := 5) rfl rfl (by decide) rfl (fun ls hl => ?_)
      refine lv_goto (tgt := 11) hx hb dX2_dearest_72 (by decide) ?_
      exact hL11 _ _ _ _ hwp H locs ls hP hO hD hS (lv_sub hl [3, 4, 5, 1, 0] rfl)
    · replace hwp := hwp.2 c2
      refine lv_aload_n hx hb dX2_dearest_46 rfl (lv_at hl 1 rfl) ?_
      refine lv_iload hx hb dX2_dearest_47 (lv_at hl 5 rfl) ?_
      refine lv_iload_n hx hb dX2_dearest_49 rfl (lv_at hl 2 rfl) ?_
      refine x_goi (va_runV (As := [.int x4, .int x1]) (rest := []) ⟨hx, hb, hml, hown, hts⟩ (xt_G_cost h0 hwp H.size) (cwV 2 hts (lw_V q1110 q1086 q1087 q77 q1088) rfl rfl rfl (by decide +kernel) ⟨Nat.le_of_ble_eq_true rfl, Nat.le_of_ble_eq_true rfl⟩) (x_preV hK hO hD hP 6 i0 h0 rfl rfl) rfl rfl hl.1 rfl (lv_room (Nat.le_of_ble_eq_true rfl)) dX2_dearest_50 ⟨Nat.le_of_ble_eq_true rfl, Nat.le_of_ble_eq_true rfl⟩) hD hA hS (fun r3 u H locs hk hP hO hD hS => ?_)
      obtain ⟨hwp, eu⟩ := hk
      subst eu
      dsimp only at hP hO hD
      refine lv_aload_n hx hb dX2_dearest_53 rfl (lv_at hl 1 rfl) ?_
      refine lv_iload_n hx hb dX2_dearest_54 rfl (lv_at hl 4 rfl) ?_
      refine lv_iload_n hx hb dX2_dearest_55 rfl (lv_at hl 2 rfl) ?_
      refine x_goi (va_runV (As := [.int x3, .int x1]) (rest := [.int r3]) ⟨hx, hb, hml, hown, hts⟩ (xt_G_cost h0 hwp H.size) (cwV 2 hts (lw_V q1110 q1086 q1087 q77 q1088) rfl rfl rfl (by decide +kernel) ⟨Nat.le_of_ble_eq_true rfl, Nat.le_of_ble_eq_true rfl⟩) (x_preV hK hO hD hP 6 i0 h0 rfl rfl) rfl rfl hl.1 rfl (lv_room (Nat.le_of_ble_eq_true rfl)) dX2_dearest_56 ⟨Nat.le_of_ble_eq_true rfl, Nat.le_of_ble_eq_true rfl⟩) hD hA hS (fun r4 u H locs hk hP hO hD hS => ?_)
      obtain ⟨hwp, eu⟩ := hk
      subst eu
      dsimp only at hP hO hD
      refine lv_icmp_le (tgt := 67) hx hb dX2_dearest_59 (by decide) (fun c5 => ?_) (fun c5 => ?_)
      · replace hwp := hwp.1 c5
        refine lv_iload_n hx hb dX2_dearest_67 rfl (lv_at hl 4 rfl) ?_
        refine lv_istore_n (lv' := [(3, .int x3), (5, .int t0), (0, .ref i0), (1, .int x1), (2, .int x2), (4, .int x4)]) hx hb dX2_dearest_68 rfl hl (by decide) rfl (fun ls hl => ?_)
        refine lv_iinc (v := x4 + 1) (lv' := [(4, .int (x4 + 1)), (3, .int x3), (5, .int t0), (0, .ref i0), (1, .int x1), (2, .int x2)]) hx hb dX2_dearest_69 hl (k := 5) rfl rfl (by decide) rfl (fun ls hl => ?_)
        refine lv_goto (tgt := 11) hx hb dX2_dearest_72 (by decide) ?_
        exact hL11 _ _ _ _ hwp H locs ls hP hO hD hS (lv_sub hl [3, 4, 5, 1, 0] rfl)
      · replace hwp := hwp.2 c5
        refine lv_iload hx hb dX2_dearest_62 (lv_at hl 5 rfl) ?_
        refine lv_goto (tgt := 68) hx hb dX2_dearest_64 (by decide) ?_
        refine lv_istore_n (lv' := [(3, .int x4), (5, .int t0), (0, .ref i0), (1, .int x1), (2, .int x2), (4, .int x4)]) hx hb dX2_dearest_68 rfl hl (by decide) rfl (fun ls hl => ?_)
        refine lv_iinc (v := x4 + 1) (lv' := [(4, .int (x4 + 1)), (3, .int x4), (5, .int t0), (0, .ref i0), (1, .int x1), (2, .int x2)]) hx hb dX2_dearest_69 hl (k := 5) rfl rfl (by decide) rfl (fun ls hl => ?_)
        refine lv_goto (tgt := 11) hx hb dX2_dearest_72 (by decide) ?_
        exact hL11 _ _ _ _ hwp H locs ls hP hO hD hS (lv_sub hl [3, 4, 5, 1, 0] rfl)
def xw_G_dearest_11_b (δ : XSh) (σ : XSt) (K : Int32 → Prop) (i0 : Nat) (L11 : Int32 → Int32 → Int32 → Int32 → Prop) (x1 : Int32) (x2 : Int32) (x3 : Int32) (x4 : Int32) : Prop :=
  (((σ.1 6 i0 0) ≤ x4) → (K x3)) ∧ ((¬ ((σ.1 6 i0 0) ≤ x4)) → (((((x2 >>> (x4 &&& 31)) &&& 1) = 0) → (xw_G_dearest_34 δ σ K i0 L11 x1 x2 x3 x4 0)) ∧ ((¬ (((x2 >>> (x4 &&& 31)) &&& 1) = 0)) → (xw_G_dearest_34 δ σ K i0 L11 x1 x2 x3 x4 1))))
def xw_G_dearest_11 (δ : XSh) (σ : XSt) (K : Int32 → Prop) (i0 : Nat) : Nat → Int32 → Int32 → Int32 → Int32 → Prop
  | 0 => fun _ _ _ _ => False
  | n + 1 => fun x1 x2 x3 x4 => xw_G_dearest_11_b δ σ K i0 (xw_G_dearest_11 δ σ K i0 n) x1 x2 x3 x4
set_option maxHeartbeats 4000000 in
set_option maxRecDepth 100000 in
theorem xk_G_dearest_11_b {p : Program} {l : Launch} {e : Env} {s : State} {m : MethodId} {args : Array Value} {below : List Frame} {meth : Method} {c : Code} {Γ : GA} {δ : XSh} {σ : XSt} {K : Int32 → Prop} {i0 : Nat} (X : CX p s m args meth c cX2_dearest 6 (some .int) RX2 Γ) (h0 : (6, i0) ∈ δ.1) {L11 : Int32 → Int32 → Int32 → Int32 → Prop} (hL11 : ∀ (x1 : Int32) (x2 : Int32) (x3 : Int32) (x4 : Int32), L11 x1 x2 x3 x4 → TX p l e ({ frames := 23, cells := 0, slots := 0, locals := 500 } : Room) s m args below meth c 6 0 0 (YI below (fun r u => K r ∧ u = (δ, σ)) 0 0 Γ δ s args) Γ δ δ σ 11 [(0, .ref i0), (1, .int x1), (2, .int x2), (3, .int x3), (4, .int x4)] []) : ∀ (x1 : Int32) (x2 : Int32) (x3 : Int32) (x4 : Int32), xw_G_dearest_11_b δ σ K i0 L11 x1 x2 x3 x4 → TX p l e ({ frames := 23, cells := 0, slots := 0, locals := 500 } : Room) s m args below meth c 6 0 0 (YI below (fun r u => K r ∧ u = (δ, σ)) 0 0 Γ δ s args) Γ δ δ σ 11 [(0, .ref i0), (1, .int x1), (2, .int x2), (3, .int x3), (4, .int x4)] [] := by
  obtain ⟨hx, hb, hml, hown, hts, hK, hr, hlk⟩ := id X
  have hA : ∀ q, s.heap.size ≤ q → AX δ s.heap.size q := fun q h => Or.inr h
  intro x1 x2 x3 x4 hwp H locs ls hP hO hD hS hl
  unfold xw_G_dearest_11_b at hwp
  refine lv_iload hx hb dX2_dearest_11 (lv_at hl 4 rfl) ?_
  refine lv_aload_n hx hb dX2_dearest_13 rfl (lv_at hl 0 rfl) ?_
  refine x_get hx hb hts hown hK hP 6 i0 h0 rfl rfl in_X2 0 (by decide) q143 rfl (v := .int (σ.1 6 i0 0)) rfl dX2_dearest_14 ?_
  refine lv_icmp_ge (tgt := 75) hx hb dX2_dearest_17 (by decide) (fun c1 => ?_) (fun c1 => ?_)
  · replace hwp := hwp.1 c1
    refine lv_iload_n hx hb dX2_dearest_75 rfl (lv_at hl 3 rfl) ?_
    exact x_iret hx hb hr hlk hP hO hD hS ⟨hwp, rfl⟩ dX2_dearest_76
  · replace hwp := hwp.2 c1
    refine lv_iload_n hx hb dX2_dearest_20 rfl (lv_at hl 2 rfl) ?_
    refine lv_iload hx hb dX2_dearest_21 (lv_at hl 4 rfl) ?_
    refine lv_ishr hx hb dX2_dearest_23 ?_
    refine lv_iconst (v := 1) hx hb dX2_dearest_24 (by decide) ?_
    refine lv_iand hx hb dX2_dearest_25 ?_
    refine lv_if_eq (tgt := 33) hx hb dX2_dearest_26 (by decide) (fun c2 => ?_) (fun c2 => ?_)
    · replace hwp := hwp.1 c2
      refine lv_iconst (v := 0) hx hb dX2_dearest_33 (by decide) ?_
      exact xk_G_dearest_34 X h0 hL11 _ _ _ _ _ hwp H locs ls hP hO hD hS (lv_sub hl [0, 1, 2, 3, 4] rfl)
    · replace hwp := hwp.2 c2
      refine lv_iconst (v := 1) hx hb dX2_dearest_29 (by decide) ?_
      refine lv_goto (tgt := 34) hx hb dX2_dearest_30 (by decide) ?_
      exact xk_G_dearest_34 X h0 hL11 _ _ _ _ _ hwp H locs ls hP hO hD hS (lv_sub hl [0, 1, 2, 3, 4] rfl)
set_option maxHeartbeats 4000000 in
set_option maxRecDepth 100000 in
theorem xk_G_dearest_11 {p : Program} {l : Launch} {e : Env} {s : State} {m : MethodId} {args : Array Value} {below : List Frame} {meth : Method} {c : Code} {Γ : GA} {δ : XSh} {σ : XSt} {K : Int32 → Prop} {i0 : Nat} (X : CX p s m args meth c cX2_dearest 6 (some .int) RX2 Γ) (h0 : (6, i0) ∈ δ.1) : ∀ n (x1 : Int32) (x2 : Int32) (x3 : Int32) (x4 : Int32), xw_G_dearest_11 δ σ K i0 n x1 x2 x3 x4 → TX p l e ({ frames := 23, cells := 0, slots := 0, locals := 500 } : Room) s m args below meth c 6 0 0 (YI below (fun r u => K r ∧ u = (δ, σ)) 0 0 Γ δ s args) Γ δ δ σ 11 [(0, .ref i0), (1, .int x1), (2, .int x2), (3, .int x3), (4, .int x4)] [] := by
  intro n
  induction n with
  | zero => intro _ _ _ _ hwp; exact hwp.elim
  | succ n ih => intro x1 x2 x3 x4 hwp; exact xk_G_dearest_11_b X h0 ih x1 x2 x3 x4 hwp
def xw_G_dearest (δ : XSh) (σ : XSt) (K : Int32 → Prop) (i0 : Nat) (x1 : Int32) : Prop :=
  xw_G_seers δ σ (fun r1 => ∃ n, xw_G_dearest_11 δ σ K i0 n x1 r1 (-1) 0) i0 x1
set_option maxHeartbeats 4000000 in
set_option maxRecDepth 100000 in
theorem xt_G_dearest {l : Launch} {Γ : GA} {δ : XSh} {σ : XSt} {K : Int32 → Prop} {i0 : Nat} (h0 : (6, i0) ∈ δ.1) {x1 : Int32} (hwp : xw_G_dearest δ σ K i0 x1) : xI l yX2_dearest cX2_dearest 6 (some .int) ({ frames := 23, cells := 0, slots := 0, locals := 500 } : Room) 0 0 Γ δ [.ref i0, .int x1] σ (fun r u => K r ∧ u = (δ, σ)) := by
  intro sz
  refine x_of (by decide) [(0, .ref i0), (1, .int x1)] (fun _ h => h) (Nat.le_of_ble_eq_true rfl) ?_
  intro p e s m args below meth c hsz X H locs ls hP hO hD hS hl
  subst hsz
  obtain ⟨hx, hb, hml, hown, hts, hK, hr, hlk⟩ := id X
  have hA : ∀ q, s.heap.size ≤ q → AX δ s.heap.size q := fun q h => Or.inr h
  unfold xw_G_dearest at hwp
  refine lv_aload_n hx hb dX2_dearest_0 rfl (lv_at hl 0 rfl) ?_
  refine lv_iload_n hx hb dX2_dearest_1 rfl (lv_at hl 1 rfl) ?_
  refine x_goi (va_runV (As := [.int x1]) (rest := []) ⟨hx, hb, hml, hown, hts⟩ (xt_G_seers h0 hwp H.size) (cwV 1 hts (lw_V q659 q534 q535 q77 q536) rfl rfl rfl (by decide +kernel) ⟨Nat.le_of_ble_eq_true rfl, Nat.le_of_ble_eq_true rfl⟩) (x_preV hK hO hD hP 6 i0 h0 rfl rfl) rfl rfl hl.1 rfl (lv_room (Nat.le_of_ble_eq_true rfl)) dX2_dearest_2 ⟨Nat.le_of_ble_eq_true rfl, Nat.le_of_ble_eq_true rfl⟩) hD hA hS (fun r1 u H locs hk hP hO hD hS => ?_)
  obtain ⟨hwp, eu⟩ := hk
  subst eu
  dsimp only at hP hO hD
  refine lv_istore_n (lv' := [(2, .int r1), (0, .ref i0), (1, .int x1)]) hx hb dX2_dearest_5 rfl hl (by decide) rfl (fun ls hl => ?_)
  refine lv_iconst (v := (-1)) hx hb dX2_dearest_6 (by decide) ?_
  refine lv_istore_n (lv' := [(3, .int (-1)), (2, .int r1), (0, .ref i0), (1, .int x1)]) hx hb dX2_dearest_7 rfl hl (by decide) rfl (fun ls hl => ?_)
  refine lv_iconst (v := 0) hx hb dX2_dearest_8 (by decide) ?_
  refine lv_istore (lv' := [(4, .int 0), (3, .int (-1)), (2, .int r1), (0, .ref i0), (1, .int x1)]) hx hb dX2_dearest_9 hl (by decide) rfl (fun ls hl => ?_)
  obtain ⟨n, hwp⟩ := hwp
  exact xk_G_dearest_11 X h0 n _ _ _ _ hwp H locs ls hP hO hD hS (lv_sub hl [3, 4, 2, 1, 0] rfl)
/-! G_keeps -/
def xw_G_keeps (δ : XSh) (σ : XSt) (K : Int32 → Prop) (i0 : Nat) (x1 : Int32) : Prop :=
  vp_in x1 8 ∧ ∃ o2, σ.2.2 8 i0 x1.toNatClampNeg = some o2 ∧ (xv_T_wanted δ σ (fun r3 => ((¬ (r3 = 0)) → (xw_G_dearest δ σ (fun r5 => K r5) i0 x1)) ∧ ((r3 = 0) → (K (-1)))) o2)
set_option maxHeartbeats 4000000 in
set_option maxRecDepth 100000 in
theorem xt_G_keeps {l : Launch} {Γ : GA} {δ : XSh} {σ : XSt} {K : Int32 → Prop} {i0 : Nat} (h0 : (6, i0) ∈ δ.1) {x1 : Int32} (hwp : xw_G_keeps δ σ K i0 x1) : xI l yX2_keeps cX2_keeps 2 (some .int) ({ frames := 24, cells := 0, slots := 0, locals := 525 } : Room) 0 0 Γ δ [.ref i0, .int x1] σ (fun r u => K r ∧ u = (δ, σ)) := by
  intro sz
  refine x_of (by decide) [(0, .ref i0), (1, .int x1)] (fun _ h => h) (Nat.le_of_ble_eq_true rfl) ?_
  intro p e s m args below meth c hsz X H locs ls hP hO hD hS hl
  subst hsz
  obtain ⟨hx, hb, hml, hown, hts, hK, hr, hlk⟩ := id X
  have hA : ∀ q, s.heap.size ≤ q → AX δ s.heap.size q := fun q h => Or.inr h
  unfold xw_G_keeps at hwp
  refine lv_aload_n hx hb dX2_keeps_0 rfl (lv_at hl 0 rfl) ?_
  refine x_get hx hb hts hown hK hP 6 i0 h0 rfl rfl in_X2 6 (by decide) q159 rfl (v := .ref (δ.2.1 8 i0)) rfl dX2_keeps_1 ?_
  refine lv_iload_n hx hb dX2_keeps_4 rfl (lv_at hl 1 rfl) ?_
  obtain ⟨hi1, o2, eo2, hwp⟩ := hwp
  refine x_aald hx hb hK hP 8 i0 ((hO.1 _ h0).1) (Or.inl rfl) hi1 eo2 dX2_keeps_5 (fun ho2 co2 => ?_)
  refine x_goi (xr_T_wanted (As := []) (rest := []) ⟨hx, hb, hml, hown, hts⟩ hK hD hO hP ho2 (co2.1 rfl) hwp q661 ⟨Nat.le_of_ble_eq_true rfl, Nat.le_of_ble_eq_true rfl⟩ rfl hl.1 rfl (Nat.le_of_ble_eq_true rfl) dX2_keeps_6 ⟨Nat.le_of_ble_eq_true rfl, Nat.le_of_ble_eq_true rfl⟩) hD hA hS (fun r3 u H locs hk hP hO hD hS => ?_)
  obtain ⟨hwp, eu⟩ := hk
  subst eu
  dsimp only at hP hO hD
  refine lv_if_ne (tgt := 16) hx hb dX2_keeps_9 (by decide) (fun c4 => ?_) (fun c4 => ?_)
  · replace hwp := hwp.1 c4
    refine lv_aload_n hx hb dX2_keeps_16 rfl (lv_at hl 0 rfl) ?_
    refine lv_iload_n hx hb dX2_keeps_17 rfl (lv_at hl 1 rfl) ?_
    refine x_goi (va_runV (As := [.int x1]) (rest := []) ⟨hx, hb, hml, hown, hts⟩ (xt_G_dearest h0 hwp H.size) (cwV 1 hts (lw_V q1106 q1107 q1108 q77 q1109) rfl rfl rfl (by decide +kernel) ⟨Nat.le_of_ble_eq_true rfl, Nat.le_of_ble_eq_true rfl⟩) (x_preV hK hO hD hP 6 i0 h0 rfl rfl) rfl rfl hl.1 rfl (lv_room (Nat.le_of_ble_eq_true rfl)) dX2_keeps_18 ⟨Nat.le_of_ble_eq_true rfl, Nat.le_of_ble_eq_true rfl⟩) hD hA hS (fun r5 u H locs hk hP hO hD hS => ?_)
    obtain ⟨hwp, eu⟩ := hk
    subst eu
    dsimp only at hP hO hD
    exact x_iret hx hb hr hlk hP hO hD hS ⟨hwp, rfl⟩ dX2_keeps_21
  · replace hwp := hwp.2 c4
    refine lv_iconst (v := (-1)) hx hb dX2_keeps_12 (by decide) ?_
    refine lv_goto (tgt := 21) hx hb dX2_keeps_13 (by decide) ?_
    exact x_iret hx hb hr hlk hP hO hD hS ⟨hwp, rfl⟩ dX2_keeps_21
/-! G_canBe -/
def xw_G_canBe (δ : XSh) (σ : XSt) (K : Int32 → Prop) (i0 : Nat) (x1 : Int32) : Prop :=
  vp_in x1 8 ∧ ∃ o2, σ.2.2 8 i0 x1.toNatClampNeg = some o2 ∧ (xv_T_wanted δ σ (fun r3 => ((r3 = 0) → (K 1)) ∧ ((¬ (r3 = 0)) → (xw_G_seers δ σ (fun r5 => ((r5 = 0) → (K 0)) ∧ ((¬ (r5 = 0)) → (K 1))) i0 x1))) o2)
set_option maxHeartbeats 4000000 in
set_option maxRecDepth 100000 in
theorem xt_G_canBe {l : Launch} {Γ : GA} {δ : XSh} {σ : XSt} {K : Int32 → Prop} {i0 : Nat} (h0 : (6, i0) ∈ δ.1) {x1 : Int32} (hwp : xw_G_canBe δ σ K i0 x1) : xI l yX2_canBe cX2_canBe 2 (some .boolean) ({ frames := 23, cells := 0, slots := 0, locals := 500 } : Room) 0 0 Γ δ [.ref i0, .int x1] σ (fun r u => K r ∧ u = (δ, σ)) := by
  intro sz
  refine x_of (by decide) [(0, .ref i0), (1, .int x1)] (fun _ h => h) (Nat.le_of_ble_eq_true rfl) ?_
  intro p e s m args below meth c hsz X H locs ls hP hO hD hS hl
  subst hsz
  obtain ⟨hx, hb, hml, hown, hts, hK, hr, hlk⟩ := id X
  have hA : ∀ q, s.heap.size ≤ q → AX δ s.heap.size q := fun q h => Or.inr h
  unfold xw_G_canBe at hwp
  refine lv_aload_n hx hb dX2_canBe_0 rfl (lv_at hl 0 rfl) ?_
  refine x_get hx hb hts hown hK hP 6 i0 h0 rfl rfl in_X2 6 (by decide) q159 rfl (v := .ref (δ.2.1 8 i0)) rfl dX2_canBe_1 ?_
  refine lv_iload_n hx hb dX2_canBe_4 rfl (lv_at hl 1 rfl) ?_
  obtain ⟨hi1, o2, eo2, hwp⟩ := hwp
  refine x_aald hx hb hK hP 8 i0 ((hO.1 _ h0).1) (Or.inl rfl) hi1 eo2 dX2_canBe_5 (fun ho2 co2 => ?_)
  refine x_goi (xr_T_wanted (As := []) (rest := []) ⟨hx, hb, hml, hown, hts⟩ hK hD hO hP ho2 (co2.1 rfl) hwp q661 ⟨Nat.le_of_ble_eq_true rfl, Nat.le_of_ble_eq_true rfl⟩ rfl hl.1 rfl (Nat.le_of_ble_eq_true rfl) dX2_canBe_6 ⟨Nat.le_of_ble_eq_true rfl, Nat.le_of_ble_eq_true rfl⟩) hD hA hS (fun r3 u H locs hk hP hO hD hS => ?_)
  obtain ⟨hwp, eu⟩ := hk
  subst eu
  dsimp only at hP hO hD
  refine lv_if_eq (tgt := 20) hx hb dX2_canBe_9 (by decide) (fun c4 => ?_) (fun c4 => ?_)
  · replace hwp := hwp.1 c4
    refine lv_iconst (v := 1) hx hb dX2_canBe_20 (by decide) ?_
    refine lv_goto (tgt := 25) hx hb dX2_canBe_21 (by decide) ?_
    exact x_zret (v := 1) hx hb hr hlk hP hO hD hS (Or.inr rfl) ⟨hwp, rfl⟩ dX2_canBe_25
  · replace hwp := hwp.2 c4
    refine lv_aload_n hx hb dX2_canBe_12 rfl (lv_at hl 0 rfl) ?_
    refine lv_iload_n hx hb dX2_canBe_13 rfl (lv_at hl 1 rfl) ?_
    refine x_goi (va_runV (As := [.int x1]) (rest := []) ⟨hx, hb, hml, hown, hts⟩ (xt_G_seers h0 hwp H.size) (cwV 1 hts (lw_V q659 q534 q535 q77 q536) rfl rfl rfl (by decide +kernel) ⟨Nat.le_of_ble_eq_true rfl, Nat.le_of_ble_eq_true rfl⟩) (x_preV hK hO hD hP 6 i0 h0 rfl rfl) rfl rfl hl.1 rfl (lv_room (Nat.le_of_ble_eq_true rfl)) dX2_canBe_14 ⟨Nat.le_of_ble_eq_true rfl, Nat.le_of_ble_eq_true rfl⟩) hD hA hS (fun r5 u H locs hk hP hO hD hS => ?_)
    obtain ⟨hwp, eu⟩ := hk
    subst eu
    dsimp only at hP hO hD
    refine lv_if_eq (tgt := 24) hx hb dX2_canBe_17 (by decide) (fun c6 => ?_) (fun c6 => ?_)
    · replace hwp := hwp.1 c6
      refine lv_iconst (v := 0) hx hb dX2_canBe_24 (by decide) ?_
      exact x_zret (v := 0) hx hb hr hlk hP hO hD hS (Or.inl rfl) ⟨hwp, rfl⟩ dX2_canBe_25
    · replace hwp := hwp.2 c6
      refine lv_iconst (v := 1) hx hb dX2_canBe_20 (by decide) ?_
      refine lv_goto (tgt := 25) hx hb dX2_canBe_21 (by decide) ?_
      exact x_zret (v := 1) hx hb hr hlk hP hO hD hS (Or.inr rfl) ⟨hwp, rfl⟩ dX2_canBe_25
/-! G_toShut -/
def xw_G_toShut (δ : XSh) (σ : XSt) (K : Int32 → Prop) (i0 : Nat) (x1 : Int32) : Prop :=
  xw_G_keeps δ σ (fun r1 => xw_G_seers δ σ (fun r2 => ((¬ (r1 = (-1))) → (K (r2 &&& (((1 : Int32) <<< (r1 &&& 31)) ^^^ (-1))))) ∧ ((r1 = (-1)) → (K (r2 &&& ((0 : Int32) ^^^ (-1)))))) i0 x1) i0 x1
set_option maxHeartbeats 4000000 in
set_option maxRecDepth 100000 in
theorem xt_G_toShut {l : Launch} {Γ : GA} {δ : XSh} {σ : XSt} {K : Int32 → Prop} {i0 : Nat} (h0 : (6, i0) ∈ δ.1) {x1 : Int32} (hwp : xw_G_toShut δ σ K i0 x1) : xI l yX2_toShut cX2_toShut 3 (some .int) ({ frames := 25, cells := 0, slots := 0, locals := 546 } : Room) 0 0 Γ δ [.ref i0, .int x1] σ (fun r u => K r ∧ u = (δ, σ)) := by
  intro sz
  refine x_of (by decide) [(0, .ref i0), (1, .int x1)] (fun _ h => h) (Nat.le_of_ble_eq_true rfl) ?_
  intro p e s m args below meth c hsz X H locs ls hP hO hD hS hl
  subst hsz
  obtain ⟨hx, hb, hml, hown, hts, hK, hr, hlk⟩ := id X
  have hA : ∀ q, s.heap.size ≤ q → AX δ s.heap.size q := fun q h => Or.inr h
  unfold xw_G_toShut at hwp
  refine lv_aload_n hx hb dX2_toShut_0 rfl (lv_at hl 0 rfl) ?_
  refine lv_iload_n hx hb dX2_toShut_1 rfl (lv_at hl 1 rfl) ?_
  refine x_goi (va_runV (As := [.int x1]) (rest := []) ⟨hx, hb, hml, hown, hts⟩ (xt_G_keeps h0 hwp H.size) (cwV 1 hts (lw_V q1102 q1103 q1104 q77 q1105) rfl rfl rfl (by decide +kernel) ⟨Nat.le_of_ble_eq_true rfl, Nat.le_of_ble_eq_true rfl⟩) (x_preV hK hO hD hP 6 i0 h0 rfl rfl) rfl rfl hl.1 rfl (lv_room (Nat.le_of_ble_eq_true rfl)) dX2_toShut_2 ⟨Nat.le_of_ble_eq_true rfl, Nat.le_of_ble_eq_true rfl⟩) hD hA hS (fun r1 u H locs hk hP hO hD hS => ?_)
  obtain ⟨hwp, eu⟩ := hk
  subst eu
  dsimp only at hP hO hD
  refine lv_istore_n (lv' := [(2, .int r1), (0, .ref i0), (1, .int x1)]) hx hb dX2_toShut_5 rfl hl (by decide) rfl (fun ls hl => ?_)
  refine lv_aload_n hx hb dX2_toShut_6 rfl (lv_at hl 1 rfl) ?_
  refine lv_iload_n hx hb dX2_toShut_7 rfl (lv_at hl 2 rfl) ?_
  refine x_goi (va_runV (As := [.int x1]) (rest := []) ⟨hx, hb, hml, hown, hts⟩ (xt_G_seers h0 hwp H.size) (cwV 1 hts (lw_V q659 q534 q535 q77 q536) rfl rfl rfl (by decide +kernel) ⟨Nat.le_of_ble_eq_true rfl, Nat.le_of_ble_eq_true rfl⟩) (x_preV hK hO hD hP 6 i0 h0 rfl rfl) rfl rfl hl.1 rfl (lv_room (Nat.le_of_ble_eq_true rfl)) dX2_toShut_8 ⟨Nat.le_of_ble_eq_true rfl, Nat.le_of_ble_eq_true rfl⟩) hD hA hS (fun r2 u H locs hk hP hO hD hS => ?_)
  obtain ⟨hwp, eu⟩ := hk
  subst eu
  dsimp only at hP hO hD
  refine lv_iload_n hx hb dX2_toShut_11 rfl (lv_at hl 0 rfl) ?_
  refine lv_iconst (v := (-1)) hx hb dX2_toShut_12 (by decide) ?_
  refine lv_icmp_ne (tgt := 20) hx hb dX2_toShut_13 (by decide) (fun c3 => ?_) (fun c3 => ?_)
  · replace hwp := hwp.1 c3
    refine lv_iconst (v := 1) hx hb dX2_toShut_20 (by decide) ?_
    refine lv_iload_n hx hb dX2_toShut_21 rfl (lv_at hl 0 rfl) ?_
    refine lv_ishl hx hb dX2_toShut_22 ?_
    refine lv_iconst (v := (-1)) hx hb dX2_toShut_23 (by decide) ?_
    refine lv_ixor hx hb dX2_toShut_24 ?_
    refine lv_iand hx hb dX2_toShut_25 ?_
    exact x_iret hx hb hr hlk hP hO hD hS ⟨hwp, rfl⟩ dX2_toShut_26
  · replace hwp := hwp.2 c3
    refine lv_iconst (v := 0) hx hb dX2_toShut_16 (by decide) ?_
    refine lv_goto (tgt := 23) hx hb dX2_toShut_17 (by decide) ?_
    refine lv_iconst (v := (-1)) hx hb dX2_toShut_23 (by decide) ?_
    refine lv_ixor hx hb dX2_toShut_24 ?_
    refine lv_iand hx hb dX2_toShut_25 ?_
    exact x_iret hx hb hr hlk hP hO hD hS ⟨hwp, rfl⟩ dX2_toShut_26
/-! G_shutters -/
def xw_G_shutters_4_b (δ : XSh) (σ : XSt) (K : Int32 → Prop) (i0 : Nat) (L4 : Int32 → Int32 → Prop) (x1 : Int32) (x2 : Int32) : Prop :=
  (((σ.1 6 i0 0) ≤ x2) → (K x1)) ∧ ((¬ ((σ.1 6 i0 0) ≤ x2)) → (vp_in x2 8 ∧ (xw_Jn_bitCount δ σ (fun r3 => L4 (x1 + r3) (x2 + 1)) (σ.1 10 i0 x2.toNatClampNeg))))
def xw_G_shutters_4 (δ : XSh) (σ : XSt) (K : Int32 → Prop) (i0 : Nat) : Nat → Int32 → Int32 → Prop
  | 0 => fun _ _ => False
  | n + 1 => fun x1 x2 => xw_G_shutters_4_b δ σ K i0 (xw_G_shutters_4 δ σ K i0 n) x1 x2
set_option maxHeartbeats 4000000 in
set_option maxRecDepth 100000 in
theorem xk_G_shutters_4_b {p : Program} {l : Launch} {e : Env} {s : State} {m : MethodId} {args : Array Value} {below : List Frame} {meth : Method} {c : Code} {Γ : GA} {δ : XSh} {σ : XSt} {K : Int32 → Prop} {i0 : Nat} (X : CX p s m args meth c cX2_shutters 3 (some .int) RX2 Γ) (h0 : (6, i0) ∈ δ.1) {L4 : Int32 → Int32 → Prop} (hL4 : ∀ (x1 : Int32) (x2 : Int32), L4 x1 x2 → TX p l e ({ frames := 1, cells := 0, slots := 0, locals := 20 } : Room) s m args below meth c 3 0 0 (YI below (fun r u => K r ∧ u = (δ, σ)) 0 0 Γ δ s args) Γ δ δ σ 4 [(0, .ref i0), (1, .int x1), (2, .int x2)] []) : ∀ (x1 : Int32) (x2 : Int32), xw_G_shutters_4_b δ σ K i0 L4 x1 x2 → TX p l e ({ frames := 1, cells := 0, slots := 0, locals := 20 } : Room) s m args below meth c 3 0 0 (YI below (fun r u => K r ∧ u = (δ, σ)) 0 0 Γ δ s args) Γ δ δ σ 4 [(0, .ref i0), (1, .int x1), (2, .int x2)] [] := by
  obtain ⟨hx, hb, hml, hown, hts, hK, hr, hlk⟩ := id X
  have hA : ∀ q, s.heap.size ≤ q → AX δ s.heap.size q := fun q h => Or.inr h
  intro x1 x2 hwp H locs ls hP hO hD hS hl
  unfold xw_G_shutters_4_b at hwp
  refine lv_iload_n hx hb dX2_shutters_4 rfl (lv_at hl 2 rfl) ?_
  refine lv_aload_n hx hb dX2_shutters_5 rfl (lv_at hl 0 rfl) ?_
  refine x_get hx hb hts hown hK hP 6 i0 h0 rfl rfl in_X2 0 (by decide) q143 rfl (v := .int (σ.1 6 i0 0)) rfl dX2_shutters_6 ?_
  refine lv_icmp_ge (tgt := 30) hx hb dX2_shutters_9 (by decide) (fun c1 => ?_) (fun c1 => ?_)
  · replace hwp := hwp.1 c1
    refine lv_iload_n hx hb dX2_shutters_30 rfl (lv_at hl 1 rfl) ?_
    exact x_iret hx hb hr hlk hP hO hD hS ⟨hwp, rfl⟩ dX2_shutters_31
  · replace hwp := hwp.2 c1
    refine lv_iload_n hx hb dX2_shutters_12 rfl (lv_at hl 1 rfl) ?_
    refine lv_aload_n hx hb dX2_shutters_13 rfl (lv_at hl 0 rfl) ?_
    refine x_get hx hb hts hown hK hP 6 i0 h0 rfl rfl in_X2 8 (by decide) q164 rfl (v := .ref (δ.2.1 10 i0)) rfl dX2_shutters_14 ?_
    refine lv_iload_n hx hb dX2_shutters_17 rfl (lv_at hl 2 rfl) ?_
    obtain ⟨hi2, hwp⟩ := hwp
    refine x_iald hx hb hK hP 10 i0 ((hO.1 _ h0).2.2) rfl hi2 dX2_shutters_18 ?_
    refine x_goi (va_runS (As := [.int (σ.1 10 i0 x2.toNatClampNeg)]) (rest := [.int x1]) ⟨hx, hb, hml, hown, hts⟩ (xt_Jn_bitCount hwp H.size) (va_cwS 1 hts (lw_S q660 q644 q96 q645) rfl rfl rfl (by decide +kernel) ⟨Nat.le_of_ble_eq_true rfl, Nat.le_of_ble_eq_true rfl⟩) (x_preS hK hO hD hP) rfl rfl hl.1 rfl (lv_room (Nat.le_of_ble_eq_true rfl)) dX2_shutters_19 ⟨Nat.le_of_ble_eq_true rfl, Nat.le_of_ble_eq_true rfl⟩) hD hA hS (fun r3 u H locs hk hP hO hD hS => ?_)
    obtain ⟨hwp, eu⟩ := hk
    subst eu
    dsimp only at hP hO hD
    refine lv_iadd hx hb dX2_shutters_22 ?_
    refine lv_istore_n (lv' := [(1, .int (x1 + r3)), (0, .ref i0), (2, .int x2)]) hx hb dX2_shutters_23 rfl hl (by decide) rfl (fun ls hl => ?_)
    refine lv_iinc (v := x2 + 1) (lv' := [(2, .int (x2 + 1)), (1, .int (x1 + r3)), (0, .ref i0)]) hx hb dX2_shutters_24 hl (k := 2) rfl rfl (by decide) rfl (fun ls hl => ?_)
    refine lv_goto (tgt := 4) hx hb dX2_shutters_27 (by decide) ?_
    exact hL4 _ _ hwp H locs ls hP hO hD hS (lv_sub hl [2, 1, 0] rfl)
set_option maxHeartbeats 4000000 in
set_option maxRecDepth 100000 in
theorem xk_G_shutters_4 {p : Program} {l : Launch} {e : Env} {s : State} {m : MethodId} {args : Array Value} {below : List Frame} {meth : Method} {c : Code} {Γ : GA} {δ : XSh} {σ : XSt} {K : Int32 → Prop} {i0 : Nat} (X : CX p s m args meth c cX2_shutters 3 (some .int) RX2 Γ) (h0 : (6, i0) ∈ δ.1) : ∀ n (x1 : Int32) (x2 : Int32), xw_G_shutters_4 δ σ K i0 n x1 x2 → TX p l e ({ frames := 1, cells := 0, slots := 0, locals := 20 } : Room) s m args below meth c 3 0 0 (YI below (fun r u => K r ∧ u = (δ, σ)) 0 0 Γ δ s args) Γ δ δ σ 4 [(0, .ref i0), (1, .int x1), (2, .int x2)] [] := by
  intro n
  induction n with
  | zero => intro _ _ hwp; exact hwp.elim
  | succ n ih => intro x1 x2 hwp; exact xk_G_shutters_4_b X h0 ih x1 x2 hwp
def xw_G_shutters (δ : XSh) (σ : XSt) (K : Int32 → Prop) (i0 : Nat) : Prop :=
  ∃ n, xw_G_shutters_4 δ σ K i0 n 0 0
set_option maxHeartbeats 4000000 in
set_option maxRecDepth 100000 in
theorem xt_G_shutters {l : Launch} {Γ : GA} {δ : XSh} {σ : XSt} {K : Int32 → Prop} {i0 : Nat} (h0 : (6, i0) ∈ δ.1) (hwp : xw_G_shutters δ σ K i0 ) : xI l yX2_shutters cX2_shutters 3 (some .int) ({ frames := 1, cells := 0, slots := 0, locals := 20 } : Room) 0 0 Γ δ [.ref i0] σ (fun r u => K r ∧ u = (δ, σ)) := by
  intro sz
  refine x_of (by decide) [(0, .ref i0)] (fun _ h => h) (Nat.le_of_ble_eq_true rfl) ?_
  intro p e s m args below meth c hsz X H locs ls hP hO hD hS hl
  subst hsz
  obtain ⟨hx, hb, hml, hown, hts, hK, hr, hlk⟩ := id X
  have hA : ∀ q, s.heap.size ≤ q → AX δ s.heap.size q := fun q h => Or.inr h
  unfold xw_G_shutters at hwp
  refine lv_iconst (v := 0) hx hb dX2_shutters_0 (by decide) ?_
  refine lv_istore_n (lv' := [(1, .int 0), (0, .ref i0)]) hx hb dX2_shutters_1 rfl hl (by decide) rfl (fun ls hl => ?_)
  refine lv_iconst (v := 0) hx hb dX2_shutters_2 (by decide) ?_
  refine lv_istore_n (lv' := [(2, .int 0), (1, .int 0), (0, .ref i0)]) hx hb dX2_shutters_3 rfl hl (by decide) rfl (fun ls hl => ?_)
  obtain ⟨n, hwp⟩ := hwp
  exact xk_G_shutters_4 X h0 n _ _ hwp H locs ls hP hO hD hS (lv_sub hl [2, 1, 0] rfl)
/-! G_draw -/
def xw_G_draw (δ : XSh) (K : Int32 → XSt → Prop) (i0 : Nat) (x1 : Int32) (σ : XSt) : Prop :=
  ∀ σ1, σ1 = tI σ 6 i0 5 (((σ.1 6 i0 5) * 1103515245) + 12345) → ((¬ x1 = 0) ∧ (K ((((σ1.1 6 i0 5).toUInt32 >>> ((16 : Int32).toUInt32 &&& Int32.toUInt32 31)).toInt32) - (((σ1.1 6 i0 5).toUInt32 >>> ((16 : Int32).toUInt32 &&& Int32.toUInt32 31)).toInt32) / x1 * x1) σ1))
set_option maxHeartbeats 4000000 in
set_option maxRecDepth 100000 in
theorem xt_G_draw {l : Launch} {Γ : GA} {δ : XSh} {σ : XSt} {K : Int32 → XSt → Prop} {i0 : Nat} (h0 : (6, i0) ∈ δ.1) {x1 : Int32} (hwp : xw_G_draw δ K i0 x1 σ) : xI l yX2_draw cX2_draw 2 (some .int) ({ frames := 0, cells := 0, slots := 0, locals := 0 } : Room) 0 0 Γ δ [.ref i0, .int x1] σ (fun r u => K r u.2 ∧ u.1 = δ) := by
  intro sz
  refine x_of (by decide) [(0, .ref i0), (1, .int x1)] (fun _ h => h) (Nat.le_of_ble_eq_true rfl) ?_
  intro p e s m args below meth c hsz X H locs ls hP hO hD hS hl
  subst hsz
  obtain ⟨hx, hb, hml, hown, hts, hK, hr, hlk⟩ := id X
  have hA : ∀ q, s.heap.size ≤ q → AX δ s.heap.size q := fun q h => Or.inr h
  unfold xw_G_draw at hwp
  refine lv_aload_n hx hb dX2_draw_0 rfl (lv_at hl 0 rfl) ?_
  refine lv_aload_n hx hb dX2_draw_1 rfl (lv_at hl 0 rfl) ?_
  refine x_get hx hb hts hown hK hP 6 i0 h0 rfl rfl in_X2 5 (by decide) q157 rfl (v := .int (σ.1 6 i0 5)) rfl dX2_draw_2 ?_
  refine lv_ldc hx hb hown (hts _ q1228) dX2_draw_5 ?_
  refine lv_imul hx hb dX2_draw_7 ?_
  refine lv_sipush (v := 12345) hx hb dX2_draw_8 (by decide) ?_
  refine lv_iadd hx hb dX2_draw_11 ?_
  refine x_puti hx hb hts hown hK hD hP hS 6 i0 h0 rfl rfl in_X2 tyX2 tyX2_ok nmX2 5 (by decide) q157 rfl rfl rfl rfl (Nat.le_of_ble_eq_true rfl) rfl dX2_draw_12 (fun H locs hP hS => ?_)
  obtain ⟨σ1, eσ1⟩ : ∃ z, z = tI σ 6 i0 5 (((σ.1 6 i0 5) * 1103515245) + 12345) := ⟨_, rfl⟩
  replace hP : XH Γ δ σ1 H := by rw [eσ1]; exact hP
  replace hwp := hwp σ1 eσ1
  refine lv_aload_n hx hb dX2_draw_15 rfl (lv_at hl 0 rfl) ?_
  refine x_get hx hb hts hown hK hP 6 i0 h0 rfl rfl in_X2 5 (by decide) q157 rfl (v := .int (σ1.1 6 i0 5)) rfl dX2_draw_16 ?_
  refine lv_bipush (v := 16) hx hb dX2_draw_19 (by decide) ?_
  refine lv_iushr (v := ((σ1.1 6 i0 5).toUInt32 >>> ((16 : Int32).toUInt32 &&& Int32.toUInt32 31)).toInt32) hx hb dX2_draw_21 rfl ?_
  refine lv_iload_n hx hb dX2_draw_22 rfl (lv_at hl 1 rfl) ?_
  obtain ⟨hz2, hwp⟩ := hwp
  refine lv_irem hx hb dX2_draw_23 hz2 ?_
  exact x_iret hx hb hr hlk hP hO hD hS ⟨hwp, rfl⟩ dX2_draw_24
/-! G_year -/
def xw_G_year_64 (δ : XSh) (K : Int32 → XSt → Prop) (i0 : Nat) (t0 : Int32) (z1 : Nat) (σ : XSt) : Prop :=
  (t0 = 0 ∨ t0 = 1) ∧ (∀ σ2, σ2 = tI σ 6 z1 1 t0 → (xw_G_houses δ σ2 (fun r3 => xw_Jn_bitCount δ σ2 (fun r4 => xw_G_rights δ σ2 (fun r5 => ∀ σ6, σ6 = tI σ2 6 i0 4 ((σ2.1 6 i0 4) + (r4 - r5)) → (K (r4 - r5) σ6)) i0) r3) i0))
set_option maxHeartbeats 4000000 in
set_option maxRecDepth 100000 in
theorem xk_G_year_64 {p : Program} {l : Launch} {e : Env} {s : State} {m : MethodId} {args : Array Value} {below : List Frame} {meth : Method} {c : Code} {Γ : GA} {δ : XSh} {K : Int32 → XSt → Prop} {i0 : Nat} (X : CX p s m args meth c cX2_year 2 (some .int) RX2 Γ) (h0 : (6, i0) ∈ δ.1) : ∀ (t0 : Int32) (z1 : Nat) (σ : XSt), (6, z1) ∈ δ.1 → xw_G_year_64 δ K i0 t0 z1 σ → TX p l e ({ frames := 26, cells := 0, slots := 0, locals := 563 } : Room) s m args below meth c 2 0 0 (YI below (fun r u => K r u.2 ∧ u.1 = δ) 0 0 Γ δ s args) Γ δ δ σ 64 [(0, .ref i0)] [.int t0, .ref z1] := by
  obtain ⟨hx, hb, hml, hown, hts, hK, hr, hlk⟩ := id X
  have hA : ∀ q, s.heap.size ≤ q → AX δ s.heap.size q := fun q h => Or.inr h
  intro t0 z1 σ hz1 hwp H locs ls hP hO hD hS hl
  unfold xw_G_year_64 at hwp
  obtain ⟨hv1, hwp⟩ := hwp
  refine x_puti hx hb hts hown hK hD hP hS 6 z1 hz1 rfl rfl in_X2 tyX2 tyX2_ok nmX2 1 (by decide) q146 rfl rfl (zb_in hv1) (zb_fit hv1) (Nat.le_of_ble_eq_true rfl) rfl dX2_year_64 (fun H locs hP hS => ?_)
  obtain ⟨σ2, eσ2⟩ : ∃ z, z = tI σ 6 z1 1 t0 := ⟨_, rfl⟩
  replace hP : XH Γ δ σ2 H := by rw [eσ2]; exact hP
  replace hwp := hwp σ2 eσ2
  refine lv_aload_n hx hb dX2_year_67 rfl (lv_at hl 0 rfl) ?_
  refine x_goi (va_runV (As := []) (rest := []) ⟨hx, hb, hml, hown, hts⟩ (xt_G_houses h0 hwp H.size) (cwV 0 hts (lw_V q1232 q1074 q1075 q77 q1076) rfl rfl rfl (by decide +kernel) ⟨Nat.le_of_ble_eq_true rfl, Nat.le_of_ble_eq_true rfl⟩) (x_preV hK hO hD hP 6 i0 h0 rfl rfl) rfl rfl hl.1 rfl (lv_room (Nat.le_of_ble_eq_true rfl)) dX2_year_68 ⟨Nat.le_of_ble_eq_true rfl, Nat.le_of_ble_eq_true rfl⟩) hD hA hS (fun r3 u H locs hk hP hO hD hS => ?_)
  obtain ⟨hwp, eu⟩ := hk
  subst eu
  dsimp only at hP hO hD
  refine x_goi (va_runS (As := [.int r3]) (rest := []) ⟨hx, hb, hml, hown, hts⟩ (xt_Jn_bitCount hwp H.size) (va_cwS 1 hts (lw_S q660 q644 q96 q645) rfl rfl rfl (by decide +kernel) ⟨Nat.le_of_ble_eq_true rfl, Nat.le_of_ble_eq_true rfl⟩) (x_preS hK hO hD hP) rfl rfl hl.1 rfl (lv_room (Nat.le_of_ble_eq_true rfl)) dX2_year_71 ⟨Nat.le_of_ble_eq_true rfl, Nat.le_of_ble_eq_true rfl⟩) hD hA hS (fun r4 u H locs hk hP hO hD hS => ?_)
  obtain ⟨hwp, eu⟩ := hk
  subst eu
  dsimp only at hP hO hD
  refine lv_aload_n hx hb dX2_year_74 rfl (lv_at hl 0 rfl) ?_
  refine x_goi (va_runV (As := []) (rest := [.int r4]) ⟨hx, hb, hml, hown, hts⟩ (xt_G_rights h0 hwp H.size) (cwV 0 hts (lw_V q1233 q1152 q1153 q77 q1154) rfl rfl rfl (by decide +kernel) ⟨Nat.le_of_ble_eq_true rfl, Nat.le_of_ble_eq_true rfl⟩) (x_preV hK hO hD hP 6 i0 h0 rfl rfl) rfl rfl hl.1 rfl (lv_room (Nat.le_of_ble_eq_true rfl)) dX2_year_75 ⟨Nat.le_of_ble_eq_true rfl, Nat.le_of_ble_eq_true rfl⟩) hD hA hS (fun r5 u H locs hk hP hO hD hS => ?_)
  obtain ⟨hwp, eu⟩ := hk
  subst eu
  dsimp only at hP hO hD
  refine lv_isub hx hb dX2_year_78 ?_
  refine lv_istore_n (lv' := [(1, .int (r4 - r5)), (0, .ref i0)]) hx hb dX2_year_79 rfl hl (by decide) rfl (fun ls hl => ?_)
  refine lv_aload_n hx hb dX2_year_80 rfl (lv_at hl 1 rfl) ?_
  refine lv_dup hx hb dX2_year_81 rfl ?_
  refine x_get hx hb hts hown hK hP 6 i0 h0 rfl rfl in_X2 4 (by decide) q155 rfl (v := .int (σ2.1 6 i0 4)) rfl dX2_year_82 ?_
  refine lv_iload_n hx hb dX2_year_85 rfl (lv_at hl 0 rfl) ?_
  refine lv_iadd hx hb dX2_year_86 ?_
  refine x_puti hx hb hts hown hK hD hP hS 6 i0 h0 rfl rfl in_X2 tyX2 tyX2_ok nmX2 4 (by decide) q155 rfl rfl rfl rfl (Nat.le_of_ble_eq_true rfl) rfl dX2_year_87 (fun H locs hP hS => ?_)
  obtain ⟨σ6, eσ6⟩ : ∃ z, z = tI σ2 6 i0 4 ((σ2.1 6 i0 4) + (r4 - r5)) := ⟨_, rfl⟩
  replace hP : XH Γ δ σ6 H := by rw [eσ6]; exact hP
  replace hwp := hwp σ6 eσ6
  refine lv_iload_n hx hb dX2_year_90 rfl (lv_at hl 0 rfl) ?_
  exact x_iret hx hb hr hlk hP hO hD hS ⟨hwp, rfl⟩ dX2_year_91
def xw_G_year_2_b (δ : XSh) (K : Int32 → XSt → Prop) (i0 : Nat) (L2 : Int32 → XSt → Prop) (x1 : Int32) (σ : XSt) : Prop :=
  (((σ.1 6 i0 0) ≤ x1) → (((¬ ((σ.1 6 i0 1) = 0)) → (xw_G_year_64 δ K i0 0 i0 σ)) ∧ (((σ.1 6 i0 1) = 0) → (xw_G_year_64 δ K i0 1 i0 σ)))) ∧ ((¬ ((σ.1 6 i0 0) ≤ x1)) → (vp_in x1 8 ∧ ∃ o4, σ.2.2 8 i0 x1.toNatClampNeg = some o4 ∧ (xv_T_grows δ σ (fun r5 => ((r5 = 0) → (L2 (x1 + 1) σ)) ∧ ((¬ (r5 = 0)) → (vp_in x1 8 ∧ (xw_G_draw δ (fun r8 σ9 => ∀ r10, r10 = (if ((σ.1 9 i0 x1.toNatClampNeg) + r8) < (20 : Int32) then ((σ.1 9 i0 x1.toNatClampNeg) + r8) else (20 : Int32)) → (vp_in x1 8 ∧ (∀ σ12, σ12 = tI σ9 9 i0 x1.toNatClampNeg r10 → (L2 (x1 + 1) σ12)))) i0 3 σ)))) o4)))
def xw_G_year_2 (δ : XSh) (K : Int32 → XSt → Prop) (i0 : Nat) : Nat → Int32 → XSt → Prop
  | 0 => fun _ _ => False
  | n + 1 => fun x1 σ => xw_G_year_2_b δ K i0 (xw_G_year_2 δ K i0 n) x1 σ
set_option maxHeartbeats 4000000 in
set_option maxRecDepth 100000 in
theorem xk_G_year_2_b {p : Program} {l : Launch} {e : Env} {s : State} {m : MethodId} {args : Array Value} {below : List Frame} {meth : Method} {c : Code} {Γ : GA} {δ : XSh} {K : Int32 → XSt → Prop} {i0 : Nat} (X : CX p s m args meth c cX2_year 2 (some .int) RX2 Γ) (h0 : (6, i0) ∈ δ.1) {L2 : Int32 → XSt → Prop} (hL2 : ∀ (x1 : Int32) (σ : XSt), L2 x1 σ → TX p l e ({ frames := 26, cells := 0, slots := 0, locals := 563 } : Room) s m args below meth c 2 0 0 (YI below (fun r u => K r u.2 ∧ u.1 = δ) 0 0 Γ δ s args) Γ δ δ σ 2 [(0, .ref i0), (1, .int x1)] []) : ∀ (x1 : Int32) (σ : XSt), xw_G_year_2_b δ K i0 L2 x1 σ → TX p l e ({ frames := 26, cells := 0, slots := 0, locals := 563 } : Room) s m args below meth c 2 0 0 (YI below (fun r u => K r u.2 ∧ u.1 = δ) 0 0 Γ δ s args) Γ δ δ σ 2 [(0, .ref i0), (1, .int x1)] [] := by
  obtain ⟨hx, hb, hml, hown, hts, hK, hr, hlk⟩ := id X
  have hA : ∀ q, s.heap.size ≤ q → AX δ s.heap.size q := fun q h => Or.inr h
  intro x1 σ hwp H locs ls hP hO hD hS hl
  unfold xw_G_year_2_b at hwp
  refine lv_iload_n hx hb dX2_year_2 rfl (lv_at hl 1 rfl) ?_
  refine lv_aload_n hx hb dX2_year_3 rfl (lv_at hl 0 rfl) ?_
  refine x_get hx hb hts hown hK hP 6 i0 h0 rfl rfl in_X2 0 (by decide) q143 rfl (v := .int (σ.1 6 i0 0)) rfl dX2_year_4 ?_
  refine lv_icmp_ge (tgt := 51) hx hb dX2_year_7 (by decide) (fun c1 => ?_) (fun c1 => ?_)
  · replace hwp := hwp.1 c1
    refine lv_aload_n hx hb dX2_year_51 rfl (lv_at hl 0 rfl) ?_
    refine lv_aload_n hx hb dX2_year_52 rfl (lv_at hl 0 rfl) ?_
    refine x_get hx hb hts hown hK hP 6 i0 h0 rfl rfl in_X2 1 (by decide) q146 rfl (v := .int (σ.1 6 i0 1)) rfl dX2_year_53 ?_
    refine lv_if_ne (tgt := 63) hx hb dX2_year_56 (by decide) (fun c2 => ?_) (fun c2 => ?_)
    · replace hwp := hwp.1 c2
      refine lv_iconst (v := 0) hx hb dX2_year_63 (by decide) ?_
      exact xk_G_year_64 X h0 _ _ σ h0 hwp H locs ls hP hO hD hS (lv_sub hl [0] rfl)
    · replace hwp := hwp.2 c2
      refine lv_iconst (v := 1) hx hb dX2_year_59 (by decide) ?_
      refine lv_goto (tgt := 64) hx hb dX2_year_60 (by decide) ?_
      exact xk_G_year_64 X h0 _ _ σ h0 hwp H locs ls hP hO hD hS (lv_sub hl [0] rfl)
  · replace hwp := hwp.2 c1
    refine lv_aload_n hx hb dX2_year_10 rfl (lv_at hl 0 rfl) ?_
    refine x_get hx hb hts hown hK hP 6 i0 h0 rfl rfl in_X2 6 (by decide) q159 rfl (v := .ref (δ.2.1 8 i0)) rfl dX2_year_11 ?_
    refine lv_iload_n hx hb dX2_year_14 rfl (lv_at hl 1 rfl) ?_
    obtain ⟨hi3, o4, eo4, hwp⟩ := hwp
    refine x_aald hx hb hK hP 8 i0 ((hO.1 _ h0).1) (Or.inl rfl) hi3 eo4 dX2_year_15 (fun ho4 co4 => ?_)
    refine x_goi (xr_T_grows (As := []) (rest := []) ⟨hx, hb, hml, hown, hts⟩ hK hD hO hP ho4 (co4.1 rfl) hwp q1211 ⟨Nat.le_of_ble_eq_true rfl, Nat.le_of_ble_eq_true rfl⟩ rfl hl.1 rfl (Nat.le_of_ble_eq_true rfl) dX2_year_16 ⟨Nat.le_of_ble_eq_true rfl, Nat.le_of_ble_eq_true rfl⟩) hD hA hS (fun r5 u H locs hk hP hO hD hS => ?_)
    obtain ⟨hwp, eu⟩ := hk
    subst eu
    dsimp only at hP hO hD
    refine lv_if_eq (tgt := 45) hx hb dX2_year_19 (by decide) (fun c6 => ?_) (fun c6 => ?_)
    · replace hwp := hwp.1 c6
      refine lv_iinc (v := x1 + 1) (lv' := [(1, .int (x1 + 1)), (0, .ref i0)]) hx hb dX2_year_45 hl (k := 1) rfl rfl (by decide) rfl (fun ls hl => ?_)
      refine lv_goto (tgt := 2) hx hb dX2_year_48 (by decide) ?_
      exact hL2 _ σ hwp H locs ls hP hO hD hS (lv_sub hl [1, 0] rfl)
    · replace hwp := hwp.2 c6
      refine lv_aload_n hx hb dX2_year_22 rfl (lv_at hl 0 rfl) ?_
      refine x_get hx hb hts hown hK hP 6 i0 h0 rfl rfl in_X2 7 (by decide) q161 rfl (v := .ref (δ.2.1 9 i0)) rfl dX2_year_23 ?_
      refine lv_iload_n hx hb dX2_year_26 rfl (lv_at hl 1 rfl) ?_
      refine lv_bipush (v := 20) hx hb dX2_year_27 (by decide) ?_
      refine lv_aload_n hx hb dX2_year_29 rfl (lv_at hl 0 rfl) ?_
      refine x_get hx hb hts hown hK hP 6 i0 h0 rfl rfl in_X2 7 (by decide) q161 rfl (v := .ref (δ.2.1 9 i0)) rfl dX2_year_30 ?_
      refine lv_iload_n hx hb dX2_year_33 rfl (lv_at hl 1 rfl) ?_
      obtain ⟨hi7, hwp⟩ := hwp
      refine x_iald hx hb hK hP 9 i0 ((hO.1 _ h0).2.1) rfl hi7 dX2_year_34 ?_
      refine lv_aload_n hx hb dX2_year_35 rfl (lv_at hl 0 rfl) ?_
      refine lv_iconst (v := 3) hx hb dX2_year_36 (by decide) ?_
      refine x_goi (va_runV (As := [.int 3]) (rest := [.int (σ.1 9 i0 x1.toNatClampNeg), .int 20, .int x1, .ref (δ.2.1 9 i0)]) ⟨hx, hb, hml, hown, hts⟩ (xt_G_draw h0 hwp H.size) (cwV 1 hts (lw_V q1224 q1225 q1226 q77 q1227) rfl rfl rfl (by decide +kernel) ⟨Nat.le_of_ble_eq_true rfl, Nat.le_of_ble_eq_true rfl⟩) (x_preV hK hO hD hP 6 i0 h0 rfl rfl) rfl rfl hl.1 rfl (lv_room (Nat.le_of_ble_eq_true rfl)) dX2_year_37 ⟨Nat.le_of_ble_eq_true rfl, Nat.le_of_ble_eq_true rfl⟩) hD hA hS (fun r8 u H locs hk hP hO hD hS => ?_)
      obtain ⟨u1, σ9⟩ := u
      obtain ⟨hwp, eu⟩ := hk
      have eu : δ = u1 := eu.symm
      subst eu
      dsimp only at hP hO hD hwp
      refine lv_iadd hx hb dX2_year_40 ?_
      refine va_mmin hx hb (hml.trans hl.1.symm) hown (hts _ q1229) (hts _ q1230) (hts _ q95) (hts _ q1231) (Nat.le_of_ble_eq_true rfl) (Nat.le_of_ble_eq_true rfl) (Nat.le_of_ble_eq_true rfl) (Nat.le_of_ble_eq_true rfl) dX2_year_41 ?_
      refine lv_topi (fun r10 er10 => ?_)
      replace hwp := hwp r10 er10
      obtain ⟨hi11, hwp⟩ := hwp
      refine x_iast hx hb hK hD hP hS 9 i0 ((hO.1 _ h0).2.1) (fun _ => rfl) hi11 dX2_year_44 (fun H locs hP hS => ?_)
      obtain ⟨σ12, eσ12⟩ : ∃ z, z = tI σ9 9 i0 x1.toNatClampNeg r10 := ⟨_, rfl⟩
      replace hP : XH Γ δ σ12 H := by rw [eσ12]; exact hP
      replace hwp := hwp σ12 eσ12
      refine lv_iinc (v := x1 + 1) (lv' := [(1, .int (x1 + 1)), (0, .ref i0)]) hx hb dX2_year_45 hl (k := 1) rfl rfl (by decide) rfl (fun ls hl => ?_)
      refine lv_goto (tgt := 2) hx hb dX2_year_48 (by decide) ?_
      exact hL2 _ σ12 hwp H locs ls hP hO hD hS (lv_sub hl [1, 0] rfl)
set_option maxHeartbeats 4000000 in
set_option maxRecDepth 100000 in
theorem xk_G_year_2 {p : Program} {l : Launch} {e : Env} {s : State} {m : MethodId} {args : Array Value} {below : List Frame} {meth : Method} {c : Code} {Γ : GA} {δ : XSh} {K : Int32 → XSt → Prop} {i0 : Nat} (X : CX p s m args meth c cX2_year 2 (some .int) RX2 Γ) (h0 : (6, i0) ∈ δ.1) : ∀ n (x1 : Int32) (σ : XSt), xw_G_year_2 δ K i0 n x1 σ → TX p l e ({ frames := 26, cells := 0, slots := 0, locals := 563 } : Room) s m args below meth c 2 0 0 (YI below (fun r u => K r u.2 ∧ u.1 = δ) 0 0 Γ δ s args) Γ δ δ σ 2 [(0, .ref i0), (1, .int x1)] [] := by
  intro n
  induction n with
  | zero => intro _ _ hwp; exact hwp.elim
  | succ n ih => intro x1 σ hwp; exact xk_G_year_2_b X h0 ih x1 σ hwp
def xw_G_year (δ : XSh) (K : Int32 → XSt → Prop) (i0 : Nat) (σ : XSt) : Prop :=
  ∃ n, xw_G_year_2 δ K i0 n 0 σ
set_option maxHeartbeats 4000000 in
set_option maxRecDepth 100000 in
theorem xt_G_year {l : Launch} {Γ : GA} {δ : XSh} {σ : XSt} {K : Int32 → XSt → Prop} {i0 : Nat} (h0 : (6, i0) ∈ δ.1) (hwp : xw_G_year δ K i0  σ) : xI l yX2_year cX2_year 2 (some .int) ({ frames := 26, cells := 0, slots := 0, locals := 563 } : Room) 0 0 Γ δ [.ref i0] σ (fun r u => K r u.2 ∧ u.1 = δ) := by
  intro sz
  refine x_of (by decide) [(0, .ref i0)] (fun _ h => h) (Nat.le_of_ble_eq_true rfl) ?_
  intro p e s m args below meth c hsz X H locs ls hP hO hD hS hl
  subst hsz
  obtain ⟨hx, hb, hml, hown, hts, hK, hr, hlk⟩ := id X
  have hA : ∀ q, s.heap.size ≤ q → AX δ s.heap.size q := fun q h => Or.inr h
  unfold xw_G_year at hwp
  refine lv_iconst (v := 0) hx hb dX2_year_0 (by decide) ?_
  refine lv_istore_n (lv' := [(1, .int 0), (0, .ref i0)]) hx hb dX2_year_1 rfl hl (by decide) rfl (fun ls hl => ?_)
  obtain ⟨n, hwp⟩ := hwp
  exact xk_G_year_2 X h0 n _ σ hwp H locs ls hP hO hD hS (lv_sub hl [1, 0] rfl)
/-! G_take -/
def xw_G_take (δ : XSh) (K : Nat → XSt → Prop) (i0 : Nat) (i1 : Nat) (σ : XSt) : Prop :=
  ∀ σ1, σ1 = tI σ 6 i0 0 (σ.1 6 i1 0) → (((σ1.1 6 i1 1) = 0 ∨ (σ1.1 6 i1 1) = 1) ∧ (∀ σ3, σ3 = tI σ1 6 i0 1 (σ1.1 6 i1 1) → (∀ σ4, σ4 = tI σ3 6 i0 2 (σ3.1 6 i1 2) → (∀ σ5, σ5 = tI σ4 6 i0 3 (σ4.1 6 i1 3) → (∀ σ6, σ6 = tI σ5 6 i0 4 (σ5.1 6 i1 4) → (∀ σ7, σ7 = tI σ6 6 i0 5 (σ6.1 6 i1 5) → (Cpy (0 : Int32) (0 : Int32) (σ7.1 6 i0 0) 8 8 ∧ (∀ σ9, σ9 = tPa σ7 8 i0 (va_cpy (σ7.2.2 8 i1) (σ7.2.2 8 i0) (0 : Int32).toNatClampNeg (0 : Int32).toNatClampNeg (σ7.1 6 i0 0).toNatClampNeg) → (Cpy (0 : Int32) (0 : Int32) (σ9.1 6 i0 0) 8 8 ∧ (∀ σ11, σ11 = tIa σ9 9 i0 (va_cpy (σ9.1 9 i1) (σ9.1 9 i0) (0 : Int32).toNatClampNeg (0 : Int32).toNatClampNeg (σ9.1 6 i0 0).toNatClampNeg) → (Cpy (0 : Int32) (0 : Int32) (σ11.1 6 i0 0) 8 8 ∧ (∀ σ13, σ13 = tIa σ11 10 i0 (va_cpy (σ11.1 10 i1) (σ11.1 10 i0) (0 : Int32).toNatClampNeg (0 : Int32).toNatClampNeg (σ11.1 6 i0 0).toNatClampNeg) → (K i0 σ13)))))))))))))
set_option maxHeartbeats 4000000 in
set_option maxRecDepth 100000 in
theorem xt_G_take {l : Launch} {Γ : GA} {δ : XSh} {σ : XSt} {K : Nat → XSt → Prop} {i0 : Nat} {i1 : Nat} (h0 : (6, i0) ∈ δ.1) (h1 : (6, i1) ∈ δ.1) (hwp : xw_G_take δ K i0 i1  σ) : xR l yX2_take cX2_take 2 (some (.object "SeenByOne$Ground")) ({ frames := 1, cells := 0, slots := 0, locals := 60 } : Room) 0 0 Γ δ [.ref i0, .ref i1] σ (fun r u => (K r u.2 ∧ u.1 = δ) ∧ (6, r) ∈ u.1.1) := by
  intro sz
  refine x_of (by decide) [(0, .ref i0), (1, .ref i1)] (fun _ h => h) (Nat.le_of_ble_eq_true rfl) ?_
  intro p e s m args below meth c hsz X H locs ls hP hO hD hS hl
  subst hsz
  obtain ⟨hx, hb, hml, hown, hts, hK, hr, hlk⟩ := id X
  have hA : ∀ q, s.heap.size ≤ q → AX δ s.heap.size q := fun q h => Or.inr h
  unfold xw_G_take at hwp
  refine lv_aload_n hx hb dX2_take_0 rfl (lv_at hl 0 rfl) ?_
  refine lv_aload_n hx hb dX2_take_1 rfl (lv_at hl 1 rfl) ?_
  refine x_get hx hb hts hown hK hP 6 i1 h1 rfl rfl in_X2 0 (by decide) q143 rfl (v := .int (σ.1 6 i1 0)) rfl dX2_take_2 ?_
  refine x_puti hx hb hts hown hK hD hP hS 6 i0 h0 rfl rfl in_X2 tyX2 tyX2_ok nmX2 0 (by decide) q143 rfl rfl rfl rfl (Nat.le_of_ble_eq_true rfl) rfl dX2_take_5 (fun H locs hP hS => ?_)
  obtain ⟨σ1, eσ1⟩ : ∃ z, z = tI σ 6 i0 0 (σ.1 6 i1 0) := ⟨_, rfl⟩
  replace hP : XH Γ δ σ1 H := by rw [eσ1]; exact hP
  replace hwp := hwp σ1 eσ1
  refine lv_aload_n hx hb dX2_take_8 rfl (lv_at hl 0 rfl) ?_
  refine lv_aload_n hx hb dX2_take_9 rfl (lv_at hl 1 rfl) ?_
  refine x_get hx hb hts hown hK hP 6 i1 h1 rfl rfl in_X2 1 (by decide) q146 rfl (v := .int (σ1.1 6 i1 1)) rfl dX2_take_10 ?_
  obtain ⟨hv2, hwp⟩ := hwp
  refine x_puti hx hb hts hown hK hD hP hS 6 i0 h0 rfl rfl in_X2 tyX2 tyX2_ok nmX2 1 (by decide) q146 rfl rfl (zb_in hv2) (zb_fit hv2) (Nat.le_of_ble_eq_true rfl) rfl dX2_take_13 (fun H locs hP hS => ?_)
  obtain ⟨σ3, eσ3⟩ : ∃ z, z = tI σ1 6 i0 1 (σ1.1 6 i1 1) := ⟨_, rfl⟩
  replace hP : XH Γ δ σ3 H := by rw [eσ3]; exact hP
  replace hwp := hwp σ3 eσ3
  refine lv_aload_n hx hb dX2_take_16 rfl (lv_at hl 0 rfl) ?_
  refine lv_aload_n hx hb dX2_take_17 rfl (lv_at hl 1 rfl) ?_
  refine x_get hx hb hts hown hK hP 6 i1 h1 rfl rfl in_X2 2 (by decide) q149 rfl (v := .int (σ3.1 6 i1 2)) rfl dX2_take_18 ?_
  refine x_puti hx hb hts hown hK hD hP hS 6 i0 h0 rfl rfl in_X2 tyX2 tyX2_ok nmX2 2 (by decide) q149 rfl rfl rfl rfl (Nat.le_of_ble_eq_true rfl) rfl dX2_take_21 (fun H locs hP hS => ?_)
  obtain ⟨σ4, eσ4⟩ : ∃ z, z = tI σ3 6 i0 2 (σ3.1 6 i1 2) := ⟨_, rfl⟩
  replace hP : XH Γ δ σ4 H := by rw [eσ4]; exact hP
  replace hwp := hwp σ4 eσ4
  refine lv_aload_n hx hb dX2_take_24 rfl (lv_at hl 0 rfl) ?_
  refine lv_aload_n hx hb dX2_take_25 rfl (lv_at hl 1 rfl) ?_
  refine x_get hx hb hts hown hK hP 6 i1 h1 rfl rfl in_X2 3 (by decide) q152 rfl (v := .int (σ4.1 6 i1 3)) rfl dX2_take_26 ?_
  refine x_puti hx hb hts hown hK hD hP hS 6 i0 h0 rfl rfl in_X2 tyX2 tyX2_ok nmX2 3 (by decide) q152 rfl rfl rfl rfl (Nat.le_of_ble_eq_true rfl) rfl dX2_take_29 (fun H locs hP hS => ?_)
  obtain ⟨σ5, eσ5⟩ : ∃ z, z = tI σ4 6 i0 3 (σ4.1 6 i1 3) := ⟨_, rfl⟩
  replace hP : XH Γ δ σ5 H := by rw [eσ5]; exact hP
  replace hwp := hwp σ5 eσ5
  refine lv_aload_n hx hb dX2_take_32 rfl (lv_at hl 0 rfl) ?_
  refine lv_aload_n hx hb dX2_take_33 rfl (lv_at hl 1 rfl) ?_
  refine x_get hx hb hts hown hK hP 6 i1 h1 rfl rfl in_X2 4 (by decide) q155 rfl (v := .int (σ5.1 6 i1 4)) rfl dX2_take_34 ?_
  refine x_puti hx hb hts hown hK hD hP hS 6 i0 h0 rfl rfl in_X2 tyX2 tyX2_ok nmX2 4 (by decide) q155 rfl rfl rfl rfl (Nat.le_of_ble_eq_true rfl) rfl dX2_take_37 (fun H locs hP hS => ?_)
  obtain ⟨σ6, eσ6⟩ : ∃ z, z = tI σ5 6 i0 4 (σ5.1 6 i1 4) := ⟨_, rfl⟩
  replace hP : XH Γ δ σ6 H := by rw [eσ6]; exact hP
  replace hwp := hwp σ6 eσ6
  refine lv_aload_n hx hb dX2_take_40 rfl (lv_at hl 0 rfl) ?_
  refine lv_aload_n hx hb dX2_take_41 rfl (lv_at hl 1 rfl) ?_
  refine x_get hx hb hts hown hK hP 6 i1 h1 rfl rfl in_X2 5 (by decide) q157 rfl (v := .int (σ6.1 6 i1 5)) rfl dX2_take_42 ?_
  refine x_puti hx hb hts hown hK hD hP hS 6 i0 h0 rfl rfl in_X2 tyX2 tyX2_ok nmX2 5 (by decide) q157 rfl rfl rfl rfl (Nat.le_of_ble_eq_true rfl) rfl dX2_take_45 (fun H locs hP hS => ?_)
  obtain ⟨σ7, eσ7⟩ : ∃ z, z = tI σ6 6 i0 5 (σ6.1 6 i1 5) := ⟨_, rfl⟩
  replace hP : XH Γ δ σ7 H := by rw [eσ7]; exact hP
  replace hwp := hwp σ7 eσ7
  refine lv_aload_n hx hb dX2_take_48 rfl (lv_at hl 1 rfl) ?_
  refine x_get hx hb hts hown hK hP 6 i1 h1 rfl rfl in_X2 6 (by decide) q159 rfl (v := .ref (δ.2.1 8 i1)) rfl dX2_take_49 ?_
  refine lv_iconst (v := 0) hx hb dX2_take_52 (by decide) ?_
  refine lv_aload_n hx hb dX2_take_53 rfl (lv_at hl 0 rfl) ?_
  refine x_get hx hb hts hown hK hP 6 i0 h0 rfl rfl in_X2 6 (by decide) q159 rfl (v := .ref (δ.2.1 8 i0)) rfl dX2_take_54 ?_
  refine lv_iconst (v := 0) hx hb dX2_take_57 (by decide) ?_
  refine lv_aload_n hx hb dX2_take_58 rfl (lv_at hl 0 rfl) ?_
  refine x_get hx hb hts hown hK hP 6 i0 h0 rfl rfl in_X2 0 (by decide) q143 rfl (v := .int (σ7.1 6 i0 0)) rfl dX2_take_59 ?_
  obtain ⟨hc8, hwp⟩ := hwp
  refine x_cpyq hx hb (hml.trans hl.1.symm) hown (hts _ q876) (hts _ q484) (hts _ q483) (hts _ q94) hK hO hD hP hS 8 (rfl) i1 i0 ((hO.1 _ h1).1) ((hO.1 _ h0).1) hc8 (Nat.le_of_ble_eq_true rfl) (Nat.le_of_ble_eq_true rfl) dX2_take_62 (fun H locs hP hS => ?_)
  obtain ⟨σ9, eσ9⟩ : ∃ z, z = tPa σ7 8 i0 (va_cpy (σ7.2.2 8 i1) (σ7.2.2 8 i0) (0 : Int32).toNatClampNeg (0 : Int32).toNatClampNeg (σ7.1 6 i0 0).toNatClampNeg) := ⟨_, rfl⟩
  replace hP : XH Γ δ σ9 H := by rw [eσ9]; exact hP
  replace hwp := hwp σ9 eσ9
  refine lv_aload_n hx hb dX2_take_65 rfl (lv_at hl 1 rfl) ?_
  refine x_get hx hb hts hown hK hP 6 i1 h1 rfl rfl in_X2 7 (by decide) q161 rfl (v := .ref (δ.2.1 9 i1)) rfl dX2_take_66 ?_
  refine lv_iconst (v := 0) hx hb dX2_take_69 (by decide) ?_
  refine lv_aload_n hx hb dX2_take_70 rfl (lv_at hl 0 rfl) ?_
  refine x_get hx hb hts hown hK hP 6 i0 h0 rfl rfl in_X2 7 (by decide) q161 rfl (v := .ref (δ.2.1 9 i0)) rfl dX2_take_71 ?_
  refine lv_iconst (v := 0) hx hb dX2_take_74 (by decide) ?_
  refine lv_aload_n hx hb dX2_take_75 rfl (lv_at hl 0 rfl) ?_
  refine x_get hx hb hts hown hK hP 6 i0 h0 rfl rfl in_X2 0 (by decide) q143 rfl (v := .int (σ9.1 6 i0 0)) rfl dX2_take_76 ?_
  obtain ⟨hc10, hwp⟩ := hwp
  refine x_cpyi hx hb (hml.trans hl.1.symm) hown (hts _ q876) (hts _ q484) (hts _ q483) (hts _ q94) hK hO hD hP hS 9 (Or.inl rfl) i1 i0 ((hO.1 _ h1).2.1) ((hO.1 _ h0).2.1) hc10 (Nat.le_of_ble_eq_true rfl) (Nat.le_of_ble_eq_true rfl) dX2_take_79 (fun H locs hP hS => ?_)
  obtain ⟨σ11, eσ11⟩ : ∃ z, z = tIa σ9 9 i0 (va_cpy (σ9.1 9 i1) (σ9.1 9 i0) (0 : Int32).toNatClampNeg (0 : Int32).toNatClampNeg (σ9.1 6 i0 0).toNatClampNeg) := ⟨_, rfl⟩
  replace hP : XH Γ δ σ11 H := by rw [eσ11]; exact hP
  replace hwp := hwp σ11 eσ11
  refine lv_aload_n hx hb dX2_take_82 rfl (lv_at hl 1 rfl) ?_
  refine x_get hx hb hts hown hK hP 6 i1 h1 rfl rfl in_X2 8 (by decide) q164 rfl (v := .ref (δ.2.1 10 i1)) rfl dX2_take_83 ?_
  refine lv_iconst (v := 0) hx hb dX2_take_86 (by decide) ?_
  refine lv_aload_n hx hb dX2_take_87 rfl (lv_at hl 0 rfl) ?_
  refine x_get hx hb hts hown hK hP 6 i0 h0 rfl rfl in_X2 8 (by decide) q164 rfl (v := .ref (δ.2.1 10 i0)) rfl dX2_take_88 ?_
  refine lv_iconst (v := 0) hx hb dX2_take_91 (by decide) ?_
  refine lv_aload_n hx hb dX2_take_92 rfl (lv_at hl 0 rfl) ?_
  refine x_get hx hb hts hown hK hP 6 i0 h0 rfl rfl in_X2 0 (by decide) q143 rfl (v := .int (σ11.1 6 i0 0)) rfl dX2_take_93 ?_
  obtain ⟨hc12, hwp⟩ := hwp
  refine x_cpyi hx hb (hml.trans hl.1.symm) hown (hts _ q876) (hts _ q484) (hts _ q483) (hts _ q94) hK hO hD hP hS 10 (Or.inr rfl) i1 i0 ((hO.1 _ h1).2.2) ((hO.1 _ h0).2.2) hc12 (Nat.le_of_ble_eq_true rfl) (Nat.le_of_ble_eq_true rfl) dX2_take_96 (fun H locs hP hS => ?_)
  obtain ⟨σ13, eσ13⟩ : ∃ z, z = tIa σ11 10 i0 (va_cpy (σ11.1 10 i1) (σ11.1 10 i0) (0 : Int32).toNatClampNeg (0 : Int32).toNatClampNeg (σ11.1 6 i0 0).toNatClampNeg) := ⟨_, rfl⟩
  replace hP : XH Γ δ σ13 H := by rw [eσ13]; exact hP
  replace hwp := hwp σ13 eσ13
  refine lv_aload_n hx hb dX2_take_99 rfl (lv_at hl 0 rfl) ?_
  exact x_aret hx hb hr (Or.inl ⟨_, rfl⟩) hlk hP hO hD hS ⟨⟨hwp, rfl⟩, h0⟩ dX2_take_100
