/-! S_need -/
def xw_S_need (K : XSh → XSt → Prop) (X : Nat → XSh → XSt → Prop) (x0 : Int32) (x1 : Int32) (δ : XSh) (σ : XSt) : Prop :=
  ((¬ (x0 = 0)) → (K δ σ)) ∧ ((x0 = 0) → (∀ q2 δ3 σ4, NewRe x1 δ σ q2 δ3 σ4 → (X q2 δ3 σ4)))
set_option maxHeartbeats 4000000 in
set_option maxRecDepth 100000 in
theorem xk_S_need_e {p : Program} {l : Launch} {e : Env} {s : State} {m : MethodId} {args : Array Value} {below : List Frame} {meth : Method} {c : Code} {Γ : GA} {δ0 : XSh} {K : XSh → XSt → Prop} {X : Nat → XSh → XSt → Prop} (hst : l.stackTraces = false) (Xc : CY p s m args meth c cX0_need 2 none RX0 Γ δ0 (tableOf [])) {x0 : Int32} {x1 : Int32} : ∀ (δ : XSh) (σ : XSt), Ext δ0 δ → xw_S_need K X x0 x1 δ σ → TX p l e ({ frames := 4, cells := 1, slots := 7, locals := 129 } : Room) s m args below meth c 2 0 0 (VV below (fun u => K u.1 u.2 ∧ Ext δ0 u.1) (fun E q u => (E = RX5 ∧ (13, q) ∈ u.1.1) ∧ X q u.1 u.2 ∧ Ext δ0 u.1) 1 7 Γ δ0 s args) Γ δ0 δ σ 0 [(0, .int x0), (1, .int x1)] [] := by
  obtain ⟨⟨hx, hb, hml, hown, hts, hK, hr, hlk⟩, hZ, htb⟩ := id Xc
  have hA : ∀ q, s.heap.size ≤ q → AX δ0 s.heap.size q := fun q h => Or.inr h
  intro δ σ hE hwp H locs ls hP hO hD hS hl
  unfold xw_S_need at hwp
  refine lv_iload_n hx hb dX0_need_0 rfl (lv_at hl 0 rfl) ?_
  refine lv_if_ne (tgt := 13) hx hb dX0_need_1 (by decide) (fun c1 => ?_) (fun c1 => ?_)
  · replace hwp := hwp.1 c1
    refine W.widen (k := 1) (n := 7) (Nat.le_of_ble_eq_true rfl) (Nat.le_of_ble_eq_true rfl) ?_
    refine vx_ret ?_
    exact x_vret hx hb hr hlk hP hO hD hS ⟨hwp, hE⟩ dX0_need_13
  · replace hwp := hwp.2 c1
    refine va_new (D := Γ.1) (ci := 17) (fs := [.null, .null, .null, .null, .null, .int 0, .int 0]) (C := RX5) (T := TX5) (N := 7) hx hb hts in_X5 tyX5 tyX5_ok hown (hts _ q222) (hts _ q305) (hts _ q86) hK.1 hP.1 (hD.va (fun _ => rfl)) hS hA rfl (fun j hj => by rcases (show j = 0 ∨ j = 1 ∨ j = 2 ∨ j = 3 ∨ j = 4 ∨ j = 5 ∨ j = 6 by omega) with rfl | rfl | rfl | rfl | rfl | rfl | rfl <;> rfl) (Nat.le_of_ble_eq_true rfl) (Nat.le_of_ble_eq_true rfl) dX0_need_4 (fun q2 H hR hRD hS => ?_)
    replace hR := rotP hR
    replace hRD := rotD hRD
    replace hP : XH Γ δ σ H := ⟨tailP (ex := [_]) hR, hP.2⟩
    refine lv_dup hx hb dX0_need_7 rfl ?_
    refine lv_iload_n hx hb dX0_need_8 rfl (lv_at hl 1 rfl) ?_
    refine r_go (X := δ.1.map (gX Γ δ σ)) (va_runI (As := [.int x1]) (rest := [.ref q2]) ⟨hx, hb, hml, hown, hts⟩ (ct_Re H.size) (cwI 1 hts (lw_meth q315) rfl rfl rfl (hts _ q86) (hts _ q313) (hts _ q314) rfl (by decide +kernel) ⟨(Nat.le_of_ble_eq_true rfl), (Nat.le_of_ble_eq_true rfl)⟩) (r_pre hK hA hZ hR hRD hS) rfl rfl hl.1 rfl (lv_room (Nat.le_of_ble_eq_true rfl)) dX0_need_9 ⟨(Nat.le_of_ble_eq_true rfl), (Nat.le_of_ble_eq_true rfl)⟩) hA hR hRD hS (fun ex H locs hk hR hRD hS => ?_)
    subst hk
    obtain ⟨δ3, σ4, hP, hO, hD, hN5⟩ := mkRe hR hRD hP.2 hO
    replace hE := hE.tr hN5.1.1
    replace hwp := hwp q2 δ3 σ4 hN5
    obtain ⟨ce, k1, k2, k3⟩ := x_cell hK hP 13 q2 hN5.2.2.1 rfl (q := (RX5, TX5, 7)) rfl
    refine vx_athrow hx hb dX0_need_12 ?_
    exact y_out hown hlk (fun z hz => by rw [htb] at hz; exact nomatch hz) hP hO hD hS k1 k2 k3 ⟨⟨rfl, hN5.2.2.1⟩, hwp, hE⟩ (Nat.le_of_ble_eq_true rfl) (Nat.le_of_ble_eq_true rfl)
set_option maxHeartbeats 4000000 in
set_option maxRecDepth 100000 in
theorem xt_S_need {l : Launch} (hst : l.stackTraces = false) {Γ : GA} {δ0 : XSh} {σ : XSt} {K : XSh → XSt → Prop} {X : Nat → XSh → XSt → Prop} {x0 : Int32} {x1 : Int32} (hwp : xw_S_need K X x0 x1 δ0 σ) : yV l yX0_need (ws_ yX0_need cX0_need 2 none) ({ frames := 4, cells := 1, slots := 7, locals := 129 } : Room) 1 7 Γ δ0 [.int x0, .int x1] σ (fun u => K u.1 u.2 ∧ Ext δ0 u.1) (fun E q u => (E = RX5 ∧ (13, q) ∈ u.1.1) ∧ X q u.1 u.2 ∧ Ext δ0 u.1) := by
  intro sz
  refine y_of (by decide) [(0, .int x0), (1, .int x1)] (fun _ h => h) (Nat.le_of_ble_eq_true rfl) ?_
  intro p e s m args below meth c hsz Xc
  subst hsz
  exact xk_S_need_e hst Xc δ0 σ Ext.rf hwp
/-! S_shelf -/
def xw_S_shelf (K : Nat → XSh → XSt → Prop) (X : Nat → XSh → XSt → Prop) (i0 : Nat) (x1 : Int32) (δ : XSh) (σ : XSt) : Prop :=
  ((vp_in x1 8) → ∃ o2, σ.2.2 1 i0 x1.toNatClampNeg = some o2 ∧ (K o2 δ σ)) ∧ ((¬ vp_in x1 8) → (∀ q : Nat, (∀ q3 δ4 σ5, NewRe (-1) δ σ q3 δ4 σ5 → (X q3 δ4 σ5))))
set_option maxHeartbeats 4000000 in
set_option maxRecDepth 100000 in
theorem xk_S_shelf_e {p : Program} {l : Launch} {e : Env} {s : State} {m : MethodId} {args : Array Value} {below : List Frame} {meth : Method} {c : Code} {Γ : GA} {δ0 : XSh} {K : Nat → XSh → XSt → Prop} {X : Nat → XSh → XSt → Prop} {i0 : Nat} (hst : l.stackTraces = false) (Xc : CY p s m args meth c cX0_shelf 3 (some (.object "SeenByOne$Shelf")) RX0 Γ δ0 (tableOf [(0, 6, 7, 92)])) (h0 : (0, i0) ∈ δ0.1) {x1 : Int32} : ∀ (δ : XSh) (σ : XSt), Ext δ0 δ → xw_S_shelf K X i0 x1 δ σ → TX p l e ({ frames := 9, cells := 4, slots := 917, locals := 10300 } : Room) s m args below meth c 3 0 0 (VR below (fun r u => (K r u.1 u.2 ∧ Ext δ0 u.1) ∧ (5, r) ∈ u.1.1 ∧ True) (fun E q u => (E = RX5 ∧ (13, q) ∈ u.1.1) ∧ X q u.1 u.2 ∧ Ext δ0 u.1) 4 917 Γ δ0 s args) Γ δ0 δ σ 0 [(0, .ref i0), (1, .int x1)] [] := by
  obtain ⟨⟨hx, hb, hml, hown, hts, hK, hr, hlk⟩, hZ, htb⟩ := id Xc
  have hA : ∀ q, s.heap.size ≤ q → AX δ0 s.heap.size q := fun q h => Or.inr h
  intro δ σ hE hwp H locs ls hP hO hD hS hl
  unfold xw_S_shelf at hwp
  refine lv_aload_n hx hb dX0_shelf_0 rfl (lv_at hl 0 rfl) ?_
  refine x_get hx hb hts hown hK hP 0 i0 (hE.m h0) rfl rfl in_X0 0 (by decide) q196 rfl (v := .ref (δ.2.1 1 i0)) rfl dX0_shelf_1 ?_
  refine lv_iload_n hx hb dX0_shelf_4 rfl (lv_at hl 1 rfl) ?_
  by_cases c1 : vp_in x1 8
  · obtain ⟨o2, eo2, hwp⟩ := hwp.1 c1
    refine x_aald hx hb hK hP 1 i0 ((hO.2.2.1 _ (hE.m h0)).1) (Or.inr rfl) c1 eo2 dX0_shelf_5 (fun ho2 co2 => ?_)
    refine W.widen (k := 4) (n := 917) (Nat.le_of_ble_eq_true rfl) (Nat.le_of_ble_eq_true rfl) ?_
    refine vx_ret ?_
    exact x_aret hx hb hr (Or.inl ⟨_, rfl⟩) hlk hP hO hD hS ⟨⟨hwp, hE⟩, ho2, trivial⟩ dX0_shelf_6
  · replace hwp := hwp.2 c1
    obtain ⟨q0, _, hq0⟩ := x_at (Γ := Γ) (σ := σ) ((hO.2.2.1 _ (hE.m h0)).1) rfl
    refine x_aaldZ hx hb hK.1 hP.1 q0 5 hq0 rfl c1 dX0_shelf_5 (fun tx etx => ?_)
    refine y_vmAI hx hst hts hK hZ hP hS (hl.1.trans hml.symm) hlk (by rw [etx]; exact index_text_modelled _ _) (Nat.le_trans (by rw [etx]; exact index_text_bytes _ (by decide)) (by decide)) ⟨(Nat.le_of_ble_eq_true rfl), (Nat.le_of_ble_eq_true rfl), (Nat.le_of_ble_eq_true rfl), (Nat.le_of_ble_eq_true rfl)⟩ (fun H q ce hP hS k1 k2 k3 => ?_)
    replace hwp := hwp q
    refine vx_catch (E := "java/lang/ArrayIndexOutOfBoundsException") (name := "java/lang/ArrayIndexOutOfBoundsException") hown [] ⟨0, 6, 7, 92⟩ [] (htb.trans rfl) (fun z hz => nomatch hz) rfl (by decide) (hts _ q227) ((hK.2.1 (.castable "java/lang/ArrayIndexOutOfBoundsException" "java/lang/ArrayIndexOutOfBoundsException") (by simp [nwL])).use rfl) k1 k2 k3 ?_
    refine W.eq (g2 := F0 m 7 ls [.ref q]) rfl ?_
    refine lv_astore_n (lv' := [(2, .ref q), (0, .ref i0), (1, .int x1)]) hx hb dX0_shelf_7 rfl hl (by decide) rfl (fun ls hl => ?_)
    refine va_new (D := Γ.1) (ci := 17) (fs := [.null, .null, .null, .null, .null, .int 0, .int 0]) (C := RX5) (T := TX5) (N := 7) hx hb hts in_X5 tyX5 tyX5_ok hown (hts _ q222) (hts _ q305) (hts _ q86) hK.1 hP.1 (hD.va (fun _ => rfl)) hS hA rfl (fun j hj => by rcases (show j = 0 ∨ j = 1 ∨ j = 2 ∨ j = 3 ∨ j = 4 ∨ j = 5 ∨ j = 6 by omega) with rfl | rfl | rfl | rfl | rfl | rfl | rfl <;> rfl) (Nat.le_of_ble_eq_true rfl) (Nat.le_of_ble_eq_true rfl) dX0_shelf_8 (fun q3 H hR hRD hS => ?_)
    replace hR := rotP hR
    replace hRD := rotD hRD
    replace hP : XH Γ δ σ H := ⟨tailP (ex := [_]) hR, hP.2⟩
    refine lv_dup hx hb dX0_shelf_11 rfl ?_
    refine lv_iconst (v := (-1)) hx hb dX0_shelf_12 (by decide) ?_
    refine r_go (X := δ.1.map (gX Γ δ σ)) (va_runI (As := [.int (-1)]) (rest := [.ref q3]) ⟨hx, hb, hml, hown, hts⟩ (ct_Re H.size) (cwI 1 hts (lw_meth q315) rfl rfl rfl (hts _ q86) (hts _ q313) (hts _ q314) rfl (by decide +kernel) ⟨(Nat.le_of_ble_eq_true rfl), (Nat.le_of_ble_eq_true rfl)⟩) (r_pre hK hA hZ hR hRD hS) rfl rfl hl.1 rfl (lv_room (Nat.le_of_ble_eq_true rfl)) dX0_shelf_13 ⟨(Nat.le_of_ble_eq_true rfl), (Nat.le_of_ble_eq_true rfl)⟩) hA hR hRD hS (fun ex H locs hk hR hRD hS => ?_)
    subst hk
    obtain ⟨δ4, σ5, hP, hO, hD, hN6⟩ := mkRe hR hRD hP.2 hO
    replace hE := hE.tr hN6.1.1
    replace hwp := hwp q3 δ4 σ5 hN6
    obtain ⟨ce, k1, k2, k3⟩ := x_cell hK hP 13 q3 hN6.2.2.1 rfl (q := (RX5, TX5, 7)) rfl
    refine vx_athrow hx hb dX0_shelf_16 ?_
    exact y_out hown hlk (by rw [htb]; exact (fun z hz => by simp only [tableOf, List.map_cons, List.map_nil, List.mem_cons, List.not_mem_nil, or_false] at hz; rcases hz with rfl <;> first | exact Or.inl rfl)) hP hO hD hS k1 k2 k3 ⟨⟨rfl, hN6.2.2.1⟩, hwp, hE⟩ (Nat.le_of_ble_eq_true rfl) (Nat.le_of_ble_eq_true rfl)
set_option maxHeartbeats 4000000 in
set_option maxRecDepth 100000 in
theorem xt_S_shelf {l : Launch} (hst : l.stackTraces = false) {Γ : GA} {δ0 : XSh} {σ : XSt} {K : Nat → XSh → XSt → Prop} {X : Nat → XSh → XSt → Prop} {i0 : Nat} (h0 : (0, i0) ∈ δ0.1) {x1 : Int32} (hwp : xw_S_shelf K X i0 x1 δ0 σ) : yR l yX0_shelf (wsW_ yX0_shelf cX0_shelf 3 (some (.object "SeenByOne$Shelf")) [(0, 6, 7, 92)]) ({ frames := 9, cells := 4, slots := 917, locals := 10300 } : Room) 4 917 Γ δ0 [.ref i0, .int x1] σ (fun r u => (K r u.1 u.2 ∧ Ext δ0 u.1) ∧ (5, r) ∈ u.1.1 ∧ True) (fun E q u => (E = RX5 ∧ (13, q) ∈ u.1.1) ∧ X q u.1 u.2 ∧ Ext δ0 u.1) := by
  intro sz
  refine yW_of (by decide) [(0, .ref i0), (1, .int x1)] (fun _ h => h) (Nat.le_of_ble_eq_true rfl) ?_
  intro p e s m args below meth c hsz Xc
  subst hsz
  exact xk_S_shelf_e hst Xc h0 δ0 σ Ext.rf hwp
/-! S_mustThing -/
def xw_S_mustThing (K : XSh → XSt → Prop) (X : Nat → XSh → XSt → Prop) (i0 : Nat) (x1 : Int32) (δ : XSh) (σ : XSt) : Prop :=
  ∃ o1, σ.2.2 0 i0 4 = some o1 ∧ (xw_G_isThing δ σ (fun r2 => xw_S_need (fun δ3 σ4 => K δ3 σ4) (fun q9 δ6 σ7 => X q9 δ6 σ7) r2 (-1) δ σ) o1 x1)
set_option maxHeartbeats 4000000 in
set_option maxRecDepth 100000 in
theorem xk_S_mustThing_e {p : Program} {l : Launch} {e : Env} {s : State} {m : MethodId} {args : Array Value} {below : List Frame} {meth : Method} {c : Code} {Γ : GA} {δ0 : XSh} {K : XSh → XSt → Prop} {X : Nat → XSh → XSt → Prop} {i0 : Nat} (hst : l.stackTraces = false) (Xc : CY p s m args meth c cX0_mustThing 2 none RX0 Γ δ0 (tableOf [])) (h0 : (0, i0) ∈ δ0.1) {x1 : Int32} : ∀ (δ : XSh) (σ : XSt), Ext δ0 δ → xw_S_mustThing K X i0 x1 δ σ → TX p l e ({ frames := 5, cells := 1, slots := 7, locals := 150 } : Room) s m args below meth c 2 0 0 (VV below (fun u => K u.1 u.2 ∧ Ext δ0 u.1) (fun E q u => (E = RX5 ∧ (13, q) ∈ u.1.1) ∧ X q u.1 u.2 ∧ Ext δ0 u.1) 1 7 Γ δ0 s args) Γ δ0 δ σ 0 [(0, .ref i0), (1, .int x1)] [] := by
  obtain ⟨⟨hx, hb, hml, hown, hts, hK, hr, hlk⟩, hZ, htb⟩ := id Xc
  have hA : ∀ q, s.heap.size ≤ q → AX δ0 s.heap.size q := fun q h => Or.inr h
  intro δ σ hE hwp H locs ls hP hO hD hS hl
  unfold xw_S_mustThing at hwp
  refine lv_aload_n hx hb dX0_mustThing_0 rfl (lv_at hl 0 rfl) ?_
  obtain ⟨o1, eo1, hwp⟩ := hwp
  refine x_getr hx hb hts hown hK hP 0 i0 (hE.m h0) rfl rfl in_X0 4 (by decide) q200 rfl rfl eo1 dX0_mustThing_1 (fun ho1 co1 => ?_)
  refine lv_iload_n hx hb dX0_mustThing_4 rfl (lv_at hl 1 rfl) ?_
  refine x_goi (va_runV (As := [.int x1]) (rest := []) ⟨hx, hb, hml, hown, hts⟩ (xt_G_isThing ho1 hwp H.size) (cwV 1 hts (lw_V q512 q513 q514 q77 q515) rfl rfl rfl (by decide +kernel) ⟨Nat.le_of_ble_eq_true rfl, Nat.le_of_ble_eq_true rfl⟩) (x_preV hK hO hD hP 6 o1 ho1 rfl rfl) rfl rfl hl.1 rfl (lv_room (Nat.le_of_ble_eq_true rfl)) dX0_mustThing_5 ⟨(Nat.le_of_ble_eq_true rfl), (Nat.le_of_ble_eq_true rfl)⟩) hD hA hS (fun r2 u H locs hk hP hO hD hS => ?_)
  obtain ⟨hwp, eu⟩ := hk
  subst eu
  dsimp only at hP hO hD
  refine lv_iconst (v := (-1)) hx hb dX0_mustThing_8 (by decide) ?_
  refine y_gov (vx_runS (As := [.int r2, .int (-1)]) (rest := []) ⟨hx, hb, hml, hown, hts⟩ (xt_S_need hst hwp H.size) (va_cwS 2 hts (lw_S q328 q329 q75 q330) rfl rfl rfl (by decide +kernel) ⟨(Nat.le_of_ble_eq_true rfl), (Nat.le_of_ble_eq_true rfl)⟩) (y_preS hK hO hD hA hZ hP hS) rfl rfl hl.1 rfl (lv_room (Nat.le_of_ble_eq_true rfl)) dX0_mustThing_9 ⟨(Nat.le_of_ble_eq_true rfl), (Nat.le_of_ble_eq_true rfl)⟩) hD hA hS (fun E ce q9 u H locs hk hP hO hD hS k1 k2 k3 => ?_) (fun u H locs hk hP hO hD hS => ?_)
  · obtain ⟨δ6, σ7⟩ := u
    obtain ⟨⟨rfl, hq9⟩, hwp, hF8⟩ := hk
    dsimp only at hP hO hD hwp hF8 hq9
    replace hE := hE.tr hF8
    exact y_out hown hlk (fun z hz => by rw [htb] at hz; exact nomatch hz) hP hO hD hS k1 k2 k3 ⟨⟨rfl, hq9⟩, hwp, hE⟩ (Nat.le_of_ble_eq_true rfl) (Nat.le_of_ble_eq_true rfl)
  · obtain ⟨δ3, σ4⟩ := u
    obtain ⟨hwp, hF5⟩ := hk
    dsimp only at hP hO hD hwp hF5
    replace hE := hE.tr hF5
    refine W.widen (k := 1) (n := 7) (Nat.le_of_ble_eq_true rfl) (Nat.le_of_ble_eq_true rfl) ?_
    refine vx_ret ?_
    exact x_vret hx hb hr hlk hP hO hD hS ⟨hwp, hE⟩ dX0_mustThing_12
set_option maxHeartbeats 4000000 in
set_option maxRecDepth 100000 in
theorem xt_S_mustThing {l : Launch} (hst : l.stackTraces = false) {Γ : GA} {δ0 : XSh} {σ : XSt} {K : XSh → XSt → Prop} {X : Nat → XSh → XSt → Prop} {i0 : Nat} (h0 : (0, i0) ∈ δ0.1) {x1 : Int32} (hwp : xw_S_mustThing K X i0 x1 δ0 σ) : yV l yX0_mustThing (ws_ yX0_mustThing cX0_mustThing 2 none) ({ frames := 5, cells := 1, slots := 7, locals := 150 } : Room) 1 7 Γ δ0 [.ref i0, .int x1] σ (fun u => K u.1 u.2 ∧ Ext δ0 u.1) (fun E q u => (E = RX5 ∧ (13, q) ∈ u.1.1) ∧ X q u.1 u.2 ∧ Ext δ0 u.1) := by
  intro sz
  refine y_of (by decide) [(0, .ref i0), (1, .int x1)] (fun _ h => h) (Nat.le_of_ble_eq_true rfl) ?_
  intro p e s m args below meth c hsz Xc
  subst hsz
  exact xk_S_mustThing_e hst Xc h0 δ0 σ Ext.rf hwp
/-! S_mustHouse -/
def xw_S_mustHouse (K : XSh → XSt → Prop) (X : Nat → XSh → XSt → Prop) (i0 : Nat) (x1 : Int32) (δ : XSh) (σ : XSt) : Prop :=
  xw_S_mustThing (fun δ1 σ2 => ∃ o4, σ2.2.2 0 i0 4 = some o4 ∧ (xw_G_isHouse δ1 σ2 (fun r5 => xw_S_need (fun δ6 σ7 => K δ6 σ7) (fun q12 δ9 σ10 => X q12 δ9 σ10) r5 (-2) δ1 σ2) o4 x1)) (fun q16 δ13 σ14 => X q16 δ13 σ14) i0 x1 δ σ
set_option maxHeartbeats 4000000 in
set_option maxRecDepth 100000 in
theorem xk_S_mustHouse_e {p : Program} {l : Launch} {e : Env} {s : State} {m : MethodId} {args : Array Value} {below : List Frame} {meth : Method} {c : Code} {Γ : GA} {δ0 : XSh} {K : XSh → XSt → Prop} {X : Nat → XSh → XSt → Prop} {i0 : Nat} (hst : l.stackTraces = false) (Xc : CY p s m args meth c cX0_mustHouse 2 none RX0 Γ δ0 (tableOf [])) (h0 : (0, i0) ∈ δ0.1) {x1 : Int32} : ∀ (δ : XSh) (σ : XSt), Ext δ0 δ → xw_S_mustHouse K X i0 x1 δ σ → TX p l e ({ frames := 6, cells := 2, slots := 14, locals := 171 } : Room) s m args below meth c 2 0 0 (VV below (fun u => K u.1 u.2 ∧ Ext δ0 u.1) (fun E q u => (E = RX5 ∧ (13, q) ∈ u.1.1) ∧ X q u.1 u.2 ∧ Ext δ0 u.1) 2 14 Γ δ0 s args) Γ δ0 δ σ 0 [(0, .ref i0), (1, .int x1)] [] := by
  obtain ⟨⟨hx, hb, hml, hown, hts, hK, hr, hlk⟩, hZ, htb⟩ := id Xc
  have hA : ∀ q, s.heap.size ≤ q → AX δ0 s.heap.size q := fun q h => Or.inr h
  intro δ σ hE hwp H locs ls hP hO hD hS hl
  unfold xw_S_mustHouse at hwp
  refine lv_aload_n hx hb dX0_mustHouse_0 rfl (lv_at hl 0 rfl) ?_
  refine lv_iload_n hx hb dX0_mustHouse_1 rfl (lv_at hl 1 rfl) ?_
  refine y_gov (vx_runV (As := [.int x1]) (rest := []) ⟨hx, hb, hml, hown, hts⟩ (xt_S_mustThing hst (hE.m h0) hwp H.size) (cwV 1 hts (lw_V q508 q510 qs3 q75 q511) rfl rfl rfl (by decide +kernel) ⟨(Nat.le_of_ble_eq_true rfl), (Nat.le_of_ble_eq_true rfl)⟩) (y_preV hK hO hD hA hZ hP hS 0 i0 (hE.m h0) rfl rfl) rfl rfl hl.1 rfl (lv_room (Nat.le_of_ble_eq_true rfl)) dX0_mustHouse_2 ⟨(Nat.le_of_ble_eq_true rfl), (Nat.le_of_ble_eq_true rfl)⟩) hD hA hS (fun E ce q16 u H locs hk hP hO hD hS k1 k2 k3 => ?_) (fun u H locs hk hP hO hD hS => ?_)
  · obtain ⟨δ13, σ14⟩ := u
    obtain ⟨⟨rfl, hq16⟩, hwp, hF15⟩ := hk
    dsimp only at hP hO hD hwp hF15 hq16
    replace hE := hE.tr hF15
    exact y_out hown hlk (fun z hz => by rw [htb] at hz; exact nomatch hz) hP hO hD hS k1 k2 k3 ⟨⟨rfl, hq16⟩, hwp, hE⟩ (Nat.le_of_ble_eq_true rfl) (Nat.le_of_ble_eq_true rfl)
  · obtain ⟨δ1, σ2⟩ := u
    obtain ⟨hwp, hF3⟩ := hk
    dsimp only at hP hO hD hwp hF3
    replace hE := hE.tr hF3
    refine lv_aload_n hx hb dX0_mustHouse_5 rfl (lv_at hl 0 rfl) ?_
    obtain ⟨o4, eo4, hwp⟩ := hwp
    refine x_getr hx hb hts hown hK hP 0 i0 (hE.m h0) rfl rfl in_X0 4 (by decide) q200 rfl rfl eo4 dX0_mustHouse_6 (fun ho4 co4 => ?_)
    refine lv_iload_n hx hb dX0_mustHouse_9 rfl (lv_at hl 1 rfl) ?_
    refine x_goi (va_runV (As := [.int x1]) (rest := []) ⟨hx, hb, hml, hown, hts⟩ (xt_G_isHouse ho4 hwp H.size) (cwV 1 hts (lw_V q858 q542 q543 q77 q544) rfl rfl rfl (by decide +kernel) ⟨Nat.le_of_ble_eq_true rfl, Nat.le_of_ble_eq_true rfl⟩) (x_preV hK hO hD hP 6 o4 ho4 rfl rfl) rfl rfl hl.1 rfl (lv_room (Nat.le_of_ble_eq_true rfl)) dX0_mustHouse_10 ⟨(Nat.le_of_ble_eq_true rfl), (Nat.le_of_ble_eq_true rfl)⟩) hD hA hS (fun r5 u H locs hk hP hO hD hS => ?_)
    obtain ⟨hwp, eu⟩ := hk
    subst eu
    dsimp only at hP hO hD
    refine lv_bipush (v := (-2)) hx hb dX0_mustHouse_13 (by decide) ?_
    refine y_gov (vx_runS (As := [.int r5, .int (-2)]) (rest := []) ⟨hx, hb, hml, hown, hts⟩ (xt_S_need hst hwp H.size) (va_cwS 2 hts (lw_S q328 q329 q75 q330) rfl rfl rfl (by decide +kernel) ⟨(Nat.le_of_ble_eq_true rfl), (Nat.le_of_ble_eq_true rfl)⟩) (y_preS hK hO hD hA hZ hP hS) rfl rfl hl.1 rfl (lv_room (Nat.le_of_ble_eq_true rfl)) dX0_mustHouse_15 ⟨(Nat.le_of_ble_eq_true rfl), (Nat.le_of_ble_eq_true rfl)⟩) hD hA hS (fun E ce q12 u H locs hk hP hO hD hS k1 k2 k3 => ?_) (fun u H locs hk hP hO hD hS => ?_)
    · obtain ⟨δ9, σ10⟩ := u
      obtain ⟨⟨rfl, hq12⟩, hwp, hF11⟩ := hk
      dsimp only at hP hO hD hwp hF11 hq12
      replace hE := hE.tr hF11
      exact y_out hown hlk (fun z hz => by rw [htb] at hz; exact nomatch hz) hP hO hD hS k1 k2 k3 ⟨⟨rfl, hq12⟩, hwp, hE⟩ (Nat.le_of_ble_eq_true rfl) (Nat.le_of_ble_eq_true rfl)
    · obtain ⟨δ6, σ7⟩ := u
      obtain ⟨hwp, hF8⟩ := hk
      dsimp only at hP hO hD hwp hF8
      replace hE := hE.tr hF8
      refine W.widen (k := 2) (n := 14) (Nat.le_of_ble_eq_true rfl) (Nat.le_of_ble_eq_true rfl) ?_
      refine vx_ret ?_
      exact x_vret hx hb hr hlk hP hO hD hS ⟨hwp, hE⟩ dX0_mustHouse_18
set_option maxHeartbeats 4000000 in
set_option maxRecDepth 100000 in
theorem xt_S_mustHouse {l : Launch} (hst : l.stackTraces = false) {Γ : GA} {δ0 : XSh} {σ : XSt} {K : XSh → XSt → Prop} {X : Nat → XSh → XSt → Prop} {i0 : Nat} (h0 : (0, i0) ∈ δ0.1) {x1 : Int32} (hwp : xw_S_mustHouse K X i0 x1 δ0 σ) : yV l yX0_mustHouse (ws_ yX0_mustHouse cX0_mustHouse 2 none) ({ frames := 6, cells := 2, slots := 14, locals := 171 } : Room) 2 14 Γ δ0 [.ref i0, .int x1] σ (fun u => K u.1 u.2 ∧ Ext δ0 u.1) (fun E q u => (E = RX5 ∧ (13, q) ∈ u.1.1) ∧ X q u.1 u.2 ∧ Ext δ0 u.1) := by
  intro sz
  refine y_of (by decide) [(0, .ref i0), (1, .int x1)] (fun _ h => h) (Nat.le_of_ble_eq_true rfl) ?_
  intro p e s m args below meth c hsz Xc
  subst hsz
  exact xk_S_mustHouse_e hst Xc h0 δ0 σ Ext.rf hwp
/-! S_mustHouses -/
def xw_S_mustHouses_73 (K : XSh → XSt → Prop) (X : Nat → XSh → XSt → Prop) (i0 : Nat) (t0 : Int32) (δ : XSh) (σ : XSt) : Prop :=
  xw_S_need (fun δ1 σ2 => K δ1 σ2) (fun q7 δ4 σ5 => X q7 δ4 σ5) t0 (-6) δ σ
set_option maxHeartbeats 4000000 in
set_option maxRecDepth 100000 in
theorem xk_S_mustHouses_73 {p : Program} {l : Launch} {e : Env} {s : State} {m : MethodId} {args : Array Value} {below : List Frame} {meth : Method} {c : Code} {Γ : GA} {δ0 : XSh} {K : XSh → XSt → Prop} {X : Nat → XSh → XSt → Prop} {i0 : Nat} (hst : l.stackTraces = false) (Xc : CY p s m args meth c cX0_mustHouses 3 none RX0 Γ δ0 (tableOf [])) (h0 : (0, i0) ∈ δ0.1) : ∀ (t0 : Int32) (δ : XSh) (σ : XSt), Ext δ0 δ → xw_S_mustHouses_73 K X i0 t0 δ σ → TX p l e ({ frames := 5, cells := 3, slots := 21, locals := 150 } : Room) s m args below meth c 3 2 14 (VV below (fun u => K u.1 u.2 ∧ Ext δ0 u.1) (fun E q u => (E = RX5 ∧ (13, q) ∈ u.1.1) ∧ X q u.1 u.2 ∧ Ext δ0 u.1) 3 21 Γ δ0 s args) Γ δ0 δ σ 73 [] [.int t0] := by
  obtain ⟨⟨hx, hb, hml, hown, hts, hK, hr, hlk⟩, hZ, htb⟩ := id Xc
  have hA : ∀ q, s.heap.size ≤ q → AX δ0 s.heap.size q := fun q h => Or.inr h
  intro t0 δ σ hE hwp H locs ls hP hO hD hS hl
  unfold xw_S_mustHouses_73 at hwp
  refine lv_bipush (v := (-6)) hx hb dX0_mustHouses_73 (by decide) ?_
  refine y_gov (vx_runS (As := [.int t0, .int (-6)]) (rest := []) ⟨hx, hb, hml, hown, hts⟩ (xt_S_need hst hwp H.size) (va_cwS 2 hts (lw_S q328 q329 q75 q330) rfl rfl rfl (by decide +kernel) ⟨(Nat.le_of_ble_eq_true rfl), (Nat.le_of_ble_eq_true rfl)⟩) (y_preS hK hO hD hA hZ hP hS) rfl rfl hl.1 rfl (lv_room (Nat.le_of_ble_eq_true rfl)) dX0_mustHouses_75 ⟨(Nat.le_of_ble_eq_true rfl), (Nat.le_of_ble_eq_true rfl)⟩) hD hA hS (fun E ce q7 u H locs hk hP hO hD hS k1 k2 k3 => ?_) (fun u H locs hk hP hO hD hS => ?_)
  · obtain ⟨δ4, σ5⟩ := u
    obtain ⟨⟨rfl, hq7⟩, hwp, hF6⟩ := hk
    dsimp only at hP hO hD hwp hF6 hq7
    replace hE := hE.tr hF6
    exact y_out hown hlk (fun z hz => by rw [htb] at hz; exact nomatch hz) hP hO hD hS k1 k2 k3 ⟨⟨rfl, hq7⟩, hwp, hE⟩ (Nat.le_of_ble_eq_true rfl) (Nat.le_of_ble_eq_true rfl)
  · obtain ⟨δ1, σ2⟩ := u
    obtain ⟨hwp, hF3⟩ := hk
    dsimp only at hP hO hD hwp hF3
    replace hE := hE.tr hF3
    refine W.widen (k := 3) (n := 21) (Nat.le_of_ble_eq_true rfl) (Nat.le_of_ble_eq_true rfl) ?_
    refine vx_ret ?_
    exact x_vret hx hb hr hlk hP hO hD hS ⟨hwp, hE⟩ dX0_mustHouses_78
def xw_S_mustHouses_58 (K : XSh → XSt → Prop) (X : Nat → XSh → XSt → Prop) (i0 : Nat) (x1 : Int32) (x2 : Int32) (t0 : Int32) (δ : XSh) (σ : XSt) : Prop :=
  xw_S_need (fun δ1 σ2 => ((x1 = x2) → (xw_S_mustHouses_73 K X i0 0 δ1 σ2)) ∧ ((¬ (x1 = x2)) → (xw_S_mustHouses_73 K X i0 1 δ1 σ2))) (fun q8 δ5 σ6 => X q8 δ5 σ6) t0 (-2) δ σ
set_option maxHeartbeats 4000000 in
set_option maxRecDepth 100000 in
theorem xk_S_mustHouses_58 {p : Program} {l : Launch} {e : Env} {s : State} {m : MethodId} {args : Array Value} {below : List Frame} {meth : Method} {c : Code} {Γ : GA} {δ0 : XSh} {K : XSh → XSt → Prop} {X : Nat → XSh → XSt → Prop} {i0 : Nat} (hst : l.stackTraces = false) (Xc : CY p s m args meth c cX0_mustHouses 3 none RX0 Γ δ0 (tableOf [])) (h0 : (0, i0) ∈ δ0.1) : ∀ (x1 : Int32) (x2 : Int32) (t0 : Int32) (δ : XSh) (σ : XSt), Ext δ0 δ → xw_S_mustHouses_58 K X i0 x1 x2 t0 δ σ → TX p l e ({ frames := 5, cells := 3, slots := 21, locals := 150 } : Room) s m args below meth c 3 1 7 (VV below (fun u => K u.1 u.2 ∧ Ext δ0 u.1) (fun E q u => (E = RX5 ∧ (13, q) ∈ u.1.1) ∧ X q u.1 u.2 ∧ Ext δ0 u.1) 3 21 Γ δ0 s args) Γ δ0 δ σ 58 [(1, .int x1), (2, .int x2)] [.int t0] := by
  obtain ⟨⟨hx, hb, hml, hown, hts, hK, hr, hlk⟩, hZ, htb⟩ := id Xc
  have hA : ∀ q, s.heap.size ≤ q → AX δ0 s.heap.size q := fun q h => Or.inr h
  intro x1 x2 t0 δ σ hE hwp H locs ls hP hO hD hS hl
  unfold xw_S_mustHouses_58 at hwp
  refine lv_bipush (v := (-2)) hx hb dX0_mustHouses_58 (by decide) ?_
  refine y_gov (vx_runS (As := [.int t0, .int (-2)]) (rest := []) ⟨hx, hb, hml, hown, hts⟩ (xt_S_need hst hwp H.size) (va_cwS 2 hts (lw_S q328 q329 q75 q330) rfl rfl rfl (by decide +kernel) ⟨(Nat.le_of_ble_eq_true rfl), (Nat.le_of_ble_eq_true rfl)⟩) (y_preS hK hO hD hA hZ hP hS) rfl rfl hl.1 rfl (lv_room (Nat.le_of_ble_eq_true rfl)) dX0_mustHouses_60 ⟨(Nat.le_of_ble_eq_true rfl), (Nat.le_of_ble_eq_true rfl)⟩) hD hA hS (fun E ce q8 u H locs hk hP hO hD hS k1 k2 k3 => ?_) (fun u H locs hk hP hO hD hS => ?_)
  · obtain ⟨δ5, σ6⟩ := u
    obtain ⟨⟨rfl, hq8⟩, hwp, hF7⟩ := hk
    dsimp only at hP hO hD hwp hF7 hq8
    replace hE := hE.tr hF7
    exact y_out hown hlk (fun z hz => by rw [htb] at hz; exact nomatch hz) hP hO hD hS k1 k2 k3 ⟨⟨rfl, hq8⟩, hwp, hE⟩ (Nat.le_of_ble_eq_true rfl) (Nat.le_of_ble_eq_true rfl)
  · obtain ⟨δ1, σ2⟩ := u
    obtain ⟨hwp, hF3⟩ := hk
    dsimp only at hP hO hD hwp hF3
    replace hE := hE.tr hF3
    refine lv_iload_n hx hb dX0_mustHouses_63 rfl (lv_at hl 0 rfl) ?_
    refine lv_iload_n hx hb dX0_mustHouses_64 rfl (lv_at hl 1 rfl) ?_
    refine lv_icmp_eq (tgt := 72) hx hb dX0_mustHouses_65 (by decide) (fun c4 => ?_) (fun c4 => ?_)
    · replace hwp := hwp.1 c4
      refine lv_iconst (v := 0) hx hb dX0_mustHouses_72 (by decide) ?_
      refine W.widen (k := 2) (n := 14) (Nat.le_of_ble_eq_true rfl) (Nat.le_of_ble_eq_true rfl) ?_
      exact xk_S_mustHouses_73 hst Xc h0 _ δ1 σ2 hE hwp H locs ls hP hO hD hS (lv_sub hl [] rfl)
    · replace hwp := hwp.2 c4
      refine lv_iconst (v := 1) hx hb dX0_mustHouses_68 (by decide) ?_
      refine lv_goto (tgt := 73) hx hb dX0_mustHouses_69 (by decide) ?_
      refine W.widen (k := 2) (n := 14) (Nat.le_of_ble_eq_true rfl) (Nat.le_of_ble_eq_true rfl) ?_
      exact xk_S_mustHouses_73 hst Xc h0 _ δ1 σ2 hE hwp H locs ls hP hO hD hS (lv_sub hl [] rfl)
def xw_S_mustHouses_57 (K : XSh → XSt → Prop) (X : Nat → XSh → XSt → Prop) (i0 : Nat) (x1 : Int32) (x2 : Int32) (δ : XSh) (σ : XSt) : Prop :=
  xw_S_mustHouses_58 K X i0 x1 x2 0 δ σ
set_option maxHeartbeats 4000000 in
set_option maxRecDepth 100000 in
theorem xk_S_mustHouses_57 {p : Program} {l : Launch} {e : Env} {s : State} {m : MethodId} {args : Array Value} {below : List Frame} {meth : Method} {c : Code} {Γ : GA} {δ0 : XSh} {K : XSh → XSt → Prop} {X : Nat → XSh → XSt → Prop} {i0 : Nat} (hst : l.stackTraces = false) (Xc : CY p s m args meth c cX0_mustHouses 3 none RX0 Γ δ0 (tableOf [])) (h0 : (0, i0) ∈ δ0.1) : ∀ (x1 : Int32) (x2 : Int32) (δ : XSh) (σ : XSt), Ext δ0 δ → xw_S_mustHouses_57 K X i0 x1 x2 δ σ → TX p l e ({ frames := 5, cells := 3, slots := 21, locals := 150 } : Room) s m args below meth c 3 1 7 (VV below (fun u => K u.1 u.2 ∧ Ext δ0 u.1) (fun E q u => (E = RX5 ∧ (13, q) ∈ u.1.1) ∧ X q u.1 u.2 ∧ Ext δ0 u.1) 3 21 Γ δ0 s args) Γ δ0 δ σ 57 [(1, .int x1), (2, .int x2)] [] := by
  obtain ⟨⟨hx, hb, hml, hown, hts, hK, hr, hlk⟩, hZ, htb⟩ := id Xc
  have hA : ∀ q, s.heap.size ≤ q → AX δ0 s.heap.size q := fun q h => Or.inr h
  intro x1 x2 δ σ hE hwp H locs ls hP hO hD hS hl
  unfold xw_S_mustHouses_57 at hwp
  refine lv_iconst (v := 0) hx hb dX0_mustHouses_57 (by decide) ?_
  refine W.widen (k := 1) (n := 7) (Nat.le_of_ble_eq_true rfl) (Nat.le_of_ble_eq_true rfl) ?_
  exact xk_S_mustHouses_58 hst Xc h0 _ _ _ δ σ hE hwp H locs ls hP hO hD hS (lv_sub hl [0, 1] rfl)
def xw_S_mustHouses_27 (K : XSh → XSt → Prop) (X : Nat → XSh → XSt → Prop) (i0 : Nat) (x1 : Int32) (x2 : Int32) (t0 : Int32) (δ : XSh) (σ : XSt) : Prop :=
  xw_S_need (fun δ1 σ2 => ∃ o4, σ2.2.2 0 i0 4 = some o4 ∧ (xw_G_isHouse δ1 σ2 (fun r5 => ((r5 = 0) → (xw_S_mustHouses_57 K X i0 x1 x2 δ1 σ2)) ∧ ((¬ (r5 = 0)) → (xw_G_isHouse δ1 σ2 (fun r7 => ((r7 = 0) → (xw_S_mustHouses_57 K X i0 x1 x2 δ1 σ2)) ∧ ((¬ (r7 = 0)) → (xw_S_mustHouses_58 K X i0 x1 x2 1 δ1 σ2))) o4 x2))) o4 x1)) (fun q12 δ9 σ10 => X q12 δ9 σ10) t0 (-1) δ σ
set_option maxHeartbeats 4000000 in
set_option maxRecDepth 100000 in
theorem xk_S_mustHouses_27 {p : Program} {l : Launch} {e : Env} {s : State} {m : MethodId} {args : Array Value} {below : List Frame} {meth : Method} {c : Code} {Γ : GA} {δ0 : XSh} {K : XSh → XSt → Prop} {X : Nat → XSh → XSt → Prop} {i0 : Nat} (hst : l.stackTraces = false) (Xc : CY p s m args meth c cX0_mustHouses 3 none RX0 Γ δ0 (tableOf [])) (h0 : (0, i0) ∈ δ0.1) : ∀ (x1 : Int32) (x2 : Int32) (t0 : Int32) (δ : XSh) (σ : XSt), Ext δ0 δ → xw_S_mustHouses_27 K X i0 x1 x2 t0 δ σ → TX p l e ({ frames := 5, cells := 3, slots := 21, locals := 150 } : Room) s m args below meth c 3 0 0 (VV below (fun u => K u.1 u.2 ∧ Ext δ0 u.1) (fun E q u => (E = RX5 ∧ (13, q) ∈ u.1.1) ∧ X q u.1 u.2 ∧ Ext δ0 u.1) 3 21 Γ δ0 s args) Γ δ0 δ σ 27 [(0, .ref i0), (1, .int x1), (2, .int x2)] [.int t0] := by
  obtain ⟨⟨hx, hb, hml, hown, hts, hK, hr, hlk⟩, hZ, htb⟩ := id Xc
  have hA : ∀ q, s.heap.size ≤ q → AX δ0 s.heap.size q := fun q h => Or.inr h
  intro x1 x2 t0 δ σ hE hwp H locs ls hP hO hD hS hl
  unfold xw_S_mustHouses_27 at hwp
  refine lv_iconst (v := (-1)) hx hb dX0_mustHouses_27 (by decide) ?_
  refine y_gov (vx_runS (As := [.int t0, .int (-1)]) (rest := []) ⟨hx, hb, hml, hown, hts⟩ (xt_S_need hst hwp H.size) (va_cwS 2 hts (lw_S q328 q329 q75 q330) rfl rfl rfl (by decide +kernel) ⟨(Nat.le_of_ble_eq_true rfl), (Nat.le_of_ble_eq_true rfl)⟩) (y_preS hK hO hD hA hZ hP hS) rfl rfl hl.1 rfl (lv_room (Nat.le_of_ble_eq_true rfl)) dX0_mustHouses_28 ⟨(Nat.le_of_ble_eq_true rfl), (Nat.le_of_ble_eq_true rfl)⟩) hD hA hS (fun E ce q12 u H locs hk hP hO hD hS k1 k2 k3 => ?_) (fun u H locs hk hP hO hD hS => ?_)
  · obtain ⟨δ9, σ10⟩ := u
    obtain ⟨⟨rfl, hq12⟩, hwp, hF11⟩ := hk
    dsimp only at hP hO hD hwp hF11 hq12
    replace hE := hE.tr hF11
    exact y_out hown hlk (fun z hz => by rw [htb] at hz; exact nomatch hz) hP hO hD hS k1 k2 k3 ⟨⟨rfl, hq12⟩, hwp, hE⟩ (Nat.le_of_ble_eq_true rfl) (Nat.le_of_ble_eq_true rfl)
  · obtain ⟨δ1, σ2⟩ := u
    obtain ⟨hwp, hF3⟩ := hk
    dsimp only at hP hO hD hwp hF3
    replace hE := hE.tr hF3
    refine lv_aload_n hx hb dX0_mustHouses_31 rfl (lv_at hl 0 rfl) ?_
    obtain ⟨o4, eo4, hwp⟩ := hwp
    refine x_getr hx hb hts hown hK hP 0 i0 (hE.m h0) rfl rfl in_X0 4 (by decide) q200 rfl rfl eo4 dX0_mustHouses_32 (fun ho4 co4 => ?_)
    refine lv_iload_n hx hb dX0_mustHouses_35 rfl (lv_at hl 1 rfl) ?_
    refine x_goi (va_runV (As := [.int x1]) (rest := []) ⟨hx, hb, hml, hown, hts⟩ (xt_G_isHouse ho4 hwp H.size) (cwV 1 hts (lw_V q858 q542 q543 q77 q544) rfl rfl rfl (by decide +kernel) ⟨Nat.le_of_ble_eq_true rfl, Nat.le_of_ble_eq_true rfl⟩) (x_preV hK hO hD hP 6 o4 ho4 rfl rfl) rfl rfl hl.1 rfl (lv_room (Nat.le_of_ble_eq_true rfl)) dX0_mustHouses_36 ⟨(Nat.le_of_ble_eq_true rfl), (Nat.le_of_ble_eq_true rfl)⟩) hD hA hS (fun r5 u H locs hk hP hO hD hS => ?_)
    obtain ⟨hwp, eu⟩ := hk
    subst eu
    dsimp only at hP hO hD
    refine lv_if_eq (tgt := 57) hx hb dX0_mustHouses_39 (by decide) (fun c6 => ?_) (fun c6 => ?_)
    · replace hwp := hwp.1 c6
      refine W.widen (k := 1) (n := 7) (Nat.le_of_ble_eq_true rfl) (Nat.le_of_ble_eq_true rfl) ?_
      exact xk_S_mustHouses_57 hst Xc h0 _ _ δ1 σ2 hE hwp H locs ls hP hO hD hS (lv_sub hl [1, 2] rfl)
    · replace hwp := hwp.2 c6
      refine lv_aload_n hx hb dX0_mustHouses_42 rfl (lv_at hl 0 rfl) ?_
      refine x_getr hx hb hts hown hK hP 0 i0 (hE.m h0) rfl rfl in_X0 4 (by decide) q200 rfl rfl eo4 dX0_mustHouses_43 (fun ho4 co4 => ?_)
      refine lv_iload_n hx hb dX0_mustHouses_46 rfl (lv_at hl 2 rfl) ?_
      refine x_goi (va_runV (As := [.int x2]) (rest := []) ⟨hx, hb, hml, hown, hts⟩ (xt_G_isHouse ho4 hwp H.size) (cwV 1 hts (lw_V q858 q542 q543 q77 q544) rfl rfl rfl (by decide +kernel) ⟨Nat.le_of_ble_eq_true rfl, Nat.le_of_ble_eq_true rfl⟩) (x_preV hK hO hD hP 6 o4 ho4 rfl rfl) rfl rfl hl.1 rfl (lv_room (Nat.le_of_ble_eq_true rfl)) dX0_mustHouses_47 ⟨(Nat.le_of_ble_eq_true rfl), (Nat.le_of_ble_eq_true rfl)⟩) hD hA hS (fun r7 u H locs hk hP hO hD hS => ?_)
      obtain ⟨hwp, eu⟩ := hk
      subst eu
      dsimp only at hP hO hD
      refine lv_if_eq (tgt := 57) hx hb dX0_mustHouses_50 (by decide) (fun c8 => ?_) (fun c8 => ?_)
      · replace hwp := hwp.1 c8
        refine W.widen (k := 1) (n := 7) (Nat.le_of_ble_eq_true rfl) (Nat.le_of_ble_eq_true rfl) ?_
        exact xk_S_mustHouses_57 hst Xc h0 _ _ δ1 σ2 hE hwp H locs ls hP hO hD hS (lv_sub hl [1, 2] rfl)
      · replace hwp := hwp.2 c8
        refine lv_iconst (v := 1) hx hb dX0_mustHouses_53 (by decide) ?_
        refine lv_goto (tgt := 58) hx hb dX0_mustHouses_54 (by decide) ?_
        refine W.widen (k := 1) (n := 7) (Nat.le_of_ble_eq_true rfl) (Nat.le_of_ble_eq_true rfl) ?_
        exact xk_S_mustHouses_58 hst Xc h0 _ _ _ δ1 σ2 hE hwp H locs ls hP hO hD hS (lv_sub hl [1, 2] rfl)
def xw_S_mustHouses_26 (K : XSh → XSt → Prop) (X : Nat → XSh → XSt → Prop) (i0 : Nat) (x1 : Int32) (x2 : Int32) (δ : XSh) (σ : XSt) : Prop :=
  xw_S_mustHouses_27 K X i0 x1 x2 0 δ σ
set_option maxHeartbeats 4000000 in
set_option maxRecDepth 100000 in
theorem xk_S_mustHouses_26 {p : Program} {l : Launch} {e : Env} {s : State} {m : MethodId} {args : Array Value} {below : List Frame} {meth : Method} {c : Code} {Γ : GA} {δ0 : XSh} {K : XSh → XSt → Prop} {X : Nat → XSh → XSt → Prop} {i0 : Nat} (hst : l.stackTraces = false) (Xc : CY p s m args meth c cX0_mustHouses 3 none RX0 Γ δ0 (tableOf [])) (h0 : (0, i0) ∈ δ0.1) : ∀ (x1 : Int32) (x2 : Int32) (δ : XSh) (σ : XSt), Ext δ0 δ → xw_S_mustHouses_26 K X i0 x1 x2 δ σ → TX p l e ({ frames := 5, cells := 3, slots := 21, locals := 150 } : Room) s m args below meth c 3 0 0 (VV below (fun u => K u.1 u.2 ∧ Ext δ0 u.1) (fun E q u => (E = RX5 ∧ (13, q) ∈ u.1.1) ∧ X q u.1 u.2 ∧ Ext δ0 u.1) 3 21 Γ δ0 s args) Γ δ0 δ σ 26 [(0, .ref i0), (1, .int x1), (2, .int x2)] [] := by
  obtain ⟨⟨hx, hb, hml, hown, hts, hK, hr, hlk⟩, hZ, htb⟩ := id Xc
  have hA : ∀ q, s.heap.size ≤ q → AX δ0 s.heap.size q := fun q h => Or.inr h
  intro x1 x2 δ σ hE hwp H locs ls hP hO hD hS hl
  unfold xw_S_mustHouses_26 at hwp
  refine lv_iconst (v := 0) hx hb dX0_mustHouses_26 (by decide) ?_
  refine W.widen (k := 0) (n := 0) (Nat.le_of_ble_eq_true rfl) (Nat.le_of_ble_eq_true rfl) ?_
  exact xk_S_mustHouses_27 hst Xc h0 _ _ _ δ σ hE hwp H locs ls hP hO hD hS (lv_sub hl [0, 1, 2] rfl)
def xw_S_mustHouses (K : XSh → XSt → Prop) (X : Nat → XSh → XSt → Prop) (i0 : Nat) (x1 : Int32) (x2 : Int32) (δ : XSh) (σ : XSt) : Prop :=
  ∃ o1, σ.2.2 0 i0 4 = some o1 ∧ (xw_G_isThing δ σ (fun r2 => ((r2 = 0) → (xw_S_mustHouses_26 K X i0 x1 x2 δ σ)) ∧ ((¬ (r2 = 0)) → (xw_G_isThing δ σ (fun r4 => ((r4 = 0) → (xw_S_mustHouses_26 K X i0 x1 x2 δ σ)) ∧ ((¬ (r4 = 0)) → (xw_S_mustHouses_27 K X i0 x1 x2 1 δ σ))) o1 x2))) o1 x1)
set_option maxHeartbeats 4000000 in
set_option maxRecDepth 100000 in
theorem xk_S_mustHouses_e {p : Program} {l : Launch} {e : Env} {s : State} {m : MethodId} {args : Array Value} {below : List Frame} {meth : Method} {c : Code} {Γ : GA} {δ0 : XSh} {K : XSh → XSt → Prop} {X : Nat → XSh → XSt → Prop} {i0 : Nat} (hst : l.stackTraces = false) (Xc : CY p s m args meth c cX0_mustHouses 3 none RX0 Γ δ0 (tableOf [])) (h0 : (0, i0) ∈ δ0.1) {x1 : Int32} {x2 : Int32} : ∀ (δ : XSh) (σ : XSt), Ext δ0 δ → xw_S_mustHouses K X i0 x1 x2 δ σ → TX p l e ({ frames := 5, cells := 3, slots := 21, locals := 150 } : Room) s m args below meth c 3 0 0 (VV below (fun u => K u.1 u.2 ∧ Ext δ0 u.1) (fun E q u => (E = RX5 ∧ (13, q) ∈ u.1.1) ∧ X q u.1 u.2 ∧ Ext δ0 u.1) 3 21 Γ δ0 s args) Γ δ0 δ σ 0 [(0, .ref i0), (1, .int x1), (2, .int x2)] [] := by
  obtain ⟨⟨hx, hb, hml, hown, hts, hK, hr, hlk⟩, hZ, htb⟩ := id Xc
  have hA : ∀ q, s.heap.size ≤ q → AX δ0 s.heap.size q := fun q h => Or.inr h
  intro δ σ hE hwp H locs ls hP hO hD hS hl
  unfold xw_S_mustHouses at hwp
  refine lv_aload_n hx hb dX0_mustHouses_0 rfl (lv_at hl 0 rfl) ?_
  obtain ⟨o1, eo1, hwp⟩ := hwp
  refine x_getr hx hb hts hown hK hP 0 i0 (hE.m h0) rfl rfl in_X0 4 (by decide) q200 rfl rfl eo1 dX0_mustHouses_1 (fun ho1 co1 => ?_)
  refine lv_iload_n hx hb dX0_mustHouses_4 rfl (lv_at hl 1 rfl) ?_
  refine x_goi (va_runV (As := [.int x1]) (rest := []) ⟨hx, hb, hml, hown, hts⟩ (xt_G_isThing ho1 hwp H.size) (cwV 1 hts (lw_V q512 q513 q514 q77 q515) rfl rfl rfl (by decide +kernel) ⟨Nat.le_of_ble_eq_true rfl, Nat.le_of_ble_eq_true rfl⟩) (x_preV hK hO hD hP 6 o1 ho1 rfl rfl) rfl rfl hl.1 rfl (lv_room (Nat.le_of_ble_eq_true rfl)) dX0_mustHouses_5 ⟨(Nat.le_of_ble_eq_true rfl), (Nat.le_of_ble_eq_true rfl)⟩) hD hA hS (fun r2 u H locs hk hP hO hD hS => ?_)
  obtain ⟨hwp, eu⟩ := hk
  subst eu
  dsimp only at hP hO hD
  refine lv_if_eq (tgt := 26) hx hb dX0_mustHouses_8 (by decide) (fun c3 => ?_) (fun c3 => ?_)
  · replace hwp := hwp.1 c3
    refine W.widen (k := 0) (n := 0) (Nat.le_of_ble_eq_true rfl) (Nat.le_of_ble_eq_true rfl) ?_
    exact xk_S_mustHouses_26 hst Xc h0 _ _ δ σ hE hwp H locs ls hP hO hD hS (lv_sub hl [0, 1, 2] rfl)
  · replace hwp := hwp.2 c3
    refine lv_aload_n hx hb dX0_mustHouses_11 rfl (lv_at hl 0 rfl) ?_
    refine x_getr hx hb hts hown hK hP 0 i0 (hE.m h0) rfl rfl in_X0 4 (by decide) q200 rfl rfl eo1 dX0_mustHouses_12 (fun ho1 co1 => ?_)
    refine lv_iload_n hx hb dX0_mustHouses_15 rfl (lv_at hl 2 rfl) ?_
    refine x_goi (va_runV (As := [.int x2]) (rest := []) ⟨hx, hb, hml, hown, hts⟩ (xt_G_isThing ho1 hwp H.size) (cwV 1 hts (lw_V q512 q513 q514 q77 q515) rfl rfl rfl (by decide +kernel) ⟨Nat.le_of_ble_eq_true rfl, Nat.le_of_ble_eq_true rfl⟩) (x_preV hK hO hD hP 6 o1 ho1 rfl rfl) rfl rfl hl.1 rfl (lv_room (Nat.le_of_ble_eq_true rfl)) dX0_mustHouses_16 ⟨(Nat.le_of_ble_eq_true rfl), (Nat.le_of_ble_eq_true rfl)⟩) hD hA hS (fun r4 u H locs hk hP hO hD hS => ?_)
    obtain ⟨hwp, eu⟩ := hk
    subst eu
    dsimp only at hP hO hD
    refine lv_if_eq (tgt := 26) hx hb dX0_mustHouses_19 (by decide) (fun c5 => ?_) (fun c5 => ?_)
    · replace hwp := hwp.1 c5
      refine W.widen (k := 0) (n := 0) (Nat.le_of_ble_eq_true rfl) (Nat.le_of_ble_eq_true rfl) ?_
      exact xk_S_mustHouses_26 hst Xc h0 _ _ δ σ hE hwp H locs ls hP hO hD hS (lv_sub hl [0, 1, 2] rfl)
    · replace hwp := hwp.2 c5
      refine lv_iconst (v := 1) hx hb dX0_mustHouses_22 (by decide) ?_
      refine lv_goto (tgt := 27) hx hb dX0_mustHouses_23 (by decide) ?_
      refine W.widen (k := 0) (n := 0) (Nat.le_of_ble_eq_true rfl) (Nat.le_of_ble_eq_true rfl) ?_
      exact xk_S_mustHouses_27 hst Xc h0 _ _ _ δ σ hE hwp H locs ls hP hO hD hS (lv_sub hl [0, 1, 2] rfl)
set_option maxHeartbeats 4000000 in
set_option maxRecDepth 100000 in
theorem xt_S_mustHouses {l : Launch} (hst : l.stackTraces = false) {Γ : GA} {δ0 : XSh} {σ : XSt} {K : XSh → XSt → Prop} {X : Nat → XSh → XSt → Prop} {i0 : Nat} (h0 : (0, i0) ∈ δ0.1) {x1 : Int32} {x2 : Int32} (hwp : xw_S_mustHouses K X i0 x1 x2 δ0 σ) : yV l yX0_mustHouses (ws_ yX0_mustHouses cX0_mustHouses 3 none) ({ frames := 5, cells := 3, slots := 21, locals := 150 } : Room) 3 21 Γ δ0 [.ref i0, .int x1, .int x2] σ (fun u => K u.1 u.2 ∧ Ext δ0 u.1) (fun E q u => (E = RX5 ∧ (13, q) ∈ u.1.1) ∧ X q u.1 u.2 ∧ Ext δ0 u.1) := by
  intro sz
  refine y_of (by decide) [(0, .ref i0), (1, .int x1), (2, .int x2)] (fun _ h => h) (Nat.le_of_ble_eq_true rfl) ?_
  intro p e s m args below meth c hsz Xc
  subst hsz
  exact xk_S_mustHouses_e hst Xc h0 δ0 σ Ext.rf hwp
/-! S_newRow -/
def xw_S_newRow (K : Nat → XSh → XSt → Prop) (X : Nat → XSh → XSt → Prop) (x0 : Int32) (x1 : Int32) (δ : XSh) (σ : XSt) : Prop :=
  ((x0 < 0 ∨ 3 < x0) → (∀ q2 δ3 σ4, NewRe (-6) δ σ q2 δ3 σ4 → (X q2 δ3 σ4))) ∧ (x0 = 0 → ((¬ x1 < 0) ∧ x1.toNatClampNeg ≤ 160 ∧ ∀ q6 δ7 σ8, NewB 12 x1.toNatClampNeg δ σ q6 δ7 σ8 → (K q6 δ7 σ8))) ∧ (x0 = 1 → ((¬ x1 < 0) ∧ x1.toNatClampNeg ≤ 160 ∧ ∀ q10 δ11 σ12, NewB 13 x1.toNatClampNeg δ σ q10 δ11 σ12 → (K q10 δ11 σ12))) ∧ (x0 = 2 → ((¬ x1 < 0) ∧ x1.toNatClampNeg ≤ 160 ∧ ∀ q14 δ15 σ16, NewB 14 x1.toNatClampNeg δ σ q14 δ15 σ16 → (K q14 δ15 σ16))) ∧ (x0 = 3 → ((¬ x1 < 0) ∧ x1.toNatClampNeg ≤ 160 ∧ ∀ q18 δ19 σ20, NewB 15 x1.toNatClampNeg δ σ q18 δ19 σ20 → (K q18 δ19 σ20)))
set_option maxHeartbeats 4000000 in
set_option maxRecDepth 100000 in
theorem xk_S_newRow_e {p : Program} {l : Launch} {e : Env} {s : State} {m : MethodId} {args : Array Value} {below : List Frame} {meth : Method} {c : Code} {Γ : GA} {δ0 : XSh} {K : Nat → XSh → XSt → Prop} {X : Nat → XSh → XSt → Prop} (hst : l.stackTraces = false) (Xc : CY p s m args meth c cX0_newRow 3 (some (.object "SeenByOne$Row")) RX0 Γ δ0 (tableOf [(0, 40, 78, 134), (41, 49, 78, 134), (50, 58, 78, 134), (59, 67, 78, 134), (68, 78, 78, 134)])) {x0 : Int32} {x1 : Int32} : ∀ (δ : XSh) (σ : XSt), Ext δ0 δ → xw_S_newRow K X x0 x1 δ σ → TX p l e ({ frames := 4, cells := 2, slots := 161, locals := 129 } : Room) s m args below meth c 3 0 0 (VR below (fun r u => (K r u.1 u.2 ∧ Ext δ0 u.1) ∧ (7, r) ∈ u.1.1 ∧ 12 ≤ u.1.2.2.1 r) (fun E q u => (E = RX5 ∧ (13, q) ∈ u.1.1) ∧ X q u.1 u.2 ∧ Ext δ0 u.1) 2 161 Γ δ0 s args) Γ δ0 δ σ 0 [(0, .int x0), (1, .int x1)] [] := by
  obtain ⟨⟨hx, hb, hml, hown, hts, hK, hr, hlk⟩, hZ, htb⟩ := id Xc
  have hA : ∀ q, s.heap.size ≤ q → AX δ0 s.heap.size q := fun q h => Or.inr h
  intro δ σ hE hwp H locs ls hP hO hD hS hl
  unfold xw_S_newRow at hwp
  refine lv_iload_n hx hb dX0_newRow_0 rfl (lv_at hl 0 rfl) ?_
  by_cases c1 : (x0 < 0 ∨ 3 < x0)
  · replace hwp := hwp.1 c1
    refine lv_tableOut (tgt := 68) hx hb dX0_newRow_1 (sw_out c1) (by decide) ?_
    refine va_new (D := Γ.1) (ci := 17) (fs := [.null, .null, .null, .null, .null, .int 0, .int 0]) (C := RX5) (T := TX5) (N := 7) hx hb hts in_X5 tyX5 tyX5_ok hown (hts _ q222) (hts _ q305) (hts _ q86) hK.1 hP.1 (hD.va (fun _ => rfl)) hS hA rfl (fun j hj => by rcases (show j = 0 ∨ j = 1 ∨ j = 2 ∨ j = 3 ∨ j = 4 ∨ j = 5 ∨ j = 6 by omega) with rfl | rfl | rfl | rfl | rfl | rfl | rfl <;> rfl) (Nat.le_of_ble_eq_true rfl) (Nat.le_of_ble_eq_true rfl) dX0_newRow_68 (fun q2 H hR hRD hS => ?_)
    replace hR := rotP hR
    replace hRD := rotD hRD
    replace hP : XH Γ δ σ H := ⟨tailP (ex := [_]) hR, hP.2⟩
    refine lv_dup hx hb dX0_newRow_71 rfl ?_
    refine lv_bipush (v := (-6)) hx hb dX0_newRow_72 (by decide) ?_
    refine r_go (X := δ.1.map (gX Γ δ σ)) (va_runI (As := [.int (-6)]) (rest := [.ref q2]) ⟨hx, hb, hml, hown, hts⟩ (ct_Re H.size) (cwI 1 hts (lw_meth q315) rfl rfl rfl (hts _ q86) (hts _ q313) (hts _ q314) rfl (by decide +kernel) ⟨(Nat.le_of_ble_eq_true rfl), (Nat.le_of_ble_eq_true rfl)⟩) (r_pre hK hA hZ hR hRD hS) rfl rfl hl.1 rfl (lv_room (Nat.le_of_ble_eq_true rfl)) dX0_newRow_74 ⟨(Nat.le_of_ble_eq_true rfl), (Nat.le_of_ble_eq_true rfl)⟩) hA hR hRD hS (fun ex H locs hk hR hRD hS => ?_)
    subst hk
    obtain ⟨δ3, σ4, hP, hO, hD, hN5⟩ := mkRe hR hRD hP.2 hO
    replace hE := hE.tr hN5.1.1
    replace hwp := hwp q2 δ3 σ4 hN5
    obtain ⟨ce, k1, k2, k3⟩ := x_cell hK hP 13 q2 hN5.2.2.1 rfl (q := (RX5, TX5, 7)) rfl
    refine vx_athrow hx hb dX0_newRow_77 ?_
    exact y_out hown hlk (by rw [htb]; exact (fun z hz => by simp only [tableOf, List.map_cons, List.map_nil, List.mem_cons, List.not_mem_nil, or_false] at hz; rcases hz with rfl | rfl | rfl | rfl | rfl <;> first | exact Or.inl rfl | exact Or.inr ⟨by decide, _, hts _ q338, hK.2.2.2.2.1 (RX5, "java/lang/NegativeArraySizeException") (by simp [ncL])⟩)) hP hO hD hS k1 k2 k3 ⟨⟨rfl, hN5.2.2.1⟩, hwp, hE⟩ (Nat.le_of_ble_eq_true rfl) (Nat.le_of_ble_eq_true rfl)
  · obtain ⟨j, hj, ej⟩ := sw_of (n := 3) (by decide) c1
    match j, hj, ej with
    | 0, _, ej =>
      have ej : x0 = 0 := ej
      replace hwp := hwp.2.1 ej
      refine lv_tableIn (off := 31) (tgt := 32) hx hb dX0_newRow_1 (by rw [ej]; decide) (by rw [ej]; decide) (by rw [ej]; rfl) (by decide) ?_
      refine va_new (D := Γ.1) (ci := 12) (fs := [.null]) (C := RX7) (T := TX7) (N := 1) hx hb hts in_X7 tyX7 tyX7_ok hown (hts _ q352) (hts _ q353) (hts _ q89) hK.1 hP.1 (hD.va (fun _ => rfl)) hS hA rfl (fun j hj => by rcases (show j = 0 by omega) with rfl <;> rfl) (Nat.le_of_ble_eq_true rfl) (Nat.le_of_ble_eq_true rfl) dX0_newRow_32 (fun q6 H hR hRD hS => ?_)
      replace hR := rotP hR
      replace hRD := rotD hRD
      replace hP : XH Γ δ σ H := ⟨tailP (ex := [_]) hR, hP.2⟩
      refine lv_dup hx hb dX0_newRow_35 rfl ?_
      refine lv_iload_n hx hb dX0_newRow_36 rfl (lv_at hl 1 rfl) ?_
      obtain ⟨hn9, hl9, hwp⟩ := hwp
      refine r_go (X := δ.1.map (gX Γ δ σ)) (va_runI (As := [.int x1]) (rest := [.ref q6]) ⟨hx, hb, hml, hown, hts⟩ (ct_By hn9 rfl hl9 H.size) (cwI 1 hts (lw_meth q356) rfl rfl rfl (hts _ q89) (hts _ q354) (hts _ q355) rfl (by decide +kernel) ⟨(Nat.le_of_ble_eq_true rfl), (Nat.le_of_ble_eq_true rfl)⟩) (r_pre hK hA hZ hR hRD hS) rfl rfl hl.1 rfl (lv_room (Nat.le_of_ble_eq_true rfl)) dX0_newRow_37 ⟨(Nat.le_of_ble_eq_true rfl), (Nat.le_of_ble_eq_true rfl)⟩) hA hR hRD hS (fun ex H locs hk hR hRD hS => ?_)
      obtain ⟨a9, rfl⟩ := hk
      obtain ⟨δ7, σ8, hP, hO, hD, hN9⟩ := mkB (Or.inl ⟨rfl, rfl⟩) hR hRD hP.2 hO
      replace hE := hE.tr hN9.1.1
      replace hwp := hwp q6 δ7 σ8 hN9
      refine W.widen (k := 2) (n := 161) (Nat.le_of_ble_eq_true rfl) (Nat.le_of_ble_eq_true rfl) ?_
      refine vx_ret ?_
      exact x_aret hx hb hr (Or.inl ⟨_, rfl⟩) hlk hP hO hD hS ⟨⟨hwp, hE⟩, hN9.2.2.1, (by rw [hN9.2.2.2.1]; decide)⟩ dX0_newRow_40
    | 1, _, ej =>
      have ej : x0 = 1 := ej
      replace hwp := hwp.2.2.1 ej
      refine lv_tableIn (off := 40) (tgt := 41) hx hb dX0_newRow_1 (by rw [ej]; decide) (by rw [ej]; decide) (by rw [ej]; rfl) (by decide) ?_
      refine va_new (D := Γ.1) (ci := 13) (fs := [.null]) (C := RX8) (T := TX8) (N := 1) hx hb hts in_X8 tyX8 tyX8_ok hown (hts _ q365) (hts _ q366) (hts _ q90) hK.1 hP.1 (hD.va (fun _ => rfl)) hS hA rfl (fun j hj => by rcases (show j = 0 by omega) with rfl <;> rfl) (Nat.le_of_ble_eq_true rfl) (Nat.le_of_ble_eq_true rfl) dX0_newRow_41 (fun q10 H hR hRD hS => ?_)
      replace hR := rotP hR
      replace hRD := rotD hRD
      replace hP : XH Γ δ σ H := ⟨tailP (ex := [_]) hR, hP.2⟩
      refine lv_dup hx hb dX0_newRow_44 rfl ?_
      refine lv_iload_n hx hb dX0_newRow_45 rfl (lv_at hl 1 rfl) ?_
      obtain ⟨hn9, hl9, hwp⟩ := hwp
      refine r_go (X := δ.1.map (gX Γ δ σ)) (va_runI (As := [.int x1]) (rest := [.ref q10]) ⟨hx, hb, hml, hown, hts⟩ (ct_So hn9 rfl hl9 H.size) (cwI 1 hts (lw_meth q369) rfl rfl rfl (hts _ q90) (hts _ q367) (hts _ q368) rfl (by decide +kernel) ⟨(Nat.le_of_ble_eq_true rfl), (Nat.le_of_ble_eq_true rfl)⟩) (r_pre hK hA hZ hR hRD hS) rfl rfl hl.1 rfl (lv_room (Nat.le_of_ble_eq_true rfl)) dX0_newRow_46 ⟨(Nat.le_of_ble_eq_true rfl), (Nat.le_of_ble_eq_true rfl)⟩) hA hR hRD hS (fun ex H locs hk hR hRD hS => ?_)
      obtain ⟨a9, rfl⟩ := hk
      obtain ⟨δ11, σ12, hP, hO, hD, hN13⟩ := mkB (Or.inr (Or.inl ⟨rfl, rfl⟩)) hR hRD hP.2 hO
      replace hE := hE.tr hN13.1.1
      replace hwp := hwp q10 δ11 σ12 hN13
      refine W.widen (k := 2) (n := 161) (Nat.le_of_ble_eq_true rfl) (Nat.le_of_ble_eq_true rfl) ?_
      refine vx_ret ?_
      exact x_aret hx hb hr (Or.inl ⟨_, rfl⟩) hlk hP hO hD hS ⟨⟨hwp, hE⟩, hN13.2.2.1, (by rw [hN13.2.2.2.1]; decide)⟩ dX0_newRow_49
    | 2, _, ej =>
      have ej : x0 = 2 := ej
      replace hwp := hwp.2.2.2.1 ej
      refine lv_tableIn (off := 49) (tgt := 50) hx hb dX0_newRow_1 (by rw [ej]; decide) (by rw [ej]; decide) (by rw [ej]; rfl) (by decide) ?_
      refine va_new (D := Γ.1) (ci := 14) (fs := [.null]) (C := RX9) (T := TX9) (N := 1) hx hb hts in_X9 tyX9 tyX9_ok hown (hts _ q376) (hts _ q377) (hts _ q91) hK.1 hP.1 (hD.va (fun _ => rfl)) hS hA rfl (fun j hj => by rcases (show j = 0 by omega) with rfl <;> rfl) (Nat.le_of_ble_eq_true rfl) (Nat.le_of_ble_eq_true rfl) dX0_newRow_50 (fun q14 H hR hRD hS => ?_)
      replace hR := rotP hR
      replace hRD := rotD hRD
      replace hP : XH Γ δ σ H := ⟨tailP (ex := [_]) hR, hP.2⟩
      refine lv_dup hx hb dX0_newRow_53 rfl ?_
      refine lv_iload_n hx hb dX0_newRow_54 rfl (lv_at hl 1 rfl) ?_
      obtain ⟨hn9, hl9, hwp⟩ := hwp
      refine r_go (X := δ.1.map (gX Γ δ σ)) (va_runI (As := [.int x1]) (rest := [.ref q14]) ⟨hx, hb, hml, hown, hts⟩ (ct_In hn9 rfl hl9 H.size) (cwI 1 hts (lw_meth q380) rfl rfl rfl (hts _ q91) (hts _ q378) (hts _ q379) rfl (by decide +kernel) ⟨(Nat.le_of_ble_eq_true rfl), (Nat.le_of_ble_eq_true rfl)⟩) (r_pre hK hA hZ hR hRD hS) rfl rfl hl.1 rfl (lv_room (Nat.le_of_ble_eq_true rfl)) dX0_newRow_55 ⟨(Nat.le_of_ble_eq_true rfl), (Nat.le_of_ble_eq_true rfl)⟩) hA hR hRD hS (fun ex H locs hk hR hRD hS => ?_)
      obtain ⟨a9, rfl⟩ := hk
      obtain ⟨δ15, σ16, hP, hO, hD, hN17⟩ := mkB (Or.inr (Or.inr ⟨rfl, rfl⟩)) hR hRD hP.2 hO
      replace hE := hE.tr hN17.1.1
      replace hwp := hwp q14 δ15 σ16 hN17
      refine W.widen (k := 2) (n := 161) (Nat.le_of_ble_eq_true rfl) (Nat.le_of_ble_eq_true rfl) ?_
      refine vx_ret ?_
      exact x_aret hx hb hr (Or.inl ⟨_, rfl⟩) hlk hP hO hD hS ⟨⟨hwp, hE⟩, hN17.2.2.1, (by rw [hN17.2.2.2.1]; decide)⟩ dX0_newRow_58
    | 3, _, ej =>
      have ej : x0 = 3 := ej
      replace hwp := hwp.2.2.2.2 ej
      refine lv_tableIn (off := 58) (tgt := 59) hx hb dX0_newRow_1 (by rw [ej]; decide) (by rw [ej]; decide) (by rw [ej]; rfl) (by decide) ?_
      refine va_new (D := Γ.1) (ci := 15) (fs := [.null]) (C := RX10) (T := TX10) (N := 1) hx hb hts in_X10 tyX10 tyX10_ok hown (hts _ q386) (hts _ q387) (hts _ q92) hK.1 hP.1 (hD.va (fun _ => rfl)) hS hA rfl (fun j hj => by rcases (show j = 0 by omega) with rfl <;> rfl) (Nat.le_of_ble_eq_true rfl) (Nat.le_of_ble_eq_true rfl) dX0_newRow_59 (fun q18 H hR hRD hS => ?_)
      replace hR := rotP hR
      replace hRD := rotD hRD
      replace hP : XH Γ δ σ H := ⟨tailP (ex := [_]) hR, hP.2⟩
      refine lv_dup hx hb dX0_newRow_62 rfl ?_
      refine lv_iload_n hx hb dX0_newRow_63 rfl (lv_at hl 1 rfl) ?_
      obtain ⟨hn9, hl9, hwp⟩ := hwp
      refine r_go (X := δ.1.map (gX Γ δ σ)) (va_runI (As := [.int x1]) (rest := [.ref q18]) ⟨hx, hb, hml, hown, hts⟩ (ct_Lo hn9 rfl hl9 H.size) (cwI 1 hts (lw_meth q390) rfl rfl rfl (hts _ q92) (hts _ q388) (hts _ q389) rfl (by decide +kernel) ⟨(Nat.le_of_ble_eq_true rfl), (Nat.le_of_ble_eq_true rfl)⟩) (r_pre hK hA hZ hR hRD hS) rfl rfl hl.1 rfl (lv_room (Nat.le_of_ble_eq_true rfl)) dX0_newRow_64 ⟨(Nat.le_of_ble_eq_true rfl), (Nat.le_of_ble_eq_true rfl)⟩) hA hR hRD hS (fun ex H locs hk hR hRD hS => ?_)
      obtain ⟨a9, rfl⟩ := hk
      obtain ⟨δ19, σ20, hP, hO, hD, hN21⟩ := mkBl hR hRD hP.2 hO
      replace hE := hE.tr hN21.1.1
      replace hwp := hwp q18 δ19 σ20 hN21
      refine W.widen (k := 2) (n := 161) (Nat.le_of_ble_eq_true rfl) (Nat.le_of_ble_eq_true rfl) ?_
      refine vx_ret ?_
      exact x_aret hx hb hr (Or.inl ⟨_, rfl⟩) hlk hP hO hD hS ⟨⟨hwp, hE⟩, hN21.2.2.1, (by rw [hN21.2.2.2.1]; decide)⟩ dX0_newRow_67
    | j + 4, hj, _ => exact absurd hj (by omega)
set_option maxHeartbeats 4000000 in
set_option maxRecDepth 100000 in
theorem xt_S_newRow {l : Launch} (hst : l.stackTraces = false) {Γ : GA} {δ0 : XSh} {σ : XSt} {K : Nat → XSh → XSt → Prop} {X : Nat → XSh → XSt → Prop} {x0 : Int32} {x1 : Int32} (hwp : xw_S_newRow K X x0 x1 δ0 σ) : yR l yX0_newRow (wsW_ yX0_newRow cX0_newRow 3 (some (.object "SeenByOne$Row")) [(0, 40, 78, 134), (41, 49, 78, 134), (50, 58, 78, 134), (59, 67, 78, 134), (68, 78, 78, 134)]) ({ frames := 4, cells := 2, slots := 161, locals := 129 } : Room) 2 161 Γ δ0 [.int x0, .int x1] σ (fun r u => (K r u.1 u.2 ∧ Ext δ0 u.1) ∧ (7, r) ∈ u.1.1 ∧ 12 ≤ u.1.2.2.1 r) (fun E q u => (E = RX5 ∧ (13, q) ∈ u.1.1) ∧ X q u.1 u.2 ∧ Ext δ0 u.1) := by
  intro sz
  refine yW_of (by decide) [(0, .int x0), (1, .int x1)] (fun _ h => h) (Nat.le_of_ble_eq_true rfl) ?_
  intro p e s m args below meth c hsz Xc
  subst hsz
  exact xk_S_newRow_e hst Xc δ0 σ Ext.rf hwp
/-! Sh_row -/
def xw_Sh_row (K : Nat → XSh → XSt → Prop) (X : Nat → XSh → XSt → Prop) (i0 : Nat) (δ : XSh) (σ : XSt) : Prop :=
  (σ.2.2 5 i0 0 = none → (xw_S_need (fun δ2 σ3 => False) (fun q8 δ5 σ6 => X q8 δ5 σ6) 0 (-3) δ σ)) ∧ (∀ o1, σ.2.2 5 i0 0 = some o1 → (((δ.2.2.1 o1 ∈ [12, 13, 14, 15]) → (xw_S_need (fun δ11 σ12 => K o1 δ11 σ12) (fun q19 δ16 σ17 => X q19 δ16 σ17) 1 (-3) δ σ)) ∧ ((¬ δ.2.2.1 o1 ∈ [12, 13, 14, 15]) → (∀ q : Nat, (∀ q22 δ23 σ24, NewRe (-2) δ σ q22 δ23 σ24 → (X q22 δ23 σ24))))))
set_option maxHeartbeats 4000000 in
set_option maxRecDepth 100000 in
theorem xk_Sh_row_e {p : Program} {l : Launch} {e : Env} {s : State} {m : MethodId} {args : Array Value} {below : List Frame} {meth : Method} {c : Code} {Γ : GA} {δ0 : XSh} {K : Nat → XSh → XSt → Prop} {X : Nat → XSh → XSt → Prop} {i0 : Nat} (hst : l.stackTraces = false) (Xc : CY p s m args meth c cX3_row 2 (some (.object "SeenByOne$Row")) RX3 Γ δ0 (tableOf [(0, 23, 24, 21)])) (h0 : (5, i0) ∈ δ0.1) : ∀ (δ : XSh) (σ : XSt), Ext δ0 δ → xw_Sh_row K X i0  δ σ → TX p l e ({ frames := 9, cells := 4, slots := 917, locals := 10300 } : Room) s m args below meth c 2 0 0 (VR below (fun r u => (K r u.1 u.2 ∧ Ext δ0 u.1) ∧ (7, r) ∈ u.1.1 ∧ 12 ≤ u.1.2.2.1 r) (fun E q u => (E = RX5 ∧ (13, q) ∈ u.1.1) ∧ X q u.1 u.2 ∧ Ext δ0 u.1) 4 917 Γ δ0 s args) Γ δ0 δ σ 0 [(0, .ref i0)] [] := by
  obtain ⟨⟨hx, hb, hml, hown, hts, hK, hr, hlk⟩, hZ, htb⟩ := id Xc
  have hA : ∀ q, s.heap.size ≤ q → AX δ0 s.heap.size q := fun q h => Or.inr h
  intro δ σ hE hwp H locs ls hP hO hD hS hl
  unfold xw_Sh_row at hwp
  refine lv_aload_n hx hb dX3_row_0 rfl (lv_at hl 0 rfl) ?_
  rcases o_cases (σ.2.2 5 i0 0) with eo1 | ⟨o1, eo1⟩
  · replace hwp := hwp.1 eo1
    refine x_getN hx hb hts hown hK hP 5 i0 (hE.m h0) rfl rfl in_X3 0 (by decide) q191 rfl rfl eo1 dX3_row_1 ?_
    refine lv_castN hx hb dX3_row_4 ?_
    refine lv_astore_nN (lv' := [(1, .null), (0, .ref i0)]) hx hb dX3_row_7 rfl hl (by decide) rfl (fun ls hl => ?_)
    refine lv_aload_nN hx hb dX3_row_8 rfl (lv_at hl 0 rfl) ?_
    refine lv_ifnullN (tgt := 16) hx hb dX3_row_9 (by decide) ?_
    refine lv_iconst (v := 0) hx hb dX3_row_16 (by decide) ?_
    refine lv_bipush (v := (-3)) hx hb dX3_row_17 (by decide) ?_
    refine y_gov (vx_runS (As := [.int 0, .int (-3)]) (rest := []) ⟨hx, hb, hml, hown, hts⟩ (xt_S_need hst hwp H.size) (va_cwS 2 hts (lw_S q424 q329 q75 q330) rfl rfl rfl (by decide +kernel) ⟨(Nat.le_of_ble_eq_true rfl), (Nat.le_of_ble_eq_true rfl)⟩) (y_preS hK hO hD hA hZ hP hS) rfl rfl hl.1 rfl (lv_room (Nat.le_of_ble_eq_true rfl)) dX3_row_19 ⟨(Nat.le_of_ble_eq_true rfl), (Nat.le_of_ble_eq_true rfl)⟩) hD hA hS (fun E ce q8 u H locs hk hP hO hD hS k1 k2 k3 => ?_) (fun u H locs hk hP hO hD hS => ?_)
    · obtain ⟨δ5, σ6⟩ := u
      obtain ⟨⟨rfl, hq8⟩, hwp, hF7⟩ := hk
      dsimp only at hP hO hD hwp hF7 hq8
      replace hE := hE.tr hF7
      exact y_out hown hlk (by rw [htb]; exact (fun z hz => by simp only [tableOf, List.map_cons, List.map_nil, List.mem_cons, List.not_mem_nil, or_false] at hz; rcases hz with rfl <;> first | exact Or.inr ⟨by decide, _, hts _ q409, hK.2.2.2.2.1 (RX5, "java/lang/ClassCastException") (by simp [ncL])⟩)) hP hO hD hS k1 k2 k3 ⟨⟨rfl, hq8⟩, hwp, hE⟩ (Nat.le_of_ble_eq_true rfl) (Nat.le_of_ble_eq_true rfl)
    · exact hk.1.elim
  · replace hwp := hwp.2 o1 eo1
    refine x_getr hx hb hts hown hK hP 5 i0 (hE.m h0) rfl rfl in_X3 0 (by decide) q191 rfl rfl eo1 dX3_row_1 (fun ho1 co1 => ?_)
    by_cases c9 : δ.2.2.1 o1 ∈ [12, 13, 14, 15]
    · replace hwp := hwp.1 c9
      refine x_castOK hx hb hown hK hO hP cs_Row (hts _ q423) o1 ho1 c9 dX3_row_4 ?_
      refine lv_astore_n (lv' := [(1, .ref o1), (0, .ref i0)]) hx hb dX3_row_7 rfl hl (by decide) rfl (fun ls hl => ?_)
      refine lv_aload_n hx hb dX3_row_8 rfl (lv_at hl 0 rfl) ?_
      refine lv_ifnull hx hb dX3_row_9 ?_
      refine lv_iconst (v := 1) hx hb dX3_row_12 (by decide) ?_
      refine lv_goto (tgt := 17) hx hb dX3_row_13 (by decide) ?_
      refine lv_bipush (v := (-3)) hx hb dX3_row_17 (by decide) ?_
      have cp10 := (ge_in c9)
      refine y_gov (vx_runS (As := [.int 1, .int (-3)]) (rest := []) ⟨hx, hb, hml, hown, hts⟩ (xt_S_need hst hwp H.size) (va_cwS 2 hts (lw_S q424 q329 q75 q330) rfl rfl rfl (by decide +kernel) ⟨(Nat.le_of_ble_eq_true rfl), (Nat.le_of_ble_eq_true rfl)⟩) (y_preS hK hO hD hA hZ hP hS) rfl rfl hl.1 rfl (lv_room (Nat.le_of_ble_eq_true rfl)) dX3_row_19 ⟨(Nat.le_of_ble_eq_true rfl), (Nat.le_of_ble_eq_true rfl)⟩) hD hA hS (fun E ce q19 u H locs hk hP hO hD hS k1 k2 k3 => ?_) (fun u H locs hk hP hO hD hS => ?_)
      · obtain ⟨δ16, σ17⟩ := u
        obtain ⟨⟨rfl, hq19⟩, hwp, hF18⟩ := hk
        dsimp only at hP hO hD hwp hF18 hq19
        have hh20 := hF18.m ho1
        have cc21 := Ext.cl hF18 ho1 cp10
        replace hE := hE.tr hF18
        exact y_out hown hlk (by rw [htb]; exact (fun z hz => by simp only [tableOf, List.map_cons, List.map_nil, List.mem_cons, List.not_mem_nil, or_false] at hz; rcases hz with rfl <;> first | exact Or.inr ⟨by decide, _, hts _ q409, hK.2.2.2.2.1 (RX5, "java/lang/ClassCastException") (by simp [ncL])⟩)) hP hO hD hS k1 k2 k3 ⟨⟨rfl, hq19⟩, hwp, hE⟩ (Nat.le_of_ble_eq_true rfl) (Nat.le_of_ble_eq_true rfl)
      · obtain ⟨δ11, σ12⟩ := u
        obtain ⟨hwp, hF13⟩ := hk
        dsimp only at hP hO hD hwp hF13
        have hh14 := hF13.m ho1
        have cc15 := Ext.cl hF13 ho1 cp10
        replace hE := hE.tr hF13
        refine lv_aload_n hx hb dX3_row_22 rfl (lv_at hl 0 rfl) ?_
        refine W.widen (k := 4) (n := 917) (Nat.le_of_ble_eq_true rfl) (Nat.le_of_ble_eq_true rfl) ?_
        refine vx_ret ?_
        exact x_aret hx hb hr (Or.inl ⟨_, rfl⟩) hlk hP hO hD hS ⟨⟨hwp, hE⟩, hh14, cc15⟩ dX3_row_23
    · replace hwp := hwp.2 c9
      refine x_castBad hx hb hown hK hO hP cs_Row (by decide +kernel) (hts _ q423) o1 ho1 c9 dX3_row_4 (fun tx m1 m2 => ?_)
      refine y_vmCC hx hst hts hK hZ hP hS (hl.1.trans hml.symm) hlk m1 m2 ⟨(Nat.le_of_ble_eq_true rfl), (Nat.le_of_ble_eq_true rfl), (Nat.le_of_ble_eq_true rfl), (Nat.le_of_ble_eq_true rfl)⟩ (fun H q ce hP hS k1 k2 k3 => ?_)
      replace hwp := hwp q
      refine vx_catch (E := "java/lang/ClassCastException") (name := "java/lang/ClassCastException") hown [] ⟨0, 23, 24, 21⟩ [] (htb.trans rfl) (fun z hz => nomatch hz) rfl (by decide) (hts _ q409) ((hK.2.1 (.castable "java/lang/ClassCastException" "java/lang/ClassCastException") (by simp [nwL])).use rfl) k1 k2 k3 ?_
      refine W.eq (g2 := F0 m 24 ls [.ref q]) rfl ?_
      refine lv_astore_n (lv' := [(1, .ref q), (0, .ref i0)]) hx hb dX3_row_24 rfl hl (by decide) rfl (fun ls hl => ?_)
      refine va_new (D := Γ.1) (ci := 17) (fs := [.null, .null, .null, .null, .null, .int 0, .int 0]) (C := RX5) (T := TX5) (N := 7) hx hb hts in_X5 tyX5 tyX5_ok hown (hts _ q425) (hts _ q305) (hts _ q86) hK.1 hP.1 (hD.va (fun _ => rfl)) hS hA rfl (fun j hj => by rcases (show j = 0 ∨ j = 1 ∨ j = 2 ∨ j = 3 ∨ j = 4 ∨ j = 5 ∨ j = 6 by omega) with rfl | rfl | rfl | rfl | rfl | rfl | rfl <;> rfl) (Nat.le_of_ble_eq_true rfl) (Nat.le_of_ble_eq_true rfl) dX3_row_25 (fun q22 H hR hRD hS => ?_)
      replace hR := rotP hR
      replace hRD := rotD hRD
      replace hP : XH Γ δ σ H := ⟨tailP (ex := [_]) hR, hP.2⟩
      refine lv_dup hx hb dX3_row_28 rfl ?_
      refine lv_bipush (v := (-2)) hx hb dX3_row_29 (by decide) ?_
      refine r_go (X := δ.1.map (gX Γ δ σ)) (va_runI (As := [.int (-2)]) (rest := [.ref q22]) ⟨hx, hb, hml, hown, hts⟩ (ct_Re H.size) (cwI 1 hts (lw_meth q315) rfl rfl rfl (hts _ q86) (hts _ q426) (hts _ q314) rfl (by decide +kernel) ⟨(Nat.le_of_ble_eq_true rfl), (Nat.le_of_ble_eq_true rfl)⟩) (r_pre hK hA hZ hR hRD hS) rfl rfl hl.1 rfl (lv_room (Nat.le_of_ble_eq_true rfl)) dX3_row_31 ⟨(Nat.le_of_ble_eq_true rfl), (Nat.le_of_ble_eq_true rfl)⟩) hA hR hRD hS (fun ex H locs hk hR hRD hS => ?_)
      subst hk
      obtain ⟨δ23, σ24, hP, hO, hD, hN25⟩ := mkRe hR hRD hP.2 hO
      replace hE := hE.tr hN25.1.1
      replace hwp := hwp q22 δ23 σ24 hN25
      obtain ⟨ce, k1, k2, k3⟩ := x_cell hK hP 13 q22 hN25.2.2.1 rfl (q := (RX5, TX5, 7)) rfl
      refine vx_athrow hx hb dX3_row_34 ?_
      exact y_out hown hlk (by rw [htb]; exact (fun z hz => by simp only [tableOf, List.map_cons, List.map_nil, List.mem_cons, List.not_mem_nil, or_false] at hz; rcases hz with rfl <;> first | exact Or.inl rfl)) hP hO hD hS k1 k2 k3 ⟨⟨rfl, hN25.2.2.1⟩, hwp, hE⟩ (Nat.le_of_ble_eq_true rfl) (Nat.le_of_ble_eq_true rfl)
set_option maxHeartbeats 4000000 in
set_option maxRecDepth 100000 in
theorem xt_Sh_row {l : Launch} (hst : l.stackTraces = false) {Γ : GA} {δ0 : XSh} {σ : XSt} {K : Nat → XSh → XSt → Prop} {X : Nat → XSh → XSt → Prop} {i0 : Nat} (h0 : (5, i0) ∈ δ0.1) (hwp : xw_Sh_row K X i0  δ0 σ) : yR l yX3_row (wsW_ yX3_row cX3_row 2 (some (.object "SeenByOne$Row")) [(0, 23, 24, 21)]) ({ frames := 9, cells := 4, slots := 917, locals := 10300 } : Room) 4 917 Γ δ0 [.ref i0] σ (fun r u => (K r u.1 u.2 ∧ Ext δ0 u.1) ∧ (7, r) ∈ u.1.1 ∧ 12 ≤ u.1.2.2.1 r) (fun E q u => (E = RX5 ∧ (13, q) ∈ u.1.1) ∧ X q u.1 u.2 ∧ Ext δ0 u.1) := by
  intro sz
  refine yW_of (by decide) [(0, .ref i0)] (fun _ h => h) (Nat.le_of_ble_eq_true rfl) ?_
  intro p e s m args below meth c hsz Xc
  subst hsz
  exact xk_Sh_row_e hst Xc h0 δ0 σ Ext.rf hwp
/-! Sh_says -/
def xw_Sh_says_286 (K : Int32 → XSh → XSt → Prop) (X : Nat → XSh → XSt → Prop) (i0 : Nat) (i2 : Nat) (x3 : Int32) (t0 : Int32) (δ : XSh) (σ : XSt) : Prop :=
  xw_S_need (fun δ1 σ2 => K x3 δ1 σ2) (fun q7 δ4 σ5 => X q7 δ4 σ5) t0 (-3) δ σ
set_option maxHeartbeats 4000000 in
set_option maxRecDepth 100000 in
theorem xk_Sh_says_286 {p : Program} {l : Launch} {e : Env} {s : State} {m : MethodId} {args : Array Value} {below : List Frame} {meth : Method} {c : Code} {Γ : GA} {δ0 : XSh} {K : Int32 → XSh → XSt → Prop} {X : Nat → XSh → XSt → Prop} {i0 : Nat} {i2 : Nat} (hst : l.stackTraces = false) (Xc : CY p s m args meth c cX3_says 4 (some .int) RX3 Γ δ0 (tableOf [(0, 292, 293, 21)])) (h0 : (5, i0) ∈ δ0.1) (h2 : (6, i2) ∈ δ0.1) : ∀ (x3 : Int32) (t0 : Int32) (δ : XSh) (σ : XSt), Ext δ0 δ → xw_Sh_says_286 K X i0 i2 x3 t0 δ σ → TX p l e ({ frames := 24, cells := 4, slots := 917, locals := 10300 } : Room) s m args below meth c 4 0 0 (VI below (fun r u => K r u.1 u.2 ∧ Ext δ0 u.1) (fun E q u => (E = RX5 ∧ (13, q) ∈ u.1.1) ∧ X q u.1 u.2 ∧ Ext δ0 u.1) 4 917 Γ δ0 s args) Γ δ0 δ σ 286 [(3, .int x3)] [.int t0] := by
  obtain ⟨⟨hx, hb, hml, hown, hts, hK, hr, hlk⟩, hZ, htb⟩ := id Xc
  have hA : ∀ q, s.heap.size ≤ q → AX δ0 s.heap.size q := fun q h => Or.inr h
  intro x3 t0 δ σ hE hwp H locs ls hP hO hD hS hl
  unfold xw_Sh_says_286 at hwp
  refine lv_bipush (v := (-3)) hx hb dX3_says_286 (by decide) ?_
  refine y_gov (vx_runS (As := [.int t0, .int (-3)]) (rest := []) ⟨hx, hb, hml, hown, hts⟩ (xt_S_need hst hwp H.size) (va_cwS 2 hts (lw_S q424 q329 q75 q330) rfl rfl rfl (by decide +kernel) ⟨(Nat.le_of_ble_eq_true rfl), (Nat.le_of_ble_eq_true rfl)⟩) (y_preS hK hO hD hA hZ hP hS) rfl rfl hl.1 rfl (lv_room (Nat.le_of_ble_eq_true rfl)) dX3_says_288 ⟨(Nat.le_of_ble_eq_true rfl), (Nat.le_of_ble_eq_true rfl)⟩) hD hA hS (fun E ce q7 u H locs hk hP hO hD hS k1 k2 k3 => ?_) (fun u H locs hk hP hO hD hS => ?_)
  · obtain ⟨δ4, σ5⟩ := u
    obtain ⟨⟨rfl, hq7⟩, hwp, hF6⟩ := hk
    dsimp only at hP hO hD hwp hF6 hq7
    replace hE := hE.tr hF6
    exact y_out hown hlk (by rw [htb]; exact (fun z hz => by simp only [tableOf, List.map_cons, List.map_nil, List.mem_cons, List.not_mem_nil, or_false] at hz; rcases hz with rfl <;> first | exact Or.inr ⟨by decide, _, hts _ q409, hK.2.2.2.2.1 (RX5, "java/lang/ClassCastException") (by simp [ncL])⟩)) hP hO hD hS k1 k2 k3 ⟨⟨rfl, hq7⟩, hwp, hE⟩ (Nat.le_of_ble_eq_true rfl) (Nat.le_of_ble_eq_true rfl)
  · obtain ⟨δ1, σ2⟩ := u
    obtain ⟨hwp, hF3⟩ := hk
    dsimp only at hP hO hD hwp hF3
    replace hE := hE.tr hF3
    refine lv_iload_n hx hb dX3_says_291 rfl (lv_at hl 0 rfl) ?_
    refine W.widen (k := 4) (n := 917) (Nat.le_of_ble_eq_true rfl) (Nat.le_of_ble_eq_true rfl) ?_
    refine vx_ret ?_
    exact x_iret hx hb hr hlk hP hO hD hS ⟨hwp, hE⟩ dX3_says_292
def xw_Sh_says_274 (K : Int32 → XSh → XSt → Prop) (X : Nat → XSh → XSt → Prop) (i0 : Nat) (i2 : Nat) (x3 : Int32) (δ : XSh) (σ : XSt) : Prop :=
  (σ.2.2 5 i0 0 = none → (xw_Sh_says_286 K X i0 i2 x3 0 δ σ)) ∧ (∀ o1, σ.2.2 5 i0 0 = some o1 → (xw_Sh_says_286 K X i0 i2 x3 1 δ σ))
set_option maxHeartbeats 4000000 in
set_option maxRecDepth 100000 in
theorem xk_Sh_says_274 {p : Program} {l : Launch} {e : Env} {s : State} {m : MethodId} {args : Array Value} {below : List Frame} {meth : Method} {c : Code} {Γ : GA} {δ0 : XSh} {K : Int32 → XSh → XSt → Prop} {X : Nat → XSh → XSt → Prop} {i0 : Nat} {i2 : Nat} (hst : l.stackTraces = false) (Xc : CY p s m args meth c cX3_says 4 (some .int) RX3 Γ δ0 (tableOf [(0, 292, 293, 21)])) (h0 : (5, i0) ∈ δ0.1) (h2 : (6, i2) ∈ δ0.1) : ∀ (x3 : Int32) (δ : XSh) (σ : XSt), Ext δ0 δ → xw_Sh_says_274 K X i0 i2 x3 δ σ → TX p l e ({ frames := 24, cells := 4, slots := 917, locals := 10300 } : Room) s m args below meth c 4 0 0 (VI below (fun r u => K r u.1 u.2 ∧ Ext δ0 u.1) (fun E q u => (E = RX5 ∧ (13, q) ∈ u.1.1) ∧ X q u.1 u.2 ∧ Ext δ0 u.1) 4 917 Γ δ0 s args) Γ δ0 δ σ 274 [(0, .ref i0), (3, .int x3)] [] := by
  obtain ⟨⟨hx, hb, hml, hown, hts, hK, hr, hlk⟩, hZ, htb⟩ := id Xc
  have hA : ∀ q, s.heap.size ≤ q → AX δ0 s.heap.size q := fun q h => Or.inr h
  intro x3 δ σ hE hwp H locs ls hP hO hD hS hl
  unfold xw_Sh_says_274 at hwp
  refine lv_aload_n hx hb dX3_says_274 rfl (lv_at hl 0 rfl) ?_
  rcases o_cases (σ.2.2 5 i0 0) with eo1 | ⟨o1, eo1⟩
  · replace hwp := hwp.1 eo1
    refine x_getN hx hb hts hown hK hP 5 i0 (hE.m h0) rfl rfl in_X3 0 (by decide) q191 rfl rfl eo1 dX3_says_275 ?_
    refine lv_ifnullN (tgt := 285) hx hb dX3_says_278 (by decide) ?_
    refine lv_iconst (v := 0) hx hb dX3_says_285 (by decide) ?_
    refine W.widen (k := 0) (n := 0) (Nat.le_of_ble_eq_true rfl) (Nat.le_of_ble_eq_true rfl) ?_
    exact xk_Sh_says_286 hst Xc h0 h2 _ _ δ σ hE hwp H locs ls hP hO hD hS (lv_sub hl [1] rfl)
  · replace hwp := hwp.2 o1 eo1
    refine x_getr hx hb hts hown hK hP 5 i0 (hE.m h0) rfl rfl in_X3 0 (by decide) q191 rfl rfl eo1 dX3_says_275 (fun ho1 co1 => ?_)
    refine lv_ifnull hx hb dX3_says_278 ?_
    refine lv_iconst (v := 1) hx hb dX3_says_281 (by decide) ?_
    refine lv_goto (tgt := 286) hx hb dX3_says_282 (by decide) ?_
    refine W.widen (k := 0) (n := 0) (Nat.le_of_ble_eq_true rfl) (Nat.le_of_ble_eq_true rfl) ?_
    exact xk_Sh_says_286 hst Xc h0 h2 _ _ δ σ hE hwp H locs ls hP hO hD hS (lv_sub hl [1] rfl)
def xw_Sh_says_68 (K : Int32 → XSh → XSt → Prop) (X : Nat → XSh → XSt → Prop) (i0 : Nat) (i2 : Nat) (t0 : Int32) (δ : XSh) (σ : XSt) : Prop :=
  xw_Sh_says_274 K X i0 i2 t0 δ σ
set_option maxHeartbeats 4000000 in
set_option maxRecDepth 100000 in
theorem xk_Sh_says_68 {p : Program} {l : Launch} {e : Env} {s : State} {m : MethodId} {args : Array Value} {below : List Frame} {meth : Method} {c : Code} {Γ : GA} {δ0 : XSh} {K : Int32 → XSh → XSt → Prop} {X : Nat → XSh → XSt → Prop} {i0 : Nat} {i2 : Nat} (hst : l.stackTraces = false) (Xc : CY p s m args meth c cX3_says 4 (some .int) RX3 Γ δ0 (tableOf [(0, 292, 293, 21)])) (h0 : (5, i0) ∈ δ0.1) (h2 : (6, i2) ∈ δ0.1) : ∀ (t0 : Int32) (δ : XSh) (σ : XSt), Ext δ0 δ → xw_Sh_says_68 K X i0 i2 t0 δ σ → TX p l e ({ frames := 24, cells := 4, slots := 917, locals := 10300 } : Room) s m args below meth c 4 0 0 (VI below (fun r u => K r u.1 u.2 ∧ Ext δ0 u.1) (fun E q u => (E = RX5 ∧ (13, q) ∈ u.1.1) ∧ X q u.1 u.2 ∧ Ext δ0 u.1) 4 917 Γ δ0 s args) Γ δ0 δ σ 68 [(0, .ref i0)] [.int t0] := by
  obtain ⟨⟨hx, hb, hml, hown, hts, hK, hr, hlk⟩, hZ, htb⟩ := id Xc
  have hA : ∀ q, s.heap.size ≤ q → AX δ0 s.heap.size q := fun q h => Or.inr h
  intro t0 δ σ hE hwp H locs ls hP hO hD hS hl
  unfold xw_Sh_says_68 at hwp
  refine lv_istore_n (lv' := [(3, .int t0), (0, .ref i0)]) hx hb dX3_says_68 rfl hl (by decide) rfl (fun ls hl => ?_)
  refine lv_goto (tgt := 274) hx hb dX3_says_69 (by decide) ?_
  refine W.widen (k := 0) (n := 0) (Nat.le_of_ble_eq_true rfl) (Nat.le_of_ble_eq_true rfl) ?_
  exact xk_Sh_says_274 hst Xc h0 h2 _ δ σ hE hwp H locs ls hP hO hD hS (lv_sub hl [1, 0] rfl)
def xw_Sh_says_117 (K : Int32 → XSh → XSt → Prop) (X : Nat → XSh → XSt → Prop) (i0 : Nat) (i2 : Nat) (t0 : Int32) (δ : XSh) (σ : XSt) : Prop :=
  xw_Sh_says_274 K X i0 i2 t0 δ σ
set_option maxHeartbeats 4000000 in
set_option maxRecDepth 100000 in
theorem xk_Sh_says_117 {p : Program} {l : Launch} {e : Env} {s : State} {m : MethodId} {args : Array Value} {below : List Frame} {meth : Method} {c : Code} {Γ : GA} {δ0 : XSh} {K : Int32 → XSh → XSt → Prop} {X : Nat → XSh → XSt → Prop} {i0 : Nat} {i2 : Nat} (hst : l.stackTraces = false) (Xc : CY p s m args meth c cX3_says 4 (some .int) RX3 Γ δ0 (tableOf [(0, 292, 293, 21)])) (h0 : (5, i0) ∈ δ0.1) (h2 : (6, i2) ∈ δ0.1) : ∀ (t0 : Int32) (δ : XSh) (σ : XSt), Ext δ0 δ → xw_Sh_says_117 K X i0 i2 t0 δ σ → TX p l e ({ frames := 24, cells := 4, slots := 917, locals := 10300 } : Room) s m args below meth c 4 0 0 (VI below (fun r u => K r u.1 u.2 ∧ Ext δ0 u.1) (fun E q u => (E = RX5 ∧ (13, q) ∈ u.1.1) ∧ X q u.1 u.2 ∧ Ext δ0 u.1) 4 917 Γ δ0 s args) Γ δ0 δ σ 117 [(0, .ref i0)] [.int t0] := by
  obtain ⟨⟨hx, hb, hml, hown, hts, hK, hr, hlk⟩, hZ, htb⟩ := id Xc
  have hA : ∀ q, s.heap.size ≤ q → AX δ0 s.heap.size q := fun q h => Or.inr h
  intro t0 δ σ hE hwp H locs ls hP hO hD hS hl
  unfold xw_Sh_says_117 at hwp
  refine lv_istore_n (lv' := [(3, .int t0), (0, .ref i0)]) hx hb dX3_says_117 rfl hl (by decide) rfl (fun ls hl => ?_)
  refine lv_goto (tgt := 274) hx hb dX3_says_118 (by decide) ?_
  refine W.widen (k := 0) (n := 0) (Nat.le_of_ble_eq_true rfl) (Nat.le_of_ble_eq_true rfl) ?_
  exact xk_Sh_says_274 hst Xc h0 h2 _ δ σ hE hwp H locs ls hP hO hD hS (lv_sub hl [1, 0] rfl)
def xw_Sh_says_157 (K : Int32 → XSh → XSt → Prop) (X : Nat → XSh → XSt → Prop) (i0 : Nat) (i2 : Nat) (t0 : Int32) (δ : XSh) (σ : XSt) : Prop :=
  xw_Sh_says_274 K X i0 i2 t0 δ σ
set_option maxHeartbeats 4000000 in
set_option maxRecDepth 100000 in
theorem xk_Sh_says_157 {p : Program} {l : Launch} {e : Env} {s : State} {m : MethodId} {args : Array Value} {below : List Frame} {meth : Method} {c : Code} {Γ : GA} {δ0 : XSh} {K : Int32 → XSh → XSt → Prop} {X : Nat → XSh → XSt → Prop} {i0 : Nat} {i2 : Nat} (hst : l.stackTraces = false) (Xc : CY p s m args meth c cX3_says 4 (some .int) RX3 Γ δ0 (tableOf [(0, 292, 293, 21)])) (h0 : (5, i0) ∈ δ0.1) (h2 : (6, i2) ∈ δ0.1) : ∀ (t0 : Int32) (δ : XSh) (σ : XSt), Ext δ0 δ → xw_Sh_says_157 K X i0 i2 t0 δ σ → TX p l e ({ frames := 24, cells := 4, slots := 917, locals := 10300 } : Room) s m args below meth c 4 0 0 (VI below (fun r u => K r u.1 u.2 ∧ Ext δ0 u.1) (fun E q u => (E = RX5 ∧ (13, q) ∈ u.1.1) ∧ X q u.1 u.2 ∧ Ext δ0 u.1) 4 917 Γ δ0 s args) Γ δ0 δ σ 157 [(0, .ref i0)] [.int t0] := by
  obtain ⟨⟨hx, hb, hml, hown, hts, hK, hr, hlk⟩, hZ, htb⟩ := id Xc
  have hA : ∀ q, s.heap.size ≤ q → AX δ0 s.heap.size q := fun q h => Or.inr h
  intro t0 δ σ hE hwp H locs ls hP hO hD hS hl
  unfold xw_Sh_says_157 at hwp
  refine lv_istore_n (lv' := [(3, .int t0), (0, .ref i0)]) hx hb dX3_says_157 rfl hl (by decide) rfl (fun ls hl => ?_)
  refine lv_goto (tgt := 274) hx hb dX3_says_158 (by decide) ?_
  refine W.widen (k := 0) (n := 0) (Nat.le_of_ble_eq_true rfl) (Nat.le_of_ble_eq_true rfl) ?_
  exact xk_Sh_says_274 hst Xc h0 h2 _ δ σ hE hwp H locs ls hP hO hD hS (lv_sub hl [1, 0] rfl)
def xw_Sh_says_194 (K : Int32 → XSh → XSt → Prop) (X : Nat → XSh → XSt → Prop) (i0 : Nat) (i2 : Nat) (t0 : Int32) (δ : XSh) (σ : XSt) : Prop :=
  xw_Sh_says_274 K X i0 i2 t0 δ σ
set_option maxHeartbeats 4000000 in
set_option maxRecDepth 100000 in
theorem xk_Sh_says_194 {p : Program} {l : Launch} {e : Env} {s : State} {m : MethodId} {args : Array Value} {below : List Frame} {meth : Method} {c : Code} {Γ : GA} {δ0 : XSh} {K : Int32 → XSh → XSt → Prop} {X : Nat → XSh → XSt → Prop} {i0 : Nat} {i2 : Nat} (hst : l.stackTraces = false) (Xc : CY p s m args meth c cX3_says 4 (some .int) RX3 Γ δ0 (tableOf [(0, 292, 293, 21)])) (h0 : (5, i0) ∈ δ0.1) (h2 : (6, i2) ∈ δ0.1) : ∀ (t0 : Int32) (δ : XSh) (σ : XSt), Ext δ0 δ → xw_Sh_says_194 K X i0 i2 t0 δ σ → TX p l e ({ frames := 24, cells := 4, slots := 917, locals := 10300 } : Room) s m args below meth c 4 0 0 (VI below (fun r u => K r u.1 u.2 ∧ Ext δ0 u.1) (fun E q u => (E = RX5 ∧ (13, q) ∈ u.1.1) ∧ X q u.1 u.2 ∧ Ext δ0 u.1) 4 917 Γ δ0 s args) Γ δ0 δ σ 194 [(0, .ref i0)] [.int t0] := by
  obtain ⟨⟨hx, hb, hml, hown, hts, hK, hr, hlk⟩, hZ, htb⟩ := id Xc
  have hA : ∀ q, s.heap.size ≤ q → AX δ0 s.heap.size q := fun q h => Or.inr h
  intro t0 δ σ hE hwp H locs ls hP hO hD hS hl
  unfold xw_Sh_says_194 at hwp
  refine lv_istore_n (lv' := [(3, .int t0), (0, .ref i0)]) hx hb dX3_says_194 rfl hl (by decide) rfl (fun ls hl => ?_)
  refine lv_goto (tgt := 274) hx hb dX3_says_195 (by decide) ?_
  refine W.widen (k := 0) (n := 0) (Nat.le_of_ble_eq_true rfl) (Nat.le_of_ble_eq_true rfl) ?_
  exact xk_Sh_says_274 hst Xc h0 h2 _ δ σ hE hwp H locs ls hP hO hD hS (lv_sub hl [1, 0] rfl)
def xw_Sh_says_219 (K : Int32 → XSh → XSt → Prop) (X : Nat → XSh → XSt → Prop) (i0 : Nat) (i2 : Nat) (t0 : Int32) (δ : XSh) (σ : XSt) : Prop :=
  xw_Sh_says_274 K X i0 i2 t0 δ σ
set_option maxHeartbeats 4000000 in
set_option maxRecDepth 100000 in
theorem xk_Sh_says_219 {p : Program} {l : Launch} {e : Env} {s : State} {m : MethodId} {args : Array Value} {below : List Frame} {meth : Method} {c : Code} {Γ : GA} {δ0 : XSh} {K : Int32 → XSh → XSt → Prop} {X : Nat → XSh → XSt → Prop} {i0 : Nat} {i2 : Nat} (hst : l.stackTraces = false) (Xc : CY p s m args meth c cX3_says 4 (some .int) RX3 Γ δ0 (tableOf [(0, 292, 293, 21)])) (h0 : (5, i0) ∈ δ0.1) (h2 : (6, i2) ∈ δ0.1) : ∀ (t0 : Int32) (δ : XSh) (σ : XSt), Ext δ0 δ → xw_Sh_says_219 K X i0 i2 t0 δ σ → TX p l e ({ frames := 24, cells := 4, slots := 917, locals := 10300 } : Room) s m args below meth c 4 0 0 (VI below (fun r u => K r u.1 u.2 ∧ Ext δ0 u.1) (fun E q u => (E = RX5 ∧ (13, q) ∈ u.1.1) ∧ X q u.1 u.2 ∧ Ext δ0 u.1) 4 917 Γ δ0 s args) Γ δ0 δ σ 219 [(0, .ref i0)] [.int t0] := by
  obtain ⟨⟨hx, hb, hml, hown, hts, hK, hr, hlk⟩, hZ, htb⟩ := id Xc
  have hA : ∀ q, s.heap.size ≤ q → AX δ0 s.heap.size q := fun q h => Or.inr h
  intro t0 δ σ hE hwp H locs ls hP hO hD hS hl
  unfold xw_Sh_says_219 at hwp
  refine lv_istore_n (lv' := [(3, .int t0), (0, .ref i0)]) hx hb dX3_says_219 rfl hl (by decide) rfl (fun ls hl => ?_)
  refine lv_goto (tgt := 274) hx hb dX3_says_220 (by decide) ?_
  refine W.widen (k := 0) (n := 0) (Nat.le_of_ble_eq_true rfl) (Nat.le_of_ble_eq_true rfl) ?_
  exact xk_Sh_says_274 hst Xc h0 h2 _ δ σ hE hwp H locs ls hP hO hD hS (lv_sub hl [1, 0] rfl)
def xw_Sh_says_244 (K : Int32 → XSh → XSt → Prop) (X : Nat → XSh → XSt → Prop) (i0 : Nat) (i2 : Nat) (t0 : Int32) (δ : XSh) (σ : XSt) : Prop :=
  xw_Sh_says_274 K X i0 i2 t0 δ σ
set_option maxHeartbeats 4000000 in
set_option maxRecDepth 100000 in
theorem xk_Sh_says_244 {p : Program} {l : Launch} {e : Env} {s : State} {m : MethodId} {args : Array Value} {below : List Frame} {meth : Method} {c : Code} {Γ : GA} {δ0 : XSh} {K : Int32 → XSh → XSt → Prop} {X : Nat → XSh → XSt → Prop} {i0 : Nat} {i2 : Nat} (hst : l.stackTraces = false) (Xc : CY p s m args meth c cX3_says 4 (some .int) RX3 Γ δ0 (tableOf [(0, 292, 293, 21)])) (h0 : (5, i0) ∈ δ0.1) (h2 : (6, i2) ∈ δ0.1) : ∀ (t0 : Int32) (δ : XSh) (σ : XSt), Ext δ0 δ → xw_Sh_says_244 K X i0 i2 t0 δ σ → TX p l e ({ frames := 24, cells := 4, slots := 917, locals := 10300 } : Room) s m args below meth c 4 0 0 (VI below (fun r u => K r u.1 u.2 ∧ Ext δ0 u.1) (fun E q u => (E = RX5 ∧ (13, q) ∈ u.1.1) ∧ X q u.1 u.2 ∧ Ext δ0 u.1) 4 917 Γ δ0 s args) Γ δ0 δ σ 244 [(0, .ref i0)] [.int t0] := by
  obtain ⟨⟨hx, hb, hml, hown, hts, hK, hr, hlk⟩, hZ, htb⟩ := id Xc
  have hA : ∀ q, s.heap.size ≤ q → AX δ0 s.heap.size q := fun q h => Or.inr h
  intro t0 δ σ hE hwp H locs ls hP hO hD hS hl
  unfold xw_Sh_says_244 at hwp
  refine lv_istore_n (lv' := [(3, .int t0), (0, .ref i0)]) hx hb dX3_says_244 rfl hl (by decide) rfl (fun ls hl => ?_)
  refine lv_goto (tgt := 274) hx hb dX3_says_245 (by decide) ?_
  refine W.widen (k := 0) (n := 0) (Nat.le_of_ble_eq_true rfl) (Nat.le_of_ble_eq_true rfl) ?_
  exact xk_Sh_says_274 hst Xc h0 h2 _ δ σ hE hwp H locs ls hP hO hD hS (lv_sub hl [1, 0] rfl)
def xw_Sh_says_273 (K : Int32 → XSh → XSt → Prop) (X : Nat → XSh → XSt → Prop) (i0 : Nat) (i2 : Nat) (t0 : Int32) (δ : XSh) (σ : XSt) : Prop :=
  xw_Sh_says_274 K X i0 i2 t0 δ σ
set_option maxHeartbeats 4000000 in
set_option maxRecDepth 100000 in
theorem xk_Sh_says_273 {p : Program} {l : Launch} {e : Env} {s : State} {m : MethodId} {args : Array Value} {below : List Frame} {meth : Method} {c : Code} {Γ : GA} {δ0 : XSh} {K : Int32 → XSh → XSt → Prop} {X : Nat → XSh → XSt → Prop} {i0 : Nat} {i2 : Nat} (hst : l.stackTraces = false) (Xc : CY p s m args meth c cX3_says 4 (some .int) RX3 Γ δ0 (tableOf [(0, 292, 293, 21)])) (h0 : (5, i0) ∈ δ0.1) (h2 : (6, i2) ∈ δ0.1) : ∀ (t0 : Int32) (δ : XSh) (σ : XSt), Ext δ0 δ → xw_Sh_says_273 K X i0 i2 t0 δ σ → TX p l e ({ frames := 24, cells := 4, slots := 917, locals := 10300 } : Room) s m args below meth c 4 0 0 (VI below (fun r u => K r u.1 u.2 ∧ Ext δ0 u.1) (fun E q u => (E = RX5 ∧ (13, q) ∈ u.1.1) ∧ X q u.1 u.2 ∧ Ext δ0 u.1) 4 917 Γ δ0 s args) Γ δ0 δ σ 273 [(0, .ref i0)] [.int t0] := by
  obtain ⟨⟨hx, hb, hml, hown, hts, hK, hr, hlk⟩, hZ, htb⟩ := id Xc
  have hA : ∀ q, s.heap.size ≤ q → AX δ0 s.heap.size q := fun q h => Or.inr h
  intro t0 δ σ hE hwp H locs ls hP hO hD hS hl
  unfold xw_Sh_says_273 at hwp
  refine lv_istore_n (lv' := [(3, .int t0), (0, .ref i0)]) hx hb dX3_says_273 rfl hl (by decide) rfl (fun ls hl => ?_)
  refine W.widen (k := 0) (n := 0) (Nat.le_of_ble_eq_true rfl) (Nat.le_of_ble_eq_true rfl) ?_
  exact xk_Sh_says_274 hst Xc h0 h2 _ δ σ hE hwp H locs ls hP hO hD hS (lv_sub hl [1, 0] rfl)
def xw_Sh_says_293 (K : Int32 → XSh → XSt → Prop) (X : Nat → XSh → XSt → Prop) (i0 : Nat) (i2 : Nat) (z0 : Nat) (δ : XSh) (σ : XSt) : Prop :=
  ∀ q1 δ2 σ3, NewRe (-2) δ σ q1 δ2 σ3 → (X q1 δ2 σ3)
set_option maxHeartbeats 4000000 in
set_option maxRecDepth 100000 in
theorem xk_Sh_says_293 {p : Program} {l : Launch} {e : Env} {s : State} {m : MethodId} {args : Array Value} {below : List Frame} {meth : Method} {c : Code} {Γ : GA} {δ0 : XSh} {K : Int32 → XSh → XSt → Prop} {X : Nat → XSh → XSt → Prop} {i0 : Nat} {i2 : Nat} (hst : l.stackTraces = false) (Xc : CY p s m args meth c cX3_says 4 (some .int) RX3 Γ δ0 (tableOf [(0, 292, 293, 21)])) (h0 : (5, i0) ∈ δ0.1) (h2 : (6, i2) ∈ δ0.1) : ∀ (z0 : Nat) (δ : XSh) (σ : XSt), Ext δ0 δ → xw_Sh_says_293 K X i0 i2 z0 δ σ → TX p l e ({ frames := 24, cells := 4, slots := 917, locals := 10300 } : Room) s m args below meth c 4 3 910 (VI below (fun r u => K r u.1 u.2 ∧ Ext δ0 u.1) (fun E q u => (E = RX5 ∧ (13, q) ∈ u.1.1) ∧ X q u.1 u.2 ∧ Ext δ0 u.1) 4 917 Γ δ0 s args) Γ δ0 δ σ 293 [] [.ref z0] := by
  obtain ⟨⟨hx, hb, hml, hown, hts, hK, hr, hlk⟩, hZ, htb⟩ := id Xc
  have hA : ∀ q, s.heap.size ≤ q → AX δ0 s.heap.size q := fun q h => Or.inr h
  intro z0 δ σ hE hwp H locs ls hP hO hD hS hl
  unfold xw_Sh_says_293 at hwp
  refine lv_astore_n (lv' := [(3, .ref z0)]) hx hb dX3_says_293 rfl hl (by decide) rfl (fun ls hl => ?_)
  refine va_new (D := Γ.1) (ci := 17) (fs := [.null, .null, .null, .null, .null, .int 0, .int 0]) (C := RX5) (T := TX5) (N := 7) hx hb hts in_X5 tyX5 tyX5_ok hown (hts _ q425) (hts _ q305) (hts _ q86) hK.1 hP.1 (hD.va (fun _ => rfl)) hS hA rfl (fun j hj => by rcases (show j = 0 ∨ j = 1 ∨ j = 2 ∨ j = 3 ∨ j = 4 ∨ j = 5 ∨ j = 6 by omega) with rfl | rfl | rfl | rfl | rfl | rfl | rfl <;> rfl) (Nat.le_of_ble_eq_true rfl) (Nat.le_of_ble_eq_true rfl) dX3_says_294 (fun q1 H hR hRD hS => ?_)
  replace hR := rotP hR
  replace hRD := rotD hRD
  replace hP : XH Γ δ σ H := ⟨tailP (ex := [_]) hR, hP.2⟩
  refine lv_dup hx hb dX3_says_297 rfl ?_
  refine lv_bipush (v := (-2)) hx hb dX3_says_298 (by decide) ?_
  refine r_go (X := δ.1.map (gX Γ δ σ)) (va_runI (As := [.int (-2)]) (rest := [.ref q1]) ⟨hx, hb, hml, hown, hts⟩ (ct_Re H.size) (cwI 1 hts (lw_meth q315) rfl rfl rfl (hts _ q86) (hts _ q426) (hts _ q314) rfl (by decide +kernel) ⟨(Nat.le_of_ble_eq_true rfl), (Nat.le_of_ble_eq_true rfl)⟩) (r_pre hK hA hZ hR hRD hS) rfl rfl hl.1 rfl (lv_room (Nat.le_of_ble_eq_true rfl)) dX3_says_300 ⟨(Nat.le_of_ble_eq_true rfl), (Nat.le_of_ble_eq_true rfl)⟩) hA hR hRD hS (fun ex H locs hk hR hRD hS => ?_)
  subst hk
  obtain ⟨δ2, σ3, hP, hO, hD, hN4⟩ := mkRe hR hRD hP.2 hO
  replace hE := hE.tr hN4.1.1
  replace hwp := hwp q1 δ2 σ3 hN4
  obtain ⟨ce, k1, k2, k3⟩ := x_cell hK hP 13 q1 hN4.2.2.1 rfl (q := (RX5, TX5, 7)) rfl
  refine vx_athrow hx hb dX3_says_303 ?_
  exact y_out hown hlk (by rw [htb]; exact (fun z hz => by simp only [tableOf, List.map_cons, List.map_nil, List.mem_cons, List.not_mem_nil, or_false] at hz; rcases hz with rfl <;> first | exact Or.inl rfl)) hP hO hD hS k1 k2 k3 ⟨⟨rfl, hN4.2.2.1⟩, hwp, hE⟩ (Nat.le_of_ble_eq_true rfl) (Nat.le_of_ble_eq_true rfl)
def xw_Sh_says (K : Int32 → XSh → XSt → Prop) (X : Nat → XSh → XSt → Prop) (i0 : Nat) (i2 : Nat) (x1 : Int32) (δ : XSh) (σ : XSt) : Prop :=
  ((x1 < 1 ∨ 6 < x1) → ((σ.2.2 5 i0 0 = none → (xw_Sh_says_273 K X i0 i2 (-1) δ σ)) ∧ (∀ o2, σ.2.2 5 i0 0 = some o2 → (((δ.2.2.1 o2 ∈ [5, 6, 7, 8, 9, 10, 11]) → (xw_G_tall δ σ (fun r4 => xw_Sh_says_273 K X i0 i2 r4 δ σ) i2 (σ.1 7 o2 0))) ∧ ((¬ δ.2.2.1 o2 ∈ [5, 6, 7, 8, 9, 10, 11]) → (∀ q : Nat, (xw_Sh_says_293 K X i0 i2 q δ σ))))))) ∧ (x1 = 1 → ((σ.2.2 5 i0 0 = none → (xw_Sh_says_68 K X i0 i2 (-1) δ σ)) ∧ (∀ o5, σ.2.2 5 i0 0 = some o5 → (((δ.2.2.1 o5 ∈ [6, 8, 9, 10]) → (xw_G_seers δ σ (fun r7 => xw_Jn_bitCount δ σ (fun r8 => xw_Sh_says_68 K X i0 i2 r8 δ σ) r7) i2 (σ.1 7 o5 0))) ∧ ((¬ δ.2.2.1 o5 ∈ [6, 8, 9, 10]) → (∀ q : Nat, (xw_Sh_says_293 K X i0 i2 q δ σ))))))) ∧ (x1 = 2 → ((σ.2.2 5 i0 0 = none → (xw_Sh_says_117 K X i0 i2 (-1) δ σ)) ∧ (∀ o9, σ.2.2 5 i0 0 = some o9 → (((δ.2.2.1 o9 ∈ [7, 11]) → (xw_G_tall δ σ (fun r11 => vp_in (σ.1 7 o9 0) 8 ∧ (∀ r13, r13 = (if (0 : Int32) < (r11 - (σ.1 9 i2 (σ.1 7 o9 0).toNatClampNeg)) then (r11 - (σ.1 9 i2 (σ.1 7 o9 0).toNatClampNeg)) else (0 : Int32)) → (xw_Sh_says_117 K X i0 i2 r13 δ σ))) i2 (σ.1 7 o9 0))) ∧ ((¬ δ.2.2.1 o9 ∈ [7, 11]) → (∀ q : Nat, (xw_Sh_says_293 K X i0 i2 q δ σ))))))) ∧ (x1 = 3 → ((σ.2.2 5 i0 0 = none → (xw_Sh_says_157 K X i0 i2 (-1) δ σ)) ∧ (∀ o14, σ.2.2 5 i0 0 = some o14 → (((δ.2.2.1 o14 ∈ [8]) → (vp_in (σ.1 7 o14 0) 8 ∧ (xw_To_eyes δ σ (fun r17 => xw_Sh_says_157 K X i0 i2 r17 δ σ) o14 (σ.1 9 i2 (σ.1 7 o14 0).toNatClampNeg)))) ∧ ((¬ δ.2.2.1 o14 ∈ [8]) → (∀ q : Nat, (xw_Sh_says_293 K X i0 i2 q δ σ))))))) ∧ (x1 = 4 → ((σ.2.2 5 i0 0 = none → (xw_Sh_says_194 K X i0 i2 (-1) δ σ)) ∧ (∀ o18, σ.2.2 5 i0 0 = some o18 → (((δ.2.2.1 o18 ∈ [9]) → (xw_G_isRight δ σ (fun r20 => ((r20 = 0) → (xw_Sh_says_194 K X i0 i2 0 δ σ)) ∧ ((¬ (r20 = 0)) → (xw_Sh_says_194 K X i0 i2 1 δ σ))) i2 (σ.1 7 o18 0))) ∧ ((¬ δ.2.2.1 o18 ∈ [9]) → (∀ q : Nat, (xw_Sh_says_293 K X i0 i2 q δ σ))))))) ∧ (x1 = 5 → ((σ.2.2 5 i0 0 = none → (xw_Sh_says_219 K X i0 i2 (-1) δ σ)) ∧ (∀ o22, σ.2.2 5 i0 0 = some o22 → (((δ.2.2.1 o22 ∈ [10]) → (xw_Bl_sight δ σ (fun r24 => xw_Sh_says_219 K X i0 i2 r24 δ σ) o22)) ∧ ((¬ δ.2.2.1 o22 ∈ [10]) → (∀ q : Nat, (xw_Sh_says_293 K X i0 i2 q δ σ))))))) ∧ (x1 = 6 → ((σ.2.2 5 i0 0 = none → (xw_Sh_says_244 K X i0 i2 (-1) δ σ)) ∧ (∀ o25, σ.2.2 5 i0 0 = some o25 → (((δ.2.2.1 o25 ∈ [11]) → (xw_Fi_leaves δ σ (fun r27 => xw_Sh_says_244 K X i0 i2 r27 δ σ) o25)) ∧ ((¬ δ.2.2.1 o25 ∈ [11]) → (∀ q : Nat, (xw_Sh_says_293 K X i0 i2 q δ σ)))))))
set_option maxHeartbeats 4000000 in
set_option maxRecDepth 100000 in
theorem xk_Sh_says_e {p : Program} {l : Launch} {e : Env} {s : State} {m : MethodId} {args : Array Value} {below : List Frame} {meth : Method} {c : Code} {Γ : GA} {δ0 : XSh} {K : Int32 → XSh → XSt → Prop} {X : Nat → XSh → XSt → Prop} {i0 : Nat} {i2 : Nat} (hst : l.stackTraces = false) (Xc : CY p s m args meth c cX3_says 4 (some .int) RX3 Γ δ0 (tableOf [(0, 292, 293, 21)])) (h0 : (5, i0) ∈ δ0.1) (h2 : (6, i2) ∈ δ0.1) {x1 : Int32} : ∀ (δ : XSh) (σ : XSt), Ext δ0 δ → xw_Sh_says K X i0 i2 x1 δ σ → TX p l e ({ frames := 24, cells := 4, slots := 917, locals := 10300 } : Room) s m args below meth c 4 0 0 (VI below (fun r u => K r u.1 u.2 ∧ Ext δ0 u.1) (fun E q u => (E = RX5 ∧ (13, q) ∈ u.1.1) ∧ X q u.1 u.2 ∧ Ext δ0 u.1) 4 917 Γ δ0 s args) Γ δ0 δ σ 0 [(0, .ref i0), (1, .int x1), (2, .ref i2)] [] := by
  obtain ⟨⟨hx, hb, hml, hown, hts, hK, hr, hlk⟩, hZ, htb⟩ := id Xc
  have hA : ∀ q, s.heap.size ≤ q → AX δ0 s.heap.size q := fun q h => Or.inr h
  intro δ σ hE hwp H locs ls hP hO hD hS hl
  unfold xw_Sh_says at hwp
  refine lv_iload_n hx hb dX3_says_0 rfl (lv_at hl 1 rfl) ?_
  by_cases c1 : (x1 < 1 ∨ 6 < x1)
  · replace hwp := hwp.1 c1
    refine lv_tableOut (tgt := 248) hx hb dX3_says_1 (sw_out c1) (by decide) ?_
    refine lv_aload_n hx hb dX3_says_248 rfl (lv_at hl 0 rfl) ?_
    rcases o_cases (σ.2.2 5 i0 0) with eo2 | ⟨o2, eo2⟩
    · replace hwp := hwp.1 eo2
      refine x_getN hx hb hts hown hK hP 5 i0 (hE.m h0) rfl rfl in_X3 0 (by decide) q191 rfl rfl eo2 dX3_says_249 ?_
      refine lv_ifnonnullN hx hb dX3_says_252 ?_
      refine lv_iconst (v := (-1)) hx hb dX3_says_255 (by decide) ?_
      refine lv_goto (tgt := 273) hx hb dX3_says_256 (by decide) ?_
      refine W.widen (k := 0) (n := 0) (Nat.le_of_ble_eq_true rfl) (Nat.le_of_ble_eq_true rfl) ?_
      exact xk_Sh_says_273 hst Xc h0 h2 _ δ σ hE hwp H locs ls hP hO hD hS (lv_sub hl [0] rfl)
    · replace hwp := hwp.2 o2 eo2
      refine x_getr hx hb hts hown hK hP 5 i0 (hE.m h0) rfl rfl in_X3 0 (by decide) q191 rfl rfl eo2 dX3_says_249 (fun ho2 co2 => ?_)
      refine lv_ifnonnull (tgt := 259) hx hb dX3_says_252 (by decide) ?_
      refine lv_aload_n hx hb dX3_says_259 rfl (lv_at hl 2 rfl) ?_
      refine lv_aload_n hx hb dX3_says_260 rfl (lv_at hl 0 rfl) ?_
      refine x_getr hx hb hts hown hK hP 5 i0 (hE.m h0) rfl rfl in_X3 0 (by decide) q191 rfl rfl eo2 dX3_says_261 (fun ho2 co2 => ?_)
      by_cases c3 : δ.2.2.1 o2 ∈ [5, 6, 7, 8, 9, 10, 11]
      · replace hwp := hwp.1 c3
        refine x_castOK hx hb hown hK hO hP cs_Thing (hts _ q451) o2 ho2 c3 dX3_says_264 ?_
        refine x_getT hx hb hts hown hK hO hP o2 ho2 (lt_in c3) 0 (by decide) q724 (fun _ h9 => h9) dX3_says_267 ?_
        refine x_goi (va_runV (As := [.int (σ.1 7 o2 0)]) (rest := []) ⟨hx, hb, hml, hown, hts⟩ (xt_G_tall (hE.m h2) hwp H.size) (cwV 1 hts (lw_V q650 q608 q609 q77 q610) rfl rfl rfl (by decide +kernel) ⟨Nat.le_of_ble_eq_true rfl, Nat.le_of_ble_eq_true rfl⟩) (x_preV hK hO hD hP 6 i2 (hE.m h2) rfl rfl) rfl rfl hl.1 rfl (lv_room (Nat.le_of_ble_eq_true rfl)) dX3_says_270 ⟨(Nat.le_of_ble_eq_true rfl), (Nat.le_of_ble_eq_true rfl)⟩) hD hA hS (fun r4 u H locs hk hP hO hD hS => ?_)
        obtain ⟨hwp, eu⟩ := hk
        subst eu
        dsimp only at hP hO hD
        refine W.widen (k := 0) (n := 0) (Nat.le_of_ble_eq_true rfl) (Nat.le_of_ble_eq_true rfl) ?_
        exact xk_Sh_says_273 hst Xc h0 h2 _ δ σ hE hwp H locs ls hP hO hD hS (lv_sub hl [0] rfl)
      · replace hwp := hwp.2 c3
        refine x_castBad hx hb hown hK hO hP cs_Thing (by decide +kernel) (hts _ q451) o2 ho2 c3 dX3_says_264 (fun tx m1 m2 => ?_)
        refine y_vmCC hx hst hts hK hZ hP hS (hl.1.trans hml.symm) hlk m1 m2 ⟨(Nat.le_of_ble_eq_true rfl), (Nat.le_of_ble_eq_true rfl), (Nat.le_of_ble_eq_true rfl), (Nat.le_of_ble_eq_true rfl)⟩ (fun H q ce hP hS k1 k2 k3 => ?_)
        replace hwp := hwp q
        refine vx_catch (E := "java/lang/ClassCastException") (name := "java/lang/ClassCastException") hown [] ⟨0, 292, 293, 21⟩ [] (htb.trans rfl) (fun z hz => nomatch hz) rfl (by decide) (hts _ q409) ((hK.2.1 (.castable "java/lang/ClassCastException" "java/lang/ClassCastException") (by simp [nwL])).use rfl) k1 k2 k3 ?_
        refine W.eq (g2 := F0 m 293 ls [.ref q]) rfl ?_
        refine W.widen (k := 3) (n := 910) (Nat.le_of_ble_eq_true rfl) (Nat.le_of_ble_eq_true rfl) ?_
        exact xk_Sh_says_293 hst Xc h0 h2 _ δ σ hE hwp H locs ls hP hO hD hS (lv_sub hl [] rfl)
  · obtain ⟨j, hj, ej⟩ := sw_of1 (n := 6) (by decide) c1
    match j, hj, ej with
    | 0, hj, _ => exact absurd hj (by decide)
    | 1, _, ej =>
      have ej : x1 = 1 := ej
      replace hwp := hwp.2.1 ej
      refine lv_tableIn (off := 39) (tgt := 40) hx hb dX3_says_1 (by rw [ej]; decide) (by rw [ej]; decide) (by rw [ej]; rfl) (by decide) ?_
      refine lv_aload_n hx hb dX3_says_40 rfl (lv_at hl 0 rfl) ?_
      rcases o_cases (σ.2.2 5 i0 0) with eo5 | ⟨o5, eo5⟩
      · replace hwp := hwp.1 eo5
        refine x_getN hx hb hts hown hK hP 5 i0 (hE.m h0) rfl rfl in_X3 0 (by decide) q191 rfl rfl eo5 dX3_says_41 ?_
        refine lv_ifnonnullN hx hb dX3_says_44 ?_
        refine lv_iconst (v := (-1)) hx hb dX3_says_47 (by decide) ?_
        refine lv_goto (tgt := 68) hx hb dX3_says_48 (by decide) ?_
        refine W.widen (k := 0) (n := 0) (Nat.le_of_ble_eq_true rfl) (Nat.le_of_ble_eq_true rfl) ?_
        exact xk_Sh_says_68 hst Xc h0 h2 _ δ σ hE hwp H locs ls hP hO hD hS (lv_sub hl [0] rfl)
      · replace hwp := hwp.2 o5 eo5
        refine x_getr hx hb hts hown hK hP 5 i0 (hE.m h0) rfl rfl in_X3 0 (by decide) q191 rfl rfl eo5 dX3_says_41 (fun ho5 co5 => ?_)
        refine lv_ifnonnull (tgt := 51) hx hb dX3_says_44 (by decide) ?_
        refine lv_aload_n hx hb dX3_says_51 rfl (lv_at hl 2 rfl) ?_
        refine lv_aload_n hx hb dX3_says_52 rfl (lv_at hl 0 rfl) ?_
        refine x_getr hx hb hts hown hK hP 5 i0 (hE.m h0) rfl rfl in_X3 0 (by decide) q191 rfl rfl eo5 dX3_says_53 (fun ho5 co5 => ?_)
        by_cases c6 : δ.2.2.1 o5 ∈ [6, 8, 9, 10]
        · replace hwp := hwp.1 c6
          refine x_castOK hx hb hown hK hO hP cs_House (hts _ q532) o5 ho5 c6 dX3_says_56 ?_
          refine x_getT hx hb hts hown hK hO hP o5 ho5 (lt_in c6) 0 (by decide) q716 (fun x h9 => u_same (hts _ q717) x h9) dX3_says_59 ?_
          refine x_goi (va_runV (As := [.int (σ.1 7 o5 0)]) (rest := []) ⟨hx, hb, hml, hown, hts⟩ (xt_G_seers (hE.m h2) hwp H.size) (cwV 1 hts (lw_V q533 q534 q535 q77 q536) rfl rfl rfl (by decide +kernel) ⟨Nat.le_of_ble_eq_true rfl, Nat.le_of_ble_eq_true rfl⟩) (x_preV hK hO hD hP 6 i2 (hE.m h2) rfl rfl) rfl rfl hl.1 rfl (lv_room (Nat.le_of_ble_eq_true rfl)) dX3_says_62 ⟨(Nat.le_of_ble_eq_true rfl), (Nat.le_of_ble_eq_true rfl)⟩) hD hA hS (fun r7 u H locs hk hP hO hD hS => ?_)
          obtain ⟨hwp, eu⟩ := hk
          subst eu
          dsimp only at hP hO hD
          refine x_goi (va_runS (As := [.int r7]) (rest := []) ⟨hx, hb, hml, hown, hts⟩ (xt_Jn_bitCount hwp H.size) (va_cwS 1 hts (lw_S q643 q644 q96 q645) rfl rfl rfl (by decide +kernel) ⟨Nat.le_of_ble_eq_true rfl, Nat.le_of_ble_eq_true rfl⟩) (x_preS hK hO hD hP) rfl rfl hl.1 rfl (lv_room (Nat.le_of_ble_eq_true rfl)) dX3_says_65 ⟨(Nat.le_of_ble_eq_true rfl), (Nat.le_of_ble_eq_true rfl)⟩) hD hA hS (fun r8 u H locs hk hP hO hD hS => ?_)
          obtain ⟨hwp, eu⟩ := hk
          subst eu
          dsimp only at hP hO hD
          refine W.widen (k := 0) (n := 0) (Nat.le_of_ble_eq_true rfl) (Nat.le_of_ble_eq_true rfl) ?_
          exact xk_Sh_says_68 hst Xc h0 h2 _ δ σ hE hwp H locs ls hP hO hD hS (lv_sub hl [0] rfl)
        · replace hwp := hwp.2 c6
          refine x_castBad hx hb hown hK hO hP cs_House (by decide +kernel) (hts _ q532) o5 ho5 c6 dX3_says_56 (fun tx m1 m2 => ?_)
          refine y_vmCC hx hst hts hK hZ hP hS (hl.1.trans hml.symm) hlk m1 m2 ⟨(Nat.le_of_ble_eq_true rfl), (Nat.le_of_ble_eq_true rfl), (Nat.le_of_ble_eq_true rfl), (Nat.le_of_ble_eq_true rfl)⟩ (fun H q ce hP hS k1 k2 k3 => ?_)
          replace hwp := hwp q
          refine vx_catch (E := "java/lang/ClassCastException") (name := "java/lang/ClassCastException") hown [] ⟨0, 292, 293, 21⟩ [] (htb.trans rfl) (fun z hz => nomatch hz) rfl (by decide) (hts _ q409) ((hK.2.1 (.castable "java/lang/ClassCastException" "java/lang/ClassCastException") (by simp [nwL])).use rfl) k1 k2 k3 ?_
          refine W.eq (g2 := F0 m 293 ls [.ref q]) rfl ?_
          refine W.widen (k := 3) (n := 910) (Nat.le_of_ble_eq_true rfl) (Nat.le_of_ble_eq_true rfl) ?_
          exact xk_Sh_says_293 hst Xc h0 h2 _ δ σ hE hwp H locs ls hP hO hD hS (lv_sub hl [] rfl)
    | 2, _, ej =>
      have ej : x1 = 2 := ej
      replace hwp := hwp.2.2.1 ej
      refine lv_tableIn (off := 71) (tgt := 72) hx hb dX3_says_1 (by rw [ej]; decide) (by rw [ej]; decide) (by rw [ej]; rfl) (by decide) ?_
      refine lv_aload_n hx hb dX3_says_72 rfl (lv_at hl 0 rfl) ?_
      rcases o_cases (σ.2.2 5 i0 0) with eo9 | ⟨o9, eo9⟩
      · replace hwp := hwp.1 eo9
        refine x_getN hx hb hts hown hK hP 5 i0 (hE.m h0) rfl rfl in_X3 0 (by decide) q191 rfl rfl eo9 dX3_says_73 ?_
        refine lv_ifnonnullN hx hb dX3_says_76 ?_
        refine lv_iconst (v := (-1)) hx hb dX3_says_79 (by decide) ?_
        refine lv_goto (tgt := 117) hx hb dX3_says_80 (by decide) ?_
        refine W.widen (k := 0) (n := 0) (Nat.le_of_ble_eq_true rfl) (Nat.le_of_ble_eq_true rfl) ?_
        exact xk_Sh_says_117 hst Xc h0 h2 _ δ σ hE hwp H locs ls hP hO hD hS (lv_sub hl [0] rfl)
      · replace hwp := hwp.2 o9 eo9
        refine x_getr hx hb hts hown hK hP 5 i0 (hE.m h0) rfl rfl in_X3 0 (by decide) q191 rfl rfl eo9 dX3_says_73 (fun ho9 co9 => ?_)
        refine lv_ifnonnull (tgt := 83) hx hb dX3_says_76 (by decide) ?_
        refine lv_iconst (v := 0) hx hb dX3_says_83 (by decide) ?_
        refine lv_aload_n hx hb dX3_says_84 rfl (lv_at hl 2 rfl) ?_
        refine lv_aload_n hx hb dX3_says_85 rfl (lv_at hl 0 rfl) ?_
        refine x_getr hx hb hts hown hK hP 5 i0 (hE.m h0) rfl rfl in_X3 0 (by decide) q191 rfl rfl eo9 dX3_says_86 (fun ho9 co9 => ?_)
        by_cases c10 : δ.2.2.1 o9 ∈ [7, 11]
        · replace hwp := hwp.1 c10
          refine x_castOK hx hb hown hK hO hP cs_Tree (hts _ q649) o9 ho9 c10 dX3_says_89 ?_
          refine x_getT hx hb hts hown hK hO hP o9 ho9 (lt_in c10) 0 (by decide) q718 (fun x h9 => u_same (hts _ q719) x h9) dX3_says_92 ?_
          refine x_goi (va_runV (As := [.int (σ.1 7 o9 0)]) (rest := [.int 0]) ⟨hx, hb, hml, hown, hts⟩ (xt_G_tall (hE.m h2) hwp H.size) (cwV 1 hts (lw_V q650 q608 q609 q77 q610) rfl rfl rfl (by decide +kernel) ⟨Nat.le_of_ble_eq_true rfl, Nat.le_of_ble_eq_true rfl⟩) (x_preV hK hO hD hP 6 i2 (hE.m h2) rfl rfl) rfl rfl hl.1 rfl (lv_room (Nat.le_of_ble_eq_true rfl)) dX3_says_95 ⟨(Nat.le_of_ble_eq_true rfl), (Nat.le_of_ble_eq_true rfl)⟩) hD hA hS (fun r11 u H locs hk hP hO hD hS => ?_)
          obtain ⟨hwp, eu⟩ := hk
          subst eu
          dsimp only at hP hO hD
          refine lv_aload_n hx hb dX3_says_98 rfl (lv_at hl 2 rfl) ?_
          refine x_get hx hb hts hown hK hP 6 i2 (hE.m h2) rfl rfl in_X2 7 (by decide) q162 rfl (v := .ref (δ.2.1 9 i2)) rfl dX3_says_99 ?_
          refine lv_aload_n hx hb dX3_says_102 rfl (lv_at hl 0 rfl) ?_
          refine x_getr hx hb hts hown hK hP 5 i0 (hE.m h0) rfl rfl in_X3 0 (by decide) q191 rfl rfl eo9 dX3_says_103 (fun ho9 co9 => ?_)
          refine x_castOK hx hb hown hK hO hP cs_Tree (hts _ q649) o9 ho9 c10 dX3_says_106 ?_
          refine x_getT hx hb hts hown hK hO hP o9 ho9 (lt_in c10) 0 (by decide) q718 (fun x h9 => u_same (hts _ q719) x h9) dX3_says_109 ?_
          obtain ⟨hi12, hwp⟩ := hwp
          refine x_iald hx hb hK hP 9 i2 ((hO.1 _ (hE.m h2)).2.1) rfl hi12 dX3_says_112 ?_
          refine lv_isub hx hb dX3_says_113 ?_
          refine va_mmax hx hb (hml.trans hl.1.symm) hown (hts _ q651) (hts _ q594) (hts _ q95) (hts _ q595) (Nat.le_of_ble_eq_true rfl) (Nat.le_of_ble_eq_true rfl) (Nat.le_of_ble_eq_true rfl) (Nat.le_of_ble_eq_true rfl) dX3_says_114 ?_
          refine lv_topi (fun r13 er13 => ?_)
          replace hwp := hwp r13 er13
          refine W.widen (k := 0) (n := 0) (Nat.le_of_ble_eq_true rfl) (Nat.le_of_ble_eq_true rfl) ?_
          exact xk_Sh_says_117 hst Xc h0 h2 _ δ σ hE hwp H locs ls hP hO hD hS (lv_sub hl [0] rfl)
        · replace hwp := hwp.2 c10
          refine x_castBad hx hb hown hK hO hP cs_Tree (by decide +kernel) (hts _ q649) o9 ho9 c10 dX3_says_89 (fun tx m1 m2 => ?_)
          refine y_vmCC hx hst hts hK hZ hP hS (hl.1.trans hml.symm) hlk m1 m2 ⟨(Nat.le_of_ble_eq_true rfl), (Nat.le_of_ble_eq_true rfl), (Nat.le_of_ble_eq_true rfl), (Nat.le_of_ble_eq_true rfl)⟩ (fun H q ce hP hS k1 k2 k3 => ?_)
          replace hwp := hwp q
          refine vx_catch (E := "java/lang/ClassCastException") (name := "java/lang/ClassCastException") hown [] ⟨0, 292, 293, 21⟩ [] (htb.trans rfl) (fun z hz => nomatch hz) rfl (by decide) (hts _ q409) ((hK.2.1 (.castable "java/lang/ClassCastException" "java/lang/ClassCastException") (by simp [nwL])).use rfl) k1 k2 k3 ?_
          refine W.eq (g2 := F0 m 293 ls [.ref q]) rfl ?_
          refine W.widen (k := 3) (n := 910) (Nat.le_of_ble_eq_true rfl) (Nat.le_of_ble_eq_true rfl) ?_
          exact xk_Sh_says_293 hst Xc h0 h2 _ δ σ hE hwp H locs ls hP hO hD hS (lv_sub hl [] rfl)
    | 3, _, ej =>
      have ej : x1 = 3 := ej
      replace hwp := hwp.2.2.2.1 ej
      refine lv_tableIn (off := 120) (tgt := 121) hx hb dX3_says_1 (by rw [ej]; decide) (by rw [ej]; decide) (by rw [ej]; rfl) (by decide) ?_
      refine lv_aload_n hx hb dX3_says_121 rfl (lv_at hl 0 rfl) ?_
      rcases o_cases (σ.2.2 5 i0 0) with eo14 | ⟨o14, eo14⟩
      · replace hwp := hwp.1 eo14
        refine x_getN hx hb hts hown hK hP 5 i0 (hE.m h0) rfl rfl in_X3 0 (by decide) q191 rfl rfl eo14 dX3_says_122 ?_
        refine lv_ifnonnullN hx hb dX3_says_125 ?_
        refine lv_iconst (v := (-1)) hx hb dX3_says_128 (by decide) ?_
        refine lv_goto (tgt := 157) hx hb dX3_says_129 (by decide) ?_
        refine W.widen (k := 0) (n := 0) (Nat.le_of_ble_eq_true rfl) (Nat.le_of_ble_eq_true rfl) ?_
        exact xk_Sh_says_157 hst Xc h0 h2 _ δ σ hE hwp H locs ls hP hO hD hS (lv_sub hl [0] rfl)
      · replace hwp := hwp.2 o14 eo14
        refine x_getr hx hb hts hown hK hP 5 i0 (hE.m h0) rfl rfl in_X3 0 (by decide) q191 rfl rfl eo14 dX3_says_122 (fun ho14 co14 => ?_)
        refine lv_ifnonnull (tgt := 132) hx hb dX3_says_125 (by decide) ?_
        refine lv_aload_n hx hb dX3_says_132 rfl (lv_at hl 0 rfl) ?_
        refine x_getr hx hb hts hown hK hP 5 i0 (hE.m h0) rfl rfl in_X3 0 (by decide) q191 rfl rfl eo14 dX3_says_133 (fun ho14 co14 => ?_)
        by_cases c15 : δ.2.2.1 o14 ∈ [8]
        · replace hwp := hwp.1 c15
          refine x_castOK hx hb hown hK hO hP cs_Tower (hts _ q652) o14 ho14 c15 dX3_says_136 ?_
          refine lv_aload_n hx hb dX3_says_139 rfl (lv_at hl 2 rfl) ?_
          refine x_get hx hb hts hown hK hP 6 i2 (hE.m h2) rfl rfl in_X2 7 (by decide) q162 rfl (v := .ref (δ.2.1 9 i2)) rfl dX3_says_140 ?_
          refine lv_aload_n hx hb dX3_says_143 rfl (lv_at hl 0 rfl) ?_
          refine x_getr hx hb hts hown hK hP 5 i0 (hE.m h0) rfl rfl in_X3 0 (by decide) q191 rfl rfl eo14 dX3_says_144 (fun ho14 co14 => ?_)
          refine x_castOK hx hb hown hK hO hP cs_Tower (hts _ q652) o14 ho14 c15 dX3_says_147 ?_
          refine x_getT hx hb hts hown hK hO hP o14 ho14 (lt_in c15) 0 (by decide) q720 (fun x h9 => u_same (hts _ q721) x h9) dX3_says_150 ?_
          obtain ⟨hi16, hwp⟩ := hwp
          refine x_iald hx hb hK hP 9 i2 ((hO.1 _ (hE.m h2)).2.1) rfl hi16 dX3_says_153 ?_
          refine x_goi (va_runV (As := [.int (σ.1 9 i2 (σ.1 7 o14 0).toNatClampNeg)]) (rest := []) ⟨hx, hb, hml, hown, hts⟩ (xt_To_eyes ho14 (lt_in c15) hwp H.size) (cwV 1 hts (lw_V q653 q580 q1834 q100 q581) rfl rfl rfl (by decide +kernel) ⟨(Nat.le_of_ble_eq_true rfl), (Nat.le_of_ble_eq_true rfl)⟩) (x_preV hK hO hD hP 7 o14 ho14 (cellT (lt_in c15)) (by rw [(List.mem_singleton.mp c15)]; rfl)) rfl rfl hl.1 rfl (lv_room (Nat.le_of_ble_eq_true rfl)) dX3_says_154 ⟨(Nat.le_of_ble_eq_true rfl), (Nat.le_of_ble_eq_true rfl)⟩) hD hA hS (fun r17 u H locs hk hP hO hD hS => ?_)
          obtain ⟨hwp, eu⟩ := hk
          subst eu
          dsimp only at hP hO hD
          refine W.widen (k := 0) (n := 0) (Nat.le_of_ble_eq_true rfl) (Nat.le_of_ble_eq_true rfl) ?_
          exact xk_Sh_says_157 hst Xc h0 h2 _ δ σ hE hwp H locs ls hP hO hD hS (lv_sub hl [0] rfl)
        · replace hwp := hwp.2 c15
          refine x_castBad hx hb hown hK hO hP cs_Tower (by decide +kernel) (hts _ q652) o14 ho14 c15 dX3_says_136 (fun tx m1 m2 => ?_)
          refine y_vmCC hx hst hts hK hZ hP hS (hl.1.trans hml.symm) hlk m1 m2 ⟨(Nat.le_of_ble_eq_true rfl), (Nat.le_of_ble_eq_true rfl), (Nat.le_of_ble_eq_true rfl), (Nat.le_of_ble_eq_true rfl)⟩ (fun H q ce hP hS k1 k2 k3 => ?_)
          replace hwp := hwp q
          refine vx_catch (E := "java/lang/ClassCastException") (name := "java/lang/ClassCastException") hown [] ⟨0, 292, 293, 21⟩ [] (htb.trans rfl) (fun z hz => nomatch hz) rfl (by decide) (hts _ q409) ((hK.2.1 (.castable "java/lang/ClassCastException" "java/lang/ClassCastException") (by simp [nwL])).use rfl) k1 k2 k3 ?_
          refine W.eq (g2 := F0 m 293 ls [.ref q]) rfl ?_
          refine W.widen (k := 3) (n := 910) (Nat.le_of_ble_eq_true rfl) (Nat.le_of_ble_eq_true rfl) ?_
          exact xk_Sh_says_293 hst Xc h0 h2 _ δ σ hE hwp H locs ls hP hO hD hS (lv_sub hl [] rfl)
    | 4, _, ej =>
      have ej : x1 = 4 := ej
      replace hwp := hwp.2.2.2.2.1 ej
      refine lv_tableIn (off := 160) (tgt := 161) hx hb dX3_says_1 (by rw [ej]; decide) (by rw [ej]; decide) (by rw [ej]; rfl) (by decide) ?_
      refine lv_aload_n hx hb dX3_says_161 rfl (lv_at hl 0 rfl) ?_
      rcases o_cases (σ.2.2 5 i0 0) with eo18 | ⟨o18, eo18⟩
      · replace hwp := hwp.1 eo18
        refine x_getN hx hb hts hown hK hP 5 i0 (hE.m h0) rfl rfl in_X3 0 (by decide) q191 rfl rfl eo18 dX3_says_162 ?_
        refine lv_ifnonnullN hx hb dX3_says_165 ?_
        refine lv_iconst (v := (-1)) hx hb dX3_says_168 (by decide) ?_
        refine lv_goto (tgt := 194) hx hb dX3_says_169 (by decide) ?_
        refine W.widen (k := 0) (n := 0) (Nat.le_of_ble_eq_true rfl) (Nat.le_of_ble_eq_true rfl) ?_
        exact xk_Sh_says_194 hst Xc h0 h2 _ δ σ hE hwp H locs ls hP hO hD hS (lv_sub hl [0] rfl)
      · replace hwp := hwp.2 o18 eo18
        refine x_getr hx hb hts hown hK hP 5 i0 (hE.m h0) rfl rfl in_X3 0 (by decide) q191 rfl rfl eo18 dX3_says_162 (fun ho18 co18 => ?_)
        refine lv_ifnonnull (tgt := 172) hx hb dX3_says_165 (by decide) ?_
        refine lv_aload_n hx hb dX3_says_172 rfl (lv_at hl 2 rfl) ?_
        refine lv_aload_n hx hb dX3_says_173 rfl (lv_at hl 0 rfl) ?_
        refine x_getr hx hb hts hown hK hP 5 i0 (hE.m h0) rfl rfl in_X3 0 (by decide) q191 rfl rfl eo18 dX3_says_174 (fun ho18 co18 => ?_)
        by_cases c19 : δ.2.2.1 o18 ∈ [9]
        · replace hwp := hwp.1 c19
          refine x_castOK hx hb hown hK hO hP cs_Shy (hts _ q654) o18 ho18 c19 dX3_says_177 ?_
          refine x_getT hx hb hts hown hK hO hP o18 ho18 (lt_in c19) 0 (by decide) q722 (fun x h9 => u_same (hts _ q723) x h9) dX3_says_180 ?_
          refine x_goi (va_runV (As := [.int (σ.1 7 o18 0)]) (rest := []) ⟨hx, hb, hml, hown, hts⟩ (xt_G_isRight (hE.m h2) hwp H.size) (cwV 1 hts (lw_V q655 q656 q657 q77 q658) rfl rfl rfl (by decide +kernel) ⟨Nat.le_of_ble_eq_true rfl, Nat.le_of_ble_eq_true rfl⟩) (x_preV hK hO hD hP 6 i2 (hE.m h2) rfl rfl) rfl rfl hl.1 rfl (lv_room (Nat.le_of_ble_eq_true rfl)) dX3_says_183 ⟨(Nat.le_of_ble_eq_true rfl), (Nat.le_of_ble_eq_true rfl)⟩) hD hA hS (fun r20 u H locs hk hP hO hD hS => ?_)
          obtain ⟨hwp, eu⟩ := hk
          subst eu
          dsimp only at hP hO hD
          refine lv_if_eq (tgt := 193) hx hb dX3_says_186 (by decide) (fun c21 => ?_) (fun c21 => ?_)
          · replace hwp := hwp.1 c21
            refine lv_iconst (v := 0) hx hb dX3_says_193 (by decide) ?_
            refine W.widen (k := 0) (n := 0) (Nat.le_of_ble_eq_true rfl) (Nat.le_of_ble_eq_true rfl) ?_
            exact xk_Sh_says_194 hst Xc h0 h2 _ δ σ hE hwp H locs ls hP hO hD hS (lv_sub hl [0] rfl)
          · replace hwp := hwp.2 c21
            refine lv_iconst (v := 1) hx hb dX3_says_189 (by decide) ?_
            refine lv_goto (tgt := 194) hx hb dX3_says_190 (by decide) ?_
            refine W.widen (k := 0) (n := 0) (Nat.le_of_ble_eq_true rfl) (Nat.le_of_ble_eq_true rfl) ?_
            exact xk_Sh_says_194 hst Xc h0 h2 _ δ σ hE hwp H locs ls hP hO hD hS (lv_sub hl [0] rfl)
        · replace hwp := hwp.2 c19
          refine x_castBad hx hb hown hK hO hP cs_Shy (by decide +kernel) (hts _ q654) o18 ho18 c19 dX3_says_177 (fun tx m1 m2 => ?_)
          refine y_vmCC hx hst hts hK hZ hP hS (hl.1.trans hml.symm) hlk m1 m2 ⟨(Nat.le_of_ble_eq_true rfl), (Nat.le_of_ble_eq_true rfl), (Nat.le_of_ble_eq_true rfl), (Nat.le_of_ble_eq_true rfl)⟩ (fun H q ce hP hS k1 k2 k3 => ?_)
          replace hwp := hwp q
          refine vx_catch (E := "java/lang/ClassCastException") (name := "java/lang/ClassCastException") hown [] ⟨0, 292, 293, 21⟩ [] (htb.trans rfl) (fun z hz => nomatch hz) rfl (by decide) (hts _ q409) ((hK.2.1 (.castable "java/lang/ClassCastException" "java/lang/ClassCastException") (by simp [nwL])).use rfl) k1 k2 k3 ?_
          refine W.eq (g2 := F0 m 293 ls [.ref q]) rfl ?_
          refine W.widen (k := 3) (n := 910) (Nat.le_of_ble_eq_true rfl) (Nat.le_of_ble_eq_true rfl) ?_
          exact xk_Sh_says_293 hst Xc h0 h2 _ δ σ hE hwp H locs ls hP hO hD hS (lv_sub hl [] rfl)
    | 5, _, ej =>
      have ej : x1 = 5 := ej
      replace hwp := hwp.2.2.2.2.2.1 ej
      refine lv_tableIn (off := 197) (tgt := 198) hx hb dX3_says_1 (by rw [ej]; decide) (by rw [ej]; decide) (by rw [ej]; rfl) (by decide) ?_
      refine lv_aload_n hx hb dX3_says_198 rfl (lv_at hl 0 rfl) ?_
      rcases o_cases (σ.2.2 5 i0 0) with eo22 | ⟨o22, eo22⟩
      · replace hwp := hwp.1 eo22
        refine x_getN hx hb hts hown hK hP 5 i0 (hE.m h0) rfl rfl in_X3 0 (by decide) q191 rfl rfl eo22 dX3_says_199 ?_
        refine lv_ifnonnullN hx hb dX3_says_202 ?_
        refine lv_iconst (v := (-1)) hx hb dX3_says_205 (by decide) ?_
        refine lv_goto (tgt := 219) hx hb dX3_says_206 (by decide) ?_
        refine W.widen (k := 0) (n := 0) (Nat.le_of_ble_eq_true rfl) (Nat.le_of_ble_eq_true rfl) ?_
        exact xk_Sh_says_219 hst Xc h0 h2 _ δ σ hE hwp H locs ls hP hO hD hS (lv_sub hl [0] rfl)
      · replace hwp := hwp.2 o22 eo22
        refine x_getr hx hb hts hown hK hP 5 i0 (hE.m h0) rfl rfl in_X3 0 (by decide) q191 rfl rfl eo22 dX3_says_199 (fun ho22 co22 => ?_)
        refine lv_ifnonnull (tgt := 209) hx hb dX3_says_202 (by decide) ?_
        refine lv_aload_n hx hb dX3_says_209 rfl (lv_at hl 0 rfl) ?_
        refine x_getr hx hb hts hown hK hP 5 i0 (hE.m h0) rfl rfl in_X3 0 (by decide) q191 rfl rfl eo22 dX3_says_210 (fun ho22 co22 => ?_)
        by_cases c23 : δ.2.2.1 o22 ∈ [10]
        · replace hwp := hwp.1 c23
          refine x_castOK hx hb hown hK hO hP cs_Blind (hts _ q679) o22 ho22 c23 dX3_says_213 ?_
          refine x_goi (va_runV (As := []) (rest := []) ⟨hx, hb, hml, hown, hts⟩ (xt_Bl_sight ho22 (lt_in c23) hwp H.size) (cwV 0 hts (lw_V q680 q681 q682 q102 q683) rfl rfl rfl (by decide +kernel) ⟨(Nat.le_of_ble_eq_true rfl), (Nat.le_of_ble_eq_true rfl)⟩) (x_preV hK hO hD hP 7 o22 ho22 (cellT (lt_in c23)) (by rw [(List.mem_singleton.mp c23)]; rfl)) rfl rfl hl.1 rfl (lv_room (Nat.le_of_ble_eq_true rfl)) dX3_says_216 ⟨(Nat.le_of_ble_eq_true rfl), (Nat.le_of_ble_eq_true rfl)⟩) hD hA hS (fun r24 u H locs hk hP hO hD hS => ?_)
          obtain ⟨hwp, eu⟩ := hk
          subst eu
          dsimp only at hP hO hD
          refine W.widen (k := 0) (n := 0) (Nat.le_of_ble_eq_true rfl) (Nat.le_of_ble_eq_true rfl) ?_
          exact xk_Sh_says_219 hst Xc h0 h2 _ δ σ hE hwp H locs ls hP hO hD hS (lv_sub hl [0] rfl)
        · replace hwp := hwp.2 c23
          refine x_castBad hx hb hown hK hO hP cs_Blind (by decide +kernel) (hts _ q679) o22 ho22 c23 dX3_says_213 (fun tx m1 m2 => ?_)
          refine y_vmCC hx hst hts hK hZ hP hS (hl.1.trans hml.symm) hlk m1 m2 ⟨(Nat.le_of_ble_eq_true rfl), (Nat.le_of_ble_eq_true rfl), (Nat.le_of_ble_eq_true rfl), (Nat.le_of_ble_eq_true rfl)⟩ (fun H q ce hP hS k1 k2 k3 => ?_)
          replace hwp := hwp q
          refine vx_catch (E := "java/lang/ClassCastException") (name := "java/lang/ClassCastException") hown [] ⟨0, 292, 293, 21⟩ [] (htb.trans rfl) (fun z hz => nomatch hz) rfl (by decide) (hts _ q409) ((hK.2.1 (.castable "java/lang/ClassCastException" "java/lang/ClassCastException") (by simp [nwL])).use rfl) k1 k2 k3 ?_
          refine W.eq (g2 := F0 m 293 ls [.ref q]) rfl ?_
          refine W.widen (k := 3) (n := 910) (Nat.le_of_ble_eq_true rfl) (Nat.le_of_ble_eq_true rfl) ?_
          exact xk_Sh_says_293 hst Xc h0 h2 _ δ σ hE hwp H locs ls hP hO hD hS (lv_sub hl [] rfl)
    | 6, _, ej =>
      have ej : x1 = 6 := ej
      replace hwp := hwp.2.2.2.2.2.2 ej
      refine lv_tableIn (off := 222) (tgt := 223) hx hb dX3_says_1 (by rw [ej]; decide) (by rw [ej]; decide) (by rw [ej]; rfl) (by decide) ?_
      refine lv_aload_n hx hb dX3_says_223 rfl (lv_at hl 0 rfl) ?_
      rcases o_cases (σ.2.2 5 i0 0) with eo25 | ⟨o25, eo25⟩
      · replace hwp := hwp.1 eo25
        refine x_getN hx hb hts hown hK hP 5 i0 (hE.m h0) rfl rfl in_X3 0 (by decide) q191 rfl rfl eo25 dX3_says_224 ?_
        refine lv_ifnonnullN hx hb dX3_says_227 ?_
        refine lv_iconst (v := (-1)) hx hb dX3_says_230 (by decide) ?_
        refine lv_goto (tgt := 244) hx hb dX3_says_231 (by decide) ?_
        refine W.widen (k := 0) (n := 0) (Nat.le_of_ble_eq_true rfl) (Nat.le_of_ble_eq_true rfl) ?_
        exact xk_Sh_says_244 hst Xc h0 h2 _ δ σ hE hwp H locs ls hP hO hD hS (lv_sub hl [0] rfl)
      · replace hwp := hwp.2 o25 eo25
        refine x_getr hx hb hts hown hK hP 5 i0 (hE.m h0) rfl rfl in_X3 0 (by decide) q191 rfl rfl eo25 dX3_says_224 (fun ho25 co25 => ?_)
        refine lv_ifnonnull (tgt := 234) hx hb dX3_says_227 (by decide) ?_
        refine lv_aload_n hx hb dX3_says_234 rfl (lv_at hl 0 rfl) ?_
        refine x_getr hx hb hts hown hK hP 5 i0 (hE.m h0) rfl rfl in_X3 0 (by decide) q191 rfl rfl eo25 dX3_says_235 (fun ho25 co25 => ?_)
        by_cases c26 : δ.2.2.1 o25 ∈ [11]
        · replace hwp := hwp.1 c26
          refine x_castOK hx hb hown hK hO hP cs_Fir (hts _ q684) o25 ho25 c26 dX3_says_238 ?_
          refine x_goi (va_runV (As := []) (rest := []) ⟨hx, hb, hml, hown, hts⟩ (xt_Fi_leaves ho25 (lt_in c26) hwp H.size) (cwV 0 hts (lw_V q685 q686 q687 q103 q688) rfl rfl rfl (by decide +kernel) ⟨(Nat.le_of_ble_eq_true rfl), (Nat.le_of_ble_eq_true rfl)⟩) (x_preV hK hO hD hP 7 o25 ho25 (cellT (lt_in c26)) (by rw [(List.mem_singleton.mp c26)]; rfl)) rfl rfl hl.1 rfl (lv_room (Nat.le_of_ble_eq_true rfl)) dX3_says_241 ⟨(Nat.le_of_ble_eq_true rfl), (Nat.le_of_ble_eq_true rfl)⟩) hD hA hS (fun r27 u H locs hk hP hO hD hS => ?_)
          obtain ⟨hwp, eu⟩ := hk
          subst eu
          dsimp only at hP hO hD
          refine W.widen (k := 0) (n := 0) (Nat.le_of_ble_eq_true rfl) (Nat.le_of_ble_eq_true rfl) ?_
          exact xk_Sh_says_244 hst Xc h0 h2 _ δ σ hE hwp H locs ls hP hO hD hS (lv_sub hl [0] rfl)
        · replace hwp := hwp.2 c26
          refine x_castBad hx hb hown hK hO hP cs_Fir (by decide +kernel) (hts _ q684) o25 ho25 c26 dX3_says_238 (fun tx m1 m2 => ?_)
          refine y_vmCC hx hst hts hK hZ hP hS (hl.1.trans hml.symm) hlk m1 m2 ⟨(Nat.le_of_ble_eq_true rfl), (Nat.le_of_ble_eq_true rfl), (Nat.le_of_ble_eq_true rfl), (Nat.le_of_ble_eq_true rfl)⟩ (fun H q ce hP hS k1 k2 k3 => ?_)
          replace hwp := hwp q
          refine vx_catch (E := "java/lang/ClassCastException") (name := "java/lang/ClassCastException") hown [] ⟨0, 292, 293, 21⟩ [] (htb.trans rfl) (fun z hz => nomatch hz) rfl (by decide) (hts _ q409) ((hK.2.1 (.castable "java/lang/ClassCastException" "java/lang/ClassCastException") (by simp [nwL])).use rfl) k1 k2 k3 ?_
          refine W.eq (g2 := F0 m 293 ls [.ref q]) rfl ?_
          refine W.widen (k := 3) (n := 910) (Nat.le_of_ble_eq_true rfl) (Nat.le_of_ble_eq_true rfl) ?_
          exact xk_Sh_says_293 hst Xc h0 h2 _ δ σ hE hwp H locs ls hP hO hD hS (lv_sub hl [] rfl)
    | j + 7, hj, _ => exact absurd hj (by omega)
set_option maxHeartbeats 4000000 in
set_option maxRecDepth 100000 in
theorem xt_Sh_says {l : Launch} (hst : l.stackTraces = false) {Γ : GA} {δ0 : XSh} {σ : XSt} {K : Int32 → XSh → XSt → Prop} {X : Nat → XSh → XSt → Prop} {i0 : Nat} {i2 : Nat} (h0 : (5, i0) ∈ δ0.1) (h2 : (6, i2) ∈ δ0.1) {x1 : Int32} (hwp : xw_Sh_says K X i0 i2 x1 δ0 σ) : yI l yX3_says (wsW_ yX3_says cX3_says 4 (some .int) [(0, 292, 293, 21)]) ({ frames := 24, cells := 4, slots := 917, locals := 10300 } : Room) 4 917 Γ δ0 [.ref i0, .int x1, .ref i2] σ (fun r u => K r u.1 u.2 ∧ Ext δ0 u.1) (fun E q u => (E = RX5 ∧ (13, q) ∈ u.1.1) ∧ X q u.1 u.2 ∧ Ext δ0 u.1) := by
  intro sz
  refine yW_of (by decide) [(0, .ref i0), (1, .int x1), (2, .ref i2)] (fun _ h => h) (Nat.le_of_ble_eq_true rfl) ?_
  intro p e s m args below meth c hsz Xc
  subst hsz
  exact xk_Sh_says_e hst Xc h0 h2 δ0 σ Ext.rf hwp
/-! S_thingOfKind -/
def xw_S_thingOfKind (K : Nat → XSh → XSt → Prop) (x0 : Int32) (x1 : Int32) (x2 : Int32) (x3 : Int32) (x4 : Int32) (δ : XSh) (σ : XSt) : Prop :=
  ((x0 < 1 ∨ 6 < x0) → (∀ q2 δ3 σ4, NewT 5 x1 x2 x3 x4 δ σ q2 δ3 σ4 → (K q2 δ3 σ4))) ∧ (x0 = 1 → (∀ q6 δ7 σ8, NewT 6 x1 x2 x3 x4 δ σ q6 δ7 σ8 → (K q6 δ7 σ8))) ∧ (x0 = 2 → (∀ q10 δ11 σ12, NewT 7 x1 x2 x3 x4 δ σ q10 δ11 σ12 → (K q10 δ11 σ12))) ∧ (x0 = 3 → (∀ q14 δ15 σ16, NewT 8 x1 x2 x3 x4 δ σ q14 δ15 σ16 → (K q14 δ15 σ16))) ∧ (x0 = 4 → (∀ q18 δ19 σ20, NewT 9 x1 x2 x3 x4 δ σ q18 δ19 σ20 → (K q18 δ19 σ20))) ∧ (x0 = 5 → (∀ q22 δ23 σ24, NewT 10 x1 x2 x3 x4 δ σ q22 δ23 σ24 → (K q22 δ23 σ24))) ∧ (x0 = 6 → (∀ q26 δ27 σ28, NewT 11 x1 x2 x3 x4 δ σ q26 δ27 σ28 → (K q26 δ27 σ28)))
set_option maxHeartbeats 4000000 in
set_option maxRecDepth 100000 in
theorem xk_S_thingOfKind_e {p : Program} {l : Launch} {e : Env} {s : State} {m : MethodId} {args : Array Value} {below : List Frame} {meth : Method} {c : Code} {Γ : GA} {δ0 : XSh} {K : Nat → XSh → XSt → Prop} (hst : l.stackTraces = false) (Xc : CY p s m args meth c cX0_thingOfKind 5 (some (.object "SeenByOne$Thing")) RX0 Γ δ0 (tableOf [])) {x0 : Int32} {x1 : Int32} {x2 : Int32} {x3 : Int32} {x4 : Int32} : ∀ (δ : XSh) (σ : XSt), Ext δ0 δ → xw_S_thingOfKind K x0 x1 x2 x3 x4 δ σ → TX p l e ({ frames := 4, cells := 1, slots := 4, locals := 132 } : Room) s m args below meth c 5 0 0 (VR below (fun r u => (K r u.1 u.2 ∧ Ext δ0 u.1) ∧ (7, r) ∈ u.1.1 ∧ u.1.2.2.1 r < 12) (fun _ _ _ => False) 1 4 Γ δ0 s args) Γ δ0 δ σ 0 [(0, .int x0), (1, .int x1), (2, .int x2), (3, .int x3), (4, .int x4)] [] := by
  obtain ⟨⟨hx, hb, hml, hown, hts, hK, hr, hlk⟩, hZ, htb⟩ := id Xc
  have hA : ∀ q, s.heap.size ≤ q → AX δ0 s.heap.size q := fun q h => Or.inr h
  intro δ σ hE hwp H locs ls hP hO hD hS hl
  unfold xw_S_thingOfKind at hwp
  refine lv_iload_n hx hb dX0_thingOfKind_0 rfl (lv_at hl 0 rfl) ?_
  by_cases c1 : (x0 < 1 ∨ 6 < x0)
  · replace hwp := hwp.1 c1
    refine lv_tableOut (tgt := 118) hx hb dX0_thingOfKind_1 (sw_out c1) (by decide) ?_
    refine va_new (D := Γ.1) (ci := 5) (fs := [.int 0, .int 0, .int 0, .int 0]) (C := RX11) (T := TX11) (N := 4) hx hb hts in_X11 tyX11 tyX11_ok hown (hts _ q521) (hts _ q803) (hts _ q97) hK.1 hP.1 (hD.va (fun _ => rfl)) hS hA rfl (fun j hj => by rcases (show j = 0 ∨ j = 1 ∨ j = 2 ∨ j = 3 by omega) with rfl | rfl | rfl | rfl <;> rfl) (Nat.le_of_ble_eq_true rfl) (Nat.le_of_ble_eq_true rfl) dX0_thingOfKind_118 (fun q2 H hR hRD hS => ?_)
    replace hR := rotP hR
    replace hRD := rotD hRD
    replace hP : XH Γ δ σ H := ⟨tailP (ex := [_]) hR, hP.2⟩
    refine lv_dup hx hb dX0_thingOfKind_121 rfl ?_
    refine lv_iload_n hx hb dX0_thingOfKind_122 rfl (lv_at hl 1 rfl) ?_
    refine lv_iload_n hx hb dX0_thingOfKind_123 rfl (lv_at hl 2 rfl) ?_
    refine lv_iload_n hx hb dX0_thingOfKind_124 rfl (lv_at hl 3 rfl) ?_
    refine lv_iload hx hb dX0_thingOfKind_125 (lv_at hl 4 rfl) ?_
    refine r_go (X := δ.1.map (gX Γ δ σ)) (va_runI (As := [.int x1, .int x2, .int x3, .int x4]) (rest := [.ref q2]) ⟨hx, hb, hml, hown, hts⟩ (ct_T_5 H.size) (cwI 4 hts (lw_meth q713) rfl rfl rfl (hts _ q97) (hts _ q804) (hts _ q712) rfl (by decide +kernel) ⟨(Nat.le_of_ble_eq_true rfl), (Nat.le_of_ble_eq_true rfl)⟩) (r_pre hK hA hZ hR hRD hS) rfl rfl hl.1 rfl (lv_room (Nat.le_of_ble_eq_true rfl)) dX0_thingOfKind_127 ⟨(Nat.le_of_ble_eq_true rfl), (Nat.le_of_ble_eq_true rfl)⟩) hA hR hRD hS (fun ex H locs hk hR hRD hS => ?_)
    subst hk
    obtain ⟨δ3, σ4, hP, hO, hD, hN5⟩ := mkT (by decide) (by decide) hR hRD hP.2 hO
    replace hE := hE.tr hN5.1.1
    replace hwp := hwp q2 δ3 σ4 hN5
    refine W.widen (k := 1) (n := 4) (Nat.le_of_ble_eq_true rfl) (Nat.le_of_ble_eq_true rfl) ?_
    refine vx_ret ?_
    exact x_aret hx hb hr (Or.inl ⟨_, rfl⟩) hlk hP hO hD hS ⟨⟨hwp, hE⟩, hN5.2.2.1, (by rw [hN5.2.2.2.1]; decide)⟩ dX0_thingOfKind_130
  · obtain ⟨j, hj, ej⟩ := sw_of1 (n := 6) (by decide) c1
    match j, hj, ej with
    | 0, hj, _ => exact absurd hj (by decide)
    | 1, _, ej =>
      have ej : x0 = 1 := ej
      replace hwp := hwp.2.1 ej
      refine lv_tableIn (off := 39) (tgt := 40) hx hb dX0_thingOfKind_1 (by rw [ej]; decide) (by rw [ej]; decide) (by rw [ej]; rfl) (by decide) ?_
      refine va_new (D := Γ.1) (ci := 6) (fs := [.int 0, .int 0, .int 0, .int 0]) (C := RX12) (T := TX12) (N := 4) hx hb hts in_X12 tyX12 tyX12_ok hown (hts _ q706) (hts _ q707) (hts _ q98) hK.1 hP.1 (hD.va (fun _ => rfl)) hS hA rfl (fun j hj => by rcases (show j = 0 ∨ j = 1 ∨ j = 2 ∨ j = 3 by omega) with rfl | rfl | rfl | rfl <;> rfl) (Nat.le_of_ble_eq_true rfl) (Nat.le_of_ble_eq_true rfl) dX0_thingOfKind_40 (fun q6 H hR hRD hS => ?_)
      replace hR := rotP hR
      replace hRD := rotD hRD
      replace hP : XH Γ δ σ H := ⟨tailP (ex := [_]) hR, hP.2⟩
      refine lv_dup hx hb dX0_thingOfKind_43 rfl ?_
      refine lv_iload_n hx hb dX0_thingOfKind_44 rfl (lv_at hl 1 rfl) ?_
      refine lv_iload_n hx hb dX0_thingOfKind_45 rfl (lv_at hl 2 rfl) ?_
      refine lv_iload_n hx hb dX0_thingOfKind_46 rfl (lv_at hl 3 rfl) ?_
      refine lv_iload hx hb dX0_thingOfKind_47 (lv_at hl 4 rfl) ?_
      refine r_go (X := δ.1.map (gX Γ δ σ)) (va_runI (As := [.int x1, .int x2, .int x3, .int x4]) (rest := [.ref q6]) ⟨hx, hb, hml, hown, hts⟩ (ct_Ho_6 H.size) (cwI 4 hts (lw_meth q710) rfl rfl rfl (hts _ q98) (hts _ q708) (hts _ q709) rfl (by decide +kernel) ⟨(Nat.le_of_ble_eq_true rfl), (Nat.le_of_ble_eq_true rfl)⟩) (r_pre hK hA hZ hR hRD hS) rfl rfl hl.1 rfl (lv_room (Nat.le_of_ble_eq_true rfl)) dX0_thingOfKind_49 ⟨(Nat.le_of_ble_eq_true rfl), (Nat.le_of_ble_eq_true rfl)⟩) hA hR hRD hS (fun ex H locs hk hR hRD hS => ?_)
      subst hk
      obtain ⟨δ7, σ8, hP, hO, hD, hN9⟩ := mkT (by decide) (by decide) hR hRD hP.2 hO
      replace hE := hE.tr hN9.1.1
      replace hwp := hwp q6 δ7 σ8 hN9
      refine W.widen (k := 1) (n := 4) (Nat.le_of_ble_eq_true rfl) (Nat.le_of_ble_eq_true rfl) ?_
      refine vx_ret ?_
      exact x_aret hx hb hr (Or.inl ⟨_, rfl⟩) hlk hP hO hD hS ⟨⟨hwp, hE⟩, hN9.2.2.1, (by rw [hN9.2.2.2.1]; decide)⟩ dX0_thingOfKind_52
    | 2, _, ej =>
      have ej : x0 = 2 := ej
      replace hwp := hwp.2.2.1 ej
      refine lv_tableIn (off := 52) (tgt := 53) hx hb dX0_thingOfKind_1 (by rw [ej]; decide) (by rw [ej]; decide) (by rw [ej]; rfl) (by decide) ?_
      refine va_new (D := Γ.1) (ci := 7) (fs := [.int 0, .int 0, .int 0, .int 0]) (C := RX13) (T := TX13) (N := 4) hx hb hts in_X13 tyX13 tyX13_ok hown (hts _ q752) (hts _ q753) (hts _ q99) hK.1 hP.1 (hD.va (fun _ => rfl)) hS hA rfl (fun j hj => by rcases (show j = 0 ∨ j = 1 ∨ j = 2 ∨ j = 3 by omega) with rfl | rfl | rfl | rfl <;> rfl) (Nat.le_of_ble_eq_true rfl) (Nat.le_of_ble_eq_true rfl) dX0_thingOfKind_53 (fun q10 H hR hRD hS => ?_)
      replace hR := rotP hR
      replace hRD := rotD hRD
      replace hP : XH Γ δ σ H := ⟨tailP (ex := [_]) hR, hP.2⟩
      refine lv_dup hx hb dX0_thingOfKind_56 rfl ?_
      refine lv_iload_n hx hb dX0_thingOfKind_57 rfl (lv_at hl 1 rfl) ?_
      refine lv_iload_n hx hb dX0_thingOfKind_58 rfl (lv_at hl 2 rfl) ?_
      refine lv_iload_n hx hb dX0_thingOfKind_59 rfl (lv_at hl 3 rfl) ?_
      refine lv_iload hx hb dX0_thingOfKind_60 (lv_at hl 4 rfl) ?_
      refine r_go (X := δ.1.map (gX Γ δ σ)) (va_runI (As := [.int x1, .int x2, .int x3, .int x4]) (rest := [.ref q10]) ⟨hx, hb, hml, hown, hts⟩ (ct_Te_7 H.size) (cwI 4 hts (lw_meth q756) rfl rfl rfl (hts _ q99) (hts _ q754) (hts _ q755) rfl (by decide +kernel) ⟨(Nat.le_of_ble_eq_true rfl), (Nat.le_of_ble_eq_true rfl)⟩) (r_pre hK hA hZ hR hRD hS) rfl rfl hl.1 rfl (lv_room (Nat.le_of_ble_eq_true rfl)) dX0_thingOfKind_62 ⟨(Nat.le_of_ble_eq_true rfl), (Nat.le_of_ble_eq_true rfl)⟩) hA hR hRD hS (fun ex H locs hk hR hRD hS => ?_)
      subst hk
      obtain ⟨δ11, σ12, hP, hO, hD, hN13⟩ := mkT (by decide) (by decide) hR hRD hP.2 hO
      replace hE := hE.tr hN13.1.1
      replace hwp := hwp q10 δ11 σ12 hN13
      refine W.widen (k := 1) (n := 4) (Nat.le_of_ble_eq_true rfl) (Nat.le_of_ble_eq_true rfl) ?_
      refine vx_ret ?_
      exact x_aret hx hb hr (Or.inl ⟨_, rfl⟩) hlk hP hO hD hS ⟨⟨hwp, hE⟩, hN13.2.2.1, (by rw [hN13.2.2.2.1]; decide)⟩ dX0_thingOfKind_65
    | 3, _, ej =>
      have ej : x0 = 3 := ej
      replace hwp := hwp.2.2.2.1 ej
      refine lv_tableIn (off := 65) (tgt := 66) hx hb dX0_thingOfKind_1 (by rw [ej]; decide) (by rw [ej]; decide) (by rw [ej]; rfl) (by decide) ?_
      refine va_new (D := Γ.1) (ci := 8) (fs := [.int 0, .int 0, .int 0, .int 0]) (C := RX14) (T := TX14) (N := 4) hx hb hts in_X14 tyX14 tyX14_ok hown (hts _ q762) (hts _ q763) (hts _ q100) hK.1 hP.1 (hD.va (fun _ => rfl)) hS hA rfl (fun j hj => by rcases (show j = 0 ∨ j = 1 ∨ j = 2 ∨ j = 3 by omega) with rfl | rfl | rfl | rfl <;> rfl) (Nat.le_of_ble_eq_true rfl) (Nat.le_of_ble_eq_true rfl) dX0_thingOfKind_66 (fun q14 H hR hRD hS => ?_)
      replace hR := rotP hR
      replace hRD := rotD hRD
      replace hP : XH Γ δ σ H := ⟨tailP (ex := [_]) hR, hP.2⟩
      refine lv_dup hx hb dX0_thingOfKind_69 rfl ?_
      refine lv_iload_n hx hb dX0_thingOfKind_70 rfl (lv_at hl 1 rfl) ?_
      refine lv_iload_n hx hb dX0_thingOfKind_71 rfl (lv_at hl 2 rfl) ?_
      refine lv_iload_n hx hb dX0_thingOfKind_72 rfl (lv_at hl 3 rfl) ?_
      refine lv_iload hx hb dX0_thingOfKind_73 (lv_at hl 4 rfl) ?_
      refine r_go (X := δ.1.map (gX Γ δ σ)) (va_runI (As := [.int x1, .int x2, .int x3, .int x4]) (rest := [.ref q14]) ⟨hx, hb, hml, hown, hts⟩ (ct_To_8 H.size) (cwI 4 hts (lw_meth q766) rfl rfl rfl (hts _ q100) (hts _ q764) (hts _ q765) rfl (by decide +kernel) ⟨(Nat.le_of_ble_eq_true rfl), (Nat.le_of_ble_eq_true rfl)⟩) (r_pre hK hA hZ hR hRD hS) rfl rfl hl.1 rfl (lv_room (Nat.le_of_ble_eq_true rfl)) dX0_thingOfKind_75 ⟨(Nat.le_of_ble_eq_true rfl), (Nat.le_of_ble_eq_true rfl)⟩) hA hR hRD hS (fun ex H locs hk hR hRD hS => ?_)
      subst hk
      obtain ⟨δ15, σ16, hP, hO, hD, hN17⟩ := mkT (by decide) (by decide) hR hRD hP.2 hO
      replace hE := hE.tr hN17.1.1
      replace hwp := hwp q14 δ15 σ16 hN17
      refine W.widen (k := 1) (n := 4) (Nat.le_of_ble_eq_true rfl) (Nat.le_of_ble_eq_true rfl) ?_
      refine vx_ret ?_
      exact x_aret hx hb hr (Or.inl ⟨_, rfl⟩) hlk hP hO hD hS ⟨⟨hwp, hE⟩, hN17.2.2.1, (by rw [hN17.2.2.2.1]; decide)⟩ dX0_thingOfKind_78
    | 4, _, ej =>
      have ej : x0 = 4 := ej
      replace hwp := hwp.2.2.2.2.1 ej
      refine lv_tableIn (off := 78) (tgt := 79) hx hb dX0_thingOfKind_1 (by rw [ej]; decide) (by rw [ej]; decide) (by rw [ej]; rfl) (by decide) ?_
      refine va_new (D := Γ.1) (ci := 9) (fs := [.int 0, .int 0, .int 0, .int 0]) (C := RX15) (T := TX15) (N := 4) hx hb hts in_X15 tyX15 tyX15_ok hown (hts _ q772) (hts _ q773) (hts _ q101) hK.1 hP.1 (hD.va (fun _ => rfl)) hS hA rfl (fun j hj => by rcases (show j = 0 ∨ j = 1 ∨ j = 2 ∨ j = 3 by omega) with rfl | rfl | rfl | rfl <;> rfl) (Nat.le_of_ble_eq_true rfl) (Nat.le_of_ble_eq_true rfl) dX0_thingOfKind_79 (fun q18 H hR hRD hS => ?_)
      replace hR := rotP hR
      replace hRD := rotD hRD
      replace hP : XH Γ δ σ H := ⟨tailP (ex := [_]) hR, hP.2⟩
      refine lv_dup hx hb dX0_thingOfKind_82 rfl ?_
      refine lv_iload_n hx hb dX0_thingOfKind_83 rfl (lv_at hl 1 rfl) ?_
      refine lv_iload_n hx hb dX0_thingOfKind_84 rfl (lv_at hl 2 rfl) ?_
      refine lv_iload_n hx hb dX0_thingOfKind_85 rfl (lv_at hl 3 rfl) ?_
      refine lv_iload hx hb dX0_thingOfKind_86 (lv_at hl 4 rfl) ?_
      refine r_go (X := δ.1.map (gX Γ δ σ)) (va_runI (As := [.int x1, .int x2, .int x3, .int x4]) (rest := [.ref q18]) ⟨hx, hb, hml, hown, hts⟩ (ct_Sy_9 H.size) (cwI 4 hts (lw_meth q776) rfl rfl rfl (hts _ q101) (hts _ q774) (hts _ q775) rfl (by decide +kernel) ⟨(Nat.le_of_ble_eq_true rfl), (Nat.le_of_ble_eq_true rfl)⟩) (r_pre hK hA hZ hR hRD hS) rfl rfl hl.1 rfl (lv_room (Nat.le_of_ble_eq_true rfl)) dX0_thingOfKind_88 ⟨(Nat.le_of_ble_eq_true rfl), (Nat.le_of_ble_eq_true rfl)⟩) hA hR hRD hS (fun ex H locs hk hR hRD hS => ?_)
      subst hk
      obtain ⟨δ19, σ20, hP, hO, hD, hN21⟩ := mkT (by decide) (by decide) hR hRD hP.2 hO
      replace hE := hE.tr hN21.1.1
      replace hwp := hwp q18 δ19 σ20 hN21
      refine W.widen (k := 1) (n := 4) (Nat.le_of_ble_eq_true rfl) (Nat.le_of_ble_eq_true rfl) ?_
      refine vx_ret ?_
      exact x_aret hx hb hr (Or.inl ⟨_, rfl⟩) hlk hP hO hD hS ⟨⟨hwp, hE⟩, hN21.2.2.1, (by rw [hN21.2.2.2.1]; decide)⟩ dX0_thingOfKind_91
    | 5, _, ej =>
      have ej : x0 = 5 := ej
      replace hwp := hwp.2.2.2.2.2.1 ej
      refine lv_tableIn (off := 91) (tgt := 92) hx hb dX0_thingOfKind_1 (by rw [ej]; decide) (by rw [ej]; decide) (by rw [ej]; rfl) (by decide) ?_
      refine va_new (D := Γ.1) (ci := 10) (fs := [.int 0, .int 0, .int 0, .int 0]) (C := RX16) (T := TX16) (N := 4) hx hb hts in_X16 tyX16 tyX16_ok hown (hts _ q782) (hts _ q783) (hts _ q102) hK.1 hP.1 (hD.va (fun _ => rfl)) hS hA rfl (fun j hj => by rcases (show j = 0 ∨ j = 1 ∨ j = 2 ∨ j = 3 by omega) with rfl | rfl | rfl | rfl <;> rfl) (Nat.le_of_ble_eq_true rfl) (Nat.le_of_ble_eq_true rfl) dX0_thingOfKind_92 (fun q22 H hR hRD hS => ?_)
      replace hR := rotP hR
      replace hRD := rotD hRD
      replace hP : XH Γ δ σ H := ⟨tailP (ex := [_]) hR, hP.2⟩
      refine lv_dup hx hb dX0_thingOfKind_95 rfl ?_
      refine lv_iload_n hx hb dX0_thingOfKind_96 rfl (lv_at hl 1 rfl) ?_
      refine lv_iload_n hx hb dX0_thingOfKind_97 rfl (lv_at hl 2 rfl) ?_
      refine lv_iload_n hx hb dX0_thingOfKind_98 rfl (lv_at hl 3 rfl) ?_
      refine lv_iload hx hb dX0_thingOfKind_99 (lv_at hl 4 rfl) ?_
      refine r_go (X := δ.1.map (gX Γ δ σ)) (va_runI (As := [.int x1, .int x2, .int x3, .int x4]) (rest := [.ref q22]) ⟨hx, hb, hml, hown, hts⟩ (ct_Bl_10 H.size) (cwI 4 hts (lw_meth q786) rfl rfl rfl (hts _ q102) (hts _ q784) (hts _ q785) rfl (by decide +kernel) ⟨(Nat.le_of_ble_eq_true rfl), (Nat.le_of_ble_eq_true rfl)⟩) (r_pre hK hA hZ hR hRD hS) rfl rfl hl.1 rfl (lv_room (Nat.le_of_ble_eq_true rfl)) dX0_thingOfKind_101 ⟨(Nat.le_of_ble_eq_true rfl), (Nat.le_of_ble_eq_true rfl)⟩) hA hR hRD hS (fun ex H locs hk hR hRD hS => ?_)
      subst hk
      obtain ⟨δ23, σ24, hP, hO, hD, hN25⟩ := mkT (by decide) (by decide) hR hRD hP.2 hO
      replace hE := hE.tr hN25.1.1
      replace hwp := hwp q22 δ23 σ24 hN25
      refine W.widen (k := 1) (n := 4) (Nat.le_of_ble_eq_true rfl) (Nat.le_of_ble_eq_true rfl) ?_
      refine vx_ret ?_
      exact x_aret hx hb hr (Or.inl ⟨_, rfl⟩) hlk hP hO hD hS ⟨⟨hwp, hE⟩, hN25.2.2.1, (by rw [hN25.2.2.2.1]; decide)⟩ dX0_thingOfKind_104
    | 6, _, ej =>
      have ej : x0 = 6 := ej
      replace hwp := hwp.2.2.2.2.2.2 ej
      refine lv_tableIn (off := 104) (tgt := 105) hx hb dX0_thingOfKind_1 (by rw [ej]; decide) (by rw [ej]; decide) (by rw [ej]; rfl) (by decide) ?_
      refine va_new (D := Γ.1) (ci := 11) (fs := [.int 0, .int 0, .int 0, .int 0]) (C := RX17) (T := TX17) (N := 4) hx hb hts in_X17 tyX17 tyX17_ok hown (hts _ q793) (hts _ q794) (hts _ q103) hK.1 hP.1 (hD.va (fun _ => rfl)) hS hA rfl (fun j hj => by rcases (show j = 0 ∨ j = 1 ∨ j = 2 ∨ j = 3 by omega) with rfl | rfl | rfl | rfl <;> rfl) (Nat.le_of_ble_eq_true rfl) (Nat.le_of_ble_eq_true rfl) dX0_thingOfKind_105 (fun q26 H hR hRD hS => ?_)
      replace hR := rotP hR
      replace hRD := rotD hRD
      replace hP : XH Γ δ σ H := ⟨tailP (ex := [_]) hR, hP.2⟩
      refine lv_dup hx hb dX0_thingOfKind_108 rfl ?_
      refine lv_iload_n hx hb dX0_thingOfKind_109 rfl (lv_at hl 1 rfl) ?_
      refine lv_iload_n hx hb dX0_thingOfKind_110 rfl (lv_at hl 2 rfl) ?_
      refine lv_iload_n hx hb dX0_thingOfKind_111 rfl (lv_at hl 3 rfl) ?_
      refine lv_iload hx hb dX0_thingOfKind_112 (lv_at hl 4 rfl) ?_
      refine r_go (X := δ.1.map (gX Γ δ σ)) (va_runI (As := [.int x1, .int x2, .int x3, .int x4]) (rest := [.ref q26]) ⟨hx, hb, hml, hown, hts⟩ (ct_Fi_11 H.size) (cwI 4 hts (lw_meth q797) rfl rfl rfl (hts _ q103) (hts _ q795) (hts _ q796) rfl (by decide +kernel) ⟨(Nat.le_of_ble_eq_true rfl), (Nat.le_of_ble_eq_true rfl)⟩) (r_pre hK hA hZ hR hRD hS) rfl rfl hl.1 rfl (lv_room (Nat.le_of_ble_eq_true rfl)) dX0_thingOfKind_114 ⟨(Nat.le_of_ble_eq_true rfl), (Nat.le_of_ble_eq_true rfl)⟩) hA hR hRD hS (fun ex H locs hk hR hRD hS => ?_)
      subst hk
      obtain ⟨δ27, σ28, hP, hO, hD, hN29⟩ := mkT (by decide) (by decide) hR hRD hP.2 hO
      replace hE := hE.tr hN29.1.1
      replace hwp := hwp q26 δ27 σ28 hN29
      refine W.widen (k := 1) (n := 4) (Nat.le_of_ble_eq_true rfl) (Nat.le_of_ble_eq_true rfl) ?_
      refine vx_ret ?_
      exact x_aret hx hb hr (Or.inl ⟨_, rfl⟩) hlk hP hO hD hS ⟨⟨hwp, hE⟩, hN29.2.2.1, (by rw [hN29.2.2.2.1]; decide)⟩ dX0_thingOfKind_117
    | j + 7, hj, _ => exact absurd hj (by omega)
set_option maxHeartbeats 4000000 in
set_option maxRecDepth 100000 in
theorem xt_S_thingOfKind {l : Launch} (hst : l.stackTraces = false) {Γ : GA} {δ0 : XSh} {σ : XSt} {K : Nat → XSh → XSt → Prop} {x0 : Int32} {x1 : Int32} {x2 : Int32} {x3 : Int32} {x4 : Int32} (hwp : xw_S_thingOfKind K x0 x1 x2 x3 x4 δ0 σ) : yR l yX0_thingOfKind (ws_ yX0_thingOfKind cX0_thingOfKind 5 (some (.object "SeenByOne$Thing"))) ({ frames := 4, cells := 1, slots := 4, locals := 132 } : Room) 1 4 Γ δ0 [.int x0, .int x1, .int x2, .int x3, .int x4] σ (fun r u => (K r u.1 u.2 ∧ Ext δ0 u.1) ∧ (7, r) ∈ u.1.1 ∧ u.1.2.2.1 r < 12) (fun _ _ _ => False) := by
  intro sz
  refine y_of (by decide) [(0, .int x0), (1, .int x1), (2, .int x2), (3, .int x3), (4, .int x4)] (fun _ h => h) (Nat.le_of_ble_eq_true rfl) ?_
  intro p e s m args below meth c hsz Xc
  subst hsz
  exact xk_S_thingOfKind_e hst Xc δ0 σ Ext.rf hwp
/-! G_add -/
def xw_G_add (K : Int32 → XSh → XSt → Prop) (i0 : Nat) (x1 : Int32) (x2 : Int32) (x3 : Int32) (x4 : Int32) (x5 : Int32) (δ : XSh) (σ : XSt) : Prop :=
  xw_S_thingOfKind (fun r2 δ3 σ4 => vp_in (σ.1 6 i0 0) 8 ∧ (∀ σ9, σ9 = tP σ4 8 i0 (σ.1 6 i0 0).toNatClampNeg (some r2) → (vp_in (σ9.1 6 i0 0) 8 ∧ (∀ σ11, σ11 = tI σ9 9 i0 (σ9.1 6 i0 0).toNatClampNeg x4 → (vp_in (σ11.1 6 i0 0) 8 ∧ (∀ σ13, σ13 = tI σ11 10 i0 (σ11.1 6 i0 0).toNatClampNeg 0 → (∀ σ14, σ14 = tI σ13 6 i0 0 ((σ13.1 6 i0 0) + 1) → (K (σ13.1 6 i0 0) δ3 σ14)))))))) x1 (σ.1 6 i0 0) x2 x3 x5 δ σ
set_option maxHeartbeats 4000000 in
set_option maxRecDepth 100000 in
theorem xk_G_add_e {p : Program} {l : Launch} {e : Env} {s : State} {m : MethodId} {args : Array Value} {below : List Frame} {meth : Method} {c : Code} {Γ : GA} {δ0 : XSh} {K : Int32 → XSh → XSt → Prop} {i0 : Nat} (hst : l.stackTraces = false) (Xc : CY p s m args meth c cX2_add 6 (some .int) RX2 Γ δ0 (tableOf [])) (h0 : (6, i0) ∈ δ0.1) {x1 : Int32} {x2 : Int32} {x3 : Int32} {x4 : Int32} {x5 : Int32} : ∀ (δ : XSh) (σ : XSt), Ext δ0 δ → xw_G_add K i0 x1 x2 x3 x4 x5 δ σ → TX p l e ({ frames := 5, cells := 1, slots := 4, locals := 156 } : Room) s m args below meth c 6 0 0 (VI below (fun r u => K r u.1 u.2 ∧ Ext δ0 u.1) (fun _ _ _ => False) 1 4 Γ δ0 s args) Γ δ0 δ σ 0 [(0, .ref i0), (1, .int x1), (2, .int x2), (3, .int x3), (4, .int x4), (5, .int x5)] [] := by
  obtain ⟨⟨hx, hb, hml, hown, hts, hK, hr, hlk⟩, hZ, htb⟩ := id Xc
  have hA : ∀ q, s.heap.size ≤ q → AX δ0 s.heap.size q := fun q h => Or.inr h
  intro δ σ hE hwp H locs ls hP hO hD hS hl
  unfold xw_G_add at hwp
  refine lv_aload_n hx hb dX2_add_0 rfl (lv_at hl 0 rfl) ?_
  refine x_get hx hb hts hown hK hP 6 i0 (hE.m h0) rfl rfl in_X2 6 (by decide) q159 rfl (v := .ref (δ.2.1 8 i0)) rfl dX2_add_1 ?_
  refine lv_aload_n hx hb dX2_add_4 rfl (lv_at hl 0 rfl) ?_
  refine x_get hx hb hts hown hK hP 6 i0 (hE.m h0) rfl rfl in_X2 0 (by decide) q143 rfl (v := .int (σ.1 6 i0 0)) rfl dX2_add_5 ?_
  refine lv_iload_n hx hb dX2_add_8 rfl (lv_at hl 1 rfl) ?_
  refine lv_aload_n hx hb dX2_add_9 rfl (lv_at hl 0 rfl) ?_
  refine x_get hx hb hts hown hK hP 6 i0 (hE.m h0) rfl rfl in_X2 0 (by decide) q143 rfl (v := .int (σ.1 6 i0 0)) rfl dX2_add_10 ?_
  refine lv_iload_n hx hb dX2_add_13 rfl (lv_at hl 2 rfl) ?_
  refine lv_iload_n hx hb dX2_add_14 rfl (lv_at hl 3 rfl) ?_
  refine lv_iload hx hb dX2_add_15 (lv_at hl 5 rfl) ?_
  have hp1 := ((hO.1 _ (hE.m h0)).1)
  refine y_gor (vx_runS (As := [.int x1, .int (σ.1 6 i0 0), .int x2, .int x3, .int x5]) (rest := [.int (σ.1 6 i0 0), .ref (δ.2.1 8 i0)]) ⟨hx, hb, hml, hown, hts⟩ (xt_S_thingOfKind hst hwp H.size) (va_cwS 5 hts (lw_S q703 q704 q75 q705) rfl rfl rfl (by decide +kernel) ⟨(Nat.le_of_ble_eq_true rfl), (Nat.le_of_ble_eq_true rfl)⟩) (y_preS hK hO hD hA hZ hP hS) rfl rfl hl.1 rfl (lv_room (Nat.le_of_ble_eq_true rfl)) dX2_add_17 ⟨(Nat.le_of_ble_eq_true rfl), (Nat.le_of_ble_eq_true rfl)⟩) hD hA hS (fun E ce q u H locs hk hP hO hD hS k1 k2 k3 => ?_) (fun r2 u H locs hk hP hO hD hS => ?_)
  · exact hk.elim
  · obtain ⟨δ3, σ4⟩ := u
    obtain ⟨⟨hwp, hF5⟩, hr2, cr2⟩ := hk
    dsimp only at hP hO hD hwp hF5 hr2 cr2
    rw [show δ.2.1 8 i0 = δ3.2.1 8 i0 from ((hF5.1 _ hp1).2).symm]
    have hh6 := hF5.m hp1
    replace hE := hE.tr hF5
    obtain ⟨hi8, hwp⟩ := hwp
    refine x_aast hx hb hK hO hD hP hS i0 hh6 r2 hr2 cr2 hi8 dX2_add_20 (fun H locs hP hS => ?_)
    obtain ⟨σ9, eσ9⟩ : ∃ z, z = tP σ4 8 i0 (σ.1 6 i0 0).toNatClampNeg (some r2) := ⟨_, rfl⟩
    replace hP : XH Γ δ3 σ9 H := by rw [eσ9]; exact hP
    replace hwp := hwp σ9 eσ9
    refine lv_aload_n hx hb dX2_add_21 rfl (lv_at hl 0 rfl) ?_
    refine x_get hx hb hts hown hK hP 6 i0 (hE.m h0) rfl rfl in_X2 7 (by decide) q161 rfl (v := .ref (δ3.2.1 9 i0)) rfl dX2_add_22 ?_
    refine lv_aload_n hx hb dX2_add_25 rfl (lv_at hl 0 rfl) ?_
    refine x_get hx hb hts hown hK hP 6 i0 (hE.m h0) rfl rfl in_X2 0 (by decide) q143 rfl (v := .int (σ9.1 6 i0 0)) rfl dX2_add_26 ?_
    refine lv_iload hx hb dX2_add_29 (lv_at hl 4 rfl) ?_
    obtain ⟨hi10, hwp⟩ := hwp
    refine x_iast hx hb hK hD hP hS 9 i0 ((hO.1 _ (hE.m h0)).2.1) (fun _ => rfl) hi10 dX2_add_31 (fun H locs hP hS => ?_)
    obtain ⟨σ11, eσ11⟩ : ∃ z, z = tI σ9 9 i0 (σ9.1 6 i0 0).toNatClampNeg x4 := ⟨_, rfl⟩
    replace hP : XH Γ δ3 σ11 H := by rw [eσ11]; exact hP
    replace hwp := hwp σ11 eσ11
    refine lv_aload_n hx hb dX2_add_32 rfl (lv_at hl 0 rfl) ?_
    refine x_get hx hb hts hown hK hP 6 i0 (hE.m h0) rfl rfl in_X2 8 (by decide) q164 rfl (v := .ref (δ3.2.1 10 i0)) rfl dX2_add_33 ?_
    refine lv_aload_n hx hb dX2_add_36 rfl (lv_at hl 0 rfl) ?_
    refine x_get hx hb hts hown hK hP 6 i0 (hE.m h0) rfl rfl in_X2 0 (by decide) q143 rfl (v := .int (σ11.1 6 i0 0)) rfl dX2_add_37 ?_
    refine lv_iconst (v := 0) hx hb dX2_add_40 (by decide) ?_
    obtain ⟨hi12, hwp⟩ := hwp
    refine x_iast hx hb hK hD hP hS 10 i0 ((hO.1 _ (hE.m h0)).2.2) (fun _ => rfl) hi12 dX2_add_41 (fun H locs hP hS => ?_)
    obtain ⟨σ13, eσ13⟩ : ∃ z, z = tI σ11 10 i0 (σ11.1 6 i0 0).toNatClampNeg 0 := ⟨_, rfl⟩
    replace hP : XH Γ δ3 σ13 H := by rw [eσ13]; exact hP
    replace hwp := hwp σ13 eσ13
    refine lv_aload_n hx hb dX2_add_42 rfl (lv_at hl 0 rfl) ?_
    refine lv_dup hx hb dX2_add_43 rfl ?_
    refine x_get hx hb hts hown hK hP 6 i0 (hE.m h0) rfl rfl in_X2 0 (by decide) q143 rfl (v := .int (σ13.1 6 i0 0)) rfl dX2_add_44 ?_
    refine lv_dup_x1 hx hb dX2_add_47 rfl rfl ?_
    refine lv_iconst (v := 1) hx hb dX2_add_48 (by decide) ?_
    refine lv_iadd hx hb dX2_add_49 ?_
    refine x_puti hx hb hts hown hK hD hP hS 6 i0 (hE.m h0) rfl rfl in_X2 tyX2 tyX2_ok nmX2 0 (by decide) q143 rfl rfl rfl rfl (Nat.le_of_ble_eq_true rfl) rfl dX2_add_50 (fun H locs hP hS => ?_)
    obtain ⟨σ14, eσ14⟩ : ∃ z, z = tI σ13 6 i0 0 ((σ13.1 6 i0 0) + 1) := ⟨_, rfl⟩
    replace hP : XH Γ δ3 σ14 H := by rw [eσ14]; exact hP
    replace hwp := hwp σ14 eσ14
    refine W.widen (k := 1) (n := 4) (Nat.le_of_ble_eq_true rfl) (Nat.le_of_ble_eq_true rfl) ?_
    refine vx_ret ?_
    exact x_iret hx hb hr hlk hP hO hD hS ⟨hwp, hE⟩ dX2_add_53
set_option maxHeartbeats 4000000 in
set_option maxRecDepth 100000 in
theorem xt_G_add {l : Launch} (hst : l.stackTraces = false) {Γ : GA} {δ0 : XSh} {σ : XSt} {K : Int32 → XSh → XSt → Prop} {i0 : Nat} (h0 : (6, i0) ∈ δ0.1) {x1 : Int32} {x2 : Int32} {x3 : Int32} {x4 : Int32} {x5 : Int32} (hwp : xw_G_add K i0 x1 x2 x3 x4 x5 δ0 σ) : yI l yX2_add (ws_ yX2_add cX2_add 6 (some .int)) ({ frames := 5, cells := 1, slots := 4, locals := 156 } : Room) 1 4 Γ δ0 [.ref i0, .int x1, .int x2, .int x3, .int x4, .int x5] σ (fun r u => K r u.1 u.2 ∧ Ext δ0 u.1) (fun _ _ _ => False) := by
  intro sz
  refine y_of (by decide) [(0, .ref i0), (1, .int x1), (2, .int x2), (3, .int x3), (4, .int x4), (5, .int x5)] (fun _ h => h) (Nat.le_of_ble_eq_true rfl) ?_
  intro p e s m args below meth c hsz Xc
  subst hsz
  exact xk_G_add_e hst Xc h0 δ0 σ Ext.rf hwp
/-! S_allInto -/
def xw_S_allInto_41 (K : Nat → XSh → XSt → Prop) (i0 : Nat) (L7 : Int32 → Nat → Int32 → XSh → XSt → Prop) (x1 : Int32) (y2 : Nat) (x3 : Int32) (t0 : Int32) (t1 : Int32) (z2 : Nat) (δ : XSh) (σ : XSt) : Prop :=
  vp_in t1 8 ∧ (∀ σ2, σ2 = tI σ 15 z2 t1.toNatClampNeg t0 → (L7 x1 y2 (x3 + 1) δ σ2))
set_option maxHeartbeats 4000000 in
set_option maxRecDepth 100000 in
theorem xk_S_allInto_41 {p : Program} {l : Launch} {e : Env} {s : State} {m : MethodId} {args : Array Value} {below : List Frame} {meth : Method} {c : Code} {Γ : GA} {δ0 : XSh} {K : Nat → XSh → XSt → Prop} {i0 : Nat} (hst : l.stackTraces = false) (Xc : CY p s m args meth c cX0_allInto 4 (some (.array .int)) RX0 Γ δ0 (tableOf [])) (h0 : (0, i0) ∈ δ0.1) {L7 : Int32 → Nat → Int32 → XSh → XSt → Prop} (hL7 : ∀ (x1 : Int32) (y2 : Nat) (x3 : Int32) (δ : XSh) (σ : XSt), Ext δ0 δ → (15, y2) ∈ δ.1 → L7 x1 y2 x3 δ σ → TX p l e ({ frames := 24, cells := 1, slots := 8, locals := 522 } : Room) s m args below meth c 4 1 8 (VR below (fun r u => (K r u.1 u.2 ∧ Ext δ0 u.1) ∧ (15, r) ∈ u.1.1 ∧ True) (fun _ _ _ => False) 1 8 Γ δ0 s args) Γ δ0 δ σ 7 [(0, .ref i0), (1, .int x1), (2, .ref y2), (3, .int x3)] []) : ∀ (x1 : Int32) (y2 : Nat) (x3 : Int32) (t0 : Int32) (t1 : Int32) (z2 : Nat) (δ : XSh) (σ : XSt), Ext δ0 δ → (15, y2) ∈ δ.1 → (15, z2) ∈ δ.1 → xw_S_allInto_41 K i0 L7 x1 y2 x3 t0 t1 z2 δ σ → TX p l e ({ frames := 24, cells := 1, slots := 8, locals := 522 } : Room) s m args below meth c 4 1 8 (VR below (fun r u => (K r u.1 u.2 ∧ Ext δ0 u.1) ∧ (15, r) ∈ u.1.1 ∧ True) (fun _ _ _ => False) 1 8 Γ δ0 s args) Γ δ0 δ σ 41 [(0, .ref i0), (1, .int x1), (2, .ref y2), (3, .int x3)] [.int t0, .int t1, .ref z2] := by
  obtain ⟨⟨hx, hb, hml, hown, hts, hK, hr, hlk⟩, hZ, htb⟩ := id Xc
  have hA : ∀ q, s.heap.size ≤ q → AX δ0 s.heap.size q := fun q h => Or.inr h
  intro x1 y2 x3 t0 t1 z2 δ σ hE hy2 hz2 hwp H locs ls hP hO hD hS hl
  unfold xw_S_allInto_41 at hwp
  obtain ⟨hi1, hwp⟩ := hwp
  refine x_iast hx hb hK hD hP hS 15 z2 hz2 (fun _ => rfl) hi1 dX0_allInto_41 (fun H locs hP hS => ?_)
  obtain ⟨σ2, eσ2⟩ : ∃ z, z = tI σ 15 z2 t1.toNatClampNeg t0 := ⟨_, rfl⟩
  replace hP : XH Γ δ σ2 H := by rw [eσ2]; exact hP
  replace hwp := hwp σ2 eσ2
  refine lv_iinc (v := x3 + 1) (lv' := [(3, .int (x3 + 1)), (0, .ref i0), (1, .int x1), (2, .ref y2)]) hx hb dX0_allInto_42 hl (k := 3) rfl rfl (by decide) rfl (fun ls hl => ?_)
  refine lv_goto (tgt := 7) hx hb dX0_allInto_45 (by decide) ?_
  refine W.widen (k := 1) (n := 8) (Nat.le_of_ble_eq_true rfl) (Nat.le_of_ble_eq_true rfl) ?_
  exact hL7 _ _ _ δ σ2 hE hy2 hwp H locs ls hP hO hD hS (lv_sub hl [1, 2, 3, 0] rfl)
def xw_S_allInto_7_b (K : Nat → XSh → XSt → Prop) (i0 : Nat) (L7 : Int32 → Nat → Int32 → XSh → XSt → Prop) (x1 : Int32) (y2 : Nat) (x3 : Int32) (δ : XSh) (σ : XSt) : Prop :=
  ∃ o1, σ.2.2 0 i0 4 = some o1 ∧ ((((σ.1 6 o1 0) ≤ x3) → (K y2 δ σ)) ∧ ((¬ ((σ.1 6 o1 0) ≤ x3)) → (xw_G_isHouse δ σ (fun r3 => ((r3 = 0) → (xw_S_allInto_41 K i0 L7 x1 y2 x3 0 x3 y2 δ σ)) ∧ ((¬ (r3 = 0)) → (xw_S_mayInto δ (fun r5 σ6 => xw_S_allInto_41 K i0 L7 x1 y2 x3 r5 x3 y2 δ σ6) i0 x3 x1 σ))) o1 x3)))
def xw_S_allInto_7 (K : Nat → XSh → XSt → Prop) (i0 : Nat) : Nat → Int32 → Nat → Int32 → XSh → XSt → Prop
  | 0 => fun _ _ _ _ _ => False
  | n + 1 => fun x1 y2 x3 δ σ => xw_S_allInto_7_b K i0 (xw_S_allInto_7 K i0 n) x1 y2 x3 δ σ
set_option maxHeartbeats 4000000 in
set_option maxRecDepth 100000 in
theorem xk_S_allInto_7_b {p : Program} {l : Launch} {e : Env} {s : State} {m : MethodId} {args : Array Value} {below : List Frame} {meth : Method} {c : Code} {Γ : GA} {δ0 : XSh} {K : Nat → XSh → XSt → Prop} {i0 : Nat} (hst : l.stackTraces = false) (Xc : CY p s m args meth c cX0_allInto 4 (some (.array .int)) RX0 Γ δ0 (tableOf [])) (h0 : (0, i0) ∈ δ0.1) {L7 : Int32 → Nat → Int32 → XSh → XSt → Prop} (hL7 : ∀ (x1 : Int32) (y2 : Nat) (x3 : Int32) (δ : XSh) (σ : XSt), Ext δ0 δ → (15, y2) ∈ δ.1 → L7 x1 y2 x3 δ σ → TX p l e ({ frames := 24, cells := 1, slots := 8, locals := 522 } : Room) s m args below meth c 4 1 8 (VR below (fun r u => (K r u.1 u.2 ∧ Ext δ0 u.1) ∧ (15, r) ∈ u.1.1 ∧ True) (fun _ _ _ => False) 1 8 Γ δ0 s args) Γ δ0 δ σ 7 [(0, .ref i0), (1, .int x1), (2, .ref y2), (3, .int x3)] []) : ∀ (x1 : Int32) (y2 : Nat) (x3 : Int32) (δ : XSh) (σ : XSt), Ext δ0 δ → (15, y2) ∈ δ.1 → xw_S_allInto_7_b K i0 L7 x1 y2 x3 δ σ → TX p l e ({ frames := 24, cells := 1, slots := 8, locals := 522 } : Room) s m args below meth c 4 1 8 (VR below (fun r u => (K r u.1 u.2 ∧ Ext δ0 u.1) ∧ (15, r) ∈ u.1.1 ∧ True) (fun _ _ _ => False) 1 8 Γ δ0 s args) Γ δ0 δ σ 7 [(0, .ref i0), (1, .int x1), (2, .ref y2), (3, .int x3)] [] := by
  obtain ⟨⟨hx, hb, hml, hown, hts, hK, hr, hlk⟩, hZ, htb⟩ := id Xc
  have hA : ∀ q, s.heap.size ≤ q → AX δ0 s.heap.size q := fun q h => Or.inr h
  intro x1 y2 x3 δ σ hE hy2 hwp H locs ls hP hO hD hS hl
  unfold xw_S_allInto_7_b at hwp
  refine lv_iload_n hx hb dX0_allInto_7 rfl (lv_at hl 3 rfl) ?_
  refine lv_aload_n hx hb dX0_allInto_8 rfl (lv_at hl 0 rfl) ?_
  obtain ⟨o1, eo1, hwp⟩ := hwp
  refine x_getr hx hb hts hown hK hP 0 i0 (hE.m h0) rfl rfl in_X0 4 (by decide) q200 rfl rfl eo1 dX0_allInto_9 (fun ho1 co1 => ?_)
  refine x_get hx hb hts hown hK hP 6 o1 ho1 rfl rfl in_X2 0 (by decide) q145 rfl (v := .int (σ.1 6 o1 0)) rfl dX0_allInto_12 ?_
  refine lv_icmp_ge (tgt := 48) hx hb dX0_allInto_15 (by decide) (fun c2 => ?_) (fun c2 => ?_)
  · replace hwp := hwp.1 c2
    refine lv_aload_n hx hb dX0_allInto_48 rfl (lv_at hl 2 rfl) ?_
    refine W.widen (k := 1) (n := 8) (Nat.le_of_ble_eq_true rfl) (Nat.le_of_ble_eq_true rfl) ?_
    refine vx_ret ?_
    exact x_aret hx hb hr (Or.inr ⟨_, rfl⟩) hlk hP hO hD hS ⟨⟨hwp, hE⟩, hy2, trivial⟩ dX0_allInto_49
  · replace hwp := hwp.2 c2
    refine lv_aload_n hx hb dX0_allInto_18 rfl (lv_at hl 2 rfl) ?_
    refine lv_iload_n hx hb dX0_allInto_19 rfl (lv_at hl 3 rfl) ?_
    refine lv_aload_n hx hb dX0_allInto_20 rfl (lv_at hl 0 rfl) ?_
    refine x_getr hx hb hts hown hK hP 0 i0 (hE.m h0) rfl rfl in_X0 4 (by decide) q200 rfl rfl eo1 dX0_allInto_21 (fun ho1 co1 => ?_)
    refine lv_iload_n hx hb dX0_allInto_24 rfl (lv_at hl 3 rfl) ?_
    refine x_goi (va_runV (As := [.int x3]) (rest := [.int x3, .ref y2]) ⟨hx, hb, hml, hown, hts⟩ (xt_G_isHouse ho1 hwp H.size) (cwV 1 hts (lw_V q858 q542 q543 q77 q544) rfl rfl rfl (by decide +kernel) ⟨Nat.le_of_ble_eq_true rfl, Nat.le_of_ble_eq_true rfl⟩) (x_preV hK hO hD hP 6 o1 ho1 rfl rfl) rfl rfl hl.1 rfl (lv_room (Nat.le_of_ble_eq_true rfl)) dX0_allInto_25 ⟨(Nat.le_of_ble_eq_true rfl), (Nat.le_of_ble_eq_true rfl)⟩) hD hA hS (fun r3 u H locs hk hP hO hD hS => ?_)
    obtain ⟨hwp, eu⟩ := hk
    subst eu
    dsimp only at hP hO hD
    refine lv_if_eq (tgt := 40) hx hb dX0_allInto_28 (by decide) (fun c4 => ?_) (fun c4 => ?_)
    · replace hwp := hwp.1 c4
      refine lv_iconst (v := 0) hx hb dX0_allInto_40 (by decide) ?_
      refine W.widen (k := 1) (n := 8) (Nat.le_of_ble_eq_true rfl) (Nat.le_of_ble_eq_true rfl) ?_
      exact xk_S_allInto_41 hst Xc h0 hL7 _ _ _ _ _ _ δ σ hE hy2 hy2 hwp H locs ls hP hO hD hS (lv_sub hl [0, 1, 2, 3] rfl)
    · replace hwp := hwp.2 c4
      refine lv_aload_n hx hb dX0_allInto_31 rfl (lv_at hl 0 rfl) ?_
      refine lv_iload_n hx hb dX0_allInto_32 rfl (lv_at hl 3 rfl) ?_
      refine lv_iload_n hx hb dX0_allInto_33 rfl (lv_at hl 1 rfl) ?_
      refine x_goi (va_runV (As := [.int x3, .int x1]) (rest := [.int x3, .ref y2]) ⟨hx, hb, hml, hown, hts⟩ (xt_S_mayInto (hE.m h0) hwp H.size) (cwV 2 hts (lw_V q1138 q1140 qs19 q75 q1141) rfl rfl rfl (by decide +kernel) ⟨Nat.le_of_ble_eq_true rfl, Nat.le_of_ble_eq_true rfl⟩) (x_preV hK hO hD hP 0 i0 (hE.m h0) rfl rfl) rfl rfl hl.1 rfl (lv_room (Nat.le_of_ble_eq_true rfl)) dX0_allInto_34 ⟨(Nat.le_of_ble_eq_true rfl), (Nat.le_of_ble_eq_true rfl)⟩) hD hA hS (fun r5 u H locs hk hP hO hD hS => ?_)
      obtain ⟨u1, σ6⟩ := u
      obtain ⟨hwp, eu⟩ := hk
      have eu : δ = u1 := eu.symm
      subst eu
      dsimp only at hP hO hD hwp
      refine lv_goto (tgt := 41) hx hb dX0_allInto_37 (by decide) ?_
      refine W.widen (k := 1) (n := 8) (Nat.le_of_ble_eq_true rfl) (Nat.le_of_ble_eq_true rfl) ?_
      exact xk_S_allInto_41 hst Xc h0 hL7 _ _ _ _ _ _ δ σ6 hE hy2 hy2 hwp H locs ls hP hO hD hS (lv_sub hl [0, 1, 2, 3] rfl)
set_option maxHeartbeats 4000000 in
set_option maxRecDepth 100000 in
theorem xk_S_allInto_7 {p : Program} {l : Launch} {e : Env} {s : State} {m : MethodId} {args : Array Value} {below : List Frame} {meth : Method} {c : Code} {Γ : GA} {δ0 : XSh} {K : Nat → XSh → XSt → Prop} {i0 : Nat} (hst : l.stackTraces = false) (Xc : CY p s m args meth c cX0_allInto 4 (some (.array .int)) RX0 Γ δ0 (tableOf [])) (h0 : (0, i0) ∈ δ0.1) : ∀ n (x1 : Int32) (y2 : Nat) (x3 : Int32) (δ : XSh) (σ : XSt), Ext δ0 δ → (15, y2) ∈ δ.1 → xw_S_allInto_7 K i0 n x1 y2 x3 δ σ → TX p l e ({ frames := 24, cells := 1, slots := 8, locals := 522 } : Room) s m args below meth c 4 1 8 (VR below (fun r u => (K r u.1 u.2 ∧ Ext δ0 u.1) ∧ (15, r) ∈ u.1.1 ∧ True) (fun _ _ _ => False) 1 8 Γ δ0 s args) Γ δ0 δ σ 7 [(0, .ref i0), (1, .int x1), (2, .ref y2), (3, .int x3)] [] := by
  intro n
  induction n with
  | zero => intro _ _ _ _ _ _ _ hwp; exact hwp.elim
  | succ n ih => intro x1 y2 x3 δ σ hE hy2 hwp; exact xk_S_allInto_7_b hst Xc h0 ih x1 y2 x3 δ σ hE hy2 hwp
def xw_S_allInto (K : Nat → XSh → XSt → Prop) (i0 : Nat) (x1 : Int32) (δ : XSh) (σ : XSt) : Prop :=
  ∀ q1 δ2 σ3, NewA δ σ q1 δ2 σ3 → (∃ n, xw_S_allInto_7 K i0 n x1 q1 0 δ2 σ3)
set_option maxHeartbeats 4000000 in
set_option maxRecDepth 100000 in
theorem xk_S_allInto_e {p : Program} {l : Launch} {e : Env} {s : State} {m : MethodId} {args : Array Value} {below : List Frame} {meth : Method} {c : Code} {Γ : GA} {δ0 : XSh} {K : Nat → XSh → XSt → Prop} {i0 : Nat} (hst : l.stackTraces = false) (Xc : CY p s m args meth c cX0_allInto 4 (some (.array .int)) RX0 Γ δ0 (tableOf [])) (h0 : (0, i0) ∈ δ0.1) {x1 : Int32} : ∀ (δ : XSh) (σ : XSt), Ext δ0 δ → xw_S_allInto K i0 x1 δ σ → TX p l e ({ frames := 24, cells := 1, slots := 8, locals := 522 } : Room) s m args below meth c 4 0 0 (VR below (fun r u => (K r u.1 u.2 ∧ Ext δ0 u.1) ∧ (15, r) ∈ u.1.1 ∧ True) (fun _ _ _ => False) 1 8 Γ δ0 s args) Γ δ0 δ σ 0 [(0, .ref i0), (1, .int x1)] [] := by
  obtain ⟨⟨hx, hb, hml, hown, hts, hK, hr, hlk⟩, hZ, htb⟩ := id Xc
  have hA : ∀ q, s.heap.size ≤ q → AX δ0 s.heap.size q := fun q h => Or.inr h
  intro δ σ hE hwp H locs ls hP hO hD hS hl
  unfold xw_S_allInto at hwp
  refine lv_bipush (v := 8) hx hb dX0_allInto_0 (by decide) ?_
  refine va_newa (D := Γ.1) (atype := .int) (ty := .int) (N' := 8) (a0 := (8, .inl (fun _ => 0))) hx hb (hts _ q134) rfl hK.1 hP.1 (hD.va (fun _ => rfl)) hS hA (fun _ => rfl) (by decide) rfl (Nat.le_of_ble_eq_true rfl) (Nat.le_of_ble_eq_true rfl) (Nat.le_of_ble_eq_true rfl) dX0_allInto_2 (fun q1 cA H hK9 hR hRD hS => ?_)
  obtain rfl : cA = Γ.2 0 := ka_same hK9 (t0 := 0) rfl
  obtain ⟨δ2, σ3, hP, hO, hD, hN4⟩ := mkA (rotP hR) (rotD hRD) hP.2 hO
  replace hE := hE.tr hN4.1.1
  replace hwp := hwp q1 δ2 σ3 hN4
  refine lv_astore_n (lv' := [(2, .ref q1), (0, .ref i0), (1, .int x1)]) hx hb dX0_allInto_4 rfl hl (by decide) rfl (fun ls hl => ?_)
  refine lv_iconst (v := 0) hx hb dX0_allInto_5 (by decide) ?_
  refine lv_istore_n (lv' := [(3, .int 0), (2, .ref q1), (0, .ref i0), (1, .int x1)]) hx hb dX0_allInto_6 rfl hl (by decide) rfl (fun ls hl => ?_)
  obtain ⟨n, hwp⟩ := hwp
  refine W.widen (k := 1) (n := 8) (Nat.le_of_ble_eq_true rfl) (Nat.le_of_ble_eq_true rfl) ?_
  exact xk_S_allInto_7 hst Xc h0 n _ _ _ δ2 σ3 hE hN4.2.2.1 hwp H locs ls hP hO hD hS (lv_sub hl [2, 3, 1, 0] rfl)
set_option maxHeartbeats 4000000 in
set_option maxRecDepth 100000 in
theorem xt_S_allInto {l : Launch} (hst : l.stackTraces = false) {Γ : GA} {δ0 : XSh} {σ : XSt} {K : Nat → XSh → XSt → Prop} {i0 : Nat} (h0 : (0, i0) ∈ δ0.1) {x1 : Int32} (hwp : xw_S_allInto K i0 x1 δ0 σ) : yR l yX0_allInto (ws_ yX0_allInto cX0_allInto 4 (some (.array .int))) ({ frames := 24, cells := 1, slots := 8, locals := 522 } : Room) 1 8 Γ δ0 [.ref i0, .int x1] σ (fun r u => (K r u.1 u.2 ∧ Ext δ0 u.1) ∧ (15, r) ∈ u.1.1 ∧ True) (fun _ _ _ => False) := by
  intro sz
  refine y_of (by decide) [(0, .ref i0), (1, .int x1)] (fun _ h => h) (Nat.le_of_ble_eq_true rfl) ?_
  intro p e s m args below meth c hsz Xc
  subst hsz
  exact xk_S_allInto_e hst Xc h0 δ0 σ Ext.rf hwp
/-! S_raises -/
def xw_S_raises_24 (K : XSh → XSt → Prop) (X : Nat → XSh → XSt → Prop) (i0 : Nat) (x1 : Int32) (t0 : Int32) (δ : XSh) (σ : XSt) : Prop :=
  xw_S_need (fun δ1 σ2 => ∃ o4, σ2.2.2 0 i0 3 = some o4 ∧ (∃ o5, σ2.2.2 0 i0 4 = some o5 ∧ (xw_G_take δ1 (fun r6 σ7 => vp_in x1 8 ∧ (vp_in x1 8 ∧ (∀ σ10, σ10 = tI σ7 9 r6 x1.toNatClampNeg ((σ7.1 9 r6 x1.toNatClampNeg) + 1) → (K δ1 σ10)))) o4 o5 σ2))) (fun q14 δ11 σ12 => X q14 δ11 σ12) t0 (-6) δ σ
set_option maxHeartbeats 4000000 in
set_option maxRecDepth 100000 in
theorem xk_S_raises_24 {p : Program} {l : Launch} {e : Env} {s : State} {m : MethodId} {args : Array Value} {below : List Frame} {meth : Method} {c : Code} {Γ : GA} {δ0 : XSh} {K : XSh → XSt → Prop} {X : Nat → XSh → XSt → Prop} {i0 : Nat} (hst : l.stackTraces = false) (Xc : CY p s m args meth c cX0_raises 2 none RX0 Γ δ0 (tableOf [])) (h0 : (0, i0) ∈ δ0.1) : ∀ (x1 : Int32) (t0 : Int32) (δ : XSh) (σ : XSt), Ext δ0 δ → xw_S_raises_24 K X i0 x1 t0 δ σ → TX p l e ({ frames := 7, cells := 3, slots := 21, locals := 192 } : Room) s m args below meth c 2 2 14 (VV below (fun u => K u.1 u.2 ∧ Ext δ0 u.1) (fun E q u => (E = RX5 ∧ (13, q) ∈ u.1.1) ∧ X q u.1 u.2 ∧ Ext δ0 u.1) 3 21 Γ δ0 s args) Γ δ0 δ σ 24 [(0, .ref i0), (1, .int x1)] [.int t0] := by
  obtain ⟨⟨hx, hb, hml, hown, hts, hK, hr, hlk⟩, hZ, htb⟩ := id Xc
  have hA : ∀ q, s.heap.size ≤ q → AX δ0 s.heap.size q := fun q h => Or.inr h
  intro x1 t0 δ σ hE hwp H locs ls hP hO hD hS hl
  unfold xw_S_raises_24 at hwp
  refine lv_bipush (v := (-6)) hx hb dX0_raises_24 (by decide) ?_
  refine y_gov (vx_runS (As := [.int t0, .int (-6)]) (rest := []) ⟨hx, hb, hml, hown, hts⟩ (xt_S_need hst hwp H.size) (va_cwS 2 hts (lw_S q328 q329 q75 q330) rfl rfl rfl (by decide +kernel) ⟨(Nat.le_of_ble_eq_true rfl), (Nat.le_of_ble_eq_true rfl)⟩) (y_preS hK hO hD hA hZ hP hS) rfl rfl hl.1 rfl (lv_room (Nat.le_of_ble_eq_true rfl)) dX0_raises_26 ⟨(Nat.le_of_ble_eq_true rfl), (Nat.le_of_ble_eq_true rfl)⟩) hD hA hS (fun E ce q14 u H locs hk hP hO hD hS k1 k2 k3 => ?_) (fun u H locs hk hP hO hD hS => ?_)
  · obtain ⟨δ11, σ12⟩ := u
    obtain ⟨⟨rfl, hq14⟩, hwp, hF13⟩ := hk
    dsimp only at hP hO hD hwp hF13 hq14
    replace hE := hE.tr hF13
    exact y_out hown hlk (fun z hz => by rw [htb] at hz; exact nomatch hz) hP hO hD hS k1 k2 k3 ⟨⟨rfl, hq14⟩, hwp, hE⟩ (Nat.le_of_ble_eq_true rfl) (Nat.le_of_ble_eq_true rfl)
  · obtain ⟨δ1, σ2⟩ := u
    obtain ⟨hwp, hF3⟩ := hk
    dsimp only at hP hO hD hwp hF3
    replace hE := hE.tr hF3
    refine lv_aload_n hx hb dX0_raises_29 rfl (lv_at hl 0 rfl) ?_
    obtain ⟨o4, eo4, hwp⟩ := hwp
    refine x_getr hx hb hts hown hK hP 0 i0 (hE.m h0) rfl rfl in_X0 3 (by decide) q199 rfl rfl eo4 dX0_raises_30 (fun ho4 co4 => ?_)
    refine lv_aload_n hx hb dX0_raises_33 rfl (lv_at hl 0 rfl) ?_
    obtain ⟨o5, eo5, hwp⟩ := hwp
    refine x_getr hx hb hts hown hK hP 0 i0 (hE.m h0) rfl rfl in_X0 4 (by decide) q200 rfl rfl eo5 dX0_raises_34 (fun ho5 co5 => ?_)
    refine x_gor (va_runV (As := [.ref o5]) (rest := []) ⟨hx, hb, hml, hown, hts⟩ (xt_G_take ho4 ho5 hwp H.size) (cwV 1 hts (lw_V q872 q873 q874 q77 q875) rfl rfl rfl (by decide +kernel) ⟨Nat.le_of_ble_eq_true rfl, Nat.le_of_ble_eq_true rfl⟩) (x_preV hK hO hD hP 6 o4 ho4 rfl rfl) rfl rfl hl.1 rfl (lv_room (Nat.le_of_ble_eq_true rfl)) dX0_raises_37 ⟨(Nat.le_of_ble_eq_true rfl), (Nat.le_of_ble_eq_true rfl)⟩) hD hA hS (fun r6 u H locs hk hP hO hD hS => ?_)
    obtain ⟨u1, σ7⟩ := u
    obtain ⟨⟨hwp, eu⟩, hr6⟩ := hk
    have eu : δ1 = u1 := eu.symm
    subst eu
    dsimp only at hP hO hD hwp hr6
    refine x_get hx hb hts hown hK hP 6 r6 hr6 rfl rfl in_X2 7 (by decide) q163 rfl (v := .ref (δ1.2.1 9 r6)) rfl dX0_raises_40 ?_
    refine lv_iload_n hx hb dX0_raises_43 rfl (lv_at hl 1 rfl) ?_
    refine lv_dup2_11 hx hb dX0_raises_44 rfl rfl ?_
    obtain ⟨hi8, hwp⟩ := hwp
    refine x_iald hx hb hK hP 9 r6 ((hO.1 _ hr6).2.1) rfl hi8 dX0_raises_45 ?_
    refine lv_iconst (v := 1) hx hb dX0_raises_46 (by decide) ?_
    refine lv_iadd hx hb dX0_raises_47 ?_
    obtain ⟨hi9, hwp⟩ := hwp
    refine x_iast hx hb hK hD hP hS 9 r6 ((hO.1 _ hr6).2.1) (fun _ => rfl) hi9 dX0_raises_48 (fun H locs hP hS => ?_)
    obtain ⟨σ10, eσ10⟩ : ∃ z, z = tI σ7 9 r6 x1.toNatClampNeg ((σ7.1 9 r6 x1.toNatClampNeg) + 1) := ⟨_, rfl⟩
    replace hP : XH Γ δ1 σ10 H := by rw [eσ10]; exact hP
    replace hwp := hwp σ10 eσ10
    refine W.widen (k := 3) (n := 21) (Nat.le_of_ble_eq_true rfl) (Nat.le_of_ble_eq_true rfl) ?_
    refine vx_ret ?_
    exact x_vret hx hb hr hlk hP hO hD hS ⟨hwp, hE⟩ dX0_raises_49
def xw_S_raises (K : XSh → XSt → Prop) (X : Nat → XSh → XSt → Prop) (i0 : Nat) (x1 : Int32) (δ : XSh) (σ : XSt) : Prop :=
  xw_S_mustHouse (fun δ1 σ2 => ∃ o4, σ2.2.2 0 i0 4 = some o4 ∧ (vp_in x1 8 ∧ (((20 ≤ (σ2.1 9 o4 x1.toNatClampNeg)) → (xw_S_raises_24 K X i0 x1 0 δ1 σ2)) ∧ ((¬ (20 ≤ (σ2.1 9 o4 x1.toNatClampNeg))) → (xw_S_raises_24 K X i0 x1 1 δ1 σ2))))) (fun q10 δ7 σ8 => X q10 δ7 σ8) i0 x1 δ σ
set_option maxHeartbeats 4000000 in
set_option maxRecDepth 100000 in
theorem xk_S_raises_e {p : Program} {l : Launch} {e : Env} {s : State} {m : MethodId} {args : Array Value} {below : List Frame} {meth : Method} {c : Code} {Γ : GA} {δ0 : XSh} {K : XSh → XSt → Prop} {X : Nat → XSh → XSt → Prop} {i0 : Nat} (hst : l.stackTraces = false) (Xc : CY p s m args meth c cX0_raises 2 none RX0 Γ δ0 (tableOf [])) (h0 : (0, i0) ∈ δ0.1) {x1 : Int32} : ∀ (δ : XSh) (σ : XSt), Ext δ0 δ → xw_S_raises K X i0 x1 δ σ → TX p l e ({ frames := 7, cells := 3, slots := 21, locals := 192 } : Room) s m args below meth c 2 0 0 (VV below (fun u => K u.1 u.2 ∧ Ext δ0 u.1) (fun E q u => (E = RX5 ∧ (13, q) ∈ u.1.1) ∧ X q u.1 u.2 ∧ Ext δ0 u.1) 3 21 Γ δ0 s args) Γ δ0 δ σ 0 [(0, .ref i0), (1, .int x1)] [] := by
  obtain ⟨⟨hx, hb, hml, hown, hts, hK, hr, hlk⟩, hZ, htb⟩ := id Xc
  have hA : ∀ q, s.heap.size ≤ q → AX δ0 s.heap.size q := fun q h => Or.inr h
  intro δ σ hE hwp H locs ls hP hO hD hS hl
  unfold xw_S_raises at hwp
  refine lv_aload_n hx hb dX0_raises_0 rfl (lv_at hl 0 rfl) ?_
  refine lv_iload_n hx hb dX0_raises_1 rfl (lv_at hl 1 rfl) ?_
  refine y_gov (vx_runV (As := [.int x1]) (rest := []) ⟨hx, hb, hml, hown, hts⟩ (xt_S_mustHouse hst (hE.m h0) hwp H.size) (cwV 1 hts (lw_V q863 q865 qs7 q75 q866) rfl rfl rfl (by decide +kernel) ⟨(Nat.le_of_ble_eq_true rfl), (Nat.le_of_ble_eq_true rfl)⟩) (y_preV hK hO hD hA hZ hP hS 0 i0 (hE.m h0) rfl rfl) rfl rfl hl.1 rfl (lv_room (Nat.le_of_ble_eq_true rfl)) dX0_raises_2 ⟨(Nat.le_of_ble_eq_true rfl), (Nat.le_of_ble_eq_true rfl)⟩) hD hA hS (fun E ce q10 u H locs hk hP hO hD hS k1 k2 k3 => ?_) (fun u H locs hk hP hO hD hS => ?_)
  · obtain ⟨δ7, σ8⟩ := u
    obtain ⟨⟨rfl, hq10⟩, hwp, hF9⟩ := hk
    dsimp only at hP hO hD hwp hF9 hq10
    replace hE := hE.tr hF9
    exact y_out hown hlk (fun z hz => by rw [htb] at hz; exact nomatch hz) hP hO hD hS k1 k2 k3 ⟨⟨rfl, hq10⟩, hwp, hE⟩ (Nat.le_of_ble_eq_true rfl) (Nat.le_of_ble_eq_true rfl)
  · obtain ⟨δ1, σ2⟩ := u
    obtain ⟨hwp, hF3⟩ := hk
    dsimp only at hP hO hD hwp hF3
    replace hE := hE.tr hF3
    refine lv_aload_n hx hb dX0_raises_5 rfl (lv_at hl 0 rfl) ?_
    obtain ⟨o4, eo4, hwp⟩ := hwp
    refine x_getr hx hb hts hown hK hP 0 i0 (hE.m h0) rfl rfl in_X0 4 (by decide) q200 rfl rfl eo4 dX0_raises_6 (fun ho4 co4 => ?_)
    refine x_get hx hb hts hown hK hP 6 o4 ho4 rfl rfl in_X2 7 (by decide) q163 rfl (v := .ref (δ1.2.1 9 o4)) rfl dX0_raises_9 ?_
    refine lv_iload_n hx hb dX0_raises_12 rfl (lv_at hl 1 rfl) ?_
    obtain ⟨hi5, hwp⟩ := hwp
    refine x_iald hx hb hK hP 9 o4 ((hO.1 _ ho4).2.1) rfl hi5 dX0_raises_13 ?_
    refine lv_bipush (v := 20) hx hb dX0_raises_14 (by decide) ?_
    refine lv_icmp_ge (tgt := 23) hx hb dX0_raises_16 (by decide) (fun c6 => ?_) (fun c6 => ?_)
    · replace hwp := hwp.1 c6
      refine lv_iconst (v := 0) hx hb dX0_raises_23 (by decide) ?_
      refine W.widen (k := 2) (n := 14) (Nat.le_of_ble_eq_true rfl) (Nat.le_of_ble_eq_true rfl) ?_
      exact xk_S_raises_24 hst Xc h0 _ _ δ1 σ2 hE hwp H locs ls hP hO hD hS (lv_sub hl [0, 1] rfl)
    · replace hwp := hwp.2 c6
      refine lv_iconst (v := 1) hx hb dX0_raises_19 (by decide) ?_
      refine lv_goto (tgt := 24) hx hb dX0_raises_20 (by decide) ?_
      refine W.widen (k := 2) (n := 14) (Nat.le_of_ble_eq_true rfl) (Nat.le_of_ble_eq_true rfl) ?_
      exact xk_S_raises_24 hst Xc h0 _ _ δ1 σ2 hE hwp H locs ls hP hO hD hS (lv_sub hl [0, 1] rfl)
set_option maxHeartbeats 4000000 in
set_option maxRecDepth 100000 in
theorem xt_S_raises {l : Launch} (hst : l.stackTraces = false) {Γ : GA} {δ0 : XSh} {σ : XSt} {K : XSh → XSt → Prop} {X : Nat → XSh → XSt → Prop} {i0 : Nat} (h0 : (0, i0) ∈ δ0.1) {x1 : Int32} (hwp : xw_S_raises K X i0 x1 δ0 σ) : yV l yX0_raises (ws_ yX0_raises cX0_raises 2 none) ({ frames := 7, cells := 3, slots := 21, locals := 192 } : Room) 3 21 Γ δ0 [.ref i0, .int x1] σ (fun u => K u.1 u.2 ∧ Ext δ0 u.1) (fun E q u => (E = RX5 ∧ (13, q) ∈ u.1.1) ∧ X q u.1 u.2 ∧ Ext δ0 u.1) := by
  intro sz
  refine y_of (by decide) [(0, .ref i0), (1, .int x1)] (fun _ h => h) (Nat.le_of_ble_eq_true rfl) ?_
  intro p e s m args below meth c hsz Xc
  subst hsz
  exact xk_S_raises_e hst Xc h0 δ0 σ Ext.rf hwp
/-! Rd_hasRoom -/
def xw_Rd_hasRoom (K : XSh → XSt → Prop) (X : Nat → XSh → XSt → Prop) (i0 : Nat) (x1 : Int32) (x2 : Int32) (δ : XSh) (σ : XSt) : Prop :=
  ((¬ (x1 = 0)) → (K δ σ)) ∧ ((x1 = 0) → (∀ q2 δ3 σ4, NewFa x2 δ σ q2 δ3 σ4 → (X q2 δ3 σ4)))
set_option maxHeartbeats 4000000 in
set_option maxRecDepth 100000 in
theorem xk_Rd_hasRoom_e {p : Program} {l : Launch} {e : Env} {s : State} {m : MethodId} {args : Array Value} {below : List Frame} {meth : Method} {c : Code} {Γ : GA} {δ0 : XSh} {K : XSh → XSt → Prop} {X : Nat → XSh → XSt → Prop} {i0 : Nat} (hst : l.stackTraces = false) (Xc : CY p s m args meth c cX18_hasRoom 3 none RX18 Γ δ0 (tableOf [])) (h0 : (12, i0) ∈ δ0.1) {x1 : Int32} {x2 : Int32} : ∀ (δ : XSh) (σ : XSt), Ext δ0 δ → xw_Rd_hasRoom K X i0 x1 x2 δ σ → TX p l e ({ frames := 4, cells := 1, slots := 7, locals := 129 } : Room) s m args below meth c 3 0 0 (VV below (fun u => K u.1 u.2 ∧ Ext δ0 u.1) (fun E q u => (E = RX19 ∧ (14, q) ∈ u.1.1) ∧ X q u.1 u.2 ∧ Ext δ0 u.1) 1 7 Γ δ0 s args) Γ δ0 δ σ 0 [(0, .ref i0), (1, .int x1), (2, .int x2)] [] := by
  obtain ⟨⟨hx, hb, hml, hown, hts, hK, hr, hlk⟩, hZ, htb⟩ := id Xc
  have hA : ∀ q, s.heap.size ≤ q → AX δ0 s.heap.size q := fun q h => Or.inr h
  intro δ σ hE hwp H locs ls hP hO hD hS hl
  unfold xw_Rd_hasRoom at hwp
  refine lv_iload_n hx hb dX18_hasRoom_0 rfl (lv_at hl 1 rfl) ?_
  refine lv_if_ne (tgt := 13) hx hb dX18_hasRoom_1 (by decide) (fun c1 => ?_) (fun c1 => ?_)
  · replace hwp := hwp.1 c1
    refine W.widen (k := 1) (n := 7) (Nat.le_of_ble_eq_true rfl) (Nat.le_of_ble_eq_true rfl) ?_
    refine vx_ret ?_
    exact x_vret hx hb hr hlk hP hO hD hS ⟨hwp, hE⟩ dX18_hasRoom_13
  · replace hwp := hwp.2 c1
    refine va_new (D := Γ.1) (ci := 18) (fs := [.null, .null, .null, .null, .null, .int 0, .int 0]) (C := RX19) (T := TX19) (N := 7) hx hb hts in_X19 tyX19 tyX19_ok hown (hts _ q993) (hts _ q994) (hts _ q108) hK.1 hP.1 (hD.va (fun _ => rfl)) hS hA rfl (fun j hj => by rcases (show j = 0 ∨ j = 1 ∨ j = 2 ∨ j = 3 ∨ j = 4 ∨ j = 5 ∨ j = 6 by omega) with rfl | rfl | rfl | rfl | rfl | rfl | rfl <;> rfl) (Nat.le_of_ble_eq_true rfl) (Nat.le_of_ble_eq_true rfl) dX18_hasRoom_4 (fun q2 H hR hRD hS => ?_)
    replace hR := rotP hR
    replace hRD := rotD hRD
    replace hP : XH Γ δ σ H := ⟨tailP (ex := [_]) hR, hP.2⟩
    refine lv_dup hx hb dX18_hasRoom_7 rfl ?_
    refine lv_iload_n hx hb dX18_hasRoom_8 rfl (lv_at hl 2 rfl) ?_
    refine r_go (X := δ.1.map (gX Γ δ σ)) (va_runI (As := [.int x2]) (rest := [.ref q2]) ⟨hx, hb, hml, hown, hts⟩ (ct_Fa H.size) (cwI 1 hts (lw_meth q1004) rfl rfl rfl (hts _ q108) (hts _ q1002) (hts _ q1003) rfl (by decide +kernel) ⟨(Nat.le_of_ble_eq_true rfl), (Nat.le_of_ble_eq_true rfl)⟩) (r_pre hK hA hZ hR hRD hS) rfl rfl hl.1 rfl (lv_room (Nat.le_of_ble_eq_true rfl)) dX18_hasRoom_9 ⟨(Nat.le_of_ble_eq_true rfl), (Nat.le_of_ble_eq_true rfl)⟩) hA hR hRD hS (fun ex H locs hk hR hRD hS => ?_)
    subst hk
    obtain ⟨δ3, σ4, hP, hO, hD, hN5⟩ := mkFa hR hRD hP.2 hO
    replace hE := hE.tr hN5.1.1
    replace hwp := hwp q2 δ3 σ4 hN5
    obtain ⟨ce, k1, k2, k3⟩ := x_cell hK hP 14 q2 hN5.2.2.1 rfl (q := (RX19, TX19, 7)) rfl
    refine vx_athrow hx hb dX18_hasRoom_12 ?_
    exact y_out hown hlk (fun z hz => by rw [htb] at hz; exact nomatch hz) hP hO hD hS k1 k2 k3 ⟨⟨rfl, hN5.2.2.1⟩, hwp, hE⟩ (Nat.le_of_ble_eq_true rfl) (Nat.le_of_ble_eq_true rfl)
set_option maxHeartbeats 4000000 in
set_option maxRecDepth 100000 in
theorem xt_Rd_hasRoom {l : Launch} (hst : l.stackTraces = false) {Γ : GA} {δ0 : XSh} {σ : XSt} {K : XSh → XSt → Prop} {X : Nat → XSh → XSt → Prop} {i0 : Nat} (h0 : (12, i0) ∈ δ0.1) {x1 : Int32} {x2 : Int32} (hwp : xw_Rd_hasRoom K X i0 x1 x2 δ0 σ) : yV l yX18_hasRoom (ws_ yX18_hasRoom cX18_hasRoom 3 none) ({ frames := 4, cells := 1, slots := 7, locals := 129 } : Room) 1 7 Γ δ0 [.ref i0, .int x1, .int x2] σ (fun u => K u.1 u.2 ∧ Ext δ0 u.1) (fun E q u => (E = RX19 ∧ (14, q) ∈ u.1.1) ∧ X q u.1 u.2 ∧ Ext δ0 u.1) := by
  intro sz
  refine y_of (by decide) [(0, .ref i0), (1, .int x1), (2, .int x2)] (fun _ h => h) (Nat.le_of_ble_eq_true rfl) ?_
  intro p e s m args below meth c hsz Xc
  subst hsz
  exact xk_Rd_hasRoom_e hst Xc h0 δ0 σ Ext.rf hwp
/-! Rd_must -/
def xw_Rd_must (K : XSh → XSt → Prop) (X : Nat → XSh → XSt → Prop) (i0 : Nat) (x1 : Int32) (δ : XSh) (σ : XSt) : Prop :=
  xw_Rd_sees δ σ (fun r1 => ((¬ (r1 = 0)) → (∀ σ3, σ3 = tI σ 12 i0 2 ((σ.1 12 i0 2) + 1) → (K δ σ3))) ∧ ((r1 = 0) → (∀ q4 δ5 σ6, NewFa (σ.1 12 i0 2) δ σ q4 δ5 σ6 → (X q4 δ5 σ6)))) i0 x1
set_option maxHeartbeats 4000000 in
set_option maxRecDepth 100000 in
theorem xk_Rd_must_e {p : Program} {l : Launch} {e : Env} {s : State} {m : MethodId} {args : Array Value} {below : List Frame} {meth : Method} {c : Code} {Γ : GA} {δ0 : XSh} {K : XSh → XSt → Prop} {X : Nat → XSh → XSt → Prop} {i0 : Nat} (hst : l.stackTraces = false) (Xc : CY p s m args meth c cX18_must 2 none RX18 Γ δ0 (tableOf [])) (h0 : (12, i0) ∈ δ0.1) {x1 : Int32} : ∀ (δ : XSh) (σ : XSt), Ext δ0 δ → xw_Rd_must K X i0 x1 δ σ → TX p l e ({ frames := 4, cells := 1, slots := 7, locals := 129 } : Room) s m args below meth c 2 0 0 (VV below (fun u => K u.1 u.2 ∧ Ext δ0 u.1) (fun E q u => (E = RX19 ∧ (14, q) ∈ u.1.1) ∧ X q u.1 u.2 ∧ Ext δ0 u.1) 1 7 Γ δ0 s args) Γ δ0 δ σ 0 [(0, .ref i0), (1, .int x1)] [] := by
  obtain ⟨⟨hx, hb, hml, hown, hts, hK, hr, hlk⟩, hZ, htb⟩ := id Xc
  have hA : ∀ q, s.heap.size ≤ q → AX δ0 s.heap.size q := fun q h => Or.inr h
  intro δ σ hE hwp H locs ls hP hO hD hS hl
  unfold xw_Rd_must at hwp
  refine lv_aload_n hx hb dX18_must_0 rfl (lv_at hl 0 rfl) ?_
  refine lv_iload_n hx hb dX18_must_1 rfl (lv_at hl 1 rfl) ?_
  refine x_goi (va_runV (As := [.int x1]) (rest := []) ⟨hx, hb, hml, hown, hts⟩ (xt_Rd_sees (hE.m h0) hwp H.size) (cwV 1 hts (lw_V q904 q906 qs9 q104 q907) rfl rfl rfl (by decide +kernel) ⟨Nat.le_of_ble_eq_true rfl, Nat.le_of_ble_eq_true rfl⟩) (x_preV hK hO hD hP 12 i0 (hE.m h0) rfl rfl) rfl rfl hl.1 rfl (lv_room (Nat.le_of_ble_eq_true rfl)) dX18_must_2 ⟨(Nat.le_of_ble_eq_true rfl), (Nat.le_of_ble_eq_true rfl)⟩) hD hA hS (fun r1 u H locs hk hP hO hD hS => ?_)
  obtain ⟨hwp, eu⟩ := hk
  subst eu
  dsimp only at hP hO hD
  refine lv_if_ne (tgt := 20) hx hb dX18_must_5 (by decide) (fun c2 => ?_) (fun c2 => ?_)
  · replace hwp := hwp.1 c2
    refine lv_aload_n hx hb dX18_must_20 rfl (lv_at hl 0 rfl) ?_
    refine lv_dup hx hb dX18_must_21 rfl ?_
    refine x_get hx hb hts hown hK hP 12 i0 (hE.m h0) rfl rfl in_X18 2 (by decide) q885 rfl (v := .int (σ.1 12 i0 2)) rfl dX18_must_22 ?_
    refine lv_iconst (v := 1) hx hb dX18_must_25 (by decide) ?_
    refine lv_iadd hx hb dX18_must_26 ?_
    refine x_puti hx hb hts hown hK hD hP hS 12 i0 (hE.m h0) rfl rfl in_X18 tyX18 tyX18_ok nmX18 2 (by decide) q885 rfl rfl rfl rfl (Nat.le_of_ble_eq_true rfl) rfl dX18_must_27 (fun H locs hP hS => ?_)
    obtain ⟨σ3, eσ3⟩ : ∃ z, z = tI σ 12 i0 2 ((σ.1 12 i0 2) + 1) := ⟨_, rfl⟩
    replace hP : XH Γ δ σ3 H := by rw [eσ3]; exact hP
    replace hwp := hwp σ3 eσ3
    refine W.widen (k := 1) (n := 7) (Nat.le_of_ble_eq_true rfl) (Nat.le_of_ble_eq_true rfl) ?_
    refine vx_ret ?_
    exact x_vret hx hb hr hlk hP hO hD hS ⟨hwp, hE⟩ dX18_must_30
  · replace hwp := hwp.2 c2
    refine va_new (D := Γ.1) (ci := 18) (fs := [.null, .null, .null, .null, .null, .int 0, .int 0]) (C := RX19) (T := TX19) (N := 7) hx hb hts in_X19 tyX19 tyX19_ok hown (hts _ q993) (hts _ q994) (hts _ q108) hK.1 hP.1 (hD.va (fun _ => rfl)) hS hA rfl (fun j hj => by rcases (show j = 0 ∨ j = 1 ∨ j = 2 ∨ j = 3 ∨ j = 4 ∨ j = 5 ∨ j = 6 by omega) with rfl | rfl | rfl | rfl | rfl | rfl | rfl <;> rfl) (Nat.le_of_ble_eq_true rfl) (Nat.le_of_ble_eq_true rfl) dX18_must_8 (fun q4 H hR hRD hS => ?_)
    replace hR := rotP hR
    replace hRD := rotD hRD
    replace hP : XH Γ δ σ H := ⟨tailP (ex := [_]) hR, hP.2⟩
    refine lv_dup hx hb dX18_must_11 rfl ?_
    refine lv_aload_n hx hb dX18_must_12 rfl (lv_at hl 0 rfl) ?_
    refine x_get hx hb hts hown hK hP 12 i0 (hE.m h0) rfl rfl in_X18 2 (by decide) q885 rfl (v := .int (σ.1 12 i0 2)) rfl dX18_must_13 ?_
    refine r_go (X := δ.1.map (gX Γ δ σ)) (va_runI (As := [.int (σ.1 12 i0 2)]) (rest := [.ref q4]) ⟨hx, hb, hml, hown, hts⟩ (ct_Fa H.size) (cwI 1 hts (lw_meth q1004) rfl rfl rfl (hts _ q108) (hts _ q1002) (hts _ q1003) rfl (by decide +kernel) ⟨(Nat.le_of_ble_eq_true rfl), (Nat.le_of_ble_eq_true rfl)⟩) (r_pre hK hA hZ hR hRD hS) rfl rfl hl.1 rfl (lv_room (Nat.le_of_ble_eq_true rfl)) dX18_must_16 ⟨(Nat.le_of_ble_eq_true rfl), (Nat.le_of_ble_eq_true rfl)⟩) hA hR hRD hS (fun ex H locs hk hR hRD hS => ?_)
    subst hk
    obtain ⟨δ5, σ6, hP, hO, hD, hN7⟩ := mkFa hR hRD hP.2 hO
    replace hE := hE.tr hN7.1.1
    replace hwp := hwp q4 δ5 σ6 hN7
    obtain ⟨ce, k1, k2, k3⟩ := x_cell hK hP 14 q4 hN7.2.2.1 rfl (q := (RX19, TX19, 7)) rfl
    refine vx_athrow hx hb dX18_must_19 ?_
    exact y_out hown hlk (fun z hz => by rw [htb] at hz; exact nomatch hz) hP hO hD hS k1 k2 k3 ⟨⟨rfl, hN7.2.2.1⟩, hwp, hE⟩ (Nat.le_of_ble_eq_true rfl) (Nat.le_of_ble_eq_true rfl)
set_option maxHeartbeats 4000000 in
set_option maxRecDepth 100000 in
theorem xt_Rd_must {l : Launch} (hst : l.stackTraces = false) {Γ : GA} {δ0 : XSh} {σ : XSt} {K : XSh → XSt → Prop} {X : Nat → XSh → XSt → Prop} {i0 : Nat} (h0 : (12, i0) ∈ δ0.1) {x1 : Int32} (hwp : xw_Rd_must K X i0 x1 δ0 σ) : yV l yX18_must (ws_ yX18_must cX18_must 2 none) ({ frames := 4, cells := 1, slots := 7, locals := 129 } : Room) 1 7 Γ δ0 [.ref i0, .int x1] σ (fun u => K u.1 u.2 ∧ Ext δ0 u.1) (fun E q u => (E = RX19 ∧ (14, q) ∈ u.1.1) ∧ X q u.1 u.2 ∧ Ext δ0 u.1) := by
  intro sz
  refine y_of (by decide) [(0, .ref i0), (1, .int x1)] (fun _ h => h) (Nat.le_of_ble_eq_true rfl) ?_
  intro p e s m args below meth c hsz Xc
  subst hsz
  exact xk_Rd_must_e hst Xc h0 δ0 σ Ext.rf hwp
/-! Rd_number -/
def xw_Rd_number_89 (K : Int32 → XSh → XSt → Prop) (X : Nat → XSh → XSt → Prop) (i0 : Nat) (x1 : Int32) (x2 : Int32) (x3 : Int32) (δ : XSh) (σ : XSt) : Prop :=
  xw_S_in δ σ (fun r1 => xw_Rd_hasRoom (fun δ2 σ3 => K x3 δ2 σ3) (fun q8 δ5 σ6 => X q8 δ5 σ6) i0 r1 (σ.1 12 i0 3) δ σ) x3.toInt64 x1.toInt64 x2.toInt64
set_option maxHeartbeats 4000000 in
set_option maxRecDepth 100000 in
theorem xk_Rd_number_89 {p : Program} {l : Launch} {e : Env} {s : State} {m : MethodId} {args : Array Value} {below : List Frame} {meth : Method} {c : Code} {Γ : GA} {δ0 : XSh} {K : Int32 → XSh → XSt → Prop} {X : Nat → XSh → XSt → Prop} {i0 : Nat} (hst : l.stackTraces = false) (Xc : CY p s m args meth c cX18_number 4 (some .int) RX18 Γ δ0 (tableOf [])) (h0 : (12, i0) ∈ δ0.1) : ∀ (x1 : Int32) (x2 : Int32) (x3 : Int32) (δ : XSh) (σ : XSt), Ext δ0 δ → xw_Rd_number_89 K X i0 x1 x2 x3 δ σ → TX p l e ({ frames := 5, cells := 2, slots := 14, locals := 151 } : Room) s m args below meth c 4 1 7 (VI below (fun r u => K r u.1 u.2 ∧ Ext δ0 u.1) (fun E q u => (E = RX19 ∧ (14, q) ∈ u.1.1) ∧ X q u.1 u.2 ∧ Ext δ0 u.1) 2 14 Γ δ0 s args) Γ δ0 δ σ 89 [(0, .ref i0), (1, .int x1), (2, .int x2), (3, .int x3)] [] := by
  obtain ⟨⟨hx, hb, hml, hown, hts, hK, hr, hlk⟩, hZ, htb⟩ := id Xc
  have hA : ∀ q, s.heap.size ≤ q → AX δ0 s.heap.size q := fun q h => Or.inr h
  intro x1 x2 x3 δ σ hE hwp H locs ls hP hO hD hS hl
  unfold xw_Rd_number_89 at hwp
  refine lv_aload_n hx hb dX18_number_89 rfl (lv_at hl 0 rfl) ?_
  refine lv_iload_n hx hb dX18_number_90 rfl (lv_at hl 3 rfl) ?_
  refine lv_i2l (v := x3.toInt64) hx hb dX18_number_91 rfl ?_
  refine lv_iload_n hx hb dX18_number_92 rfl (lv_at hl 1 rfl) ?_
  refine lv_i2l (v := x1.toInt64) hx hb dX18_number_93 rfl ?_
  refine lv_iload_n hx hb dX18_number_94 rfl (lv_at hl 2 rfl) ?_
  refine lv_i2l (v := x2.toInt64) hx hb dX18_number_95 rfl ?_
  refine x_goi (va_runS (As := [.long x3.toInt64, .long x1.toInt64, .long x2.toInt64]) (rest := [.ref i0]) ⟨hx, hb, hml, hown, hts⟩ (xt_S_in hwp H.size) (va_cwS 3 hts (lw_S q1028 q333 q75 q334) rfl rfl rfl (by decide +kernel) ⟨Nat.le_of_ble_eq_true rfl, Nat.le_of_ble_eq_true rfl⟩) (x_preS hK hO hD hP) rfl rfl hl.1 rfl (lv_room (Nat.le_of_ble_eq_true rfl)) dX18_number_96 ⟨(Nat.le_of_ble_eq_true rfl), (Nat.le_of_ble_eq_true rfl)⟩) hD hA hS (fun r1 u H locs hk hP hO hD hS => ?_)
  obtain ⟨hwp, eu⟩ := hk
  subst eu
  dsimp only at hP hO hD
  refine lv_aload_n hx hb dX18_number_99 rfl (lv_at hl 0 rfl) ?_
  refine x_get hx hb hts hown hK hP 12 i0 (hE.m h0) rfl rfl in_X18 3 (by decide) q886 rfl (v := .int (σ.1 12 i0 3)) rfl dX18_number_100 ?_
  refine y_gov (vx_runV (As := [.int r1, .int (σ.1 12 i0 3)]) (rest := []) ⟨hx, hb, hml, hown, hts⟩ (xt_Rd_hasRoom hst (hE.m h0) hwp H.size) (cwV 2 hts (lw_V q1016 q1018 qs14 q104 q1019) rfl rfl rfl (by decide +kernel) ⟨(Nat.le_of_ble_eq_true rfl), (Nat.le_of_ble_eq_true rfl)⟩) (y_preV hK hO hD hA hZ hP hS 12 i0 (hE.m h0) rfl rfl) rfl rfl hl.1 rfl (lv_room (Nat.le_of_ble_eq_true rfl)) dX18_number_103 ⟨(Nat.le_of_ble_eq_true rfl), (Nat.le_of_ble_eq_true rfl)⟩) hD hA hS (fun E ce q8 u H locs hk hP hO hD hS k1 k2 k3 => ?_) (fun u H locs hk hP hO hD hS => ?_)
  · obtain ⟨δ5, σ6⟩ := u
    obtain ⟨⟨rfl, hq8⟩, hwp, hF7⟩ := hk
    dsimp only at hP hO hD hwp hF7 hq8
    replace hE := hE.tr hF7
    exact y_out hown hlk (fun z hz => by rw [htb] at hz; exact nomatch hz) hP hO hD hS k1 k2 k3 ⟨⟨rfl, hq8⟩, hwp, hE⟩ (Nat.le_of_ble_eq_true rfl) (Nat.le_of_ble_eq_true rfl)
  · obtain ⟨δ2, σ3⟩ := u
    obtain ⟨hwp, hF4⟩ := hk
    dsimp only at hP hO hD hwp hF4
    replace hE := hE.tr hF4
    refine lv_iload_n hx hb dX18_number_106 rfl (lv_at hl 3 rfl) ?_
    refine W.widen (k := 2) (n := 14) (Nat.le_of_ble_eq_true rfl) (Nat.le_of_ble_eq_true rfl) ?_
    refine vx_ret ?_
    exact x_iret hx hb hr hlk hP hO hD hS ⟨hwp, hE⟩ dX18_number_107
def xw_Rd_number (K : Int32 → XSh → XSt → Prop) (X : Nat → XSh → XSt → Prop) (i0 : Nat) (x1 : Int32) (x2 : Int32) (δ : XSh) (σ : XSt) : Prop :=
  xw_Rd_must (fun δ1 σ2 => ∀ σ4, σ4 = tI σ2 12 i0 3 (σ2.1 12 i0 2) → (xw_Rd_digit δ1 σ4 (fun r5 => ((¬ (r5 = 0)) → (∃ o7, σ4.2.2 12 i0 0 = some o7 ∧ (∀ σ8, σ8 = tI σ4 12 i0 2 ((σ4.1 12 i0 2) + 1) → (xv_R_asInt δ1 σ8 (fun r10 => xw_Rd_digit δ1 σ8 (fun r11 => ((r11 = 0) → (xw_Rd_number_89 K X i0 x1 x2 (r10 - 48) δ1 σ8)) ∧ ((¬ (r11 = 0)) → (∃ o13, σ8.2.2 12 i0 0 = some o13 ∧ (∀ σ14, σ14 = tI σ8 12 i0 2 ((σ8.1 12 i0 2) + 1) → (xv_R_asInt δ1 σ14 (fun r16 => xw_Rd_number_89 K X i0 x1 x2 ((((10 : Int32) * (r10 - 48)) + r16) - 48) δ1 σ14) o13 (σ8.1 12 i0 2)))))) i0) o7 (σ4.1 12 i0 2))))) ∧ ((r5 = 0) → (∀ q17 δ18 σ19, NewFa (σ4.1 12 i0 2) δ1 σ4 q17 δ18 σ19 → (X q17 δ18 σ19)))) i0)) (fun q24 δ21 σ22 => X q24 δ21 σ22) i0 32 δ σ
set_option maxHeartbeats 4000000 in
set_option maxRecDepth 100000 in
theorem xk_Rd_number_e {p : Program} {l : Launch} {e : Env} {s : State} {m : MethodId} {args : Array Value} {below : List Frame} {meth : Method} {c : Code} {Γ : GA} {δ0 : XSh} {K : Int32 → XSh → XSt → Prop} {X : Nat → XSh → XSt → Prop} {i0 : Nat} (hst : l.stackTraces = false) (Xc : CY p s m args meth c cX18_number 4 (some .int) RX18 Γ δ0 (tableOf [])) (h0 : (12, i0) ∈ δ0.1) {x1 : Int32} {x2 : Int32} : ∀ (δ : XSh) (σ : XSt), Ext δ0 δ → xw_Rd_number K X i0 x1 x2 δ σ → TX p l e ({ frames := 5, cells := 2, slots := 14, locals := 151 } : Room) s m args below meth c 4 0 0 (VI below (fun r u => K r u.1 u.2 ∧ Ext δ0 u.1) (fun E q u => (E = RX19 ∧ (14, q) ∈ u.1.1) ∧ X q u.1 u.2 ∧ Ext δ0 u.1) 2 14 Γ δ0 s args) Γ δ0 δ σ 0 [(0, .ref i0), (1, .int x1), (2, .int x2)] [] := by
  obtain ⟨⟨hx, hb, hml, hown, hts, hK, hr, hlk⟩, hZ, htb⟩ := id Xc
  have hA : ∀ q, s.heap.size ≤ q → AX δ0 s.heap.size q := fun q h => Or.inr h
  intro δ σ hE hwp H locs ls hP hO hD hS hl
  unfold xw_Rd_number at hwp
  refine lv_aload_n hx hb dX18_number_0 rfl (lv_at hl 0 rfl) ?_
  refine lv_bipush (v := 32) hx hb dX18_number_1 (by decide) ?_
  refine y_gov (vx_runV (As := [.int 32]) (rest := []) ⟨hx, hb, hml, hown, hts⟩ (xt_Rd_must hst (hE.m h0) hwp H.size) (cwV 1 hts (lw_V q989 q991 qs12 q104 q992) rfl rfl rfl (by decide +kernel) ⟨(Nat.le_of_ble_eq_true rfl), (Nat.le_of_ble_eq_true rfl)⟩) (y_preV hK hO hD hA hZ hP hS 12 i0 (hE.m h0) rfl rfl) rfl rfl hl.1 rfl (lv_room (Nat.le_of_ble_eq_true rfl)) dX18_number_3 ⟨(Nat.le_of_ble_eq_true rfl), (Nat.le_of_ble_eq_true rfl)⟩) hD hA hS (fun E ce q24 u H locs hk hP hO hD hS k1 k2 k3 => ?_) (fun u H locs hk hP hO hD hS => ?_)
  · obtain ⟨δ21, σ22⟩ := u
    obtain ⟨⟨rfl, hq24⟩, hwp, hF23⟩ := hk
    dsimp only at hP hO hD hwp hF23 hq24
    replace hE := hE.tr hF23
    exact y_out hown hlk (fun z hz => by rw [htb] at hz; exact nomatch hz) hP hO hD hS k1 k2 k3 ⟨⟨rfl, hq24⟩, hwp, hE⟩ (Nat.le_of_ble_eq_true rfl) (Nat.le_of_ble_eq_true rfl)
  · obtain ⟨δ1, σ2⟩ := u
    obtain ⟨hwp, hF3⟩ := hk
    dsimp only at hP hO hD hwp hF3
    replace hE := hE.tr hF3
    refine lv_aload_n hx hb dX18_number_6 rfl (lv_at hl 0 rfl) ?_
    refine lv_aload_n hx hb dX18_number_7 rfl (lv_at hl 0 rfl) ?_
    refine x_get hx hb hts hown hK hP 12 i0 (hE.m h0) rfl rfl in_X18 2 (by decide) q885 rfl (v := .int (σ2.1 12 i0 2)) rfl dX18_number_8 ?_
    refine x_puti hx hb hts hown hK hD hP hS 12 i0 (hE.m h0) rfl rfl in_X18 tyX18 tyX18_ok nmX18 3 (by decide) q886 rfl rfl rfl rfl (Nat.le_of_ble_eq_true rfl) rfl dX18_number_11 (fun H locs hP hS => ?_)
    obtain ⟨σ4, eσ4⟩ : ∃ z, z = tI σ2 12 i0 3 (σ2.1 12 i0 2) := ⟨_, rfl⟩
    replace hP : XH Γ δ1 σ4 H := by rw [eσ4]; exact hP
    replace hwp := hwp σ4 eσ4
    refine lv_aload_n hx hb dX18_number_14 rfl (lv_at hl 0 rfl) ?_
    refine x_goi (va_runV (As := []) (rest := []) ⟨hx, hb, hml, hown, hts⟩ (xt_Rd_digit (hE.m h0) hwp H.size) (cwV 0 hts (lw_V q1024 q1026 qs16 q104 q1027) rfl rfl rfl (by decide +kernel) ⟨Nat.le_of_ble_eq_true rfl, Nat.le_of_ble_eq_true rfl⟩) (x_preV hK hO hD hP 12 i0 (hE.m h0) rfl rfl) rfl rfl hl.1 rfl (lv_room (Nat.le_of_ble_eq_true rfl)) dX18_number_15 ⟨(Nat.le_of_ble_eq_true rfl), (Nat.le_of_ble_eq_true rfl)⟩) hD hA hS (fun r5 u H locs hk hP hO hD hS => ?_)
    obtain ⟨hwp, eu⟩ := hk
    subst eu
    dsimp only at hP hO hD
    refine lv_if_ne (tgt := 33) hx hb dX18_number_18 (by decide) (fun c6 => ?_) (fun c6 => ?_)
    · replace hwp := hwp.1 c6
      refine lv_aload_n hx hb dX18_number_33 rfl (lv_at hl 0 rfl) ?_
      obtain ⟨o7, eo7, hwp⟩ := hwp
      refine x_getr hx hb hts hown hK hP 12 i0 (hE.m h0) rfl rfl in_X18 0 (by decide) q883 rfl rfl eo7 dX18_number_34 (fun ho7 co7 => ?_)
      refine lv_aload_n hx hb dX18_number_37 rfl (lv_at hl 0 rfl) ?_
      refine lv_dup hx hb dX18_number_38 rfl ?_
      refine x_get hx hb hts hown hK hP 12 i0 (hE.m h0) rfl rfl in_X18 2 (by decide) q885 rfl (v := .int (σ4.1 12 i0 2)) rfl dX18_number_39 ?_
      refine lv_dup_x1 hx hb dX18_number_42 rfl rfl ?_
      refine lv_iconst (v := 1) hx hb dX18_number_43 (by decide) ?_
      refine lv_iadd hx hb dX18_number_44 ?_
      refine x_puti hx hb hts hown hK hD hP hS 12 i0 (hE.m h0) rfl rfl in_X18 tyX18 tyX18_ok nmX18 2 (by decide) q885 rfl rfl rfl rfl (Nat.le_of_ble_eq_true rfl) rfl dX18_number_45 (fun H locs hP hS => ?_)
      obtain ⟨σ8, eσ8⟩ : ∃ z, z = tI σ4 12 i0 2 ((σ4.1 12 i0 2) + 1) := ⟨_, rfl⟩
      replace hP : XH Γ δ1 σ8 H := by rw [eσ8]; exact hP
      replace hwp := hwp σ8 eσ8
      have cp9 := (co7.2 ⟨rfl, rfl⟩)
      refine x_goi (xr_R_asInt (As := [.int (σ4.1 12 i0 2)]) (rest := []) ⟨hx, hb, hml, hown, hts⟩ hK hD hO hP ho7 cp9 hwp q927 ⟨(Nat.le_of_ble_eq_true rfl), (Nat.le_of_ble_eq_true rfl)⟩ rfl hl.1 rfl (Nat.le_of_ble_eq_true rfl) dX18_number_48 ⟨(Nat.le_of_ble_eq_true rfl), (Nat.le_of_ble_eq_true rfl)⟩) hD hA hS (fun r10 u H locs hk hP hO hD hS => ?_)
      obtain ⟨hwp, eu⟩ := hk
      subst eu
      dsimp only at hP hO hD
      refine lv_bipush (v := 48) hx hb dX18_number_51 (by decide) ?_
      refine lv_isub hx hb dX18_number_53 ?_
      refine lv_istore_n (lv' := [(3, .int (r10 - 48)), (0, .ref i0), (1, .int x1), (2, .int x2)]) hx hb dX18_number_54 rfl hl (by decide) rfl (fun ls hl => ?_)
      refine lv_aload_n hx hb dX18_number_55 rfl (lv_at hl 1 rfl) ?_
      refine x_goi (va_runV (As := []) (rest := []) ⟨hx, hb, hml, hown, hts⟩ (xt_Rd_digit (hE.m h0) hwp H.size) (cwV 0 hts (lw_V q1024 q1026 qs16 q104 q1027) rfl rfl rfl (by decide +kernel) ⟨Nat.le_of_ble_eq_true rfl, Nat.le_of_ble_eq_true rfl⟩) (x_preV hK hO hD hP 12 i0 (hE.m h0) rfl rfl) rfl rfl hl.1 rfl (lv_room (Nat.le_of_ble_eq_true rfl)) dX18_number_56 ⟨(Nat.le_of_ble_eq_true rfl), (Nat.le_of_ble_eq_true rfl)⟩) hD hA hS (fun r11 u H locs hk hP hO hD hS => ?_)
      obtain ⟨hwp, eu⟩ := hk
      subst eu
      dsimp only at hP hO hD
      refine lv_if_eq (tgt := 89) hx hb dX18_number_59 (by decide) (fun c12 => ?_) (fun c12 => ?_)
      · replace hwp := hwp.1 c12
        refine W.widen (k := 1) (n := 7) (Nat.le_of_ble_eq_true rfl) (Nat.le_of_ble_eq_true rfl) ?_
        exact xk_Rd_number_89 hst Xc h0 _ _ _ δ1 σ8 hE hwp H locs ls hP hO hD hS (lv_sub hl [1, 2, 3, 0] rfl)
      · replace hwp := hwp.2 c12
        refine lv_bipush (v := 10) hx hb dX18_number_62 (by decide) ?_
        refine lv_iload_n hx hb dX18_number_64 rfl (lv_at hl 0 rfl) ?_
        refine lv_imul hx hb dX18_number_65 ?_
        refine lv_aload_n hx hb dX18_number_66 rfl (lv_at hl 1 rfl) ?_
        obtain ⟨o13, eo13, hwp⟩ := hwp
        refine x_getr hx hb hts hown hK hP 12 i0 (hE.m h0) rfl rfl in_X18 0 (by decide) q883 rfl rfl eo13 dX18_number_67 (fun ho13 co13 => ?_)
        refine lv_aload_n hx hb dX18_number_70 rfl (lv_at hl 1 rfl) ?_
        refine lv_dup hx hb dX18_number_71 rfl ?_
        refine x_get hx hb hts hown hK hP 12 i0 (hE.m h0) rfl rfl in_X18 2 (by decide) q885 rfl (v := .int (σ8.1 12 i0 2)) rfl dX18_number_72 ?_
        refine lv_dup_x1 hx hb dX18_number_75 rfl rfl ?_
        refine lv_iconst (v := 1) hx hb dX18_number_76 (by decide) ?_
        refine lv_iadd hx hb dX18_number_77 ?_
        refine x_puti hx hb hts hown hK hD hP hS 12 i0 (hE.m h0) rfl rfl in_X18 tyX18 tyX18_ok nmX18 2 (by decide) q885 rfl rfl rfl rfl (Nat.le_of_ble_eq_true rfl) rfl dX18_number_78 (fun H locs hP hS => ?_)
        obtain ⟨σ14, eσ14⟩ : ∃ z, z = tI σ8 12 i0 2 ((σ8.1 12 i0 2) + 1) := ⟨_, rfl⟩
        replace hP : XH Γ δ1 σ14 H := by rw [eσ14]; exact hP
        replace hwp := hwp σ14 eσ14
        have cp15 := (co13.2 ⟨rfl, rfl⟩)
        refine x_goi (xr_R_asInt (As := [.int (σ8.1 12 i0 2)]) (rest := [.int ((10 : Int32) * (r10 - 48))]) ⟨hx, hb, hml, hown, hts⟩ hK hD hO hP ho13 cp15 hwp q927 ⟨(Nat.le_of_ble_eq_true rfl), (Nat.le_of_ble_eq_true rfl)⟩ rfl hl.1 rfl (Nat.le_of_ble_eq_true rfl) dX18_number_81 ⟨(Nat.le_of_ble_eq_true rfl), (Nat.le_of_ble_eq_true rfl)⟩) hD hA hS (fun r16 u H locs hk hP hO hD hS => ?_)
        obtain ⟨hwp, eu⟩ := hk
        subst eu
        dsimp only at hP hO hD
        refine lv_iadd hx hb dX18_number_84 ?_
        refine lv_bipush (v := 48) hx hb dX18_number_85 (by decide) ?_
        refine lv_isub hx hb dX18_number_87 ?_
        refine lv_istore_n (lv' := [(3, .int ((((10 : Int32) * (r10 - 48)) + r16) - 48)), (0, .ref i0), (1, .int x1), (2, .int x2)]) hx hb dX18_number_88 rfl hl (by decide) rfl (fun ls hl => ?_)
        refine W.widen (k := 1) (n := 7) (Nat.le_of_ble_eq_true rfl) (Nat.le_of_ble_eq_true rfl) ?_
        exact xk_Rd_number_89 hst Xc h0 _ _ _ δ1 σ14 hE hwp H locs ls hP hO hD hS (lv_sub hl [1, 2, 3, 0] rfl)
    · replace hwp := hwp.2 c6
      refine va_new (D := Γ.1) (ci := 18) (fs := [.null, .null, .null, .null, .null, .int 0, .int 0]) (C := RX19) (T := TX19) (N := 7) hx hb hts in_X19 tyX19 tyX19_ok hown (hts _ q993) (hts _ q994) (hts _ q108) hK.1 hP.1 (hD.va (fun _ => rfl)) hS hA rfl (fun j hj => by rcases (show j = 0 ∨ j = 1 ∨ j = 2 ∨ j = 3 ∨ j = 4 ∨ j = 5 ∨ j = 6 by omega) with rfl | rfl | rfl | rfl | rfl | rfl | rfl <;> rfl) (Nat.le_of_ble_eq_true rfl) (Nat.le_of_ble_eq_true rfl) dX18_number_21 (fun q17 H hR hRD hS => ?_)
      replace hR := rotP hR
      replace hRD := rotD hRD
      replace hP : XH Γ δ1 σ4 H := ⟨tailP (ex := [_]) hR, hP.2⟩
      refine lv_dup hx hb dX18_number_24 rfl ?_
      refine lv_aload_n hx hb dX18_number_25 rfl (lv_at hl 0 rfl) ?_
      refine x_get hx hb hts hown hK hP 12 i0 (hE.m h0) rfl rfl in_X18 2 (by decide) q885 rfl (v := .int (σ4.1 12 i0 2)) rfl dX18_number_26 ?_
      refine r_go (X := δ1.1.map (gX Γ δ1 σ4)) (va_runI (As := [.int (σ4.1 12 i0 2)]) (rest := [.ref q17]) ⟨hx, hb, hml, hown, hts⟩ (ct_Fa H.size) (cwI 1 hts (lw_meth q1004) rfl rfl rfl (hts _ q108) (hts _ q1002) (hts _ q1003) rfl (by decide +kernel) ⟨(Nat.le_of_ble_eq_true rfl), (Nat.le_of_ble_eq_true rfl)⟩) (r_pre hK hA hZ hR hRD hS) rfl rfl hl.1 rfl (lv_room (Nat.le_of_ble_eq_true rfl)) dX18_number_29 ⟨(Nat.le_of_ble_eq_true rfl), (Nat.le_of_ble_eq_true rfl)⟩) hA hR hRD hS (fun ex H locs hk hR hRD hS => ?_)
      subst hk
      obtain ⟨δ18, σ19, hP, hO, hD, hN20⟩ := mkFa hR hRD hP.2 hO
      replace hE := hE.tr hN20.1.1
      replace hwp := hwp q17 δ18 σ19 hN20
      obtain ⟨ce, k1, k2, k3⟩ := x_cell hK hP 14 q17 hN20.2.2.1 rfl (q := (RX19, TX19, 7)) rfl
      refine vx_athrow hx hb dX18_number_32 ?_
      exact y_out hown hlk (fun z hz => by rw [htb] at hz; exact nomatch hz) hP hO hD hS k1 k2 k3 ⟨⟨rfl, hN20.2.2.1⟩, hwp, hE⟩ (Nat.le_of_ble_eq_true rfl) (Nat.le_of_ble_eq_true rfl)
set_option maxHeartbeats 4000000 in
set_option maxRecDepth 100000 in
theorem xt_Rd_number {l : Launch} (hst : l.stackTraces = false) {Γ : GA} {δ0 : XSh} {σ : XSt} {K : Int32 → XSh → XSt → Prop} {X : Nat → XSh → XSt → Prop} {i0 : Nat} (h0 : (12, i0) ∈ δ0.1) {x1 : Int32} {x2 : Int32} (hwp : xw_Rd_number K X i0 x1 x2 δ0 σ) : yI l yX18_number (ws_ yX18_number cX18_number 4 (some .int)) ({ frames := 5, cells := 2, slots := 14, locals := 151 } : Room) 2 14 Γ δ0 [.ref i0, .int x1, .int x2] σ (fun r u => K r u.1 u.2 ∧ Ext δ0 u.1) (fun E q u => (E = RX19 ∧ (14, q) ∈ u.1.1) ∧ X q u.1 u.2 ∧ Ext δ0 u.1) := by
  intro sz
  refine y_of (by decide) [(0, .ref i0), (1, .int x1), (2, .int x2)] (fun _ h => h) (Nat.le_of_ble_eq_true rfl) ?_
  intro p e s m args below meth c hsz Xc
  subst hsz
  exact xk_Rd_number_e hst Xc h0 δ0 σ Ext.rf hwp
/-! Rd_house -/
def xw_Rd_house (K : Int32 → XSh → XSt → Prop) (X : Nat → XSh → XSt → Prop) (i0 : Nat) (δ : XSh) (σ : XSt) : Prop :=
  xw_Rd_number (fun r1 δ2 σ3 => ∃ o5, σ3.2.2 12 i0 1 = some o5 ∧ (xw_G_isHouse δ2 σ3 (fun r6 => xw_Rd_hasRoom (fun δ7 σ8 => K r1 δ7 σ8) (fun q13 δ10 σ11 => X q13 δ10 σ11) i0 r6 (σ3.1 12 i0 3) δ2 σ3) o5 r1)) (fun q17 δ14 σ15 => X q17 δ14 σ15) i0 0 99 δ σ
set_option maxHeartbeats 4000000 in
set_option maxRecDepth 100000 in
theorem xk_Rd_house_e {p : Program} {l : Launch} {e : Env} {s : State} {m : MethodId} {args : Array Value} {below : List Frame} {meth : Method} {c : Code} {Γ : GA} {δ0 : XSh} {K : Int32 → XSh → XSt → Prop} {X : Nat → XSh → XSt → Prop} {i0 : Nat} (hst : l.stackTraces = false) (Xc : CY p s m args meth c cX18_house 2 (some .int) RX18 Γ δ0 (tableOf [])) (h0 : (12, i0) ∈ δ0.1) : ∀ (δ : XSh) (σ : XSt), Ext δ0 δ → xw_Rd_house K X i0  δ σ → TX p l e ({ frames := 6, cells := 3, slots := 21, locals := 174 } : Room) s m args below meth c 2 0 0 (VI below (fun r u => K r u.1 u.2 ∧ Ext δ0 u.1) (fun E q u => (E = RX19 ∧ (14, q) ∈ u.1.1) ∧ X q u.1 u.2 ∧ Ext δ0 u.1) 3 21 Γ δ0 s args) Γ δ0 δ σ 0 [(0, .ref i0)] [] := by
  obtain ⟨⟨hx, hb, hml, hown, hts, hK, hr, hlk⟩, hZ, htb⟩ := id Xc
  have hA : ∀ q, s.heap.size ≤ q → AX δ0 s.heap.size q := fun q h => Or.inr h
  intro δ σ hE hwp H locs ls hP hO hD hS hl
  unfold xw_Rd_house at hwp
  refine lv_aload_n hx hb dX18_house_0 rfl (lv_at hl 0 rfl) ?_
  refine lv_iconst (v := 0) hx hb dX18_house_1 (by decide) ?_
  refine lv_bipush (v := 99) hx hb dX18_house_2 (by decide) ?_
  refine y_goi (vx_runV (As := [.int 0, .int 99]) (rest := []) ⟨hx, hb, hml, hown, hts⟩ (xt_Rd_number hst (hE.m h0) hwp H.size) (cwV 2 hts (lw_V q1020 q1022 qs15 q104 q1023) rfl rfl rfl (by decide +kernel) ⟨(Nat.le_of_ble_eq_true rfl), (Nat.le_of_ble_eq_true rfl)⟩) (y_preV hK hO hD hA hZ hP hS 12 i0 (hE.m h0) rfl rfl) rfl rfl hl.1 rfl (lv_room (Nat.le_of_ble_eq_true rfl)) dX18_house_4 ⟨(Nat.le_of_ble_eq_true rfl), (Nat.le_of_ble_eq_true rfl)⟩) hD hA hS (fun E ce q17 u H locs hk hP hO hD hS k1 k2 k3 => ?_) (fun r1 u H locs hk hP hO hD hS => ?_)
  · obtain ⟨δ14, σ15⟩ := u
    obtain ⟨⟨rfl, hq17⟩, hwp, hF16⟩ := hk
    dsimp only at hP hO hD hwp hF16 hq17
    replace hE := hE.tr hF16
    exact y_out hown hlk (fun z hz => by rw [htb] at hz; exact nomatch hz) hP hO hD hS k1 k2 k3 ⟨⟨rfl, hq17⟩, hwp, hE⟩ (Nat.le_of_ble_eq_true rfl) (Nat.le_of_ble_eq_true rfl)
  · obtain ⟨δ2, σ3⟩ := u
    obtain ⟨hwp, hF4⟩ := hk
    dsimp only at hP hO hD hwp hF4
    replace hE := hE.tr hF4
    refine lv_istore_n (lv' := [(1, .int r1), (0, .ref i0)]) hx hb dX18_house_7 rfl hl (by decide) rfl (fun ls hl => ?_)
    refine lv_aload_n hx hb dX18_house_8 rfl (lv_at hl 1 rfl) ?_
    refine lv_aload_n hx hb dX18_house_9 rfl (lv_at hl 1 rfl) ?_
    obtain ⟨o5, eo5, hwp⟩ := hwp
    refine x_getr hx hb hts hown hK hP 12 i0 (hE.m h0) rfl rfl in_X18 1 (by decide) q884 rfl rfl eo5 dX18_house_10 (fun ho5 co5 => ?_)
    refine lv_iload_n hx hb dX18_house_13 rfl (lv_at hl 0 rfl) ?_
    refine x_goi (va_runV (As := [.int r1]) (rest := [.ref i0]) ⟨hx, hb, hml, hown, hts⟩ (xt_G_isHouse ho5 hwp H.size) (cwV 1 hts (lw_V q1037 q542 q543 q77 q544) rfl rfl rfl (by decide +kernel) ⟨Nat.le_of_ble_eq_true rfl, Nat.le_of_ble_eq_true rfl⟩) (x_preV hK hO hD hP 6 o5 ho5 rfl rfl) rfl rfl hl.1 rfl (lv_room (Nat.le_of_ble_eq_true rfl)) dX18_house_14 ⟨(Nat.le_of_ble_eq_true rfl), (Nat.le_of_ble_eq_true rfl)⟩) hD hA hS (fun r6 u H locs hk hP hO hD hS => ?_)
    obtain ⟨hwp, eu⟩ := hk
    subst eu
    dsimp only at hP hO hD
    refine lv_aload_n hx hb dX18_house_17 rfl (lv_at hl 1 rfl) ?_
    refine x_get hx hb hts hown hK hP 12 i0 (hE.m h0) rfl rfl in_X18 3 (by decide) q886 rfl (v := .int (σ3.1 12 i0 3)) rfl dX18_house_18 ?_
    refine y_gov (vx_runV (As := [.int r6, .int (σ3.1 12 i0 3)]) (rest := []) ⟨hx, hb, hml, hown, hts⟩ (xt_Rd_hasRoom hst (hE.m h0) hwp H.size) (cwV 2 hts (lw_V q1016 q1018 qs14 q104 q1019) rfl rfl rfl (by decide +kernel) ⟨(Nat.le_of_ble_eq_true rfl), (Nat.le_of_ble_eq_true rfl)⟩) (y_preV hK hO hD hA hZ hP hS 12 i0 (hE.m h0) rfl rfl) rfl rfl hl.1 rfl (lv_room (Nat.le_of_ble_eq_true rfl)) dX18_house_21 ⟨(Nat.le_of_ble_eq_true rfl), (Nat.le_of_ble_eq_true rfl)⟩) hD hA hS (fun E ce q13 u H locs hk hP hO hD hS k1 k2 k3 => ?_) (fun u H locs hk hP hO hD hS => ?_)
    · obtain ⟨δ10, σ11⟩ := u
      obtain ⟨⟨rfl, hq13⟩, hwp, hF12⟩ := hk
      dsimp only at hP hO hD hwp hF12 hq13
      replace hE := hE.tr hF12
      exact y_out hown hlk (fun z hz => by rw [htb] at hz; exact nomatch hz) hP hO hD hS k1 k2 k3 ⟨⟨rfl, hq13⟩, hwp, hE⟩ (Nat.le_of_ble_eq_true rfl) (Nat.le_of_ble_eq_true rfl)
    · obtain ⟨δ7, σ8⟩ := u
      obtain ⟨hwp, hF9⟩ := hk
      dsimp only at hP hO hD hwp hF9
      replace hE := hE.tr hF9
      refine lv_iload_n hx hb dX18_house_24 rfl (lv_at hl 0 rfl) ?_
      refine W.widen (k := 3) (n := 21) (Nat.le_of_ble_eq_true rfl) (Nat.le_of_ble_eq_true rfl) ?_
      refine vx_ret ?_
      exact x_iret hx hb hr hlk hP hO hD hS ⟨hwp, hE⟩ dX18_house_25
set_option maxHeartbeats 4000000 in
set_option maxRecDepth 100000 in
theorem xt_Rd_house {l : Launch} (hst : l.stackTraces = false) {Γ : GA} {δ0 : XSh} {σ : XSt} {K : Int32 → XSh → XSt → Prop} {X : Nat → XSh → XSt → Prop} {i0 : Nat} (h0 : (12, i0) ∈ δ0.1) (hwp : xw_Rd_house K X i0  δ0 σ) : yI l yX18_house (ws_ yX18_house cX18_house 2 (some .int)) ({ frames := 6, cells := 3, slots := 21, locals := 174 } : Room) 3 21 Γ δ0 [.ref i0] σ (fun r u => K r u.1 u.2 ∧ Ext δ0 u.1) (fun E q u => (E = RX19 ∧ (14, q) ∈ u.1.1) ∧ X q u.1 u.2 ∧ Ext δ0 u.1) := by
  intro sz
  refine y_of (by decide) [(0, .ref i0)] (fun _ h => h) (Nat.le_of_ble_eq_true rfl) ?_
  intro p e s m args below meth c hsz Xc
  subst hsz
  exact xk_Rd_house_e hst Xc h0 δ0 σ Ext.rf hwp
/-! Rd_thing -/
def xw_Rd_thing_18 (K : XSh → XSt → Prop) (X : Nat → XSh → XSt → Prop) (i0 : Nat) (x1 : Int32) (t0 : Int32) (z1 : Nat) (δ : XSh) (σ : XSt) : Prop :=
  xw_Rd_hasRoom (fun δ1 σ2 => xw_Rd_number (fun r4 δ5 σ6 => xw_Rd_number (fun r8 δ9 σ10 => xw_Rd_number (fun r12 δ13 σ14 => ∃ o16, σ14.2.2 12 i0 1 = some o16 ∧ (xw_G_isFree δ13 σ14 (fun r17 => xw_Rd_hasRoom (fun δ18 σ19 => xw_Rd_number (fun r21 δ22 σ23 => ∃ o25, σ23.2.2 12 i0 1 = some o25 ∧ (xw_Rd_number (fun r26 δ27 σ28 => xw_G_add (fun r32 δ33 σ34 => K δ33 σ34) o25 r4 r8 r12 r21 r26 δ27 σ28) (fun q39 δ36 σ37 => X q39 δ36 σ37) i0 0 9 δ22 σ23)) (fun q45 δ42 σ43 => X q45 δ42 σ43) i0 0 20 δ18 σ19) (fun q49 δ46 σ47 => X q49 δ46 σ47) i0 r17 (σ14.1 12 i0 3) δ13 σ14) o16 r8 r12)) (fun q53 δ50 σ51 => X q53 δ50 σ51) i0 0 9 δ9 σ10) (fun q57 δ54 σ55 => X q57 δ54 σ55) i0 0 9 δ5 σ6) (fun q61 δ58 σ59 => X q61 δ58 σ59) i0 0 6 δ1 σ2) (fun q65 δ62 σ63 => X q65 δ62 σ63) z1 t0 x1 δ σ
set_option maxHeartbeats 4000000 in
set_option maxRecDepth 100000 in
theorem xk_Rd_thing_18 {p : Program} {l : Launch} {e : Env} {s : State} {m : MethodId} {args : Array Value} {below : List Frame} {meth : Method} {c : Code} {Γ : GA} {δ0 : XSh} {K : XSh → XSt → Prop} {X : Nat → XSh → XSt → Prop} {i0 : Nat} (hst : l.stackTraces = false) (Xc : CY p s m args meth c cX18_thing 6 none RX18 Γ δ0 (tableOf [])) (h0 : (12, i0) ∈ δ0.1) : ∀ (x1 : Int32) (t0 : Int32) (z1 : Nat) (δ : XSh) (σ : XSt), Ext δ0 δ → (12, z1) ∈ δ.1 → xw_Rd_thing_18 K X i0 x1 t0 z1 δ σ → TX p l e ({ frames := 6, cells := 13, slots := 88, locals := 181 } : Room) s m args below meth c 6 0 0 (VV below (fun u => K u.1 u.2 ∧ Ext δ0 u.1) (fun E q u => (E = RX19 ∧ (14, q) ∈ u.1.1) ∧ X q u.1 u.2 ∧ Ext δ0 u.1) 13 88 Γ δ0 s args) Γ δ0 δ σ 18 [(0, .ref i0), (1, .int x1)] [.int t0, .ref z1] := by
  obtain ⟨⟨hx, hb, hml, hown, hts, hK, hr, hlk⟩, hZ, htb⟩ := id Xc
  have hA : ∀ q, s.heap.size ≤ q → AX δ0 s.heap.size q := fun q h => Or.inr h
  intro x1 t0 z1 δ σ hE hz1 hwp H locs ls hP hO hD hS hl
  unfold xw_Rd_thing_18 at hwp
  refine lv_iload_n hx hb dX18_thing_18 rfl (lv_at hl 1 rfl) ?_
  refine y_gov (vx_runV (As := [.int t0, .int x1]) (rest := []) ⟨hx, hb, hml, hown, hts⟩ (xt_Rd_hasRoom hst hz1 hwp H.size) (cwV 2 hts (lw_V q1016 q1018 qs14 q104 q1019) rfl rfl rfl (by decide +kernel) ⟨(Nat.le_of_ble_eq_true rfl), (Nat.le_of_ble_eq_true rfl)⟩) (y_preV hK hO hD hA hZ hP hS 12 z1 hz1 rfl rfl) rfl rfl hl.1 rfl (lv_room (Nat.le_of_ble_eq_true rfl)) dX18_thing_19 ⟨(Nat.le_of_ble_eq_true rfl), (Nat.le_of_ble_eq_true rfl)⟩) hD hA hS (fun E ce q65 u H locs hk hP hO hD hS k1 k2 k3 => ?_) (fun u H locs hk hP hO hD hS => ?_)
  · obtain ⟨δ62, σ63⟩ := u
    obtain ⟨⟨rfl, hq65⟩, hwp, hF64⟩ := hk
    dsimp only at hP hO hD hwp hF64 hq65
    replace hE := hE.tr hF64
    exact y_out hown hlk (fun z hz => by rw [htb] at hz; exact nomatch hz) hP hO hD hS k1 k2 k3 ⟨⟨rfl, hq65⟩, hwp, hE⟩ (Nat.le_of_ble_eq_true rfl) (Nat.le_of_ble_eq_true rfl)
  · obtain ⟨δ1, σ2⟩ := u
    obtain ⟨hwp, hF3⟩ := hk
    dsimp only at hP hO hD hwp hF3
    replace hE := hE.tr hF3
    refine lv_aload_n hx hb dX18_thing_22 rfl (lv_at hl 0 rfl) ?_
    refine lv_iconst (v := 0) hx hb dX18_thing_23 (by decide) ?_
    refine lv_bipush (v := 6) hx hb dX18_thing_24 (by decide) ?_
    refine y_goi (vx_runV (As := [.int 0, .int 6]) (rest := []) ⟨hx, hb, hml, hown, hts⟩ (xt_Rd_number hst (hE.m h0) hwp H.size) (cwV 2 hts (lw_V q1020 q1022 qs15 q104 q1023) rfl rfl rfl (by decide +kernel) ⟨(Nat.le_of_ble_eq_true rfl), (Nat.le_of_ble_eq_true rfl)⟩) (y_preV hK hO hD hA hZ hP hS 12 i0 (hE.m h0) rfl rfl) rfl rfl hl.1 rfl (lv_room (Nat.le_of_ble_eq_true rfl)) dX18_thing_26 ⟨(Nat.le_of_ble_eq_true rfl), (Nat.le_of_ble_eq_true rfl)⟩) hD hA hS (fun E ce q61 u H locs hk hP hO hD hS k1 k2 k3 => ?_) (fun r4 u H locs hk hP hO hD hS => ?_)
    · obtain ⟨δ58, σ59⟩ := u
      obtain ⟨⟨rfl, hq61⟩, hwp, hF60⟩ := hk
      dsimp only at hP hO hD hwp hF60 hq61
      replace hE := hE.tr hF60
      exact y_out hown hlk (fun z hz => by rw [htb] at hz; exact nomatch hz) hP hO hD hS k1 k2 k3 ⟨⟨rfl, hq61⟩, hwp, hE⟩ (Nat.le_of_ble_eq_true rfl) (Nat.le_of_ble_eq_true rfl)
    · obtain ⟨δ5, σ6⟩ := u
      obtain ⟨hwp, hF7⟩ := hk
      dsimp only at hP hO hD hwp hF7
      replace hE := hE.tr hF7
      refine lv_istore_n (lv' := [(2, .int r4), (0, .ref i0), (1, .int x1)]) hx hb dX18_thing_29 rfl hl (by decide) rfl (fun ls hl => ?_)
      refine lv_aload_n hx hb dX18_thing_30 rfl (lv_at hl 1 rfl) ?_
      refine lv_iconst (v := 0) hx hb dX18_thing_31 (by decide) ?_
      refine lv_bipush (v := 9) hx hb dX18_thing_32 (by decide) ?_
      refine y_goi (vx_runV (As := [.int 0, .int 9]) (rest := []) ⟨hx, hb, hml, hown, hts⟩ (xt_Rd_number hst (hE.m h0) hwp H.size) (cwV 2 hts (lw_V q1020 q1022 qs15 q104 q1023) rfl rfl rfl (by decide +kernel) ⟨(Nat.le_of_ble_eq_true rfl), (Nat.le_of_ble_eq_true rfl)⟩) (y_preV hK hO hD hA hZ hP hS 12 i0 (hE.m h0) rfl rfl) rfl rfl hl.1 rfl (lv_room (Nat.le_of_ble_eq_true rfl)) dX18_thing_34 ⟨(Nat.le_of_ble_eq_true rfl), (Nat.le_of_ble_eq_true rfl)⟩) hD hA hS (fun E ce q57 u H locs hk hP hO hD hS k1 k2 k3 => ?_) (fun r8 u H locs hk hP hO hD hS => ?_)
      · obtain ⟨δ54, σ55⟩ := u
        obtain ⟨⟨rfl, hq57⟩, hwp, hF56⟩ := hk
        dsimp only at hP hO hD hwp hF56 hq57
        replace hE := hE.tr hF56
        exact y_out hown hlk (fun z hz => by rw [htb] at hz; exact nomatch hz) hP hO hD hS k1 k2 k3 ⟨⟨rfl, hq57⟩, hwp, hE⟩ (Nat.le_of_ble_eq_true rfl) (Nat.le_of_ble_eq_true rfl)
      · obtain ⟨δ9, σ10⟩ := u
        obtain ⟨hwp, hF11⟩ := hk
        dsimp only at hP hO hD hwp hF11
        replace hE := hE.tr hF11
        refine lv_istore_n (lv' := [(3, .int r8), (2, .int r4), (0, .ref i0), (1, .int x1)]) hx hb dX18_thing_37 rfl hl (by decide) rfl (fun ls hl => ?_)
        refine lv_aload_n hx hb dX18_thing_38 rfl (lv_at hl 2 rfl) ?_
        refine lv_iconst (v := 0) hx hb dX18_thing_39 (by decide) ?_
        refine lv_bipush (v := 9) hx hb dX18_thing_40 (by decide) ?_
        refine y_goi (vx_runV (As := [.int 0, .int 9]) (rest := []) ⟨hx, hb, hml, hown, hts⟩ (xt_Rd_number hst (hE.m h0) hwp H.size) (cwV 2 hts (lw_V q1020 q1022 qs15 q104 q1023) rfl rfl rfl (by decide +kernel) ⟨(Nat.le_of_ble_eq_true rfl), (Nat.le_of_ble_eq_true rfl)⟩) (y_preV hK hO hD hA hZ hP hS 12 i0 (hE.m h0) rfl rfl) rfl rfl hl.1 rfl (lv_room (Nat.le_of_ble_eq_true rfl)) dX18_thing_42 ⟨(Nat.le_of_ble_eq_true rfl), (Nat.le_of_ble_eq_true rfl)⟩) hD hA hS (fun E ce q53 u H locs hk hP hO hD hS k1 k2 k3 => ?_) (fun r12 u H locs hk hP hO hD hS => ?_)
        · obtain ⟨δ50, σ51⟩ := u
          obtain ⟨⟨rfl, hq53⟩, hwp, hF52⟩ := hk
          dsimp only at hP hO hD hwp hF52 hq53
          replace hE := hE.tr hF52
          exact y_out hown hlk (fun z hz => by rw [htb] at hz; exact nomatch hz) hP hO hD hS k1 k2 k3 ⟨⟨rfl, hq53⟩, hwp, hE⟩ (Nat.le_of_ble_eq_true rfl) (Nat.le_of_ble_eq_true rfl)
        · obtain ⟨δ13, σ14⟩ := u
          obtain ⟨hwp, hF15⟩ := hk
          dsimp only at hP hO hD hwp hF15
          replace hE := hE.tr hF15
          refine lv_istore (lv' := [(4, .int r12), (3, .int r8), (2, .int r4), (0, .ref i0), (1, .int x1)]) hx hb dX18_thing_45 hl (by decide) rfl (fun ls hl => ?_)
          refine lv_aload_n hx hb dX18_thing_47 rfl (lv_at hl 3 rfl) ?_
          refine lv_aload_n hx hb dX18_thing_48 rfl (lv_at hl 3 rfl) ?_
          obtain ⟨o16, eo16, hwp⟩ := hwp
          refine x_getr hx hb hts hown hK hP 12 i0 (hE.m h0) rfl rfl in_X18 1 (by decide) q884 rfl rfl eo16 dX18_thing_49 (fun ho16 co16 => ?_)
          refine lv_iload_n hx hb dX18_thing_52 rfl (lv_at hl 1 rfl) ?_
          refine lv_iload hx hb dX18_thing_53 (lv_at hl 0 rfl) ?_
          refine x_goi (va_runV (As := [.int r8, .int r12]) (rest := [.ref i0]) ⟨hx, hb, hml, hown, hts⟩ (xt_G_isFree ho16 hwp H.size) (cwV 2 hts (lw_V q1029 q696 q697 q77 q698) rfl rfl rfl (by decide +kernel) ⟨Nat.le_of_ble_eq_true rfl, Nat.le_of_ble_eq_true rfl⟩) (x_preV hK hO hD hP 6 o16 ho16 rfl rfl) rfl rfl hl.1 rfl (lv_room (Nat.le_of_ble_eq_true rfl)) dX18_thing_55 ⟨(Nat.le_of_ble_eq_true rfl), (Nat.le_of_ble_eq_true rfl)⟩) hD hA hS (fun r17 u H locs hk hP hO hD hS => ?_)
          obtain ⟨hwp, eu⟩ := hk
          subst eu
          dsimp only at hP hO hD
          refine lv_aload_n hx hb dX18_thing_58 rfl (lv_at hl 3 rfl) ?_
          refine x_get hx hb hts hown hK hP 12 i0 (hE.m h0) rfl rfl in_X18 3 (by decide) q886 rfl (v := .int (σ14.1 12 i0 3)) rfl dX18_thing_59 ?_
          refine y_gov (vx_runV (As := [.int r17, .int (σ14.1 12 i0 3)]) (rest := []) ⟨hx, hb, hml, hown, hts⟩ (xt_Rd_hasRoom hst (hE.m h0) hwp H.size) (cwV 2 hts (lw_V q1016 q1018 qs14 q104 q1019) rfl rfl rfl (by decide +kernel) ⟨(Nat.le_of_ble_eq_true rfl), (Nat.le_of_ble_eq_true rfl)⟩) (y_preV hK hO hD hA hZ hP hS 12 i0 (hE.m h0) rfl rfl) rfl rfl hl.1 rfl (lv_room (Nat.le_of_ble_eq_true rfl)) dX18_thing_62 ⟨(Nat.le_of_ble_eq_true rfl), (Nat.le_of_ble_eq_true rfl)⟩) hD hA hS (fun E ce q49 u H locs hk hP hO hD hS k1 k2 k3 => ?_) (fun u H locs hk hP hO hD hS => ?_)
          · obtain ⟨δ46, σ47⟩ := u
            obtain ⟨⟨rfl, hq49⟩, hwp, hF48⟩ := hk
            dsimp only at hP hO hD hwp hF48 hq49
            replace hE := hE.tr hF48
            exact y_out hown hlk (fun z hz => by rw [htb] at hz; exact nomatch hz) hP hO hD hS k1 k2 k3 ⟨⟨rfl, hq49⟩, hwp, hE⟩ (Nat.le_of_ble_eq_true rfl) (Nat.le_of_ble_eq_true rfl)
          · obtain ⟨δ18, σ19⟩ := u
            obtain ⟨hwp, hF20⟩ := hk
            dsimp only at hP hO hD hwp hF20
            replace hE := hE.tr hF20
            refine lv_aload_n hx hb dX18_thing_65 rfl (lv_at hl 3 rfl) ?_
            refine lv_iconst (v := 0) hx hb dX18_thing_66 (by decide) ?_
            refine lv_bipush (v := 20) hx hb dX18_thing_67 (by decide) ?_
            refine y_goi (vx_runV (As := [.int 0, .int 20]) (rest := []) ⟨hx, hb, hml, hown, hts⟩ (xt_Rd_number hst (hE.m h0) hwp H.size) (cwV 2 hts (lw_V q1020 q1022 qs15 q104 q1023) rfl rfl rfl (by decide +kernel) ⟨(Nat.le_of_ble_eq_true rfl), (Nat.le_of_ble_eq_true rfl)⟩) (y_preV hK hO hD hA hZ hP hS 12 i0 (hE.m h0) rfl rfl) rfl rfl hl.1 rfl (lv_room (Nat.le_of_ble_eq_true rfl)) dX18_thing_69 ⟨(Nat.le_of_ble_eq_true rfl), (Nat.le_of_ble_eq_true rfl)⟩) hD hA hS (fun E ce q45 u H locs hk hP hO hD hS k1 k2 k3 => ?_) (fun r21 u H locs hk hP hO hD hS => ?_)
            · obtain ⟨δ42, σ43⟩ := u
              obtain ⟨⟨rfl, hq45⟩, hwp, hF44⟩ := hk
              dsimp only at hP hO hD hwp hF44 hq45
              replace hE := hE.tr hF44
              exact y_out hown hlk (fun z hz => by rw [htb] at hz; exact nomatch hz) hP hO hD hS k1 k2 k3 ⟨⟨rfl, hq45⟩, hwp, hE⟩ (Nat.le_of_ble_eq_true rfl) (Nat.le_of_ble_eq_true rfl)
            · obtain ⟨δ22, σ23⟩ := u
              obtain ⟨hwp, hF24⟩ := hk
              dsimp only at hP hO hD hwp hF24
              replace hE := hE.tr hF24
              refine lv_istore (lv' := [(5, .int r21), (4, .int r12), (3, .int r8), (2, .int r4), (0, .ref i0), (1, .int x1)]) hx hb dX18_thing_72 hl (by decide) rfl (fun ls hl => ?_)
              refine lv_aload_n hx hb dX18_thing_74 rfl (lv_at hl 4 rfl) ?_
              obtain ⟨o25, eo25, hwp⟩ := hwp
              refine x_getr hx hb hts hown hK hP 12 i0 (hE.m h0) rfl rfl in_X18 1 (by decide) q884 rfl rfl eo25 dX18_thing_75 (fun ho25 co25 => ?_)
              refine lv_iload_n hx hb dX18_thing_78 rfl (lv_at hl 3 rfl) ?_
              refine lv_iload_n hx hb dX18_thing_79 rfl (lv_at hl 2 rfl) ?_
              refine lv_iload hx hb dX18_thing_80 (lv_at hl 1 rfl) ?_
              refine lv_iload hx hb dX18_thing_82 (lv_at hl 0 rfl) ?_
              refine lv_aload_n hx hb dX18_thing_84 rfl (lv_at hl 4 rfl) ?_
              refine lv_iconst (v := 0) hx hb dX18_thing_85 (by decide) ?_
              refine lv_bipush (v := 9) hx hb dX18_thing_86 (by decide) ?_
              refine y_goi (vx_runV (As := [.int 0, .int 9]) (rest := [.int r21, .int r12, .int r8, .int r4, .ref o25]) ⟨hx, hb, hml, hown, hts⟩ (xt_Rd_number hst (hE.m h0) hwp H.size) (cwV 2 hts (lw_V q1020 q1022 qs15 q104 q1023) rfl rfl rfl (by decide +kernel) ⟨(Nat.le_of_ble_eq_true rfl), (Nat.le_of_ble_eq_true rfl)⟩) (y_preV hK hO hD hA hZ hP hS 12 i0 (hE.m h0) rfl rfl) rfl rfl hl.1 rfl (lv_room (Nat.le_of_ble_eq_true rfl)) dX18_thing_88 ⟨(Nat.le_of_ble_eq_true rfl), (Nat.le_of_ble_eq_true rfl)⟩) hD hA hS (fun E ce q39 u H locs hk hP hO hD hS k1 k2 k3 => ?_) (fun r26 u H locs hk hP hO hD hS => ?_)
              · obtain ⟨δ36, σ37⟩ := u
                obtain ⟨⟨rfl, hq39⟩, hwp, hF38⟩ := hk
                dsimp only at hP hO hD hwp hF38 hq39
                have hh40 := hF38.m ho25
                replace hE := hE.tr hF38
                exact y_out hown hlk (fun z hz => by rw [htb] at hz; exact nomatch hz) hP hO hD hS k1 k2 k3 ⟨⟨rfl, hq39⟩, hwp, hE⟩ (Nat.le_of_ble_eq_true rfl) (Nat.le_of_ble_eq_true rfl)
              · obtain ⟨δ27, σ28⟩ := u
                obtain ⟨hwp, hF29⟩ := hk
                dsimp only at hP hO hD hwp hF29
                have hh30 := hF29.m ho25
                replace hE := hE.tr hF29
                refine y_goi (vx_runV (As := [.int r4, .int r8, .int r12, .int r21, .int r26]) (rest := []) ⟨hx, hb, hml, hown, hts⟩ (xt_G_add hst hh30 hwp H.size) (cwV 5 hts (lw_V q1030 q700 q701 q77 q702) rfl rfl rfl (by decide +kernel) ⟨(Nat.le_of_ble_eq_true rfl), (Nat.le_of_ble_eq_true rfl)⟩) (y_preV hK hO hD hA hZ hP hS 6 o25 hh30 rfl rfl) rfl rfl hl.1 rfl (lv_room (Nat.le_of_ble_eq_true rfl)) dX18_thing_91 ⟨(Nat.le_of_ble_eq_true rfl), (Nat.le_of_ble_eq_true rfl)⟩) hD hA hS (fun E ce q u H locs hk hP hO hD hS k1 k2 k3 => ?_) (fun r32 u H locs hk hP hO hD hS => ?_)
                · exact hk.elim
                · obtain ⟨δ33, σ34⟩ := u
                  obtain ⟨hwp, hF35⟩ := hk
                  dsimp only at hP hO hD hwp hF35
                  replace hE := hE.tr hF35
                  refine lv_pop hx hb dX18_thing_94 rfl ?_
                  refine W.widen (k := 13) (n := 88) (Nat.le_of_ble_eq_true rfl) (Nat.le_of_ble_eq_true rfl) ?_
                  refine vx_ret ?_
                  exact x_vret hx hb hr hlk hP hO hD hS ⟨hwp, hE⟩ dX18_thing_95
def xw_Rd_thing (K : XSh → XSt → Prop) (X : Nat → XSh → XSt → Prop) (i0 : Nat) (x1 : Int32) (δ : XSh) (σ : XSt) : Prop :=
  ∃ o1, σ.2.2 12 i0 1 = some o1 ∧ (((8 ≤ (σ.1 6 o1 0)) → (xw_Rd_thing_18 K X i0 x1 0 i0 δ σ)) ∧ ((¬ (8 ≤ (σ.1 6 o1 0))) → (xw_Rd_thing_18 K X i0 x1 1 i0 δ σ)))
set_option maxHeartbeats 4000000 in
set_option maxRecDepth 100000 in
theorem xk_Rd_thing_e {p : Program} {l : Launch} {e : Env} {s : State} {m : MethodId} {args : Array Value} {below : List Frame} {meth : Method} {c : Code} {Γ : GA} {δ0 : XSh} {K : XSh → XSt → Prop} {X : Nat → XSh → XSt → Prop} {i0 : Nat} (hst : l.stackTraces = false) (Xc : CY p s m args meth c cX18_thing 6 none RX18 Γ δ0 (tableOf [])) (h0 : (12, i0) ∈ δ0.1) {x1 : Int32} : ∀ (δ : XSh) (σ : XSt), Ext δ0 δ → xw_Rd_thing K X i0 x1 δ σ → TX p l e ({ frames := 6, cells := 13, slots := 88, locals := 181 } : Room) s m args below meth c 6 0 0 (VV below (fun u => K u.1 u.2 ∧ Ext δ0 u.1) (fun E q u => (E = RX19 ∧ (14, q) ∈ u.1.1) ∧ X q u.1 u.2 ∧ Ext δ0 u.1) 13 88 Γ δ0 s args) Γ δ0 δ σ 0 [(0, .ref i0), (1, .int x1)] [] := by
  obtain ⟨⟨hx, hb, hml, hown, hts, hK, hr, hlk⟩, hZ, htb⟩ := id Xc
  have hA : ∀ q, s.heap.size ≤ q → AX δ0 s.heap.size q := fun q h => Or.inr h
  intro δ σ hE hwp H locs ls hP hO hD hS hl
  unfold xw_Rd_thing at hwp
  refine lv_aload_n hx hb dX18_thing_0 rfl (lv_at hl 0 rfl) ?_
  refine lv_aload_n hx hb dX18_thing_1 rfl (lv_at hl 0 rfl) ?_
  obtain ⟨o1, eo1, hwp⟩ := hwp
  refine x_getr hx hb hts hown hK hP 12 i0 (hE.m h0) rfl rfl in_X18 1 (by decide) q884 rfl rfl eo1 dX18_thing_2 (fun ho1 co1 => ?_)
  refine x_get hx hb hts hown hK hP 6 o1 ho1 rfl rfl in_X2 0 (by decide) q144 rfl (v := .int (σ.1 6 o1 0)) rfl dX18_thing_5 ?_
  refine lv_bipush (v := 8) hx hb dX18_thing_8 (by decide) ?_
  refine lv_icmp_ge (tgt := 17) hx hb dX18_thing_10 (by decide) (fun c2 => ?_) (fun c2 => ?_)
  · replace hwp := hwp.1 c2
    refine lv_iconst (v := 0) hx hb dX18_thing_17 (by decide) ?_
    refine W.widen (k := 0) (n := 0) (Nat.le_of_ble_eq_true rfl) (Nat.le_of_ble_eq_true rfl) ?_
    exact xk_Rd_thing_18 hst Xc h0 _ _ _ δ σ hE (hE.m h0) hwp H locs ls hP hO hD hS (lv_sub hl [0, 1] rfl)
  · replace hwp := hwp.2 c2
    refine lv_iconst (v := 1) hx hb dX18_thing_13 (by decide) ?_
    refine lv_goto (tgt := 18) hx hb dX18_thing_14 (by decide) ?_
    refine W.widen (k := 0) (n := 0) (Nat.le_of_ble_eq_true rfl) (Nat.le_of_ble_eq_true rfl) ?_
    exact xk_Rd_thing_18 hst Xc h0 _ _ _ δ σ hE (hE.m h0) hwp H locs ls hP hO hD hS (lv_sub hl [0, 1] rfl)
set_option maxHeartbeats 4000000 in
set_option maxRecDepth 100000 in
theorem xt_Rd_thing {l : Launch} (hst : l.stackTraces = false) {Γ : GA} {δ0 : XSh} {σ : XSt} {K : XSh → XSt → Prop} {X : Nat → XSh → XSt → Prop} {i0 : Nat} (h0 : (12, i0) ∈ δ0.1) {x1 : Int32} (hwp : xw_Rd_thing K X i0 x1 δ0 σ) : yV l yX18_thing (ws_ yX18_thing cX18_thing 6 none) ({ frames := 6, cells := 13, slots := 88, locals := 181 } : Room) 13 88 Γ δ0 [.ref i0, .int x1] σ (fun u => K u.1 u.2 ∧ Ext δ0 u.1) (fun E q u => (E = RX19 ∧ (14, q) ∈ u.1.1) ∧ X q u.1 u.2 ∧ Ext δ0 u.1) := by
  intro sz
  refine y_of (by decide) [(0, .ref i0), (1, .int x1)] (fun _ h => h) (Nat.le_of_ble_eq_true rfl) ?_
  intro p e s m args below meth c hsz Xc
  subst hsz
  exact xk_Rd_thing_e hst Xc h0 δ0 σ Ext.rf hwp
