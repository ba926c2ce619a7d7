/-! S_row -/
def xw_S_row_64 (K : Int32 → XSh → XSt → Prop) (i0 : Nat) (z0 : Nat) (δ : XSh) (σ : XSt) : Prop :=
  xw_S_refused δ (fun r1 σ2 => K r1 δ σ2) i0 z0 σ
set_option maxHeartbeats 4000000 in
set_option maxRecDepth 100000 in
theorem xk_S_row_64 {p : Program} {l : Launch} {e : Env} {s : State} {m : MethodId} {args : Array Value} {below : List Frame} {meth : Method} {c : Code} {Γ : GA} {δ0 : XSh} {K : Int32 → XSh → XSt → Prop} {i0 : Nat} (hst : l.stackTraces = false) (Xc : CY p s m args meth c cX0_row 5 (some .int) RX0 Γ δ0 (tableOf [(0, 63, 64, 21)])) (h0 : (0, i0) ∈ δ0.1) : ∀ (z0 : Nat) (δ : XSh) (σ : XSt), Ext δ0 δ → (13, z0) ∈ δ.1 → xw_S_row_64 K i0 z0 δ σ → TX p l e ({ frames := 10, cells := 9, slots := 1099, locals := 10322 } : Room) s m args below meth c 5 9 1099 (VI below (fun r u => K r u.1 u.2 ∧ Ext δ0 u.1) (fun _ _ _ => False) 9 1099 Γ δ0 s args) Γ δ0 δ σ 64 [(0, .ref i0)] [.ref z0] := by
  obtain ⟨⟨hx, hb, hml, hown, hts, hK, hr, hlk⟩, hZ, htb⟩ := id Xc
  have hA : ∀ q, s.heap.size ≤ q → AX δ0 s.heap.size q := fun q h => Or.inr h
  intro z0 δ σ hE hz0 hwp H locs ls hP hO hD hS hl
  unfold xw_S_row_64 at hwp
  refine lv_astore (lv' := [(4, .ref z0), (0, .ref i0)]) hx hb dX0_row_64 hl (by decide) rfl (fun ls hl => ?_)
  refine lv_aload_n hx hb dX0_row_66 rfl (lv_at hl 1 rfl) ?_
  refine lv_aload hx hb dX0_row_67 (lv_at hl 0 rfl) ?_
  refine x_goi (va_runV (As := [.ref z0]) (rest := []) ⟨hx, hb, hml, hown, hts⟩ (xt_S_refused (hE.m h0) hz0 hwp H.size) (cwV 1 hts (lw_V q397 q399 qs2 q75 q400) rfl rfl rfl (by decide +kernel) ⟨Nat.le_of_ble_eq_true rfl, Nat.le_of_ble_eq_true rfl⟩) (x_preV hK hO hD hP 0 i0 (hE.m h0) rfl rfl) rfl rfl hl.1 rfl (lv_room (Nat.le_of_ble_eq_true rfl)) dX0_row_69 ⟨(Nat.le_of_ble_eq_true rfl), (Nat.le_of_ble_eq_true rfl)⟩) hD hA hS (fun r1 u H locs hk hP hO hD hS => ?_)
  obtain ⟨u1, σ2⟩ := u
  obtain ⟨hwp, eu⟩ := hk
  have eu : δ = u1 := eu.symm
  subst eu
  dsimp only at hP hO hD hwp
  refine W.widen (k := 9) (n := 1099) (Nat.le_of_ble_eq_true rfl) (Nat.le_of_ble_eq_true rfl) ?_
  refine vx_ret ?_
  exact x_iret hx hb hr hlk hP hO hD hS ⟨hwp, hE⟩ dX0_row_72
def xw_S_row_47 (K : Int32 → XSh → XSt → Prop) (i0 : Nat) (x2 : Int32) (x3 : Int32) (y4 : Nat) (t0 : Int32) (δ : XSh) (σ : XSt) : Prop :=
  xw_S_need (fun δ1 σ2 => xw_S_newRow (fun r6 δ7 σ8 => ∀ σ12, σ12 = tP σ8 5 y4 0 (some r6) → (K 1 δ7 σ12)) (fun q16 δ13 σ14 => xw_S_row_64 K i0 q16 δ13 σ14) x2 x3 δ1 σ2) (fun q22 δ19 σ20 => xw_S_row_64 K i0 q22 δ19 σ20) t0 (-7) δ σ
set_option maxHeartbeats 4000000 in
set_option maxRecDepth 100000 in
theorem xk_S_row_47 {p : Program} {l : Launch} {e : Env} {s : State} {m : MethodId} {args : Array Value} {below : List Frame} {meth : Method} {c : Code} {Γ : GA} {δ0 : XSh} {K : Int32 → XSh → XSt → Prop} {i0 : Nat} (hst : l.stackTraces = false) (Xc : CY p s m args meth c cX0_row 5 (some .int) RX0 Γ δ0 (tableOf [(0, 63, 64, 21)])) (h0 : (0, i0) ∈ δ0.1) : ∀ (x2 : Int32) (x3 : Int32) (y4 : Nat) (t0 : Int32) (δ : XSh) (σ : XSt), Ext δ0 δ → (5, y4) ∈ δ.1 → xw_S_row_47 K i0 x2 x3 y4 t0 δ σ → TX p l e ({ frames := 10, cells := 9, slots := 1099, locals := 10322 } : Room) s m args below meth c 5 6 931 (VI below (fun r u => K r u.1 u.2 ∧ Ext δ0 u.1) (fun _ _ _ => False) 9 1099 Γ δ0 s args) Γ δ0 δ σ 47 [(0, .ref i0), (2, .int x2), (3, .int x3), (4, .ref y4)] [.int t0] := by
  obtain ⟨⟨hx, hb, hml, hown, hts, hK, hr, hlk⟩, hZ, htb⟩ := id Xc
  have hA : ∀ q, s.heap.size ≤ q → AX δ0 s.heap.size q := fun q h => Or.inr h
  intro x2 x3 y4 t0 δ σ hE hy4 hwp H locs ls hP hO hD hS hl
  unfold xw_S_row_47 at hwp
  refine lv_bipush (v := (-7)) hx hb dX0_row_47 (by decide) ?_
  refine y_gov (vx_runS (As := [.int t0, .int (-7)]) (rest := []) ⟨hx, hb, hml, hown, hts⟩ (xt_S_need hst hwp H.size) (va_cwS 2 hts (lw_S q328 q329 q75 q330) rfl rfl rfl (by decide +kernel) ⟨(Nat.le_of_ble_eq_true rfl), (Nat.le_of_ble_eq_true rfl)⟩) (y_preS hK hO hD hA hZ hP hS) rfl rfl hl.1 rfl (lv_room (Nat.le_of_ble_eq_true rfl)) dX0_row_49 ⟨(Nat.le_of_ble_eq_true rfl), (Nat.le_of_ble_eq_true rfl)⟩) hD hA hS (fun E ce q22 u H locs hk hP hO hD hS k1 k2 k3 => ?_) (fun u H locs hk hP hO hD hS => ?_)
  · obtain ⟨δ19, σ20⟩ := u
    obtain ⟨⟨rfl, hq22⟩, hwp, hF21⟩ := hk
    dsimp only at hP hO hD hwp hF21 hq22
    have hh23 := hF21.m hy4
    replace hE := hE.tr hF21
    refine vx_catch (E := RX5) (name := RX5) hown [] ⟨0, 63, 64, 21⟩ [] (htb.trans rfl) (fun z hz => nomatch hz) rfl (by decide) (hts _ q222) ((hK.2.1 (.castable RX5 RX5) (by simp [nwL])).use rfl) k1 k2 k3 ?_
    refine W.eq (g2 := F0 m 64 ls [.ref q22]) rfl ?_
    refine W.widen (k := 9) (n := 1099) (Nat.le_of_ble_eq_true rfl) (Nat.le_of_ble_eq_true rfl) ?_
    exact xk_S_row_64 hst Xc h0 _ δ19 σ20 hE hq22 hwp H locs ls hP hO hD hS (lv_sub hl [0] rfl)
  · obtain ⟨δ1, σ2⟩ := u
    obtain ⟨hwp, hF3⟩ := hk
    dsimp only at hP hO hD hwp hF3
    have hh4 := hF3.m hy4
    replace hE := hE.tr hF3
    refine lv_aload hx hb dX0_row_52 (lv_at hl 3 rfl) ?_
    refine lv_iload_n hx hb dX0_row_54 rfl (lv_at hl 1 rfl) ?_
    refine lv_iload_n hx hb dX0_row_55 rfl (lv_at hl 2 rfl) ?_
    refine y_gor (vx_runSX (As := [.int x2, .int x3]) (rest := [.ref y4]) ⟨hx, hb, hml, hown, hts⟩ (xt_S_newRow hst hwp H.size) (vx_cwSW 2 hts (lw_SW q335 q336 q75 q337) rfl rfl rfl (by decide +kernel) ⟨(Nat.le_of_ble_eq_true rfl), (Nat.le_of_ble_eq_true rfl)⟩) (y_preS hK hO hD hA hZ hP hS) rfl rfl hl.1 rfl (lv_room (Nat.le_of_ble_eq_true rfl)) dX0_row_56 ⟨(Nat.le_of_ble_eq_true rfl), (Nat.le_of_ble_eq_true rfl)⟩) hD hA hS (fun E ce q16 u H locs hk hP hO hD hS k1 k2 k3 => ?_) (fun r6 u H locs hk hP hO hD hS => ?_)
    · obtain ⟨δ13, σ14⟩ := u
      obtain ⟨⟨rfl, hq16⟩, hwp, hF15⟩ := hk
      dsimp only at hP hO hD hwp hF15 hq16
      have hh17 := hF15.m hh4
      replace hE := hE.tr hF15
      refine vx_catch (E := RX5) (name := RX5) hown [] ⟨0, 63, 64, 21⟩ [] (htb.trans rfl) (fun z hz => nomatch hz) rfl (by decide) (hts _ q222) ((hK.2.1 (.castable RX5 RX5) (by simp [nwL])).use rfl) k1 k2 k3 ?_
      refine W.eq (g2 := F0 m 64 ls [.ref q16]) rfl ?_
      refine W.widen (k := 9) (n := 1099) (Nat.le_of_ble_eq_true rfl) (Nat.le_of_ble_eq_true rfl) ?_
      exact xk_S_row_64 hst Xc h0 _ δ13 σ14 hE hq16 hwp H locs ls hP hO hD hS (lv_sub hl [0] rfl)
    · obtain ⟨δ7, σ8⟩ := u
      obtain ⟨⟨hwp, hF9⟩, hr6, cr6⟩ := hk
      dsimp only at hP hO hD hwp hF9 hr6 cr6
      have hh10 := hF9.m hh4
      replace hE := hE.tr hF9
      refine x_putr (v := (some r6)) hx hb hts hown hK hD hP hS 5 y4 hh10 rfl rfl in_X3 tyX3 tyX3_ok nmX3 0 (by decide) q192 rfl rfl rfl rfl (Nat.le_of_ble_eq_true rfl) rfl (fun t9 h9 => by cases h9; exact ⟨hr6, fun z => absurd z (by decide), fun z => absurd z.1 (by decide)⟩) dX0_row_59 (fun H locs hP hS => ?_)
      obtain ⟨σ12, eσ12⟩ : ∃ z, z = tP σ8 5 y4 0 (some r6) := ⟨_, rfl⟩
      replace hP : XH Γ δ7 σ12 H := by rw [eσ12]; exact hP
      replace hwp := hwp σ12 eσ12
      refine lv_iconst (v := 1) hx hb dX0_row_62 (by decide) ?_
      refine W.widen (k := 9) (n := 1099) (Nat.le_of_ble_eq_true rfl) (Nat.le_of_ble_eq_true rfl) ?_
      refine vx_ret ?_
      exact x_iret hx hb hr hlk hP hO hD hS ⟨hwp, hE⟩ dX0_row_63
def xw_S_row_16 (K : Int32 → XSh → XSt → Prop) (i0 : Nat) (x2 : Int32) (x3 : Int32) (y4 : Nat) (t0 : Int32) (δ : XSh) (σ : XSt) : Prop :=
  xw_S_need (fun δ1 σ2 => xw_S_in δ1 σ2 (fun r6 => xw_S_need (fun δ7 σ8 => ((160 < x3) → (xw_S_row_47 K i0 x2 x3 y4 0 δ7 σ8)) ∧ ((¬ (160 < x3)) → (xw_S_row_47 K i0 x2 x3 y4 1 δ7 σ8))) (fun q16 δ13 σ14 => xw_S_row_64 K i0 q16 δ13 σ14) r6 (-6) δ1 σ2) x2.toInt64 0 3) (fun q22 δ19 σ20 => xw_S_row_64 K i0 q22 δ19 σ20) t0 (-4) δ σ
set_option maxHeartbeats 4000000 in
set_option maxRecDepth 100000 in
theorem xk_S_row_16 {p : Program} {l : Launch} {e : Env} {s : State} {m : MethodId} {args : Array Value} {below : List Frame} {meth : Method} {c : Code} {Γ : GA} {δ0 : XSh} {K : Int32 → XSh → XSt → Prop} {i0 : Nat} (hst : l.stackTraces = false) (Xc : CY p s m args meth c cX0_row 5 (some .int) RX0 Γ δ0 (tableOf [(0, 63, 64, 21)])) (h0 : (0, i0) ∈ δ0.1) : ∀ (x2 : Int32) (x3 : Int32) (y4 : Nat) (t0 : Int32) (δ : XSh) (σ : XSt), Ext δ0 δ → (5, y4) ∈ δ.1 → xw_S_row_16 K i0 x2 x3 y4 t0 δ σ → TX p l e ({ frames := 10, cells := 9, slots := 1099, locals := 10322 } : Room) s m args below meth c 5 4 917 (VI below (fun r u => K r u.1 u.2 ∧ Ext δ0 u.1) (fun _ _ _ => False) 9 1099 Γ δ0 s args) Γ δ0 δ σ 16 [(0, .ref i0), (2, .int x2), (3, .int x3), (4, .ref y4)] [.int t0] := by
  obtain ⟨⟨hx, hb, hml, hown, hts, hK, hr, hlk⟩, hZ, htb⟩ := id Xc
  have hA : ∀ q, s.heap.size ≤ q → AX δ0 s.heap.size q := fun q h => Or.inr h
  intro x2 x3 y4 t0 δ σ hE hy4 hwp H locs ls hP hO hD hS hl
  unfold xw_S_row_16 at hwp
  refine lv_bipush (v := (-4)) hx hb dX0_row_16 (by decide) ?_
  refine y_gov (vx_runS (As := [.int t0, .int (-4)]) (rest := []) ⟨hx, hb, hml, hown, hts⟩ (xt_S_need hst hwp H.size) (va_cwS 2 hts (lw_S q328 q329 q75 q330) rfl rfl rfl (by decide +kernel) ⟨(Nat.le_of_ble_eq_true rfl), (Nat.le_of_ble_eq_true rfl)⟩) (y_preS hK hO hD hA hZ hP hS) rfl rfl hl.1 rfl (lv_room (Nat.le_of_ble_eq_true rfl)) dX0_row_18 ⟨(Nat.le_of_ble_eq_true rfl), (Nat.le_of_ble_eq_true rfl)⟩) hD hA hS (fun E ce q22 u H locs hk hP hO hD hS k1 k2 k3 => ?_) (fun u H locs hk hP hO hD hS => ?_)
  · obtain ⟨δ19, σ20⟩ := u
    obtain ⟨⟨rfl, hq22⟩, hwp, hF21⟩ := hk
    dsimp only at hP hO hD hwp hF21 hq22
    have hh23 := hF21.m hy4
    replace hE := hE.tr hF21
    refine vx_catch (E := RX5) (name := RX5) hown [] ⟨0, 63, 64, 21⟩ [] (htb.trans rfl) (fun z hz => nomatch hz) rfl (by decide) (hts _ q222) ((hK.2.1 (.castable RX5 RX5) (by simp [nwL])).use rfl) k1 k2 k3 ?_
    refine W.eq (g2 := F0 m 64 ls [.ref q22]) rfl ?_
    refine W.widen (k := 9) (n := 1099) (Nat.le_of_ble_eq_true rfl) (Nat.le_of_ble_eq_true rfl) ?_
    exact xk_S_row_64 hst Xc h0 _ δ19 σ20 hE hq22 hwp H locs ls hP hO hD hS (lv_sub hl [0] rfl)
  · obtain ⟨δ1, σ2⟩ := u
    obtain ⟨hwp, hF3⟩ := hk
    dsimp only at hP hO hD hwp hF3
    have hh4 := hF3.m hy4
    replace hE := hE.tr hF3
    refine lv_iload_n hx hb dX0_row_21 rfl (lv_at hl 1 rfl) ?_
    refine lv_i2l (v := x2.toInt64) hx hb dX0_row_22 rfl ?_
    refine lv_lconst (v := 0) hx hb dX0_row_23 (by decide) ?_
    refine lv_ldc2 hx hb hown (hts _ q331) dX0_row_24 ?_
    refine x_goi (va_runS (As := [.long x2.toInt64, .long 0, .long 3]) (rest := []) ⟨hx, hb, hml, hown, hts⟩ (xt_S_in hwp H.size) (va_cwS 3 hts (lw_S q332 q333 q75 q334) rfl rfl rfl (by decide +kernel) ⟨Nat.le_of_ble_eq_true rfl, Nat.le_of_ble_eq_true rfl⟩) (x_preS hK hO hD hP) rfl rfl hl.1 rfl (lv_room (Nat.le_of_ble_eq_true rfl)) dX0_row_27 ⟨(Nat.le_of_ble_eq_true rfl), (Nat.le_of_ble_eq_true rfl)⟩) hD hA hS (fun r6 u H locs hk hP hO hD hS => ?_)
    obtain ⟨hwp, eu⟩ := hk
    subst eu
    dsimp only at hP hO hD
    refine lv_bipush (v := (-6)) hx hb dX0_row_30 (by decide) ?_
    refine y_gov (vx_runS (As := [.int r6, .int (-6)]) (rest := []) ⟨hx, hb, hml, hown, hts⟩ (xt_S_need hst hwp H.size) (va_cwS 2 hts (lw_S q328 q329 q75 q330) rfl rfl rfl (by decide +kernel) ⟨(Nat.le_of_ble_eq_true rfl), (Nat.le_of_ble_eq_true rfl)⟩) (y_preS hK hO hD hA hZ hP hS) rfl rfl hl.1 rfl (lv_room (Nat.le_of_ble_eq_true rfl)) dX0_row_32 ⟨(Nat.le_of_ble_eq_true rfl), (Nat.le_of_ble_eq_true rfl)⟩) hD hA hS (fun E ce q16 u H locs hk hP hO hD hS k1 k2 k3 => ?_) (fun u H locs hk hP hO hD hS => ?_)
    · obtain ⟨δ13, σ14⟩ := u
      obtain ⟨⟨rfl, hq16⟩, hwp, hF15⟩ := hk
      dsimp only at hP hO hD hwp hF15 hq16
      have hh17 := hF15.m hh4
      replace hE := hE.tr hF15
      refine vx_catch (E := RX5) (name := RX5) hown [] ⟨0, 63, 64, 21⟩ [] (htb.trans rfl) (fun z hz => nomatch hz) rfl (by decide) (hts _ q222) ((hK.2.1 (.castable RX5 RX5) (by simp [nwL])).use rfl) k1 k2 k3 ?_
      refine W.eq (g2 := F0 m 64 ls [.ref q16]) rfl ?_
      refine W.widen (k := 9) (n := 1099) (Nat.le_of_ble_eq_true rfl) (Nat.le_of_ble_eq_true rfl) ?_
      exact xk_S_row_64 hst Xc h0 _ δ13 σ14 hE hq16 hwp H locs ls hP hO hD hS (lv_sub hl [0] rfl)
    · obtain ⟨δ7, σ8⟩ := u
      obtain ⟨hwp, hF9⟩ := hk
      dsimp only at hP hO hD hwp hF9
      have hh10 := hF9.m hh4
      replace hE := hE.tr hF9
      refine lv_iload_n hx hb dX0_row_35 rfl (lv_at hl 2 rfl) ?_
      refine lv_sipush (v := 160) hx hb dX0_row_36 (by decide) ?_
      refine lv_icmp_gt (tgt := 46) hx hb dX0_row_39 (by decide) (fun c12 => ?_) (fun c12 => ?_)
      · replace hwp := hwp.1 c12
        refine lv_iconst (v := 0) hx hb dX0_row_46 (by decide) ?_
        refine W.widen (k := 6) (n := 931) (Nat.le_of_ble_eq_true rfl) (Nat.le_of_ble_eq_true rfl) ?_
        exact xk_S_row_47 hst Xc h0 _ _ _ _ δ7 σ8 hE hh10 hwp H locs ls hP hO hD hS (lv_sub hl [0, 1, 2, 3] rfl)
      · replace hwp := hwp.2 c12
        refine lv_iconst (v := 1) hx hb dX0_row_42 (by decide) ?_
        refine lv_goto (tgt := 47) hx hb dX0_row_43 (by decide) ?_
        refine W.widen (k := 6) (n := 931) (Nat.le_of_ble_eq_true rfl) (Nat.le_of_ble_eq_true rfl) ?_
        exact xk_S_row_47 hst Xc h0 _ _ _ _ δ7 σ8 hE hh10 hwp H locs ls hP hO hD hS (lv_sub hl [0, 1, 2, 3] rfl)
def xw_S_row (K : Int32 → XSh → XSt → Prop) (i0 : Nat) (x1 : Int32) (x2 : Int32) (x3 : Int32) (δ : XSh) (σ : XSt) : Prop :=
  xw_S_shelf (fun r1 δ2 σ3 => ((x3 < 0) → (xw_S_row_16 K i0 x2 x3 r1 0 δ2 σ3)) ∧ ((¬ (x3 < 0)) → (xw_S_row_16 K i0 x2 x3 r1 1 δ2 σ3))) (fun q9 δ6 σ7 => xw_S_row_64 K i0 q9 δ6 σ7) i0 x1 δ σ
set_option maxHeartbeats 4000000 in
set_option maxRecDepth 100000 in
theorem xk_S_row_e {p : Program} {l : Launch} {e : Env} {s : State} {m : MethodId} {args : Array Value} {below : List Frame} {meth : Method} {c : Code} {Γ : GA} {δ0 : XSh} {K : Int32 → XSh → XSt → Prop} {i0 : Nat} (hst : l.stackTraces = false) (Xc : CY p s m args meth c cX0_row 5 (some .int) RX0 Γ δ0 (tableOf [(0, 63, 64, 21)])) (h0 : (0, i0) ∈ δ0.1) {x1 : Int32} {x2 : Int32} {x3 : Int32} : ∀ (δ : XSh) (σ : XSt), Ext δ0 δ → xw_S_row K i0 x1 x2 x3 δ σ → TX p l e ({ frames := 10, cells := 9, slots := 1099, locals := 10322 } : Room) s m args below meth c 5 0 0 (VI below (fun r u => K r u.1 u.2 ∧ Ext δ0 u.1) (fun _ _ _ => False) 9 1099 Γ δ0 s args) Γ δ0 δ σ 0 [(0, .ref i0), (1, .int x1), (2, .int x2), (3, .int x3)] [] := by
  obtain ⟨⟨hx, hb, hml, hown, hts, hK, hr, hlk⟩, hZ, htb⟩ := id Xc
  have hA : ∀ q, s.heap.size ≤ q → AX δ0 s.heap.size q := fun q h => Or.inr h
  intro δ σ hE hwp H locs ls hP hO hD hS hl
  unfold xw_S_row at hwp
  refine lv_aload_n hx hb dX0_row_0 rfl (lv_at hl 0 rfl) ?_
  refine lv_iload_n hx hb dX0_row_1 rfl (lv_at hl 1 rfl) ?_
  refine y_gor (vx_runVX (As := [.int x1]) (rest := []) ⟨hx, hb, hml, hown, hts⟩ (xt_S_shelf hst (hE.m h0) hwp H.size) (vx_cwVW 1 hts (lw_VW q223 q225 qs0 q75 q226) rfl rfl rfl (by decide +kernel) ⟨(Nat.le_of_ble_eq_true rfl), (Nat.le_of_ble_eq_true rfl)⟩) (y_preV hK hO hD hA hZ hP hS 0 i0 (hE.m h0) rfl rfl) rfl rfl hl.1 rfl (lv_room (Nat.le_of_ble_eq_true rfl)) dX0_row_2 ⟨(Nat.le_of_ble_eq_true rfl), (Nat.le_of_ble_eq_true rfl)⟩) hD hA hS (fun E ce q9 u H locs hk hP hO hD hS k1 k2 k3 => ?_) (fun r1 u H locs hk hP hO hD hS => ?_)
  · obtain ⟨δ6, σ7⟩ := u
    obtain ⟨⟨rfl, hq9⟩, hwp, hF8⟩ := hk
    dsimp only at hP hO hD hwp hF8 hq9
    replace hE := hE.tr hF8
    refine vx_catch (E := RX5) (name := RX5) hown [] ⟨0, 63, 64, 21⟩ [] (htb.trans rfl) (fun z hz => nomatch hz) rfl (by decide) (hts _ q222) ((hK.2.1 (.castable RX5 RX5) (by simp [nwL])).use rfl) k1 k2 k3 ?_
    refine W.eq (g2 := F0 m 64 ls [.ref q9]) rfl ?_
    refine W.widen (k := 9) (n := 1099) (Nat.le_of_ble_eq_true rfl) (Nat.le_of_ble_eq_true rfl) ?_
    exact xk_S_row_64 hst Xc h0 _ δ6 σ7 hE hq9 hwp H locs ls hP hO hD hS (lv_sub hl [0] rfl)
  · obtain ⟨δ2, σ3⟩ := u
    obtain ⟨⟨hwp, hF4⟩, hr1, cr1⟩ := hk
    dsimp only at hP hO hD hwp hF4 hr1 cr1
    replace hE := hE.tr hF4
    refine lv_astore (lv' := [(4, .ref r1), (0, .ref i0), (1, .int x1), (2, .int x2), (3, .int x3)]) hx hb dX0_row_5 hl (by decide) rfl (fun ls hl => ?_)
    refine lv_iload_n hx hb dX0_row_7 rfl (lv_at hl 4 rfl) ?_
    refine lv_if_lt (tgt := 15) hx hb dX0_row_8 (by decide) (fun c5 => ?_) (fun c5 => ?_)
    · replace hwp := hwp.1 c5
      refine lv_iconst (v := 0) hx hb dX0_row_15 (by decide) ?_
      refine W.widen (k := 4) (n := 917) (Nat.le_of_ble_eq_true rfl) (Nat.le_of_ble_eq_true rfl) ?_
      exact xk_S_row_16 hst Xc h0 _ _ _ _ δ2 σ3 hE hr1 hwp H locs ls hP hO hD hS (lv_sub hl [1, 3, 4, 0] rfl)
    · replace hwp := hwp.2 c5
      refine lv_iconst (v := 1) hx hb dX0_row_11 (by decide) ?_
      refine lv_goto (tgt := 16) hx hb dX0_row_12 (by decide) ?_
      refine W.widen (k := 4) (n := 917) (Nat.le_of_ble_eq_true rfl) (Nat.le_of_ble_eq_true rfl) ?_
      exact xk_S_row_16 hst Xc h0 _ _ _ _ δ2 σ3 hE hr1 hwp H locs ls hP hO hD hS (lv_sub hl [1, 3, 4, 0] rfl)
set_option maxHeartbeats 4000000 in
set_option maxRecDepth 100000 in
theorem xt_S_row {l : Launch} (hst : l.stackTraces = false) {Γ : GA} {δ0 : XSh} {σ : XSt} {K : Int32 → XSh → XSt → Prop} {i0 : Nat} (h0 : (0, i0) ∈ δ0.1) {x1 : Int32} {x2 : Int32} {x3 : Int32} (hwp : xw_S_row K i0 x1 x2 x3 δ0 σ) : yI l yX0_row (wsW_ yX0_row cX0_row 5 (some .int) [(0, 63, 64, 21)]) ({ frames := 10, cells := 9, slots := 1099, locals := 10322 } : Room) 9 1099 Γ δ0 [.ref i0, .int x1, .int x2, .int x3] σ (fun r u => K r u.1 u.2 ∧ Ext δ0 u.1) (fun _ _ _ => False) := by
  intro sz
  refine yW_of (by decide) [(0, .ref i0), (1, .int x1), (2, .int x2), (3, .int x3)] (fun _ h => h) (Nat.le_of_ble_eq_true rfl) ?_
  intro p e s m args below meth c hsz Xc
  subst hsz
  exact xk_S_row_e hst Xc h0 δ0 σ Ext.rf hwp
/-! S_set -/
def xw_S_set_34 (K : Int32 → XSh → XSt → Prop) (i0 : Nat) (z0 : Nat) (δ : XSh) (σ : XSt) : Prop :=
  xw_S_refused δ (fun r1 σ2 => K r1 δ σ2) i0 z0 σ
set_option maxHeartbeats 4000000 in
set_option maxRecDepth 100000 in
theorem xk_S_set_34 {p : Program} {l : Launch} {e : Env} {s : State} {m : MethodId} {args : Array Value} {below : List Frame} {meth : Method} {c : Code} {Γ : GA} {δ0 : XSh} {K : Int32 → XSh → XSt → Prop} {i0 : Nat} (hst : l.stackTraces = false) (Xc : CY p s m args meth c cX0_set 7 (some .int) RX0 Γ δ0 (tableOf [(10, 17, 20, 92), (0, 33, 34, 21)])) (h0 : (0, i0) ∈ δ0.1) : ∀ (z0 : Nat) (δ : XSh) (σ : XSt), Ext δ0 δ → (13, z0) ∈ δ.1 → xw_S_set_34 K i0 z0 δ σ → TX p l e ({ frames := 10, cells := 12, slots := 2751, locals := 10323 } : Room) s m args below meth c 7 12 2751 (VI below (fun r u => K r u.1 u.2 ∧ Ext δ0 u.1) (fun _ _ _ => False) 12 2751 Γ δ0 s args) Γ δ0 δ σ 34 [(0, .ref i0)] [.ref z0] := by
  obtain ⟨⟨hx, hb, hml, hown, hts, hK, hr, hlk⟩, hZ, htb⟩ := id Xc
  have hA : ∀ q, s.heap.size ≤ q → AX δ0 s.heap.size q := fun q h => Or.inr h
  intro z0 δ σ hE hz0 hwp H locs ls hP hO hD hS hl
  unfold xw_S_set_34 at hwp
  refine lv_astore (lv' := [(5, .ref z0), (0, .ref i0)]) hx hb dX0_set_34 hl (by decide) rfl (fun ls hl => ?_)
  refine lv_aload_n hx hb dX0_set_36 rfl (lv_at hl 1 rfl) ?_
  refine lv_aload hx hb dX0_set_37 (lv_at hl 0 rfl) ?_
  refine x_goi (va_runV (As := [.ref z0]) (rest := []) ⟨hx, hb, hml, hown, hts⟩ (xt_S_refused (hE.m h0) hz0 hwp H.size) (cwV 1 hts (lw_V q397 q399 qs2 q75 q400) rfl rfl rfl (by decide +kernel) ⟨Nat.le_of_ble_eq_true rfl, Nat.le_of_ble_eq_true rfl⟩) (x_preV hK hO hD hP 0 i0 (hE.m h0) rfl rfl) rfl rfl hl.1 rfl (lv_room (Nat.le_of_ble_eq_true rfl)) dX0_set_39 ⟨(Nat.le_of_ble_eq_true rfl), (Nat.le_of_ble_eq_true rfl)⟩) hD hA hS (fun r1 u H locs hk hP hO hD hS => ?_)
  obtain ⟨u1, σ2⟩ := u
  obtain ⟨hwp, eu⟩ := hk
  have eu : δ = u1 := eu.symm
  subst eu
  dsimp only at hP hO hD hwp
  refine W.widen (k := 12) (n := 2751) (Nat.le_of_ble_eq_true rfl) (Nat.le_of_ble_eq_true rfl) ?_
  refine vx_ret ?_
  exact x_iret hx hb hr hlk hP hO hD hS ⟨hwp, hE⟩ dX0_set_42
def xw_S_set (K : Int32 → XSh → XSt → Prop) (i0 : Nat) (x1 : Int32) (x2 : Int32) (x3 : Int64) (δ : XSh) (σ : XSt) : Prop :=
  xw_S_shelf (fun r1 δ2 σ3 => xw_Sh_row (fun r5 δ6 σ7 => xv_R_put (fun δ9 σ10 => K 1 δ9 σ10) (fun δ14 σ15 => ∀ q17 : Nat, (∀ q20 δ21 σ22, NewRe (-5) δ14 σ15 q20 δ21 σ22 → (xw_S_set_34 K i0 q20 δ21 σ22))) r5 x2 x3 δ6 σ7) (fun q29 δ26 σ27 => xw_S_set_34 K i0 q29 δ26 σ27) r1 δ2 σ3) (fun q33 δ30 σ31 => xw_S_set_34 K i0 q33 δ30 σ31) i0 x1 δ σ
set_option maxHeartbeats 4000000 in
set_option maxRecDepth 100000 in
theorem xk_S_set_e {p : Program} {l : Launch} {e : Env} {s : State} {m : MethodId} {args : Array Value} {below : List Frame} {meth : Method} {c : Code} {Γ : GA} {δ0 : XSh} {K : Int32 → XSh → XSt → Prop} {i0 : Nat} (hst : l.stackTraces = false) (Xc : CY p s m args meth c cX0_set 7 (some .int) RX0 Γ δ0 (tableOf [(10, 17, 20, 92), (0, 33, 34, 21)])) (h0 : (0, i0) ∈ δ0.1) {x1 : Int32} {x2 : Int32} {x3 : Int64} : ∀ (δ : XSh) (σ : XSt), Ext δ0 δ → xw_S_set K i0 x1 x2 x3 δ σ → TX p l e ({ frames := 10, cells := 12, slots := 2751, locals := 10323 } : Room) s m args below meth c 7 0 0 (VI below (fun r u => K r u.1 u.2 ∧ Ext δ0 u.1) (fun _ _ _ => False) 12 2751 Γ δ0 s args) Γ δ0 δ σ 0 [(0, .ref i0), (1, .int x1), (2, .int x2), (3, .long x3)] [] := by
  obtain ⟨⟨hx, hb, hml, hown, hts, hK, hr, hlk⟩, hZ, htb⟩ := id Xc
  have hA : ∀ q, s.heap.size ≤ q → AX δ0 s.heap.size q := fun q h => Or.inr h
  intro δ σ hE hwp H locs ls hP hO hD hS hl
  unfold xw_S_set at hwp
  refine lv_aload_n hx hb dX0_set_0 rfl (lv_at hl 0 rfl) ?_
  refine lv_iload_n hx hb dX0_set_1 rfl (lv_at hl 1 rfl) ?_
  refine y_gor (vx_runVX (As := [.int x1]) (rest := []) ⟨hx, hb, hml, hown, hts⟩ (xt_S_shelf hst (hE.m h0) hwp H.size) (vx_cwVW 1 hts (lw_VW q223 q225 qs0 q75 q226) rfl rfl rfl (by decide +kernel) ⟨(Nat.le_of_ble_eq_true rfl), (Nat.le_of_ble_eq_true rfl)⟩) (y_preV hK hO hD hA hZ hP hS 0 i0 (hE.m h0) rfl rfl) rfl rfl hl.1 rfl (lv_room (Nat.le_of_ble_eq_true rfl)) dX0_set_2 ⟨(Nat.le_of_ble_eq_true rfl), (Nat.le_of_ble_eq_true rfl)⟩) hD hA hS (fun E ce q33 u H locs hk hP hO hD hS k1 k2 k3 => ?_) (fun r1 u H locs hk hP hO hD hS => ?_)
  · obtain ⟨δ30, σ31⟩ := u
    obtain ⟨⟨rfl, hq33⟩, hwp, hF32⟩ := hk
    dsimp only at hP hO hD hwp hF32 hq33
    replace hE := hE.tr hF32
    refine vx_catch (E := RX5) (name := RX5) hown [⟨10, 17, 20, 92⟩] ⟨0, 33, 34, 21⟩ [] (htb.trans rfl) (fun z hz => by simp only [List.mem_cons, List.not_mem_nil, or_false] at hz; rcases hz with rfl <;> first | exact Or.inl rfl) rfl (by decide) (hts _ q222) ((hK.2.1 (.castable RX5 RX5) (by simp [nwL])).use rfl) k1 k2 k3 ?_
    refine W.eq (g2 := F0 m 34 ls [.ref q33]) rfl ?_
    refine W.widen (k := 12) (n := 2751) (Nat.le_of_ble_eq_true rfl) (Nat.le_of_ble_eq_true rfl) ?_
    exact xk_S_set_34 hst Xc h0 _ δ30 σ31 hE hq33 hwp H locs ls hP hO hD hS (lv_sub hl [0] rfl)
  · obtain ⟨δ2, σ3⟩ := u
    obtain ⟨⟨hwp, hF4⟩, hr1, cr1⟩ := hk
    dsimp only at hP hO hD hwp hF4 hr1 cr1
    replace hE := hE.tr hF4
    refine y_gor (vx_runVX (As := []) (rest := []) ⟨hx, hb, hml, hown, hts⟩ (xt_Sh_row hst hr1 hwp H.size) (vx_cwVW 0 hts (lw_VW q405 q406 q407 q78 q408) rfl rfl rfl (by decide +kernel) ⟨(Nat.le_of_ble_eq_true rfl), (Nat.le_of_ble_eq_true rfl)⟩) (y_preV hK hO hD hA hZ hP hS 5 r1 hr1 rfl rfl) rfl rfl hl.1 rfl (lv_room (Nat.le_of_ble_eq_true rfl)) dX0_set_5 ⟨(Nat.le_of_ble_eq_true rfl), (Nat.le_of_ble_eq_true rfl)⟩) hD hA hS (fun E ce q29 u H locs hk hP hO hD hS k1 k2 k3 => ?_) (fun r5 u H locs hk hP hO hD hS => ?_)
    · obtain ⟨δ26, σ27⟩ := u
      obtain ⟨⟨rfl, hq29⟩, hwp, hF28⟩ := hk
      dsimp only at hP hO hD hwp hF28 hq29
      replace hE := hE.tr hF28
      refine vx_catch (E := RX5) (name := RX5) hown [⟨10, 17, 20, 92⟩] ⟨0, 33, 34, 21⟩ [] (htb.trans rfl) (fun z hz => by simp only [List.mem_cons, List.not_mem_nil, or_false] at hz; rcases hz with rfl <;> first | exact Or.inl rfl) rfl (by decide) (hts _ q222) ((hK.2.1 (.castable RX5 RX5) (by simp [nwL])).use rfl) k1 k2 k3 ?_
      refine W.eq (g2 := F0 m 34 ls [.ref q29]) rfl ?_
      refine W.widen (k := 12) (n := 2751) (Nat.le_of_ble_eq_true rfl) (Nat.le_of_ble_eq_true rfl) ?_
      exact xk_S_set_34 hst Xc h0 _ δ26 σ27 hE hq29 hwp H locs ls hP hO hD hS (lv_sub hl [0] rfl)
    · obtain ⟨δ6, σ7⟩ := u
      obtain ⟨⟨hwp, hF8⟩, hr5, cr5⟩ := hk
      dsimp only at hP hO hD hwp hF8 hr5 cr5
      replace hE := hE.tr hF8
      refine lv_astore (lv' := [(5, .ref r5), (0, .ref i0), (1, .int x1), (2, .int x2), (3, .long x3)]) hx hb dX0_set_8 hl (by decide) rfl (fun ls hl => ?_)
      refine lv_aload hx hb dX0_set_10 (lv_at hl 0 rfl) ?_
      refine lv_iload_n hx hb dX0_set_12 rfl (lv_at hl 3 rfl) ?_
      refine lv_lload_n hx hb dX0_set_13 rfl (lv_at hl 4 rfl) ?_
      refine y_gov (xr_R_put hst (As := [.int x2, .long x3]) (rest := []) ⟨hx, hb, hml, hown, hts⟩ hK hD hA hZ hO hP hS hr5 cr5 hwp q427 ⟨(Nat.le_of_ble_eq_true rfl), (Nat.le_of_ble_eq_true rfl)⟩ rfl hl.1 rfl (Nat.le_of_ble_eq_true rfl) dX0_set_14 ⟨(Nat.le_of_ble_eq_true rfl), (Nat.le_of_ble_eq_true rfl)⟩) hD hA hS (fun E ce q17 u H locs hk hP hO hD hS k1 k2 k3 => ?_) (fun u H locs hk hP hO hD hS => ?_)
      · obtain ⟨δ14, σ15⟩ := u
        obtain ⟨rfl, hwp, hF16⟩ := hk
        dsimp only at hP hO hD hwp hF16
        have hh18 := hF16.m hr5
        have cc19 := Ext.cl hF16 hr5 cr5
        replace hE := hE.tr hF16
        replace hwp := hwp q17
        refine vx_catch (E := "java/lang/ArrayIndexOutOfBoundsException") (name := "java/lang/ArrayIndexOutOfBoundsException") hown [] ⟨10, 17, 20, 92⟩ [⟨0, 33, 34, 21⟩] (htb.trans rfl) (fun z hz => nomatch hz) rfl (by decide) (hts _ q227) ((hK.2.1 (.castable "java/lang/ArrayIndexOutOfBoundsException" "java/lang/ArrayIndexOutOfBoundsException") (by simp [nwL])).use rfl) k1 k2 k3 ?_
        refine W.eq (g2 := F0 m 20 ls [.ref q17]) rfl ?_
        refine lv_astore (lv' := [(6, .ref q17), (5, .ref r5), (0, .ref i0), (1, .int x1), (2, .int x2), (3, .long x3)]) hx hb dX0_set_20 hl (by decide) rfl (fun ls hl => ?_)
        refine va_new (D := Γ.1) (ci := 17) (fs := [.null, .null, .null, .null, .null, .int 0, .int 0]) (C := RX5) (T := TX5) (N := 7) hx hb hts in_X5 tyX5 tyX5_ok hown (hts _ q222) (hts _ q305) (hts _ q86) hK.1 hP.1 (hD.va (fun _ => rfl)) hS hA rfl (fun j hj => by rcases (show j = 0 ∨ j = 1 ∨ j = 2 ∨ j = 3 ∨ j = 4 ∨ j = 5 ∨ j = 6 by omega) with rfl | rfl | rfl | rfl | rfl | rfl | rfl <;> rfl) (Nat.le_of_ble_eq_true rfl) (Nat.le_of_ble_eq_true rfl) dX0_set_22 (fun q20 H hR hRD hS => ?_)
        replace hR := rotP hR
        replace hRD := rotD hRD
        replace hP : XH Γ δ14 σ15 H := ⟨tailP (ex := [_]) hR, hP.2⟩
        refine lv_dup hx hb dX0_set_25 rfl ?_
        refine lv_bipush (v := (-5)) hx hb dX0_set_26 (by decide) ?_
        refine r_go (X := δ14.1.map (gX Γ δ14 σ15)) (va_runI (As := [.int (-5)]) (rest := [.ref q20]) ⟨hx, hb, hml, hown, hts⟩ (ct_Re H.size) (cwI 1 hts (lw_meth q315) rfl rfl rfl (hts _ q86) (hts _ q313) (hts _ q314) rfl (by decide +kernel) ⟨(Nat.le_of_ble_eq_true rfl), (Nat.le_of_ble_eq_true rfl)⟩) (r_pre hK hA hZ hR hRD hS) rfl rfl hl.1 rfl (lv_room (Nat.le_of_ble_eq_true rfl)) dX0_set_28 ⟨(Nat.le_of_ble_eq_true rfl), (Nat.le_of_ble_eq_true rfl)⟩) hA hR hRD hS (fun ex H locs hk hR hRD hS => ?_)
        subst hk
        obtain ⟨δ21, σ22, hP, hO, hD, hN23⟩ := mkRe hR hRD hP.2 hO
        have hh24 := hN23.1.1.m hh18
        have cc25 := Ext.cl hN23.1.1 hh18 cc19
        replace hE := hE.tr hN23.1.1
        replace hwp := hwp q20 δ21 σ22 hN23
        obtain ⟨ce, k1, k2, k3⟩ := x_cell hK hP 13 q20 hN23.2.2.1 rfl (q := (RX5, TX5, 7)) rfl
        refine vx_athrow hx hb dX0_set_31 ?_
        refine vx_catch (E := RX5) (name := RX5) hown [⟨10, 17, 20, 92⟩] ⟨0, 33, 34, 21⟩ [] (htb.trans rfl) (fun z hz => by simp only [List.mem_cons, List.not_mem_nil, or_false] at hz; rcases hz with rfl <;> first | exact Or.inl rfl) rfl (by decide) (hts _ q222) ((hK.2.1 (.castable RX5 RX5) (by simp [nwL])).use rfl) k1 k2 k3 ?_
        refine W.eq (g2 := F0 m 34 ls [.ref q20]) rfl ?_
        refine W.widen (k := 12) (n := 2751) (Nat.le_of_ble_eq_true rfl) (Nat.le_of_ble_eq_true rfl) ?_
        exact xk_S_set_34 hst Xc h0 _ δ21 σ22 hE hN23.2.2.1 hwp H locs ls hP hO hD hS (lv_sub hl [2] rfl)
      · obtain ⟨δ9, σ10⟩ := u
        obtain ⟨hwp, hF11⟩ := hk
        dsimp only at hP hO hD hwp hF11
        have hh12 := hF11.m hr5
        have cc13 := Ext.cl hF11 hr5 cr5
        replace hE := hE.tr hF11
        refine lv_goto (tgt := 32) hx hb dX0_set_17 (by decide) ?_
        refine lv_iconst (v := 1) hx hb dX0_set_32 (by decide) ?_
        refine W.widen (k := 12) (n := 2751) (Nat.le_of_ble_eq_true rfl) (Nat.le_of_ble_eq_true rfl) ?_
        refine vx_ret ?_
        exact x_iret hx hb hr hlk hP hO hD hS ⟨hwp, hE⟩ dX0_set_33
set_option maxHeartbeats 4000000 in
set_option maxRecDepth 100000 in
theorem xt_S_set {l : Launch} (hst : l.stackTraces = false) {Γ : GA} {δ0 : XSh} {σ : XSt} {K : Int32 → XSh → XSt → Prop} {i0 : Nat} (h0 : (0, i0) ∈ δ0.1) {x1 : Int32} {x2 : Int32} {x3 : Int64} (hwp : xw_S_set K i0 x1 x2 x3 δ0 σ) : yI l yX0_set (wsW_ yX0_set cX0_set 7 (some .int) [(10, 17, 20, 92), (0, 33, 34, 21)]) ({ frames := 10, cells := 12, slots := 2751, locals := 10323 } : Room) 12 2751 Γ δ0 [.ref i0, .int x1, .int x2, .long x3] σ (fun r u => K r u.1 u.2 ∧ Ext δ0 u.1) (fun _ _ _ => False) := by
  intro sz
  refine yW_of (by decide) [(0, .ref i0), (1, .int x1), (2, .int x2), (3, .long x3)] (fun _ h => h) (Nat.le_of_ble_eq_true rfl) ?_
  intro p e s m args below meth c hsz Xc
  subst hsz
  exact xk_S_set_e hst Xc h0 δ0 σ Ext.rf hwp
/-! S_element -/
def xw_S_element (K : Int64 → XSh → XSt → Prop) (i0 : Nat) (x1 : Int32) (x2 : Int32) (δ : XSh) (σ : XSt) : Prop :=
  xw_S_shelf (fun r1 δ2 σ3 => xw_Sh_row (fun r5 δ6 σ7 => xv_R_getX (fun r9 δ10 σ11 => K r9 δ10 σ11) (fun δ13 σ14 => ∀ q16 : Nat, (K 0 δ13 σ14)) r5 x2 δ6 σ7) (fun q20 δ17 σ18 => K 0 δ17 σ18) r1 δ2 σ3) (fun q24 δ21 σ22 => K 0 δ21 σ22) i0 x1 δ σ
set_option maxHeartbeats 4000000 in
set_option maxRecDepth 100000 in
theorem xk_S_element_e {p : Program} {l : Launch} {e : Env} {s : State} {m : MethodId} {args : Array Value} {below : List Frame} {meth : Method} {c : Code} {Γ : GA} {δ0 : XSh} {K : Int64 → XSh → XSt → Prop} {i0 : Nat} (hst : l.stackTraces = false) (Xc : CY p s m args meth c cX0_element 4 (some .long) RX0 Γ δ0 (tableOf [(0, 12, 13, 21), (0, 12, 16, 92)])) (h0 : (0, i0) ∈ δ0.1) {x1 : Int32} {x2 : Int32} : ∀ (δ : XSh) (σ : XSt), Ext δ0 δ → xw_S_element K i0 x1 x2 δ σ → TX p l e ({ frames := 10, cells := 11, slots := 2744, locals := 10322 } : Room) s m args below meth c 4 0 0 (VL below (fun r u => K r u.1 u.2 ∧ Ext δ0 u.1) (fun _ _ _ => False) 11 2744 Γ δ0 s args) Γ δ0 δ σ 0 [(0, .ref i0), (1, .int x1), (2, .int x2)] [] := by
  obtain ⟨⟨hx, hb, hml, hown, hts, hK, hr, hlk⟩, hZ, htb⟩ := id Xc
  have hA : ∀ q, s.heap.size ≤ q → AX δ0 s.heap.size q := fun q h => Or.inr h
  intro δ σ hE hwp H locs ls hP hO hD hS hl
  unfold xw_S_element at hwp
  refine lv_aload_n hx hb dX0_element_0 rfl (lv_at hl 0 rfl) ?_
  refine lv_iload_n hx hb dX0_element_1 rfl (lv_at hl 1 rfl) ?_
  refine y_gor (vx_runVX (As := [.int x1]) (rest := []) ⟨hx, hb, hml, hown, hts⟩ (xt_S_shelf hst (hE.m h0) hwp H.size) (vx_cwVW 1 hts (lw_VW q223 q225 qs0 q75 q226) rfl rfl rfl (by decide +kernel) ⟨(Nat.le_of_ble_eq_true rfl), (Nat.le_of_ble_eq_true rfl)⟩) (y_preV hK hO hD hA hZ hP hS 0 i0 (hE.m h0) rfl rfl) rfl rfl hl.1 rfl (lv_room (Nat.le_of_ble_eq_true rfl)) dX0_element_2 ⟨(Nat.le_of_ble_eq_true rfl), (Nat.le_of_ble_eq_true rfl)⟩) hD hA hS (fun E ce q24 u H locs hk hP hO hD hS k1 k2 k3 => ?_) (fun r1 u H locs hk hP hO hD hS => ?_)
  · obtain ⟨δ21, σ22⟩ := u
    obtain ⟨⟨rfl, hq24⟩, hwp, hF23⟩ := hk
    dsimp only at hP hO hD hwp hF23 hq24
    replace hE := hE.tr hF23
    refine vx_catch (E := RX5) (name := RX5) hown [] ⟨0, 12, 13, 21⟩ [⟨0, 12, 16, 92⟩] (htb.trans rfl) (fun z hz => nomatch hz) rfl (by decide) (hts _ q222) ((hK.2.1 (.castable RX5 RX5) (by simp [nwL])).use rfl) k1 k2 k3 ?_
    refine W.eq (g2 := F0 m 13 ls [.ref q24]) rfl ?_
    refine lv_astore_n (lv' := [(3, .ref q24), (0, .ref i0), (1, .int x1), (2, .int x2)]) hx hb dX0_element_13 rfl hl (by decide) rfl (fun ls hl => ?_)
    refine lv_lconst (v := 0) hx hb dX0_element_14 (by decide) ?_
    refine W.widen (k := 11) (n := 2744) (Nat.le_of_ble_eq_true rfl) (Nat.le_of_ble_eq_true rfl) ?_
    refine vx_ret ?_
    exact x_lret hx hb hr hlk hP hO hD hS ⟨hwp, hE⟩ dX0_element_15
  · obtain ⟨δ2, σ3⟩ := u
    obtain ⟨⟨hwp, hF4⟩, hr1, cr1⟩ := hk
    dsimp only at hP hO hD hwp hF4 hr1 cr1
    replace hE := hE.tr hF4
    refine y_gor (vx_runVX (As := []) (rest := []) ⟨hx, hb, hml, hown, hts⟩ (xt_Sh_row hst hr1 hwp H.size) (vx_cwVW 0 hts (lw_VW q405 q406 q407 q78 q408) rfl rfl rfl (by decide +kernel) ⟨(Nat.le_of_ble_eq_true rfl), (Nat.le_of_ble_eq_true rfl)⟩) (y_preV hK hO hD hA hZ hP hS 5 r1 hr1 rfl rfl) rfl rfl hl.1 rfl (lv_room (Nat.le_of_ble_eq_true rfl)) dX0_element_5 ⟨(Nat.le_of_ble_eq_true rfl), (Nat.le_of_ble_eq_true rfl)⟩) hD hA hS (fun E ce q20 u H locs hk hP hO hD hS k1 k2 k3 => ?_) (fun r5 u H locs hk hP hO hD hS => ?_)
    · obtain ⟨δ17, σ18⟩ := u
      obtain ⟨⟨rfl, hq20⟩, hwp, hF19⟩ := hk
      dsimp only at hP hO hD hwp hF19 hq20
      replace hE := hE.tr hF19
      refine vx_catch (E := RX5) (name := RX5) hown [] ⟨0, 12, 13, 21⟩ [⟨0, 12, 16, 92⟩] (htb.trans rfl) (fun z hz => nomatch hz) rfl (by decide) (hts _ q222) ((hK.2.1 (.castable RX5 RX5) (by simp [nwL])).use rfl) k1 k2 k3 ?_
      refine W.eq (g2 := F0 m 13 ls [.ref q20]) rfl ?_
      refine lv_astore_n (lv' := [(3, .ref q20), (0, .ref i0), (1, .int x1), (2, .int x2)]) hx hb dX0_element_13 rfl hl (by decide) rfl (fun ls hl => ?_)
      refine lv_lconst (v := 0) hx hb dX0_element_14 (by decide) ?_
      refine W.widen (k := 11) (n := 2744) (Nat.le_of_ble_eq_true rfl) (Nat.le_of_ble_eq_true rfl) ?_
      refine vx_ret ?_
      exact x_lret hx hb hr hlk hP hO hD hS ⟨hwp, hE⟩ dX0_element_15
    · obtain ⟨δ6, σ7⟩ := u
      obtain ⟨⟨hwp, hF8⟩, hr5, cr5⟩ := hk
      dsimp only at hP hO hD hwp hF8 hr5 cr5
      replace hE := hE.tr hF8
      refine lv_iload_n hx hb dX0_element_8 rfl (lv_at hl 2 rfl) ?_
      refine y_gol (xr_R_getX hst (As := [.int x2]) (rest := []) ⟨hx, hb, hml, hown, hts⟩ hK hD hA hZ hO hP hS hr5 cr5 hwp q489 ⟨(Nat.le_of_ble_eq_true rfl), (Nat.le_of_ble_eq_true rfl)⟩ rfl hl.1 rfl (Nat.le_of_ble_eq_true rfl) dX0_element_9 ⟨(Nat.le_of_ble_eq_true rfl), (Nat.le_of_ble_eq_true rfl)⟩) hD hA hS (fun E ce q16 u H locs hk hP hO hD hS k1 k2 k3 => ?_) (fun r9 u H locs hk hP hO hD hS => ?_)
      · obtain ⟨δ13, σ14⟩ := u
        obtain ⟨rfl, hwp, hF15⟩ := hk
        dsimp only at hP hO hD hwp hF15
        replace hE := hE.tr hF15
        replace hwp := hwp q16
        refine vx_catch (E := "java/lang/ArrayIndexOutOfBoundsException") (name := "java/lang/ArrayIndexOutOfBoundsException") hown [⟨0, 12, 13, 21⟩] ⟨0, 12, 16, 92⟩ [] (htb.trans rfl) (fun z hz => by simp only [List.mem_cons, List.not_mem_nil, or_false] at hz; rcases hz with rfl <;> first | exact Or.inr ⟨by decide, _, hts _ q222, hK.2.2.2.2.1 ("java/lang/ArrayIndexOutOfBoundsException", RX5) (by simp [ncL])⟩) rfl (by decide) (hts _ q227) ((hK.2.1 (.castable "java/lang/ArrayIndexOutOfBoundsException" "java/lang/ArrayIndexOutOfBoundsException") (by simp [nwL])).use rfl) k1 k2 k3 ?_
        refine W.eq (g2 := F0 m 16 ls [.ref q16]) rfl ?_
        refine lv_astore_n (lv' := [(3, .ref q16), (0, .ref i0), (1, .int x1), (2, .int x2)]) hx hb dX0_element_16 rfl hl (by decide) rfl (fun ls hl => ?_)
        refine lv_lconst (v := 0) hx hb dX0_element_17 (by decide) ?_
        refine W.widen (k := 11) (n := 2744) (Nat.le_of_ble_eq_true rfl) (Nat.le_of_ble_eq_true rfl) ?_
        refine vx_ret ?_
        exact x_lret hx hb hr hlk hP hO hD hS ⟨hwp, hE⟩ dX0_element_18
      · obtain ⟨δ10, σ11⟩ := u
        obtain ⟨hwp, hF12⟩ := hk
        dsimp only at hP hO hD hwp hF12
        replace hE := hE.tr hF12
        refine W.widen (k := 11) (n := 2744) (Nat.le_of_ble_eq_true rfl) (Nat.le_of_ble_eq_true rfl) ?_
        refine vx_ret ?_
        exact x_lret hx hb hr hlk hP hO hD hS ⟨hwp, hE⟩ dX0_element_12
set_option maxHeartbeats 4000000 in
set_option maxRecDepth 100000 in
theorem xt_S_element {l : Launch} (hst : l.stackTraces = false) {Γ : GA} {δ0 : XSh} {σ : XSt} {K : Int64 → XSh → XSt → Prop} {i0 : Nat} (h0 : (0, i0) ∈ δ0.1) {x1 : Int32} {x2 : Int32} (hwp : xw_S_element K i0 x1 x2 δ0 σ) : yL l yX0_element (wsW_ yX0_element cX0_element 4 (some .long) [(0, 12, 13, 21), (0, 12, 16, 92)]) ({ frames := 10, cells := 11, slots := 2744, locals := 10322 } : Room) 11 2744 Γ δ0 [.ref i0, .int x1, .int x2] σ (fun r u => K r u.1 u.2 ∧ Ext δ0 u.1) (fun _ _ _ => False) := by
  intro sz
  refine yW_of (by decide) [(0, .ref i0), (1, .int x1), (2, .int x2)] (fun _ h => h) (Nat.le_of_ble_eq_true rfl) ?_
  intro p e s m args below meth c hsz Xc
  subst hsz
  exact xk_S_element_e hst Xc h0 δ0 σ Ext.rf hwp
/-! S_show -/
def xw_S_show_38 (K : Int32 → XSh → XSt → Prop) (i0 : Nat) (z0 : Nat) (δ : XSh) (σ : XSt) : Prop :=
  xw_S_refused δ (fun r1 σ2 => K r1 δ σ2) i0 z0 σ
set_option maxHeartbeats 4000000 in
set_option maxRecDepth 100000 in
theorem xk_S_show_38 {p : Program} {l : Launch} {e : Env} {s : State} {m : MethodId} {args : Array Value} {below : List Frame} {meth : Method} {c : Code} {Γ : GA} {δ0 : XSh} {K : Int32 → XSh → XSt → Prop} {i0 : Nat} (hst : l.stackTraces = false) (Xc : CY p s m args meth c cX0_show 4 (some .int) RX0 Γ δ0 (tableOf [(0, 17, 38, 21), (18, 37, 38, 21)])) (h0 : (0, i0) ∈ δ0.1) : ∀ (z0 : Nat) (δ : XSh) (σ : XSt), Ext δ0 δ → (13, z0) ∈ δ.1 → xw_S_show_38 K i0 z0 δ σ → TX p l e ({ frames := 10, cells := 5, slots := 924, locals := 10322 } : Room) s m args below meth c 4 5 924 (VI below (fun r u => K r u.1 u.2 ∧ Ext δ0 u.1) (fun _ _ _ => False) 5 924 Γ δ0 s args) Γ δ0 δ σ 38 [(0, .ref i0)] [.ref z0] := by
  obtain ⟨⟨hx, hb, hml, hown, hts, hK, hr, hlk⟩, hZ, htb⟩ := id Xc
  have hA : ∀ q, s.heap.size ≤ q → AX δ0 s.heap.size q := fun q h => Or.inr h
  intro z0 δ σ hE hz0 hwp H locs ls hP hO hD hS hl
  unfold xw_S_show_38 at hwp
  refine lv_astore_n (lv' := [(3, .ref z0), (0, .ref i0)]) hx hb dX0_show_38 rfl hl (by decide) rfl (fun ls hl => ?_)
  refine lv_aload_n hx hb dX0_show_39 rfl (lv_at hl 1 rfl) ?_
  refine lv_aload_n hx hb dX0_show_40 rfl (lv_at hl 0 rfl) ?_
  refine x_goi (va_runV (As := [.ref z0]) (rest := []) ⟨hx, hb, hml, hown, hts⟩ (xt_S_refused (hE.m h0) hz0 hwp H.size) (cwV 1 hts (lw_V q397 q399 qs2 q75 q400) rfl rfl rfl (by decide +kernel) ⟨Nat.le_of_ble_eq_true rfl, Nat.le_of_ble_eq_true rfl⟩) (x_preV hK hO hD hP 0 i0 (hE.m h0) rfl rfl) rfl rfl hl.1 rfl (lv_room (Nat.le_of_ble_eq_true rfl)) dX0_show_41 ⟨(Nat.le_of_ble_eq_true rfl), (Nat.le_of_ble_eq_true rfl)⟩) hD hA hS (fun r1 u H locs hk hP hO hD hS => ?_)
  obtain ⟨u1, σ2⟩ := u
  obtain ⟨hwp, eu⟩ := hk
  have eu : δ = u1 := eu.symm
  subst eu
  dsimp only at hP hO hD hwp
  refine W.widen (k := 5) (n := 924) (Nat.le_of_ble_eq_true rfl) (Nat.le_of_ble_eq_true rfl) ?_
  refine vx_ret ?_
  exact x_iret hx hb hr hlk hP hO hD hS ⟨hwp, hE⟩ dX0_show_44
def xw_S_show (K : Int32 → XSh → XSt → Prop) (i0 : Nat) (x1 : Int32) (x2 : Int32) (δ : XSh) (σ : XSt) : Prop :=
  xw_S_shelf (fun r1 δ2 σ3 => ((¬ (x2 = (-1))) → (xw_S_mustThing (fun δ6 σ7 => ∃ o11, σ7.2.2 0 i0 4 = some o11 ∧ (vp_in x2 8 ∧ ∃ o13, σ7.2.2 8 o11 x2.toNatClampNeg = some o13 ∧ (∀ σ14, σ14 = tP σ7 5 r1 0 (some o13) → (K 1 δ6 σ14)))) (fun q18 δ15 σ16 => xw_S_show_38 K i0 q18 δ15 σ16) i0 x2 δ2 σ3)) ∧ ((x2 = (-1)) → (∀ σ21, σ21 = tP σ3 5 r1 0 none → (K 0 δ2 σ21)))) (fun q25 δ22 σ23 => xw_S_show_38 K i0 q25 δ22 σ23) i0 x1 δ σ
set_option maxHeartbeats 4000000 in
set_option maxRecDepth 100000 in
theorem xk_S_show_e {p : Program} {l : Launch} {e : Env} {s : State} {m : MethodId} {args : Array Value} {below : List Frame} {meth : Method} {c : Code} {Γ : GA} {δ0 : XSh} {K : Int32 → XSh → XSt → Prop} {i0 : Nat} (hst : l.stackTraces = false) (Xc : CY p s m args meth c cX0_show 4 (some .int) RX0 Γ δ0 (tableOf [(0, 17, 38, 21), (18, 37, 38, 21)])) (h0 : (0, i0) ∈ δ0.1) {x1 : Int32} {x2 : Int32} : ∀ (δ : XSh) (σ : XSt), Ext δ0 δ → xw_S_show K i0 x1 x2 δ σ → TX p l e ({ frames := 10, cells := 5, slots := 924, locals := 10322 } : Room) s m args below meth c 4 0 0 (VI below (fun r u => K r u.1 u.2 ∧ Ext δ0 u.1) (fun _ _ _ => False) 5 924 Γ δ0 s args) Γ δ0 δ σ 0 [(0, .ref i0), (1, .int x1), (2, .int x2)] [] := by
  obtain ⟨⟨hx, hb, hml, hown, hts, hK, hr, hlk⟩, hZ, htb⟩ := id Xc
  have hA : ∀ q, s.heap.size ≤ q → AX δ0 s.heap.size q := fun q h => Or.inr h
  intro δ σ hE hwp H locs ls hP hO hD hS hl
  unfold xw_S_show at hwp
  refine lv_aload_n hx hb dX0_show_0 rfl (lv_at hl 0 rfl) ?_
  refine lv_iload_n hx hb dX0_show_1 rfl (lv_at hl 1 rfl) ?_
  refine y_gor (vx_runVX (As := [.int x1]) (rest := []) ⟨hx, hb, hml, hown, hts⟩ (xt_S_shelf hst (hE.m h0) hwp H.size) (vx_cwVW 1 hts (lw_VW q223 q225 qs0 q75 q226) rfl rfl rfl (by decide +kernel) ⟨(Nat.le_of_ble_eq_true rfl), (Nat.le_of_ble_eq_true rfl)⟩) (y_preV hK hO hD hA hZ hP hS 0 i0 (hE.m h0) rfl rfl) rfl rfl hl.1 rfl (lv_room (Nat.le_of_ble_eq_true rfl)) dX0_show_2 ⟨(Nat.le_of_ble_eq_true rfl), (Nat.le_of_ble_eq_true rfl)⟩) hD hA hS (fun E ce q25 u H locs hk hP hO hD hS k1 k2 k3 => ?_) (fun r1 u H locs hk hP hO hD hS => ?_)
  · obtain ⟨δ22, σ23⟩ := u
    obtain ⟨⟨rfl, hq25⟩, hwp, hF24⟩ := hk
    dsimp only at hP hO hD hwp hF24 hq25
    replace hE := hE.tr hF24
    refine vx_catch (E := RX5) (name := RX5) hown [] ⟨0, 17, 38, 21⟩ [⟨18, 37, 38, 21⟩] (htb.trans rfl) (fun z hz => nomatch hz) rfl (by decide) (hts _ q222) ((hK.2.1 (.castable RX5 RX5) (by simp [nwL])).use rfl) k1 k2 k3 ?_
    refine W.eq (g2 := F0 m 38 ls [.ref q25]) rfl ?_
    refine W.widen (k := 5) (n := 924) (Nat.le_of_ble_eq_true rfl) (Nat.le_of_ble_eq_true rfl) ?_
    exact xk_S_show_38 hst Xc h0 _ δ22 σ23 hE hq25 hwp H locs ls hP hO hD hS (lv_sub hl [0] rfl)
  · obtain ⟨δ2, σ3⟩ := u
    obtain ⟨⟨hwp, hF4⟩, hr1, cr1⟩ := hk
    dsimp only at hP hO hD hwp hF4 hr1 cr1
    replace hE := hE.tr hF4
    refine lv_astore_n (lv' := [(3, .ref r1), (0, .ref i0), (1, .int x1), (2, .int x2)]) hx hb dX0_show_5 rfl hl (by decide) rfl (fun ls hl => ?_)
    refine lv_iload_n hx hb dX0_show_6 rfl (lv_at hl 3 rfl) ?_
    refine lv_iconst (v := (-1)) hx hb dX0_show_7 (by decide) ?_
    refine lv_icmp_ne (tgt := 18) hx hb dX0_show_8 (by decide) (fun c5 => ?_) (fun c5 => ?_)
    · replace hwp := hwp.1 c5
      refine lv_aload_n hx hb dX0_show_18 rfl (lv_at hl 1 rfl) ?_
      refine lv_iload_n hx hb dX0_show_19 rfl (lv_at hl 3 rfl) ?_
      refine y_gov (vx_runV (As := [.int x2]) (rest := []) ⟨hx, hb, hml, hown, hts⟩ (xt_S_mustThing hst (hE.m h0) hwp H.size) (cwV 1 hts (lw_V q508 q510 qs3 q75 q511) rfl rfl rfl (by decide +kernel) ⟨(Nat.le_of_ble_eq_true rfl), (Nat.le_of_ble_eq_true rfl)⟩) (y_preV hK hO hD hA hZ hP hS 0 i0 (hE.m h0) rfl rfl) rfl rfl hl.1 rfl (lv_room (Nat.le_of_ble_eq_true rfl)) dX0_show_20 ⟨(Nat.le_of_ble_eq_true rfl), (Nat.le_of_ble_eq_true rfl)⟩) hD hA hS (fun E ce q18 u H locs hk hP hO hD hS k1 k2 k3 => ?_) (fun u H locs hk hP hO hD hS => ?_)
      · obtain ⟨δ15, σ16⟩ := u
        obtain ⟨⟨rfl, hq18⟩, hwp, hF17⟩ := hk
        dsimp only at hP hO hD hwp hF17 hq18
        have hh19 := hF17.m hr1
        replace hE := hE.tr hF17
        refine vx_catch (E := RX5) (name := RX5) hown [⟨0, 17, 38, 21⟩] ⟨18, 37, 38, 21⟩ [] (htb.trans rfl) (fun z hz => by simp only [List.mem_cons, List.not_mem_nil, or_false] at hz; rcases hz with rfl <;> first | exact Or.inl rfl) rfl (by decide) (hts _ q222) ((hK.2.1 (.castable RX5 RX5) (by simp [nwL])).use rfl) k1 k2 k3 ?_
        refine W.eq (g2 := F0 m 38 ls [.ref q18]) rfl ?_
        refine W.widen (k := 5) (n := 924) (Nat.le_of_ble_eq_true rfl) (Nat.le_of_ble_eq_true rfl) ?_
        exact xk_S_show_38 hst Xc h0 _ δ15 σ16 hE hq18 hwp H locs ls hP hO hD hS (lv_sub hl [1] rfl)
      · obtain ⟨δ6, σ7⟩ := u
        obtain ⟨hwp, hF8⟩ := hk
        dsimp only at hP hO hD hwp hF8
        have hh9 := hF8.m hr1
        replace hE := hE.tr hF8
        refine lv_aload_n hx hb dX0_show_23 rfl (lv_at hl 0 rfl) ?_
        refine lv_aload_n hx hb dX0_show_24 rfl (lv_at hl 1 rfl) ?_
        obtain ⟨o11, eo11, hwp⟩ := hwp
        refine x_getr hx hb hts hown hK hP 0 i0 (hE.m h0) rfl rfl in_X0 4 (by decide) q200 rfl rfl eo11 dX0_show_25 (fun ho11 co11 => ?_)
        refine x_get hx hb hts hown hK hP 6 o11 ho11 rfl rfl in_X2 6 (by decide) q160 rfl (v := .ref (δ6.2.1 8 o11)) rfl dX0_show_28 ?_
        refine lv_iload_n hx hb dX0_show_31 rfl (lv_at hl 3 rfl) ?_
        obtain ⟨hi12, o13, eo13, hwp⟩ := hwp
        refine x_aald hx hb hK hP 8 o11 ((hO.1 _ ho11).1) (Or.inl rfl) hi12 eo13 dX0_show_32 (fun ho13 co13 => ?_)
        refine x_putr (v := (some o13)) hx hb hts hown hK hD hP hS 5 r1 hh9 rfl rfl in_X3 tyX3 tyX3_ok nmX3 0 (by decide) q192 rfl rfl rfl rfl (Nat.le_of_ble_eq_true rfl) rfl (fun t9 h9 => by cases h9; exact ⟨ho13, fun z => absurd z (by decide), fun z => absurd z.1 (by decide)⟩) dX0_show_33 (fun H locs hP hS => ?_)
        obtain ⟨σ14, eσ14⟩ : ∃ z, z = tP σ7 5 r1 0 (some o13) := ⟨_, rfl⟩
        replace hP : XH Γ δ6 σ14 H := by rw [eσ14]; exact hP
        replace hwp := hwp σ14 eσ14
        refine lv_iconst (v := 1) hx hb dX0_show_36 (by decide) ?_
        refine W.widen (k := 5) (n := 924) (Nat.le_of_ble_eq_true rfl) (Nat.le_of_ble_eq_true rfl) ?_
        refine vx_ret ?_
        exact x_iret hx hb hr hlk hP hO hD hS ⟨hwp, hE⟩ dX0_show_37
    · replace hwp := hwp.2 c5
      refine lv_aload_n hx hb dX0_show_11 rfl (lv_at hl 0 rfl) ?_
      refine lv_null hx hb dX0_show_12 ?_
      refine x_putr (v := none) hx hb hts hown hK hD hP hS 5 r1 hr1 rfl rfl in_X3 tyX3 tyX3_ok nmX3 0 (by decide) q192 rfl rfl rfl rfl (Nat.le_of_ble_eq_true rfl) rfl (fun t9 h9 => by cases h9) dX0_show_13 (fun H locs hP hS => ?_)
      obtain ⟨σ21, eσ21⟩ : ∃ z, z = tP σ3 5 r1 0 none := ⟨_, rfl⟩
      replace hP : XH Γ δ2 σ21 H := by rw [eσ21]; exact hP
      replace hwp := hwp σ21 eσ21
      refine lv_iconst (v := 0) hx hb dX0_show_16 (by decide) ?_
      refine W.widen (k := 5) (n := 924) (Nat.le_of_ble_eq_true rfl) (Nat.le_of_ble_eq_true rfl) ?_
      refine vx_ret ?_
      exact x_iret hx hb hr hlk hP hO hD hS ⟨hwp, hE⟩ dX0_show_17
set_option maxHeartbeats 4000000 in
set_option maxRecDepth 100000 in
theorem xt_S_show {l : Launch} (hst : l.stackTraces = false) {Γ : GA} {δ0 : XSh} {σ : XSt} {K : Int32 → XSh → XSt → Prop} {i0 : Nat} (h0 : (0, i0) ∈ δ0.1) {x1 : Int32} {x2 : Int32} (hwp : xw_S_show K i0 x1 x2 δ0 σ) : yI l yX0_show (wsW_ yX0_show cX0_show 4 (some .int) [(0, 17, 38, 21), (18, 37, 38, 21)]) ({ frames := 10, cells := 5, slots := 924, locals := 10322 } : Room) 5 924 Γ δ0 [.ref i0, .int x1, .int x2] σ (fun r u => K r u.1 u.2 ∧ Ext δ0 u.1) (fun _ _ _ => False) := by
  intro sz
  refine yW_of (by decide) [(0, .ref i0), (1, .int x1), (2, .int x2)] (fun _ h => h) (Nat.le_of_ble_eq_true rfl) ?_
  intro p e s m args below meth c hsz Xc
  subst hsz
  exact xk_S_show_e hst Xc h0 δ0 σ Ext.rf hwp
/-! S_says -/
def xw_S_says_29 (K : Int32 → XSh → XSt → Prop) (i0 : Nat) (z0 : Nat) (δ : XSh) (σ : XSt) : Prop :=
  xw_S_refused δ (fun r1 σ2 => K r1 δ σ2) i0 z0 σ
set_option maxHeartbeats 4000000 in
set_option maxRecDepth 100000 in
theorem xk_S_says_29 {p : Program} {l : Launch} {e : Env} {s : State} {m : MethodId} {args : Array Value} {below : List Frame} {meth : Method} {c : Code} {Γ : GA} {δ0 : XSh} {K : Int32 → XSh → XSt → Prop} {i0 : Nat} (hst : l.stackTraces = false) (Xc : CY p s m args meth c cX0_says 4 (some .int) RX0 Γ δ0 (tableOf [(0, 28, 29, 21)])) (h0 : (0, i0) ∈ δ0.1) : ∀ (z0 : Nat) (δ : XSh) (σ : XSt), Ext δ0 δ → (13, z0) ∈ δ.1 → xw_S_says_29 K i0 z0 δ σ → TX p l e ({ frames := 25, cells := 9, slots := 1841, locals := 10323 } : Room) s m args below meth c 4 9 1841 (VI below (fun r u => K r u.1 u.2 ∧ Ext δ0 u.1) (fun _ _ _ => False) 9 1841 Γ δ0 s args) Γ δ0 δ σ 29 [(0, .ref i0)] [.ref z0] := by
  obtain ⟨⟨hx, hb, hml, hown, hts, hK, hr, hlk⟩, hZ, htb⟩ := id Xc
  have hA : ∀ q, s.heap.size ≤ q → AX δ0 s.heap.size q := fun q h => Or.inr h
  intro z0 δ σ hE hz0 hwp H locs ls hP hO hD hS hl
  unfold xw_S_says_29 at hwp
  refine lv_astore_n (lv' := [(3, .ref z0), (0, .ref i0)]) hx hb dX0_says_29 rfl hl (by decide) rfl (fun ls hl => ?_)
  refine lv_aload_n hx hb dX0_says_30 rfl (lv_at hl 1 rfl) ?_
  refine lv_aload_n hx hb dX0_says_31 rfl (lv_at hl 0 rfl) ?_
  refine x_goi (va_runV (As := [.ref z0]) (rest := []) ⟨hx, hb, hml, hown, hts⟩ (xt_S_refused (hE.m h0) hz0 hwp H.size) (cwV 1 hts (lw_V q397 q399 qs2 q75 q400) rfl rfl rfl (by decide +kernel) ⟨Nat.le_of_ble_eq_true rfl, Nat.le_of_ble_eq_true rfl⟩) (x_preV hK hO hD hP 0 i0 (hE.m h0) rfl rfl) rfl rfl hl.1 rfl (lv_room (Nat.le_of_ble_eq_true rfl)) dX0_says_32 ⟨(Nat.le_of_ble_eq_true rfl), (Nat.le_of_ble_eq_true rfl)⟩) hD hA hS (fun r1 u H locs hk hP hO hD hS => ?_)
  obtain ⟨u1, σ2⟩ := u
  obtain ⟨hwp, eu⟩ := hk
  have eu : δ = u1 := eu.symm
  subst eu
  dsimp only at hP hO hD hwp
  refine W.widen (k := 9) (n := 1841) (Nat.le_of_ble_eq_true rfl) (Nat.le_of_ble_eq_true rfl) ?_
  refine vx_ret ?_
  exact x_iret hx hb hr hlk hP hO hD hS ⟨hwp, hE⟩ dX0_says_35
def xw_S_says (K : Int32 → XSh → XSt → Prop) (i0 : Nat) (x1 : Int32) (x2 : Int32) (δ : XSh) (σ : XSt) : Prop :=
  xw_S_shelf (fun r1 δ2 σ3 => xw_S_in δ2 σ3 (fun r5 => xw_S_need (fun δ6 σ7 => ∃ o11, σ7.2.2 0 i0 4 = some o11 ∧ (xw_Sh_says (fun r12 δ13 σ14 => K r12 δ13 σ14) (fun q21 δ18 σ19 => xw_S_says_29 K i0 q21 δ18 σ19) r1 o11 x2 δ6 σ7)) (fun q27 δ24 σ25 => xw_S_says_29 K i0 q27 δ24 σ25) r5 (-1) δ2 σ3) x2.toInt64 0 6) (fun q33 δ30 σ31 => xw_S_says_29 K i0 q33 δ30 σ31) i0 x1 δ σ
set_option maxHeartbeats 4000000 in
set_option maxRecDepth 100000 in
theorem xk_S_says_e {p : Program} {l : Launch} {e : Env} {s : State} {m : MethodId} {args : Array Value} {below : List Frame} {meth : Method} {c : Code} {Γ : GA} {δ0 : XSh} {K : Int32 → XSh → XSt → Prop} {i0 : Nat} (hst : l.stackTraces = false) (Xc : CY p s m args meth c cX0_says 4 (some .int) RX0 Γ δ0 (tableOf [(0, 28, 29, 21)])) (h0 : (0, i0) ∈ δ0.1) {x1 : Int32} {x2 : Int32} : ∀ (δ : XSh) (σ : XSt), Ext δ0 δ → xw_S_says K i0 x1 x2 δ σ → TX p l e ({ frames := 25, cells := 9, slots := 1841, locals := 10323 } : Room) s m args below meth c 4 0 0 (VI below (fun r u => K r u.1 u.2 ∧ Ext δ0 u.1) (fun _ _ _ => False) 9 1841 Γ δ0 s args) Γ δ0 δ σ 0 [(0, .ref i0), (1, .int x1), (2, .int x2)] [] := by
  obtain ⟨⟨hx, hb, hml, hown, hts, hK, hr, hlk⟩, hZ, htb⟩ := id Xc
  have hA : ∀ q, s.heap.size ≤ q → AX δ0 s.heap.size q := fun q h => Or.inr h
  intro δ σ hE hwp H locs ls hP hO hD hS hl
  unfold xw_S_says at hwp
  refine lv_aload_n hx hb dX0_says_0 rfl (lv_at hl 0 rfl) ?_
  refine lv_iload_n hx hb dX0_says_1 rfl (lv_at hl 1 rfl) ?_
  refine y_gor (vx_runVX (As := [.int x1]) (rest := []) ⟨hx, hb, hml, hown, hts⟩ (xt_S_shelf hst (hE.m h0) hwp H.size) (vx_cwVW 1 hts (lw_VW q223 q225 qs0 q75 q226) rfl rfl rfl (by decide +kernel) ⟨(Nat.le_of_ble_eq_true rfl), (Nat.le_of_ble_eq_true rfl)⟩) (y_preV hK hO hD hA hZ hP hS 0 i0 (hE.m h0) rfl rfl) rfl rfl hl.1 rfl (lv_room (Nat.le_of_ble_eq_true rfl)) dX0_says_2 ⟨(Nat.le_of_ble_eq_true rfl), (Nat.le_of_ble_eq_true rfl)⟩) hD hA hS (fun E ce q33 u H locs hk hP hO hD hS k1 k2 k3 => ?_) (fun r1 u H locs hk hP hO hD hS => ?_)
  · obtain ⟨δ30, σ31⟩ := u
    obtain ⟨⟨rfl, hq33⟩, hwp, hF32⟩ := hk
    dsimp only at hP hO hD hwp hF32 hq33
    replace hE := hE.tr hF32
    refine vx_catch (E := RX5) (name := RX5) hown [] ⟨0, 28, 29, 21⟩ [] (htb.trans rfl) (fun z hz => nomatch hz) rfl (by decide) (hts _ q222) ((hK.2.1 (.castable RX5 RX5) (by simp [nwL])).use rfl) k1 k2 k3 ?_
    refine W.eq (g2 := F0 m 29 ls [.ref q33]) rfl ?_
    refine W.widen (k := 9) (n := 1841) (Nat.le_of_ble_eq_true rfl) (Nat.le_of_ble_eq_true rfl) ?_
    exact xk_S_says_29 hst Xc h0 _ δ30 σ31 hE hq33 hwp H locs ls hP hO hD hS (lv_sub hl [0] rfl)
  · obtain ⟨δ2, σ3⟩ := u
    obtain ⟨⟨hwp, hF4⟩, hr1, cr1⟩ := hk
    dsimp only at hP hO hD hwp hF4 hr1 cr1
    replace hE := hE.tr hF4
    refine lv_astore_n (lv' := [(3, .ref r1), (0, .ref i0), (1, .int x1), (2, .int x2)]) hx hb dX0_says_5 rfl hl (by decide) rfl (fun ls hl => ?_)
    refine lv_iload_n hx hb dX0_says_6 rfl (lv_at hl 3 rfl) ?_
    refine lv_i2l (v := x2.toInt64) hx hb dX0_says_7 rfl ?_
    refine lv_lconst (v := 0) hx hb dX0_says_8 (by decide) ?_
    refine lv_ldc2 hx hb hown (hts _ q527) dX0_says_9 ?_
    refine x_goi (va_runS (As := [.long x2.toInt64, .long 0, .long 6]) (rest := []) ⟨hx, hb, hml, hown, hts⟩ (xt_S_in hwp H.size) (va_cwS 3 hts (lw_S q332 q333 q75 q334) rfl rfl rfl (by decide +kernel) ⟨Nat.le_of_ble_eq_true rfl, Nat.le_of_ble_eq_true rfl⟩) (x_preS hK hO hD hP) rfl rfl hl.1 rfl (lv_room (Nat.le_of_ble_eq_true rfl)) dX0_says_12 ⟨(Nat.le_of_ble_eq_true rfl), (Nat.le_of_ble_eq_true rfl)⟩) hD hA hS (fun r5 u H locs hk hP hO hD hS => ?_)
    obtain ⟨hwp, eu⟩ := hk
    subst eu
    dsimp only at hP hO hD
    refine lv_iconst (v := (-1)) hx hb dX0_says_15 (by decide) ?_
    refine y_gov (vx_runS (As := [.int r5, .int (-1)]) (rest := []) ⟨hx, hb, hml, hown, hts⟩ (xt_S_need hst hwp H.size) (va_cwS 2 hts (lw_S q328 q329 q75 q330) rfl rfl rfl (by decide +kernel) ⟨(Nat.le_of_ble_eq_true rfl), (Nat.le_of_ble_eq_true rfl)⟩) (y_preS hK hO hD hA hZ hP hS) rfl rfl hl.1 rfl (lv_room (Nat.le_of_ble_eq_true rfl)) dX0_says_16 ⟨(Nat.le_of_ble_eq_true rfl), (Nat.le_of_ble_eq_true rfl)⟩) hD hA hS (fun E ce q27 u H locs hk hP hO hD hS k1 k2 k3 => ?_) (fun u H locs hk hP hO hD hS => ?_)
    · obtain ⟨δ24, σ25⟩ := u
      obtain ⟨⟨rfl, hq27⟩, hwp, hF26⟩ := hk
      dsimp only at hP hO hD hwp hF26 hq27
      have hh28 := hF26.m hr1
      replace hE := hE.tr hF26
      refine vx_catch (E := RX5) (name := RX5) hown [] ⟨0, 28, 29, 21⟩ [] (htb.trans rfl) (fun z hz => nomatch hz) rfl (by decide) (hts _ q222) ((hK.2.1 (.castable RX5 RX5) (by simp [nwL])).use rfl) k1 k2 k3 ?_
      refine W.eq (g2 := F0 m 29 ls [.ref q27]) rfl ?_
      refine W.widen (k := 9) (n := 1841) (Nat.le_of_ble_eq_true rfl) (Nat.le_of_ble_eq_true rfl) ?_
      exact xk_S_says_29 hst Xc h0 _ δ24 σ25 hE hq27 hwp H locs ls hP hO hD hS (lv_sub hl [1] rfl)
    · obtain ⟨δ6, σ7⟩ := u
      obtain ⟨hwp, hF8⟩ := hk
      dsimp only at hP hO hD hwp hF8
      have hh9 := hF8.m hr1
      replace hE := hE.tr hF8
      refine lv_aload_n hx hb dX0_says_19 rfl (lv_at hl 0 rfl) ?_
      refine lv_iload_n hx hb dX0_says_20 rfl (lv_at hl 3 rfl) ?_
      refine lv_aload_n hx hb dX0_says_21 rfl (lv_at hl 1 rfl) ?_
      obtain ⟨o11, eo11, hwp⟩ := hwp
      refine x_getr hx hb hts hown hK hP 0 i0 (hE.m h0) rfl rfl in_X0 4 (by decide) q200 rfl rfl eo11 dX0_says_22 (fun ho11 co11 => ?_)
      refine y_goi (vx_runVX (As := [.int x2, .ref o11]) (rest := []) ⟨hx, hb, hml, hown, hts⟩ (xt_Sh_says hst hh9 ho11 hwp H.size) (vx_cwVW 2 hts (lw_VW q528 q529 q530 q78 q531) rfl rfl rfl (by decide +kernel) ⟨(Nat.le_of_ble_eq_true rfl), (Nat.le_of_ble_eq_true rfl)⟩) (y_preV hK hO hD hA hZ hP hS 5 r1 hh9 rfl rfl) rfl rfl hl.1 rfl (lv_room (Nat.le_of_ble_eq_true rfl)) dX0_says_25 ⟨(Nat.le_of_ble_eq_true rfl), (Nat.le_of_ble_eq_true rfl)⟩) hD hA hS (fun E ce q21 u H locs hk hP hO hD hS k1 k2 k3 => ?_) (fun r12 u H locs hk hP hO hD hS => ?_)
      · obtain ⟨δ18, σ19⟩ := u
        obtain ⟨⟨rfl, hq21⟩, hwp, hF20⟩ := hk
        dsimp only at hP hO hD hwp hF20 hq21
        have hh22 := hF20.m hh9
        replace hE := hE.tr hF20
        refine vx_catch (E := RX5) (name := RX5) hown [] ⟨0, 28, 29, 21⟩ [] (htb.trans rfl) (fun z hz => nomatch hz) rfl (by decide) (hts _ q222) ((hK.2.1 (.castable RX5 RX5) (by simp [nwL])).use rfl) k1 k2 k3 ?_
        refine W.eq (g2 := F0 m 29 ls [.ref q21]) rfl ?_
        refine W.widen (k := 9) (n := 1841) (Nat.le_of_ble_eq_true rfl) (Nat.le_of_ble_eq_true rfl) ?_
        exact xk_S_says_29 hst Xc h0 _ δ18 σ19 hE hq21 hwp H locs ls hP hO hD hS (lv_sub hl [1] rfl)
      · obtain ⟨δ13, σ14⟩ := u
        obtain ⟨hwp, hF15⟩ := hk
        dsimp only at hP hO hD hwp hF15
        have hh16 := hF15.m hh9
        replace hE := hE.tr hF15
        refine W.widen (k := 9) (n := 1841) (Nat.le_of_ble_eq_true rfl) (Nat.le_of_ble_eq_true rfl) ?_
        refine vx_ret ?_
        exact x_iret hx hb hr hlk hP hO hD hS ⟨hwp, hE⟩ dX0_says_28
set_option maxHeartbeats 4000000 in
set_option maxRecDepth 100000 in
theorem xt_S_says {l : Launch} (hst : l.stackTraces = false) {Γ : GA} {δ0 : XSh} {σ : XSt} {K : Int32 → XSh → XSt → Prop} {i0 : Nat} (h0 : (0, i0) ∈ δ0.1) {x1 : Int32} {x2 : Int32} (hwp : xw_S_says K i0 x1 x2 δ0 σ) : yI l yX0_says (wsW_ yX0_says cX0_says 4 (some .int) [(0, 28, 29, 21)]) ({ frames := 25, cells := 9, slots := 1841, locals := 10323 } : Room) 9 1841 Γ δ0 [.ref i0, .int x1, .int x2] σ (fun r u => K r u.1 u.2 ∧ Ext δ0 u.1) (fun _ _ _ => False) := by
  intro sz
  refine yW_of (by decide) [(0, .ref i0), (1, .int x1), (2, .int x2)] (fun _ h => h) (Nat.le_of_ble_eq_true rfl) ?_
  intro p e s m args below meth c hsz Xc
  subst hsz
  exact xk_S_says_e hst Xc h0 δ0 σ Ext.rf hwp
/-! S_thing -/
def xw_S_thing_124 (K : Int32 → XSh → XSt → Prop) (i0 : Nat) (z0 : Nat) (δ : XSh) (σ : XSt) : Prop :=
  xw_S_refused δ (fun r1 σ2 => K r1 δ σ2) i0 z0 σ
set_option maxHeartbeats 4000000 in
set_option maxRecDepth 100000 in
theorem xk_S_thing_124 {p : Program} {l : Launch} {e : Env} {s : State} {m : MethodId} {args : Array Value} {below : List Frame} {meth : Method} {c : Code} {Γ : GA} {δ0 : XSh} {K : Int32 → XSh → XSt → Prop} {i0 : Nat} (hst : l.stackTraces = false) (Xc : CY p s m args meth c cX0_thing 7 (some .int) RX0 Γ δ0 (tableOf [(0, 123, 124, 21)])) (h0 : (0, i0) ∈ δ0.1) : ∀ (z0 : Nat) (δ : XSh) (σ : XSt), Ext δ0 δ → (13, z0) ∈ δ.1 → xw_S_thing_124 K i0 z0 δ σ → TX p l e ({ frames := 6, cells := 5, slots := 32, locals := 181 } : Room) s m args below meth c 7 4 28 (VI below (fun r u => K r u.1 u.2 ∧ Ext δ0 u.1) (fun _ _ _ => False) 5 32 Γ δ0 s args) Γ δ0 δ σ 124 [(0, .ref i0)] [.ref z0] := by
  obtain ⟨⟨hx, hb, hml, hown, hts, hK, hr, hlk⟩, hZ, htb⟩ := id Xc
  have hA : ∀ q, s.heap.size ≤ q → AX δ0 s.heap.size q := fun q h => Or.inr h
  intro z0 δ σ hE hz0 hwp H locs ls hP hO hD hS hl
  unfold xw_S_thing_124 at hwp
  refine lv_astore (lv' := [(6, .ref z0), (0, .ref i0)]) hx hb dX0_thing_124 hl (by decide) rfl (fun ls hl => ?_)
  refine lv_aload_n hx hb dX0_thing_126 rfl (lv_at hl 1 rfl) ?_
  refine lv_aload hx hb dX0_thing_127 (lv_at hl 0 rfl) ?_
  refine x_goi (va_runV (As := [.ref z0]) (rest := []) ⟨hx, hb, hml, hown, hts⟩ (xt_S_refused (hE.m h0) hz0 hwp H.size) (cwV 1 hts (lw_V q397 q399 qs2 q75 q400) rfl rfl rfl (by decide +kernel) ⟨Nat.le_of_ble_eq_true rfl, Nat.le_of_ble_eq_true rfl⟩) (x_preV hK hO hD hP 0 i0 (hE.m h0) rfl rfl) rfl rfl hl.1 rfl (lv_room (Nat.le_of_ble_eq_true rfl)) dX0_thing_129 ⟨(Nat.le_of_ble_eq_true rfl), (Nat.le_of_ble_eq_true rfl)⟩) hD hA hS (fun r1 u H locs hk hP hO hD hS => ?_)
  obtain ⟨u1, σ2⟩ := u
  obtain ⟨hwp, eu⟩ := hk
  have eu : δ = u1 := eu.symm
  subst eu
  dsimp only at hP hO hD hwp
  refine W.widen (k := 5) (n := 32) (Nat.le_of_ble_eq_true rfl) (Nat.le_of_ble_eq_true rfl) ?_
  refine vx_ret ?_
  exact x_iret hx hb hr hlk hP hO hD hS ⟨hwp, hE⟩ dX0_thing_132
def xw_S_thing_104 (K : Int32 → XSh → XSt → Prop) (i0 : Nat) (x1 : Int32) (x2 : Int32) (x3 : Int32) (x4 : Int32) (x5 : Int32) (t0 : Int32) (δ : XSh) (σ : XSt) : Prop :=
  xw_S_need (fun δ1 σ2 => ∃ o4, σ2.2.2 0 i0 4 = some o4 ∧ (xw_G_add (fun r5 δ6 σ7 => K r5 δ6 σ7) o4 x1 x2 x3 x4 x5 δ1 σ2)) (fun q12 δ9 σ10 => xw_S_thing_124 K i0 q12 δ9 σ10) t0 (-7) δ σ
set_option maxHeartbeats 4000000 in
set_option maxRecDepth 100000 in
theorem xk_S_thing_104 {p : Program} {l : Launch} {e : Env} {s : State} {m : MethodId} {args : Array Value} {below : List Frame} {meth : Method} {c : Code} {Γ : GA} {δ0 : XSh} {K : Int32 → XSh → XSt → Prop} {i0 : Nat} (hst : l.stackTraces = false) (Xc : CY p s m args meth c cX0_thing 7 (some .int) RX0 Γ δ0 (tableOf [(0, 123, 124, 21)])) (h0 : (0, i0) ∈ δ0.1) : ∀ (x1 : Int32) (x2 : Int32) (x3 : Int32) (x4 : Int32) (x5 : Int32) (t0 : Int32) (δ : XSh) (σ : XSt), Ext δ0 δ → xw_S_thing_104 K i0 x1 x2 x3 x4 x5 t0 δ σ → TX p l e ({ frames := 6, cells := 5, slots := 32, locals := 181 } : Room) s m args below meth c 7 3 21 (VI below (fun r u => K r u.1 u.2 ∧ Ext δ0 u.1) (fun _ _ _ => False) 5 32 Γ δ0 s args) Γ δ0 δ σ 104 [(0, .ref i0), (1, .int x1), (2, .int x2), (3, .int x3), (4, .int x4), (5, .int x5)] [.int t0] := by
  obtain ⟨⟨hx, hb, hml, hown, hts, hK, hr, hlk⟩, hZ, htb⟩ := id Xc
  have hA : ∀ q, s.heap.size ≤ q → AX δ0 s.heap.size q := fun q h => Or.inr h
  intro x1 x2 x3 x4 x5 t0 δ σ hE hwp H locs ls hP hO hD hS hl
  unfold xw_S_thing_104 at hwp
  refine lv_bipush (v := (-7)) hx hb dX0_thing_104 (by decide) ?_
  refine y_gov (vx_runS (As := [.int t0, .int (-7)]) (rest := []) ⟨hx, hb, hml, hown, hts⟩ (xt_S_need hst hwp H.size) (va_cwS 2 hts (lw_S q328 q329 q75 q330) rfl rfl rfl (by decide +kernel) ⟨(Nat.le_of_ble_eq_true rfl), (Nat.le_of_ble_eq_true rfl)⟩) (y_preS hK hO hD hA hZ hP hS) rfl rfl hl.1 rfl (lv_room (Nat.le_of_ble_eq_true rfl)) dX0_thing_106 ⟨(Nat.le_of_ble_eq_true rfl), (Nat.le_of_ble_eq_true rfl)⟩) hD hA hS (fun E ce q12 u H locs hk hP hO hD hS k1 k2 k3 => ?_) (fun u H locs hk hP hO hD hS => ?_)
  · obtain ⟨δ9, σ10⟩ := u
    obtain ⟨⟨rfl, hq12⟩, hwp, hF11⟩ := hk
    dsimp only at hP hO hD hwp hF11 hq12
    replace hE := hE.tr hF11
    refine vx_catch (E := RX5) (name := RX5) hown [] ⟨0, 123, 124, 21⟩ [] (htb.trans rfl) (fun z hz => nomatch hz) rfl (by decide) (hts _ q222) ((hK.2.1 (.castable RX5 RX5) (by simp [nwL])).use rfl) k1 k2 k3 ?_
    refine W.eq (g2 := F0 m 124 ls [.ref q12]) rfl ?_
    refine W.widen (k := 4) (n := 28) (Nat.le_of_ble_eq_true rfl) (Nat.le_of_ble_eq_true rfl) ?_
    exact xk_S_thing_124 hst Xc h0 _ δ9 σ10 hE hq12 hwp H locs ls hP hO hD hS (lv_sub hl [0] rfl)
  · obtain ⟨δ1, σ2⟩ := u
    obtain ⟨hwp, hF3⟩ := hk
    dsimp only at hP hO hD hwp hF3
    replace hE := hE.tr hF3
    refine lv_aload_n hx hb dX0_thing_109 rfl (lv_at hl 0 rfl) ?_
    obtain ⟨o4, eo4, hwp⟩ := hwp
    refine x_getr hx hb hts hown hK hP 0 i0 (hE.m h0) rfl rfl in_X0 4 (by decide) q200 rfl rfl eo4 dX0_thing_110 (fun ho4 co4 => ?_)
    refine lv_iload_n hx hb dX0_thing_113 rfl (lv_at hl 1 rfl) ?_
    refine lv_iload_n hx hb dX0_thing_114 rfl (lv_at hl 2 rfl) ?_
    refine lv_iload_n hx hb dX0_thing_115 rfl (lv_at hl 3 rfl) ?_
    refine lv_iload hx hb dX0_thing_116 (lv_at hl 4 rfl) ?_
    refine lv_iload hx hb dX0_thing_118 (lv_at hl 5 rfl) ?_
    refine y_goi (vx_runV (As := [.int x1, .int x2, .int x3, .int x4, .int x5]) (rest := []) ⟨hx, hb, hml, hown, hts⟩ (xt_G_add hst ho4 hwp H.size) (cwV 5 hts (lw_V q699 q700 q701 q77 q702) rfl rfl rfl (by decide +kernel) ⟨(Nat.le_of_ble_eq_true rfl), (Nat.le_of_ble_eq_true rfl)⟩) (y_preV hK hO hD hA hZ hP hS 6 o4 ho4 rfl rfl) rfl rfl hl.1 rfl (lv_room (Nat.le_of_ble_eq_true rfl)) dX0_thing_120 ⟨(Nat.le_of_ble_eq_true rfl), (Nat.le_of_ble_eq_true rfl)⟩) hD hA hS (fun E ce q u H locs hk hP hO hD hS k1 k2 k3 => ?_) (fun r5 u H locs hk hP hO hD hS => ?_)
    · exact hk.elim
    · obtain ⟨δ6, σ7⟩ := u
      obtain ⟨hwp, hF8⟩ := hk
      dsimp only at hP hO hD hwp hF8
      replace hE := hE.tr hF8
      refine W.widen (k := 5) (n := 32) (Nat.le_of_ble_eq_true rfl) (Nat.le_of_ble_eq_true rfl) ?_
      refine vx_ret ?_
      exact x_iret hx hb hr hlk hP hO hD hS ⟨hwp, hE⟩ dX0_thing_123
def xw_S_thing_68 (K : Int32 → XSh → XSt → Prop) (i0 : Nat) (x1 : Int32) (x2 : Int32) (x3 : Int32) (x4 : Int32) (x5 : Int32) (t0 : Int32) (δ : XSh) (σ : XSt) : Prop :=
  xw_S_need (fun δ1 σ2 => ∃ o4, σ2.2.2 0 i0 4 = some o4 ∧ (xw_G_isFree δ1 σ2 (fun r5 => xw_S_need (fun δ6 σ7 => ∃ o9, σ7.2.2 0 i0 4 = some o9 ∧ (((8 ≤ (σ7.1 6 o9 0)) → (xw_S_thing_104 K i0 x1 x2 x3 x4 x5 0 δ6 σ7)) ∧ ((¬ (8 ≤ (σ7.1 6 o9 0))) → (xw_S_thing_104 K i0 x1 x2 x3 x4 x5 1 δ6 σ7)))) (fun q14 δ11 σ12 => xw_S_thing_124 K i0 q14 δ11 σ12) r5 (-6) δ1 σ2) o4 x2 x3)) (fun q18 δ15 σ16 => xw_S_thing_124 K i0 q18 δ15 σ16) t0 (-6) δ σ
set_option maxHeartbeats 4000000 in
set_option maxRecDepth 100000 in
theorem xk_S_thing_68 {p : Program} {l : Launch} {e : Env} {s : State} {m : MethodId} {args : Array Value} {below : List Frame} {meth : Method} {c : Code} {Γ : GA} {δ0 : XSh} {K : Int32 → XSh → XSt → Prop} {i0 : Nat} (hst : l.stackTraces = false) (Xc : CY p s m args meth c cX0_thing 7 (some .int) RX0 Γ δ0 (tableOf [(0, 123, 124, 21)])) (h0 : (0, i0) ∈ δ0.1) : ∀ (x1 : Int32) (x2 : Int32) (x3 : Int32) (x4 : Int32) (x5 : Int32) (t0 : Int32) (δ : XSh) (σ : XSt), Ext δ0 δ → xw_S_thing_68 K i0 x1 x2 x3 x4 x5 t0 δ σ → TX p l e ({ frames := 6, cells := 5, slots := 32, locals := 181 } : Room) s m args below meth c 7 1 7 (VI below (fun r u => K r u.1 u.2 ∧ Ext δ0 u.1) (fun _ _ _ => False) 5 32 Γ δ0 s args) Γ δ0 δ σ 68 [(0, .ref i0), (1, .int x1), (2, .int x2), (3, .int x3), (4, .int x4), (5, .int x5)] [.int t0] := by
  obtain ⟨⟨hx, hb, hml, hown, hts, hK, hr, hlk⟩, hZ, htb⟩ := id Xc
  have hA : ∀ q, s.heap.size ≤ q → AX δ0 s.heap.size q := fun q h => Or.inr h
  intro x1 x2 x3 x4 x5 t0 δ σ hE hwp H locs ls hP hO hD hS hl
  unfold xw_S_thing_68 at hwp
  refine lv_bipush (v := (-6)) hx hb dX0_thing_68 (by decide) ?_
  refine y_gov (vx_runS (As := [.int t0, .int (-6)]) (rest := []) ⟨hx, hb, hml, hown, hts⟩ (xt_S_need hst hwp H.size) (va_cwS 2 hts (lw_S q328 q329 q75 q330) rfl rfl rfl (by decide +kernel) ⟨(Nat.le_of_ble_eq_true rfl), (Nat.le_of_ble_eq_true rfl)⟩) (y_preS hK hO hD hA hZ hP hS) rfl rfl hl.1 rfl (lv_room (Nat.le_of_ble_eq_true rfl)) dX0_thing_70 ⟨(Nat.le_of_ble_eq_true rfl), (Nat.le_of_ble_eq_true rfl)⟩) hD hA hS (fun E ce q18 u H locs hk hP hO hD hS k1 k2 k3 => ?_) (fun u H locs hk hP hO hD hS => ?_)
  · obtain ⟨δ15, σ16⟩ := u
    obtain ⟨⟨rfl, hq18⟩, hwp, hF17⟩ := hk
    dsimp only at hP hO hD hwp hF17 hq18
    replace hE := hE.tr hF17
    refine vx_catch (E := RX5) (name := RX5) hown [] ⟨0, 123, 124, 21⟩ [] (htb.trans rfl) (fun z hz => nomatch hz) rfl (by decide) (hts _ q222) ((hK.2.1 (.castable RX5 RX5) (by simp [nwL])).use rfl) k1 k2 k3 ?_
    refine W.eq (g2 := F0 m 124 ls [.ref q18]) rfl ?_
    refine W.widen (k := 4) (n := 28) (Nat.le_of_ble_eq_true rfl) (Nat.le_of_ble_eq_true rfl) ?_
    exact xk_S_thing_124 hst Xc h0 _ δ15 σ16 hE hq18 hwp H locs ls hP hO hD hS (lv_sub hl [0] rfl)
  · obtain ⟨δ1, σ2⟩ := u
    obtain ⟨hwp, hF3⟩ := hk
    dsimp only at hP hO hD hwp hF3
    replace hE := hE.tr hF3
    refine lv_aload_n hx hb dX0_thing_73 rfl (lv_at hl 0 rfl) ?_
    obtain ⟨o4, eo4, hwp⟩ := hwp
    refine x_getr hx hb hts hown hK hP 0 i0 (hE.m h0) rfl rfl in_X0 4 (by decide) q200 rfl rfl eo4 dX0_thing_74 (fun ho4 co4 => ?_)
    refine lv_iload_n hx hb dX0_thing_77 rfl (lv_at hl 2 rfl) ?_
    refine lv_iload_n hx hb dX0_thing_78 rfl (lv_at hl 3 rfl) ?_
    refine x_goi (va_runV (As := [.int x2, .int x3]) (rest := []) ⟨hx, hb, hml, hown, hts⟩ (xt_G_isFree ho4 hwp H.size) (cwV 2 hts (lw_V q695 q696 q697 q77 q698) rfl rfl rfl (by decide +kernel) ⟨Nat.le_of_ble_eq_true rfl, Nat.le_of_ble_eq_true rfl⟩) (x_preV hK hO hD hP 6 o4 ho4 rfl rfl) rfl rfl hl.1 rfl (lv_room (Nat.le_of_ble_eq_true rfl)) dX0_thing_79 ⟨(Nat.le_of_ble_eq_true rfl), (Nat.le_of_ble_eq_true rfl)⟩) hD hA hS (fun r5 u H locs hk hP hO hD hS => ?_)
    obtain ⟨hwp, eu⟩ := hk
    subst eu
    dsimp only at hP hO hD
    refine lv_bipush (v := (-6)) hx hb dX0_thing_82 (by decide) ?_
    refine y_gov (vx_runS (As := [.int r5, .int (-6)]) (rest := []) ⟨hx, hb, hml, hown, hts⟩ (xt_S_need hst hwp H.size) (va_cwS 2 hts (lw_S q328 q329 q75 q330) rfl rfl rfl (by decide +kernel) ⟨(Nat.le_of_ble_eq_true rfl), (Nat.le_of_ble_eq_true rfl)⟩) (y_preS hK hO hD hA hZ hP hS) rfl rfl hl.1 rfl (lv_room (Nat.le_of_ble_eq_true rfl)) dX0_thing_84 ⟨(Nat.le_of_ble_eq_true rfl), (Nat.le_of_ble_eq_true rfl)⟩) hD hA hS (fun E ce q14 u H locs hk hP hO hD hS k1 k2 k3 => ?_) (fun u H locs hk hP hO hD hS => ?_)
    · obtain ⟨δ11, σ12⟩ := u
      obtain ⟨⟨rfl, hq14⟩, hwp, hF13⟩ := hk
      dsimp only at hP hO hD hwp hF13 hq14
      replace hE := hE.tr hF13
      refine vx_catch (E := RX5) (name := RX5) hown [] ⟨0, 123, 124, 21⟩ [] (htb.trans rfl) (fun z hz => nomatch hz) rfl (by decide) (hts _ q222) ((hK.2.1 (.castable RX5 RX5) (by simp [nwL])).use rfl) k1 k2 k3 ?_
      refine W.eq (g2 := F0 m 124 ls [.ref q14]) rfl ?_
      refine W.widen (k := 4) (n := 28) (Nat.le_of_ble_eq_true rfl) (Nat.le_of_ble_eq_true rfl) ?_
      exact xk_S_thing_124 hst Xc h0 _ δ11 σ12 hE hq14 hwp H locs ls hP hO hD hS (lv_sub hl [0] rfl)
    · obtain ⟨δ6, σ7⟩ := u
      obtain ⟨hwp, hF8⟩ := hk
      dsimp only at hP hO hD hwp hF8
      replace hE := hE.tr hF8
      refine lv_aload_n hx hb dX0_thing_87 rfl (lv_at hl 0 rfl) ?_
      obtain ⟨o9, eo9, hwp⟩ := hwp
      refine x_getr hx hb hts hown hK hP 0 i0 (hE.m h0) rfl rfl in_X0 4 (by decide) q200 rfl rfl eo9 dX0_thing_88 (fun ho9 co9 => ?_)
      refine x_get hx hb hts hown hK hP 6 o9 ho9 rfl rfl in_X2 0 (by decide) q145 rfl (v := .int (σ7.1 6 o9 0)) rfl dX0_thing_91 ?_
      refine lv_bipush (v := 8) hx hb dX0_thing_94 (by decide) ?_
      refine lv_icmp_ge (tgt := 103) hx hb dX0_thing_96 (by decide) (fun c10 => ?_) (fun c10 => ?_)
      · replace hwp := hwp.1 c10
        refine lv_iconst (v := 0) hx hb dX0_thing_103 (by decide) ?_
        refine W.widen (k := 3) (n := 21) (Nat.le_of_ble_eq_true rfl) (Nat.le_of_ble_eq_true rfl) ?_
        exact xk_S_thing_104 hst Xc h0 _ _ _ _ _ _ δ6 σ7 hE hwp H locs ls hP hO hD hS (lv_sub hl [0, 1, 2, 3, 4, 5] rfl)
      · replace hwp := hwp.2 c10
        refine lv_iconst (v := 1) hx hb dX0_thing_99 (by decide) ?_
        refine lv_goto (tgt := 104) hx hb dX0_thing_100 (by decide) ?_
        refine W.widen (k := 3) (n := 21) (Nat.le_of_ble_eq_true rfl) (Nat.le_of_ble_eq_true rfl) ?_
        exact xk_S_thing_104 hst Xc h0 _ _ _ _ _ _ δ6 σ7 hE hwp H locs ls hP hO hD hS (lv_sub hl [0, 1, 2, 3, 4, 5] rfl)
def xw_S_thing_67 (K : Int32 → XSh → XSt → Prop) (i0 : Nat) (x1 : Int32) (x2 : Int32) (x3 : Int32) (x4 : Int32) (x5 : Int32) (δ : XSh) (σ : XSt) : Prop :=
  xw_S_thing_68 K i0 x1 x2 x3 x4 x5 0 δ σ
set_option maxHeartbeats 4000000 in
set_option maxRecDepth 100000 in
theorem xk_S_thing_67 {p : Program} {l : Launch} {e : Env} {s : State} {m : MethodId} {args : Array Value} {below : List Frame} {meth : Method} {c : Code} {Γ : GA} {δ0 : XSh} {K : Int32 → XSh → XSt → Prop} {i0 : Nat} (hst : l.stackTraces = false) (Xc : CY p s m args meth c cX0_thing 7 (some .int) RX0 Γ δ0 (tableOf [(0, 123, 124, 21)])) (h0 : (0, i0) ∈ δ0.1) : ∀ (x1 : Int32) (x2 : Int32) (x3 : Int32) (x4 : Int32) (x5 : Int32) (δ : XSh) (σ : XSt), Ext δ0 δ → xw_S_thing_67 K i0 x1 x2 x3 x4 x5 δ σ → TX p l e ({ frames := 6, cells := 5, slots := 32, locals := 181 } : Room) s m args below meth c 7 1 7 (VI below (fun r u => K r u.1 u.2 ∧ Ext δ0 u.1) (fun _ _ _ => False) 5 32 Γ δ0 s args) Γ δ0 δ σ 67 [(0, .ref i0), (1, .int x1), (2, .int x2), (3, .int x3), (4, .int x4), (5, .int x5)] [] := by
  obtain ⟨⟨hx, hb, hml, hown, hts, hK, hr, hlk⟩, hZ, htb⟩ := id Xc
  have hA : ∀ q, s.heap.size ≤ q → AX δ0 s.heap.size q := fun q h => Or.inr h
  intro x1 x2 x3 x4 x5 δ σ hE hwp H locs ls hP hO hD hS hl
  unfold xw_S_thing_67 at hwp
  refine lv_iconst (v := 0) hx hb dX0_thing_67 (by decide) ?_
  refine W.widen (k := 1) (n := 7) (Nat.le_of_ble_eq_true rfl) (Nat.le_of_ble_eq_true rfl) ?_
  exact xk_S_thing_68 hst Xc h0 _ _ _ _ _ _ δ σ hE hwp H locs ls hP hO hD hS (lv_sub hl [0, 1, 2, 3, 4, 5] rfl)
def xw_S_thing (K : Int32 → XSh → XSt → Prop) (i0 : Nat) (x1 : Int32) (x2 : Int32) (x3 : Int32) (x4 : Int32) (x5 : Int32) (δ : XSh) (σ : XSt) : Prop :=
  xw_S_in δ σ (fun r1 => xw_S_need (fun δ2 σ3 => xw_S_in δ2 σ3 (fun r5 => ((r5 = 0) → (xw_S_thing_67 K i0 x1 x2 x3 x4 x5 δ2 σ3)) ∧ ((¬ (r5 = 0)) → (xw_S_in δ2 σ3 (fun r7 => ((r7 = 0) → (xw_S_thing_67 K i0 x1 x2 x3 x4 x5 δ2 σ3)) ∧ ((¬ (r7 = 0)) → (xw_S_in δ2 σ3 (fun r9 => ((r9 = 0) → (xw_S_thing_67 K i0 x1 x2 x3 x4 x5 δ2 σ3)) ∧ ((¬ (r9 = 0)) → (xw_S_in δ2 σ3 (fun r11 => ((r11 = 0) → (xw_S_thing_67 K i0 x1 x2 x3 x4 x5 δ2 σ3)) ∧ ((¬ (r11 = 0)) → (xw_S_thing_68 K i0 x1 x2 x3 x4 x5 1 δ2 σ3))) x5.toInt64 0 9))) x4.toInt64 0 20))) x3.toInt64 0 9))) x2.toInt64 0 9) (fun q16 δ13 σ14 => xw_S_thing_124 K i0 q16 δ13 σ14) r1 (-1) δ σ) x1.toInt64 0 6
set_option maxHeartbeats 4000000 in
set_option maxRecDepth 100000 in
theorem xk_S_thing_e {p : Program} {l : Launch} {e : Env} {s : State} {m : MethodId} {args : Array Value} {below : List Frame} {meth : Method} {c : Code} {Γ : GA} {δ0 : XSh} {K : Int32 → XSh → XSt → Prop} {i0 : Nat} (hst : l.stackTraces = false) (Xc : CY p s m args meth c cX0_thing 7 (some .int) RX0 Γ δ0 (tableOf [(0, 123, 124, 21)])) (h0 : (0, i0) ∈ δ0.1) {x1 : Int32} {x2 : Int32} {x3 : Int32} {x4 : Int32} {x5 : Int32} : ∀ (δ : XSh) (σ : XSt), Ext δ0 δ → xw_S_thing K i0 x1 x2 x3 x4 x5 δ σ → TX p l e ({ frames := 6, cells := 5, slots := 32, locals := 181 } : Room) s m args below meth c 7 0 0 (VI below (fun r u => K r u.1 u.2 ∧ Ext δ0 u.1) (fun _ _ _ => False) 5 32 Γ δ0 s args) Γ δ0 δ σ 0 [(0, .ref i0), (1, .int x1), (2, .int x2), (3, .int x3), (4, .int x4), (5, .int x5)] [] := by
  obtain ⟨⟨hx, hb, hml, hown, hts, hK, hr, hlk⟩, hZ, htb⟩ := id Xc
  have hA : ∀ q, s.heap.size ≤ q → AX δ0 s.heap.size q := fun q h => Or.inr h
  intro δ σ hE hwp H locs ls hP hO hD hS hl
  unfold xw_S_thing at hwp
  refine lv_iload_n hx hb dX0_thing_0 rfl (lv_at hl 1 rfl) ?_
  refine lv_i2l (v := x1.toInt64) hx hb dX0_thing_1 rfl ?_
  refine lv_lconst (v := 0) hx hb dX0_thing_2 (by decide) ?_
  refine lv_ldc2 hx hb hown (hts _ q527) dX0_thing_3 ?_
  refine x_goi (va_runS (As := [.long x1.toInt64, .long 0, .long 6]) (rest := []) ⟨hx, hb, hml, hown, hts⟩ (xt_S_in hwp H.size) (va_cwS 3 hts (lw_S q332 q333 q75 q334) rfl rfl rfl (by decide +kernel) ⟨Nat.le_of_ble_eq_true rfl, Nat.le_of_ble_eq_true rfl⟩) (x_preS hK hO hD hP) rfl rfl hl.1 rfl (lv_room (Nat.le_of_ble_eq_true rfl)) dX0_thing_6 ⟨(Nat.le_of_ble_eq_true rfl), (Nat.le_of_ble_eq_true rfl)⟩) hD hA hS (fun r1 u H locs hk hP hO hD hS => ?_)
  obtain ⟨hwp, eu⟩ := hk
  subst eu
  dsimp only at hP hO hD
  refine lv_iconst (v := (-1)) hx hb dX0_thing_9 (by decide) ?_
  refine y_gov (vx_runS (As := [.int r1, .int (-1)]) (rest := []) ⟨hx, hb, hml, hown, hts⟩ (xt_S_need hst hwp H.size) (va_cwS 2 hts (lw_S q328 q329 q75 q330) rfl rfl rfl (by decide +kernel) ⟨(Nat.le_of_ble_eq_true rfl), (Nat.le_of_ble_eq_true rfl)⟩) (y_preS hK hO hD hA hZ hP hS) rfl rfl hl.1 rfl (lv_room (Nat.le_of_ble_eq_true rfl)) dX0_thing_10 ⟨(Nat.le_of_ble_eq_true rfl), (Nat.le_of_ble_eq_true rfl)⟩) hD hA hS (fun E ce q16 u H locs hk hP hO hD hS k1 k2 k3 => ?_) (fun u H locs hk hP hO hD hS => ?_)
  · obtain ⟨δ13, σ14⟩ := u
    obtain ⟨⟨rfl, hq16⟩, hwp, hF15⟩ := hk
    dsimp only at hP hO hD hwp hF15 hq16
    replace hE := hE.tr hF15
    refine vx_catch (E := RX5) (name := RX5) hown [] ⟨0, 123, 124, 21⟩ [] (htb.trans rfl) (fun z hz => nomatch hz) rfl (by decide) (hts _ q222) ((hK.2.1 (.castable RX5 RX5) (by simp [nwL])).use rfl) k1 k2 k3 ?_
    refine W.eq (g2 := F0 m 124 ls [.ref q16]) rfl ?_
    refine W.widen (k := 4) (n := 28) (Nat.le_of_ble_eq_true rfl) (Nat.le_of_ble_eq_true rfl) ?_
    exact xk_S_thing_124 hst Xc h0 _ δ13 σ14 hE hq16 hwp H locs ls hP hO hD hS (lv_sub hl [0] rfl)
  · obtain ⟨δ2, σ3⟩ := u
    obtain ⟨hwp, hF4⟩ := hk
    dsimp only at hP hO hD hwp hF4
    replace hE := hE.tr hF4
    refine lv_iload_n hx hb dX0_thing_13 rfl (lv_at hl 2 rfl) ?_
    refine lv_i2l (v := x2.toInt64) hx hb dX0_thing_14 rfl ?_
    refine lv_lconst (v := 0) hx hb dX0_thing_15 (by decide) ?_
    refine lv_ldc2 hx hb hown (hts _ q693) dX0_thing_16 ?_
    refine x_goi (va_runS (As := [.long x2.toInt64, .long 0, .long 9]) (rest := []) ⟨hx, hb, hml, hown, hts⟩ (xt_S_in hwp H.size) (va_cwS 3 hts (lw_S q332 q333 q75 q334) rfl rfl rfl (by decide +kernel) ⟨Nat.le_of_ble_eq_true rfl, Nat.le_of_ble_eq_true rfl⟩) (x_preS hK hO hD hP) rfl rfl hl.1 rfl (lv_room (Nat.le_of_ble_eq_true rfl)) dX0_thing_19 ⟨(Nat.le_of_ble_eq_true rfl), (Nat.le_of_ble_eq_true rfl)⟩) hD hA hS (fun r5 u H locs hk hP hO hD hS => ?_)
    obtain ⟨hwp, eu⟩ := hk
    subst eu
    dsimp only at hP hO hD
    refine lv_if_eq (tgt := 67) hx hb dX0_thing_22 (by decide) (fun c6 => ?_) (fun c6 => ?_)
    · replace hwp := hwp.1 c6
      refine W.widen (k := 1) (n := 7) (Nat.le_of_ble_eq_true rfl) (Nat.le_of_ble_eq_true rfl) ?_
      exact xk_S_thing_67 hst Xc h0 _ _ _ _ _ δ2 σ3 hE hwp H locs ls hP hO hD hS (lv_sub hl [0, 1, 2, 3, 4, 5] rfl)
    · replace hwp := hwp.2 c6
      refine lv_iload_n hx hb dX0_thing_25 rfl (lv_at hl 3 rfl) ?_
      refine lv_i2l (v := x3.toInt64) hx hb dX0_thing_26 rfl ?_
      refine lv_lconst (v := 0) hx hb dX0_thing_27 (by decide) ?_
      refine lv_ldc2 hx hb hown (hts _ q693) dX0_thing_28 ?_
      refine x_goi (va_runS (As := [.long x3.toInt64, .long 0, .long 9]) (rest := []) ⟨hx, hb, hml, hown, hts⟩ (xt_S_in hwp H.size) (va_cwS 3 hts (lw_S q332 q333 q75 q334) rfl rfl rfl (by decide +kernel) ⟨Nat.le_of_ble_eq_true rfl, Nat.le_of_ble_eq_true rfl⟩) (x_preS hK hO hD hP) rfl rfl hl.1 rfl (lv_room (Nat.le_of_ble_eq_true rfl)) dX0_thing_31 ⟨(Nat.le_of_ble_eq_true rfl), (Nat.le_of_ble_eq_true rfl)⟩) hD hA hS (fun r7 u H locs hk hP hO hD hS => ?_)
      obtain ⟨hwp, eu⟩ := hk
      subst eu
      dsimp only at hP hO hD
      refine lv_if_eq (tgt := 67) hx hb dX0_thing_34 (by decide) (fun c8 => ?_) (fun c8 => ?_)
      · replace hwp := hwp.1 c8
        refine W.widen (k := 1) (n := 7) (Nat.le_of_ble_eq_true rfl) (Nat.le_of_ble_eq_true rfl) ?_
        exact xk_S_thing_67 hst Xc h0 _ _ _ _ _ δ2 σ3 hE hwp H locs ls hP hO hD hS (lv_sub hl [0, 1, 2, 3, 4, 5] rfl)
      · replace hwp := hwp.2 c8
        refine lv_iload hx hb dX0_thing_37 (lv_at hl 4 rfl) ?_
        refine lv_i2l (v := x4.toInt64) hx hb dX0_thing_39 rfl ?_
        refine lv_lconst (v := 0) hx hb dX0_thing_40 (by decide) ?_
        refine lv_ldc2 hx hb hown (hts _ q694) dX0_thing_41 ?_
        refine x_goi (va_runS (As := [.long x4.toInt64, .long 0, .long 20]) (rest := []) ⟨hx, hb, hml, hown, hts⟩ (xt_S_in hwp H.size) (va_cwS 3 hts (lw_S q332 q333 q75 q334) rfl rfl rfl (by decide +kernel) ⟨Nat.le_of_ble_eq_true rfl, Nat.le_of_ble_eq_true rfl⟩) (x_preS hK hO hD hP) rfl rfl hl.1 rfl (lv_room (Nat.le_of_ble_eq_true rfl)) dX0_thing_44 ⟨(Nat.le_of_ble_eq_true rfl), (Nat.le_of_ble_eq_true rfl)⟩) hD hA hS (fun r9 u H locs hk hP hO hD hS => ?_)
        obtain ⟨hwp, eu⟩ := hk
        subst eu
        dsimp only at hP hO hD
        refine lv_if_eq (tgt := 67) hx hb dX0_thing_47 (by decide) (fun c10 => ?_) (fun c10 => ?_)
        · replace hwp := hwp.1 c10
          refine W.widen (k := 1) (n := 7) (Nat.le_of_ble_eq_true rfl) (Nat.le_of_ble_eq_true rfl) ?_
          exact xk_S_thing_67 hst Xc h0 _ _ _ _ _ δ2 σ3 hE hwp H locs ls hP hO hD hS (lv_sub hl [0, 1, 2, 3, 4, 5] rfl)
        · replace hwp := hwp.2 c10
          refine lv_iload hx hb dX0_thing_50 (lv_at hl 5 rfl) ?_
          refine lv_i2l (v := x5.toInt64) hx hb dX0_thing_52 rfl ?_
          refine lv_lconst (v := 0) hx hb dX0_thing_53 (by decide) ?_
          refine lv_ldc2 hx hb hown (hts _ q693) dX0_thing_54 ?_
          refine x_goi (va_runS (As := [.long x5.toInt64, .long 0, .long 9]) (rest := []) ⟨hx, hb, hml, hown, hts⟩ (xt_S_in hwp H.size) (va_cwS 3 hts (lw_S q332 q333 q75 q334) rfl rfl rfl (by decide +kernel) ⟨Nat.le_of_ble_eq_true rfl, Nat.le_of_ble_eq_true rfl⟩) (x_preS hK hO hD hP) rfl rfl hl.1 rfl (lv_room (Nat.le_of_ble_eq_true rfl)) dX0_thing_57 ⟨(Nat.le_of_ble_eq_true rfl), (Nat.le_of_ble_eq_true rfl)⟩) hD hA hS (fun r11 u H locs hk hP hO hD hS => ?_)
          obtain ⟨hwp, eu⟩ := hk
          subst eu
          dsimp only at hP hO hD
          refine lv_if_eq (tgt := 67) hx hb dX0_thing_60 (by decide) (fun c12 => ?_) (fun c12 => ?_)
          · replace hwp := hwp.1 c12
            refine W.widen (k := 1) (n := 7) (Nat.le_of_ble_eq_true rfl) (Nat.le_of_ble_eq_true rfl) ?_
            exact xk_S_thing_67 hst Xc h0 _ _ _ _ _ δ2 σ3 hE hwp H locs ls hP hO hD hS (lv_sub hl [0, 1, 2, 3, 4, 5] rfl)
          · replace hwp := hwp.2 c12
            refine lv_iconst (v := 1) hx hb dX0_thing_63 (by decide) ?_
            refine lv_goto (tgt := 68) hx hb dX0_thing_64 (by decide) ?_
            refine W.widen (k := 1) (n := 7) (Nat.le_of_ble_eq_true rfl) (Nat.le_of_ble_eq_true rfl) ?_
            exact xk_S_thing_68 hst Xc h0 _ _ _ _ _ _ δ2 σ3 hE hwp H locs ls hP hO hD hS (lv_sub hl [0, 1, 2, 3, 4, 5] rfl)
set_option maxHeartbeats 4000000 in
set_option maxRecDepth 100000 in
theorem xt_S_thing {l : Launch} (hst : l.stackTraces = false) {Γ : GA} {δ0 : XSh} {σ : XSt} {K : Int32 → XSh → XSt → Prop} {i0 : Nat} (h0 : (0, i0) ∈ δ0.1) {x1 : Int32} {x2 : Int32} {x3 : Int32} {x4 : Int32} {x5 : Int32} (hwp : xw_S_thing K i0 x1 x2 x3 x4 x5 δ0 σ) : yI l yX0_thing (wsW_ yX0_thing cX0_thing 7 (some .int) [(0, 123, 124, 21)]) ({ frames := 6, cells := 5, slots := 32, locals := 181 } : Room) 5 32 Γ δ0 [.ref i0, .int x1, .int x2, .int x3, .int x4, .int x5] σ (fun r u => K r u.1 u.2 ∧ Ext δ0 u.1) (fun _ _ _ => False) := by
  intro sz
  refine yW_of (by decide) [(0, .ref i0), (1, .int x1), (2, .int x2), (3, .int x3), (4, .int x4), (5, .int x5)] (fun _ h => h) (Nat.le_of_ble_eq_true rfl) ?_
  intro p e s m args below meth c hsz Xc
  subst hsz
  exact xk_S_thing_e hst Xc h0 δ0 σ Ext.rf hwp
/-! S_height -/
def xw_S_height_41 (K : Int32 → XSh → XSt → Prop) (i0 : Nat) (z0 : Nat) (δ : XSh) (σ : XSt) : Prop :=
  xw_S_refused δ (fun r1 σ2 => K r1 δ σ2) i0 z0 σ
set_option maxHeartbeats 4000000 in
set_option maxRecDepth 100000 in
theorem xk_S_height_41 {p : Program} {l : Launch} {e : Env} {s : State} {m : MethodId} {args : Array Value} {below : List Frame} {meth : Method} {c : Code} {Γ : GA} {δ0 : XSh} {K : Int32 → XSh → XSt → Prop} {i0 : Nat} (hst : l.stackTraces = false) (Xc : CY p s m args meth c cX0_height 4 (some .int) RX0 Γ δ0 (tableOf [(0, 40, 41, 21)])) (h0 : (0, i0) ∈ δ0.1) : ∀ (z0 : Nat) (δ : XSh) (σ : XSt), Ext δ0 δ → (13, z0) ∈ δ.1 → xw_S_height_41 K i0 z0 δ σ → TX p l e ({ frames := 6, cells := 2, slots := 14, locals := 171 } : Room) s m args below meth c 4 2 14 (VI below (fun r u => K r u.1 u.2 ∧ Ext δ0 u.1) (fun _ _ _ => False) 2 14 Γ δ0 s args) Γ δ0 δ σ 41 [(0, .ref i0)] [.ref z0] := by
  obtain ⟨⟨hx, hb, hml, hown, hts, hK, hr, hlk⟩, hZ, htb⟩ := id Xc
  have hA : ∀ q, s.heap.size ≤ q → AX δ0 s.heap.size q := fun q h => Or.inr h
  intro z0 δ σ hE hz0 hwp H locs ls hP hO hD hS hl
  unfold xw_S_height_41 at hwp
  refine lv_astore_n (lv' := [(3, .ref z0), (0, .ref i0)]) hx hb dX0_height_41 rfl hl (by decide) rfl (fun ls hl => ?_)
  refine lv_aload_n hx hb dX0_height_42 rfl (lv_at hl 1 rfl) ?_
  refine lv_aload_n hx hb dX0_height_43 rfl (lv_at hl 0 rfl) ?_
  refine x_goi (va_runV (As := [.ref z0]) (rest := []) ⟨hx, hb, hml, hown, hts⟩ (xt_S_refused (hE.m h0) hz0 hwp H.size) (cwV 1 hts (lw_V q397 q399 qs2 q75 q400) rfl rfl rfl (by decide +kernel) ⟨Nat.le_of_ble_eq_true rfl, Nat.le_of_ble_eq_true rfl⟩) (x_preV hK hO hD hP 0 i0 (hE.m h0) rfl rfl) rfl rfl hl.1 rfl (lv_room (Nat.le_of_ble_eq_true rfl)) dX0_height_44 ⟨(Nat.le_of_ble_eq_true rfl), (Nat.le_of_ble_eq_true rfl)⟩) hD hA hS (fun r1 u H locs hk hP hO hD hS => ?_)
  obtain ⟨u1, σ2⟩ := u
  obtain ⟨hwp, eu⟩ := hk
  have eu : δ = u1 := eu.symm
  subst eu
  dsimp only at hP hO hD hwp
  refine W.widen (k := 2) (n := 14) (Nat.le_of_ble_eq_true rfl) (Nat.le_of_ble_eq_true rfl) ?_
  refine vx_ret ?_
  exact x_iret hx hb hr hlk hP hO hD hS ⟨hwp, hE⟩ dX0_height_47
def xw_S_height (K : Int32 → XSh → XSt → Prop) (i0 : Nat) (x1 : Int32) (x2 : Int32) (δ : XSh) (σ : XSt) : Prop :=
  xw_S_mustThing (fun δ1 σ2 => xw_S_in δ1 σ2 (fun r4 => xw_S_need (fun δ5 σ6 => ∃ o8, σ6.2.2 0 i0 4 = some o8 ∧ (vp_in x1 8 ∧ (vp_in x1 8 ∧ (∀ σ11, σ11 = tI σ6 9 o8 x1.toNatClampNeg x2 → (K (σ6.1 9 o8 x1.toNatClampNeg) δ5 σ11))))) (fun q15 δ12 σ13 => xw_S_height_41 K i0 q15 δ12 σ13) r4 (-6) δ1 σ2) x2.toInt64 0 20) (fun q19 δ16 σ17 => xw_S_height_41 K i0 q19 δ16 σ17) i0 x1 δ σ
set_option maxHeartbeats 4000000 in
set_option maxRecDepth 100000 in
theorem xk_S_height_e {p : Program} {l : Launch} {e : Env} {s : State} {m : MethodId} {args : Array Value} {below : List Frame} {meth : Method} {c : Code} {Γ : GA} {δ0 : XSh} {K : Int32 → XSh → XSt → Prop} {i0 : Nat} (hst : l.stackTraces = false) (Xc : CY p s m args meth c cX0_height 4 (some .int) RX0 Γ δ0 (tableOf [(0, 40, 41, 21)])) (h0 : (0, i0) ∈ δ0.1) {x1 : Int32} {x2 : Int32} : ∀ (δ : XSh) (σ : XSt), Ext δ0 δ → xw_S_height K i0 x1 x2 δ σ → TX p l e ({ frames := 6, cells := 2, slots := 14, locals := 171 } : Room) s m args below meth c 4 0 0 (VI below (fun r u => K r u.1 u.2 ∧ Ext δ0 u.1) (fun _ _ _ => False) 2 14 Γ δ0 s args) Γ δ0 δ σ 0 [(0, .ref i0), (1, .int x1), (2, .int x2)] [] := by
  obtain ⟨⟨hx, hb, hml, hown, hts, hK, hr, hlk⟩, hZ, htb⟩ := id Xc
  have hA : ∀ q, s.heap.size ≤ q → AX δ0 s.heap.size q := fun q h => Or.inr h
  intro δ σ hE hwp H locs ls hP hO hD hS hl
  unfold xw_S_height at hwp
  refine lv_aload_n hx hb dX0_height_0 rfl (lv_at hl 0 rfl) ?_
  refine lv_iload_n hx hb dX0_height_1 rfl (lv_at hl 1 rfl) ?_
  refine y_gov (vx_runV (As := [.int x1]) (rest := []) ⟨hx, hb, hml, hown, hts⟩ (xt_S_mustThing hst (hE.m h0) hwp H.size) (cwV 1 hts (lw_V q508 q510 qs3 q75 q511) rfl rfl rfl (by decide +kernel) ⟨(Nat.le_of_ble_eq_true rfl), (Nat.le_of_ble_eq_true rfl)⟩) (y_preV hK hO hD hA hZ hP hS 0 i0 (hE.m h0) rfl rfl) rfl rfl hl.1 rfl (lv_room (Nat.le_of_ble_eq_true rfl)) dX0_height_2 ⟨(Nat.le_of_ble_eq_true rfl), (Nat.le_of_ble_eq_true rfl)⟩) hD hA hS (fun E ce q19 u H locs hk hP hO hD hS k1 k2 k3 => ?_) (fun u H locs hk hP hO hD hS => ?_)
  · obtain ⟨δ16, σ17⟩ := u
    obtain ⟨⟨rfl, hq19⟩, hwp, hF18⟩ := hk
    dsimp only at hP hO hD hwp hF18 hq19
    replace hE := hE.tr hF18
    refine vx_catch (E := RX5) (name := RX5) hown [] ⟨0, 40, 41, 21⟩ [] (htb.trans rfl) (fun z hz => nomatch hz) rfl (by decide) (hts _ q222) ((hK.2.1 (.castable RX5 RX5) (by simp [nwL])).use rfl) k1 k2 k3 ?_
    refine W.eq (g2 := F0 m 41 ls [.ref q19]) rfl ?_
    refine W.widen (k := 2) (n := 14) (Nat.le_of_ble_eq_true rfl) (Nat.le_of_ble_eq_true rfl) ?_
    exact xk_S_height_41 hst Xc h0 _ δ16 σ17 hE hq19 hwp H locs ls hP hO hD hS (lv_sub hl [0] rfl)
  · obtain ⟨δ1, σ2⟩ := u
    obtain ⟨hwp, hF3⟩ := hk
    dsimp only at hP hO hD hwp hF3
    replace hE := hE.tr hF3
    refine lv_iload_n hx hb dX0_height_5 rfl (lv_at hl 2 rfl) ?_
    refine lv_i2l (v := x2.toInt64) hx hb dX0_height_6 rfl ?_
    refine lv_lconst (v := 0) hx hb dX0_height_7 (by decide) ?_
    refine lv_ldc2 hx hb hown (hts _ q694) dX0_height_8 ?_
    refine x_goi (va_runS (As := [.long x2.toInt64, .long 0, .long 20]) (rest := []) ⟨hx, hb, hml, hown, hts⟩ (xt_S_in hwp H.size) (va_cwS 3 hts (lw_S q332 q333 q75 q334) rfl rfl rfl (by decide +kernel) ⟨Nat.le_of_ble_eq_true rfl, Nat.le_of_ble_eq_true rfl⟩) (x_preS hK hO hD hP) rfl rfl hl.1 rfl (lv_room (Nat.le_of_ble_eq_true rfl)) dX0_height_11 ⟨(Nat.le_of_ble_eq_true rfl), (Nat.le_of_ble_eq_true rfl)⟩) hD hA hS (fun r4 u H locs hk hP hO hD hS => ?_)
    obtain ⟨hwp, eu⟩ := hk
    subst eu
    dsimp only at hP hO hD
    refine lv_bipush (v := (-6)) hx hb dX0_height_14 (by decide) ?_
    refine y_gov (vx_runS (As := [.int r4, .int (-6)]) (rest := []) ⟨hx, hb, hml, hown, hts⟩ (xt_S_need hst hwp H.size) (va_cwS 2 hts (lw_S q328 q329 q75 q330) rfl rfl rfl (by decide +kernel) ⟨(Nat.le_of_ble_eq_true rfl), (Nat.le_of_ble_eq_true rfl)⟩) (y_preS hK hO hD hA hZ hP hS) rfl rfl hl.1 rfl (lv_room (Nat.le_of_ble_eq_true rfl)) dX0_height_16 ⟨(Nat.le_of_ble_eq_true rfl), (Nat.le_of_ble_eq_true rfl)⟩) hD hA hS (fun E ce q15 u H locs hk hP hO hD hS k1 k2 k3 => ?_) (fun u H locs hk hP hO hD hS => ?_)
    · obtain ⟨δ12, σ13⟩ := u
      obtain ⟨⟨rfl, hq15⟩, hwp, hF14⟩ := hk
      dsimp only at hP hO hD hwp hF14 hq15
      replace hE := hE.tr hF14
      refine vx_catch (E := RX5) (name := RX5) hown [] ⟨0, 40, 41, 21⟩ [] (htb.trans rfl) (fun z hz => nomatch hz) rfl (by decide) (hts _ q222) ((hK.2.1 (.castable RX5 RX5) (by simp [nwL])).use rfl) k1 k2 k3 ?_
      refine W.eq (g2 := F0 m 41 ls [.ref q15]) rfl ?_
      refine W.widen (k := 2) (n := 14) (Nat.le_of_ble_eq_true rfl) (Nat.le_of_ble_eq_true rfl) ?_
      exact xk_S_height_41 hst Xc h0 _ δ12 σ13 hE hq15 hwp H locs ls hP hO hD hS (lv_sub hl [0] rfl)
    · obtain ⟨δ5, σ6⟩ := u
      obtain ⟨hwp, hF7⟩ := hk
      dsimp only at hP hO hD hwp hF7
      replace hE := hE.tr hF7
      refine lv_aload_n hx hb dX0_height_19 rfl (lv_at hl 0 rfl) ?_
      obtain ⟨o8, eo8, hwp⟩ := hwp
      refine x_getr hx hb hts hown hK hP 0 i0 (hE.m h0) rfl rfl in_X0 4 (by decide) q200 rfl rfl eo8 dX0_height_20 (fun ho8 co8 => ?_)
      refine x_get hx hb hts hown hK hP 6 o8 ho8 rfl rfl in_X2 7 (by decide) q163 rfl (v := .ref (δ5.2.1 9 o8)) rfl dX0_height_23 ?_
      refine lv_iload_n hx hb dX0_height_26 rfl (lv_at hl 1 rfl) ?_
      obtain ⟨hi9, hwp⟩ := hwp
      refine x_iald hx hb hK hP 9 o8 ((hO.1 _ ho8).2.1) rfl hi9 dX0_height_27 ?_
      refine lv_istore_n (lv' := [(3, .int (σ6.1 9 o8 x1.toNatClampNeg)), (0, .ref i0), (1, .int x1), (2, .int x2)]) hx hb dX0_height_28 rfl hl (by decide) rfl (fun ls hl => ?_)
      refine lv_aload_n hx hb dX0_height_29 rfl (lv_at hl 1 rfl) ?_
      refine x_getr hx hb hts hown hK hP 0 i0 (hE.m h0) rfl rfl in_X0 4 (by decide) q200 rfl rfl eo8 dX0_height_30 (fun ho8 co8 => ?_)
      refine x_get hx hb hts hown hK hP 6 o8 ho8 rfl rfl in_X2 7 (by decide) q163 rfl (v := .ref (δ5.2.1 9 o8)) rfl dX0_height_33 ?_
      refine lv_iload_n hx hb dX0_height_36 rfl (lv_at hl 2 rfl) ?_
      refine lv_iload_n hx hb dX0_height_37 rfl (lv_at hl 3 rfl) ?_
      obtain ⟨hi10, hwp⟩ := hwp
      refine x_iast hx hb hK hD hP hS 9 o8 ((hO.1 _ ho8).2.1) (fun _ => rfl) hi10 dX0_height_38 (fun H locs hP hS => ?_)
      obtain ⟨σ11, eσ11⟩ : ∃ z, z = tI σ6 9 o8 x1.toNatClampNeg x2 := ⟨_, rfl⟩
      replace hP : XH Γ δ5 σ11 H := by rw [eσ11]; exact hP
      replace hwp := hwp σ11 eσ11
      refine lv_iload_n hx hb dX0_height_39 rfl (lv_at hl 0 rfl) ?_
      refine W.widen (k := 2) (n := 14) (Nat.le_of_ble_eq_true rfl) (Nat.le_of_ble_eq_true rfl) ?_
      refine vx_ret ?_
      exact x_iret hx hb hr hlk hP hO hD hS ⟨hwp, hE⟩ dX0_height_40
set_option maxHeartbeats 4000000 in
set_option maxRecDepth 100000 in
theorem xt_S_height {l : Launch} (hst : l.stackTraces = false) {Γ : GA} {δ0 : XSh} {σ : XSt} {K : Int32 → XSh → XSt → Prop} {i0 : Nat} (h0 : (0, i0) ∈ δ0.1) {x1 : Int32} {x2 : Int32} (hwp : xw_S_height K i0 x1 x2 δ0 σ) : yI l yX0_height (wsW_ yX0_height cX0_height 4 (some .int) [(0, 40, 41, 21)]) ({ frames := 6, cells := 2, slots := 14, locals := 171 } : Room) 2 14 Γ δ0 [.ref i0, .int x1, .int x2] σ (fun r u => K r u.1 u.2 ∧ Ext δ0 u.1) (fun _ _ _ => False) := by
  intro sz
  refine yW_of (by decide) [(0, .ref i0), (1, .int x1), (2, .int x2)] (fun _ h => h) (Nat.le_of_ble_eq_true rfl) ?_
  intro p e s m args below meth c hsz Xc
  subst hsz
  exact xk_S_height_e hst Xc h0 δ0 σ Ext.rf hwp
/-! S_ask -/
def xw_S_ask_75 (K : Int32 → XSh → XSt → Prop) (i0 : Nat) (x3 : Int32) (t0 : Int32) (z1 : Nat) (δ : XSh) (σ : XSt) : Prop :=
  (t0 = 0 ∨ t0 = 1) ∧ (∀ σ2, σ2 = tI σ 6 z1 1 t0 → (K x3 δ σ2))
set_option maxHeartbeats 4000000 in
set_option maxRecDepth 100000 in
theorem xk_S_ask_75 {p : Program} {l : Launch} {e : Env} {s : State} {m : MethodId} {args : Array Value} {below : List Frame} {meth : Method} {c : Code} {Γ : GA} {δ0 : XSh} {K : Int32 → XSh → XSt → Prop} {i0 : Nat} (hst : l.stackTraces = false) (Xc : CY p s m args meth c cX0_ask 4 (some .int) RX0 Γ δ0 (tableOf [(0, 98, 99, 21)])) (h0 : (0, i0) ∈ δ0.1) : ∀ (x3 : Int32) (t0 : Int32) (z1 : Nat) (δ : XSh) (σ : XSt), Ext δ0 δ → (6, z1) ∈ δ.1 → xw_S_ask_75 K i0 x3 t0 z1 δ σ → TX p l e ({ frames := 5, cells := 1, slots := 7, locals := 150 } : Room) s m args below meth c 4 1 7 (VI below (fun r u => K r u.1 u.2 ∧ Ext δ0 u.1) (fun _ _ _ => False) 1 7 Γ δ0 s args) Γ δ0 δ σ 75 [(3, .int x3)] [.int t0, .ref z1] := by
  obtain ⟨⟨hx, hb, hml, hown, hts, hK, hr, hlk⟩, hZ, htb⟩ := id Xc
  have hA : ∀ q, s.heap.size ≤ q → AX δ0 s.heap.size q := fun q h => Or.inr h
  intro x3 t0 z1 δ σ hE hz1 hwp H locs ls hP hO hD hS hl
  unfold xw_S_ask_75 at hwp
  obtain ⟨hv1, hwp⟩ := hwp
  refine x_puti hx hb hts hown hK hD hP hS 6 z1 hz1 rfl rfl in_X2 tyX2 tyX2_ok nmX2 1 (by decide) q148 rfl rfl (zb_in hv1) (zb_fit hv1) (Nat.le_of_ble_eq_true rfl) rfl dX0_ask_75 (fun H locs hP hS => ?_)
  obtain ⟨σ2, eσ2⟩ : ∃ z, z = tI σ 6 z1 1 t0 := ⟨_, rfl⟩
  replace hP : XH Γ δ σ2 H := by rw [eσ2]; exact hP
  replace hwp := hwp σ2 eσ2
  refine lv_goto (tgt := 97) hx hb dX0_ask_78 (by decide) ?_
  refine lv_iload_n hx hb dX0_ask_97 rfl (lv_at hl 0 rfl) ?_
  refine W.widen (k := 1) (n := 7) (Nat.le_of_ble_eq_true rfl) (Nat.le_of_ble_eq_true rfl) ?_
  refine vx_ret ?_
  exact x_iret hx hb hr hlk hP hO hD hS ⟨hwp, hE⟩ dX0_ask_98
def xw_S_ask_60 (K : Int32 → XSh → XSt → Prop) (i0 : Nat) (x2 : Int32) (t0 : Int32) (δ : XSh) (σ : XSt) : Prop :=
  ∃ o1, σ.2.2 0 i0 4 = some o1 ∧ (((¬ (x2 = 1)) → (xw_S_ask_75 K i0 t0 0 o1 δ σ)) ∧ ((x2 = 1) → (xw_S_ask_75 K i0 t0 1 o1 δ σ)))
set_option maxHeartbeats 4000000 in
set_option maxRecDepth 100000 in
theorem xk_S_ask_60 {p : Program} {l : Launch} {e : Env} {s : State} {m : MethodId} {args : Array Value} {below : List Frame} {meth : Method} {c : Code} {Γ : GA} {δ0 : XSh} {K : Int32 → XSh → XSt → Prop} {i0 : Nat} (hst : l.stackTraces = false) (Xc : CY p s m args meth c cX0_ask 4 (some .int) RX0 Γ δ0 (tableOf [(0, 98, 99, 21)])) (h0 : (0, i0) ∈ δ0.1) : ∀ (x2 : Int32) (t0 : Int32) (δ : XSh) (σ : XSt), Ext δ0 δ → xw_S_ask_60 K i0 x2 t0 δ σ → TX p l e ({ frames := 5, cells := 1, slots := 7, locals := 150 } : Room) s m args below meth c 4 1 7 (VI below (fun r u => K r u.1 u.2 ∧ Ext δ0 u.1) (fun _ _ _ => False) 1 7 Γ δ0 s args) Γ δ0 δ σ 60 [(0, .ref i0), (2, .int x2)] [.int t0] := by
  obtain ⟨⟨hx, hb, hml, hown, hts, hK, hr, hlk⟩, hZ, htb⟩ := id Xc
  have hA : ∀ q, s.heap.size ≤ q → AX δ0 s.heap.size q := fun q h => Or.inr h
  intro x2 t0 δ σ hE hwp H locs ls hP hO hD hS hl
  unfold xw_S_ask_60 at hwp
  refine lv_istore_n (lv' := [(3, .int t0), (0, .ref i0), (2, .int x2)]) hx hb dX0_ask_60 rfl hl (by decide) rfl (fun ls hl => ?_)
  refine lv_aload_n hx hb dX0_ask_61 rfl (lv_at hl 1 rfl) ?_
  obtain ⟨o1, eo1, hwp⟩ := hwp
  refine x_getr hx hb hts hown hK hP 0 i0 (hE.m h0) rfl rfl in_X0 4 (by decide) q200 rfl rfl eo1 dX0_ask_62 (fun ho1 co1 => ?_)
  refine lv_iload_n hx hb dX0_ask_65 rfl (lv_at hl 2 rfl) ?_
  refine lv_iconst (v := 1) hx hb dX0_ask_66 (by decide) ?_
  refine lv_icmp_ne (tgt := 74) hx hb dX0_ask_67 (by decide) (fun c2 => ?_) (fun c2 => ?_)
  · replace hwp := hwp.1 c2
    refine lv_iconst (v := 0) hx hb dX0_ask_74 (by decide) ?_
    refine W.widen (k := 1) (n := 7) (Nat.le_of_ble_eq_true rfl) (Nat.le_of_ble_eq_true rfl) ?_
    exact xk_S_ask_75 hst Xc h0 _ _ _ δ σ hE ho1 hwp H locs ls hP hO hD hS (lv_sub hl [0] rfl)
  · replace hwp := hwp.2 c2
    refine lv_iconst (v := 1) hx hb dX0_ask_70 (by decide) ?_
    refine lv_goto (tgt := 75) hx hb dX0_ask_71 (by decide) ?_
    refine W.widen (k := 1) (n := 7) (Nat.le_of_ble_eq_true rfl) (Nat.le_of_ble_eq_true rfl) ?_
    exact xk_S_ask_75 hst Xc h0 _ _ _ δ σ hE ho1 hwp H locs ls hP hO hD hS (lv_sub hl [0] rfl)
def xw_S_ask_36 (K : Int32 → XSh → XSt → Prop) (i0 : Nat) (x1 : Int32) (x2 : Int32) (t0 : Int32) (δ : XSh) (σ : XSt) : Prop :=
  xw_S_need (fun δ1 σ2 => ((¬ (x1 = 0)) → (∃ o5, σ2.2.2 0 i0 4 = some o5 ∧ (∀ σ6, σ6 = tI σ2 6 o5 2 x2 → (K (σ2.1 6 o5 2) δ1 σ6)))) ∧ ((x1 = 0) → (∃ o7, σ2.2.2 0 i0 4 = some o7 ∧ ((((σ2.1 6 o7 1) = 0) → (xw_S_ask_60 K i0 x2 0 δ1 σ2)) ∧ ((¬ ((σ2.1 6 o7 1) = 0)) → (xw_S_ask_60 K i0 x2 1 δ1 σ2)))))) (fun q12 δ9 σ10 => xw_S_refused δ9 (fun r13 σ14 => K r13 δ9 σ14) i0 q12 σ10) t0 (-6) δ σ
set_option maxHeartbeats 4000000 in
set_option maxRecDepth 100000 in
theorem xk_S_ask_36 {p : Program} {l : Launch} {e : Env} {s : State} {m : MethodId} {args : Array Value} {below : List Frame} {meth : Method} {c : Code} {Γ : GA} {δ0 : XSh} {K : Int32 → XSh → XSt → Prop} {i0 : Nat} (hst : l.stackTraces = false) (Xc : CY p s m args meth c cX0_ask 4 (some .int) RX0 Γ δ0 (tableOf [(0, 98, 99, 21)])) (h0 : (0, i0) ∈ δ0.1) : ∀ (x1 : Int32) (x2 : Int32) (t0 : Int32) (δ : XSh) (σ : XSt), Ext δ0 δ → xw_S_ask_36 K i0 x1 x2 t0 δ σ → TX p l e ({ frames := 5, cells := 1, slots := 7, locals := 150 } : Room) s m args below meth c 4 0 0 (VI below (fun r u => K r u.1 u.2 ∧ Ext δ0 u.1) (fun _ _ _ => False) 1 7 Γ δ0 s args) Γ δ0 δ σ 36 [(0, .ref i0), (1, .int x1), (2, .int x2)] [.int t0] := by
  obtain ⟨⟨hx, hb, hml, hown, hts, hK, hr, hlk⟩, hZ, htb⟩ := id Xc
  have hA : ∀ q, s.heap.size ≤ q → AX δ0 s.heap.size q := fun q h => Or.inr h
  intro x1 x2 t0 δ σ hE hwp H locs ls hP hO hD hS hl
  unfold xw_S_ask_36 at hwp
  refine lv_bipush (v := (-6)) hx hb dX0_ask_36 (by decide) ?_
  refine y_gov (vx_runS (As := [.int t0, .int (-6)]) (rest := []) ⟨hx, hb, hml, hown, hts⟩ (xt_S_need hst hwp H.size) (va_cwS 2 hts (lw_S q328 q329 q75 q330) rfl rfl rfl (by decide +kernel) ⟨(Nat.le_of_ble_eq_true rfl), (Nat.le_of_ble_eq_true rfl)⟩) (y_preS hK hO hD hA hZ hP hS) rfl rfl hl.1 rfl (lv_room (Nat.le_of_ble_eq_true rfl)) dX0_ask_38 ⟨(Nat.le_of_ble_eq_true rfl), (Nat.le_of_ble_eq_true rfl)⟩) hD hA hS (fun E ce q12 u H locs hk hP hO hD hS k1 k2 k3 => ?_) (fun u H locs hk hP hO hD hS => ?_)
  · obtain ⟨δ9, σ10⟩ := u
    obtain ⟨⟨rfl, hq12⟩, hwp, hF11⟩ := hk
    dsimp only at hP hO hD hwp hF11 hq12
    replace hE := hE.tr hF11
    refine vx_catch (E := RX5) (name := RX5) hown [] ⟨0, 98, 99, 21⟩ [] (htb.trans rfl) (fun z hz => nomatch hz) rfl (by decide) (hts _ q222) ((hK.2.1 (.castable RX5 RX5) (by simp [nwL])).use rfl) k1 k2 k3 ?_
    refine W.eq (g2 := F0 m 99 ls [.ref q12]) rfl ?_
    refine lv_astore_n (lv' := [(3, .ref q12), (0, .ref i0), (1, .int x1), (2, .int x2)]) hx hb dX0_ask_99 rfl hl (by decide) rfl (fun ls hl => ?_)
    refine lv_aload_n hx hb dX0_ask_100 rfl (lv_at hl 1 rfl) ?_
    refine lv_aload_n hx hb dX0_ask_101 rfl (lv_at hl 0 rfl) ?_
    refine x_goi (va_runV (As := [.ref q12]) (rest := []) ⟨hx, hb, hml, hown, hts⟩ (xt_S_refused (hE.m h0) hq12 hwp H.size) (cwV 1 hts (lw_V q397 q399 qs2 q75 q400) rfl rfl rfl (by decide +kernel) ⟨Nat.le_of_ble_eq_true rfl, Nat.le_of_ble_eq_true rfl⟩) (x_preV hK hO hD hP 0 i0 (hE.m h0) rfl rfl) rfl rfl hl.1 rfl (lv_room (Nat.le_of_ble_eq_true rfl)) dX0_ask_102 ⟨(Nat.le_of_ble_eq_true rfl), (Nat.le_of_ble_eq_true rfl)⟩) hD hA hS (fun r13 u H locs hk hP hO hD hS => ?_)
    obtain ⟨u1, σ14⟩ := u
    obtain ⟨hwp, eu⟩ := hk
    have eu : δ9 = u1 := eu.symm
    subst eu
    dsimp only at hP hO hD hwp
    refine W.widen (k := 1) (n := 7) (Nat.le_of_ble_eq_true rfl) (Nat.le_of_ble_eq_true rfl) ?_
    refine vx_ret ?_
    exact x_iret hx hb hr hlk hP hO hD hS ⟨hwp, hE⟩ dX0_ask_105
  · obtain ⟨δ1, σ2⟩ := u
    obtain ⟨hwp, hF3⟩ := hk
    dsimp only at hP hO hD hwp hF3
    replace hE := hE.tr hF3
    refine lv_iload_n hx hb dX0_ask_41 rfl (lv_at hl 1 rfl) ?_
    refine lv_if_ne (tgt := 81) hx hb dX0_ask_42 (by decide) (fun c4 => ?_) (fun c4 => ?_)
    · replace hwp := hwp.1 c4
      refine lv_aload_n hx hb dX0_ask_81 rfl (lv_at hl 0 rfl) ?_
      obtain ⟨o5, eo5, hwp⟩ := hwp
      refine x_getr hx hb hts hown hK hP 0 i0 (hE.m h0) rfl rfl in_X0 4 (by decide) q200 rfl rfl eo5 dX0_ask_82 (fun ho5 co5 => ?_)
      refine x_get hx hb hts hown hK hP 6 o5 ho5 rfl rfl in_X2 2 (by decide) q151 rfl (v := .int (σ2.1 6 o5 2)) rfl dX0_ask_85 ?_
      refine lv_istore_n (lv' := [(3, .int (σ2.1 6 o5 2)), (0, .ref i0), (1, .int x1), (2, .int x2)]) hx hb dX0_ask_88 rfl hl (by decide) rfl (fun ls hl => ?_)
      refine lv_aload_n hx hb dX0_ask_89 rfl (lv_at hl 1 rfl) ?_
      refine x_getr hx hb hts hown hK hP 0 i0 (hE.m h0) rfl rfl in_X0 4 (by decide) q200 rfl rfl eo5 dX0_ask_90 (fun ho5 co5 => ?_)
      refine lv_iload_n hx hb dX0_ask_93 rfl (lv_at hl 3 rfl) ?_
      refine x_puti hx hb hts hown hK hD hP hS 6 o5 ho5 rfl rfl in_X2 tyX2 tyX2_ok nmX2 2 (by decide) q151 rfl rfl rfl rfl (Nat.le_of_ble_eq_true rfl) rfl dX0_ask_94 (fun H locs hP hS => ?_)
      obtain ⟨σ6, eσ6⟩ : ∃ z, z = tI σ2 6 o5 2 x2 := ⟨_, rfl⟩
      replace hP : XH Γ δ1 σ6 H := by rw [eσ6]; exact hP
      replace hwp := hwp σ6 eσ6
      refine lv_iload_n hx hb dX0_ask_97 rfl (lv_at hl 0 rfl) ?_
      refine W.widen (k := 1) (n := 7) (Nat.le_of_ble_eq_true rfl) (Nat.le_of_ble_eq_true rfl) ?_
      refine vx_ret ?_
      exact x_iret hx hb hr hlk hP hO hD hS ⟨hwp, hE⟩ dX0_ask_98
    · replace hwp := hwp.2 c4
      refine lv_aload_n hx hb dX0_ask_45 rfl (lv_at hl 0 rfl) ?_
      obtain ⟨o7, eo7, hwp⟩ := hwp
      refine x_getr hx hb hts hown hK hP 0 i0 (hE.m h0) rfl rfl in_X0 4 (by decide) q200 rfl rfl eo7 dX0_ask_46 (fun ho7 co7 => ?_)
      refine x_get hx hb hts hown hK hP 6 o7 ho7 rfl rfl in_X2 1 (by decide) q148 rfl (v := .int (σ2.1 6 o7 1)) rfl dX0_ask_49 ?_
      refine lv_if_eq (tgt := 59) hx hb dX0_ask_52 (by decide) (fun c8 => ?_) (fun c8 => ?_)
      · replace hwp := hwp.1 c8
        refine lv_iconst (v := 0) hx hb dX0_ask_59 (by decide) ?_
        refine W.widen (k := 1) (n := 7) (Nat.le_of_ble_eq_true rfl) (Nat.le_of_ble_eq_true rfl) ?_
        exact xk_S_ask_60 hst Xc h0 _ _ δ1 σ2 hE hwp H locs ls hP hO hD hS (lv_sub hl [0, 2] rfl)
      · replace hwp := hwp.2 c8
        refine lv_iconst (v := 1) hx hb dX0_ask_55 (by decide) ?_
        refine lv_goto (tgt := 60) hx hb dX0_ask_56 (by decide) ?_
        refine W.widen (k := 1) (n := 7) (Nat.le_of_ble_eq_true rfl) (Nat.le_of_ble_eq_true rfl) ?_
        exact xk_S_ask_60 hst Xc h0 _ _ δ1 σ2 hE hwp H locs ls hP hO hD hS (lv_sub hl [0, 2] rfl)
def xw_S_ask_35 (K : Int32 → XSh → XSt → Prop) (i0 : Nat) (x1 : Int32) (x2 : Int32) (δ : XSh) (σ : XSt) : Prop :=
  xw_S_ask_36 K i0 x1 x2 0 δ σ
set_option maxHeartbeats 4000000 in
set_option maxRecDepth 100000 in
theorem xk_S_ask_35 {p : Program} {l : Launch} {e : Env} {s : State} {m : MethodId} {args : Array Value} {below : List Frame} {meth : Method} {c : Code} {Γ : GA} {δ0 : XSh} {K : Int32 → XSh → XSt → Prop} {i0 : Nat} (hst : l.stackTraces = false) (Xc : CY p s m args meth c cX0_ask 4 (some .int) RX0 Γ δ0 (tableOf [(0, 98, 99, 21)])) (h0 : (0, i0) ∈ δ0.1) : ∀ (x1 : Int32) (x2 : Int32) (δ : XSh) (σ : XSt), Ext δ0 δ → xw_S_ask_35 K i0 x1 x2 δ σ → TX p l e ({ frames := 5, cells := 1, slots := 7, locals := 150 } : Room) s m args below meth c 4 0 0 (VI below (fun r u => K r u.1 u.2 ∧ Ext δ0 u.1) (fun _ _ _ => False) 1 7 Γ δ0 s args) Γ δ0 δ σ 35 [(0, .ref i0), (1, .int x1), (2, .int x2)] [] := by
  obtain ⟨⟨hx, hb, hml, hown, hts, hK, hr, hlk⟩, hZ, htb⟩ := id Xc
  have hA : ∀ q, s.heap.size ≤ q → AX δ0 s.heap.size q := fun q h => Or.inr h
  intro x1 x2 δ σ hE hwp H locs ls hP hO hD hS hl
  unfold xw_S_ask_35 at hwp
  refine lv_iconst (v := 0) hx hb dX0_ask_35 (by decide) ?_
  refine W.widen (k := 0) (n := 0) (Nat.le_of_ble_eq_true rfl) (Nat.le_of_ble_eq_true rfl) ?_
  exact xk_S_ask_36 hst Xc h0 _ _ _ δ σ hE hwp H locs ls hP hO hD hS (lv_sub hl [0, 1, 2] rfl)
def xw_S_ask_25 (K : Int32 → XSh → XSt → Prop) (i0 : Nat) (x1 : Int32) (x2 : Int32) (t0 : Int64) (t1 : Int64) (t2 : Int64) (δ : XSh) (σ : XSt) : Prop :=
  xw_S_in δ σ (fun r1 => ((r1 = 0) → (xw_S_ask_35 K i0 x1 x2 δ σ)) ∧ ((¬ (r1 = 0)) → (xw_S_ask_36 K i0 x1 x2 1 δ σ))) t2 t1 t0
set_option maxHeartbeats 4000000 in
set_option maxRecDepth 100000 in
theorem xk_S_ask_25 {p : Program} {l : Launch} {e : Env} {s : State} {m : MethodId} {args : Array Value} {below : List Frame} {meth : Method} {c : Code} {Γ : GA} {δ0 : XSh} {K : Int32 → XSh → XSt → Prop} {i0 : Nat} (hst : l.stackTraces = false) (Xc : CY p s m args meth c cX0_ask 4 (some .int) RX0 Γ δ0 (tableOf [(0, 98, 99, 21)])) (h0 : (0, i0) ∈ δ0.1) : ∀ (x1 : Int32) (x2 : Int32) (t0 : Int64) (t1 : Int64) (t2 : Int64) (δ : XSh) (σ : XSt), Ext δ0 δ → xw_S_ask_25 K i0 x1 x2 t0 t1 t2 δ σ → TX p l e ({ frames := 5, cells := 1, slots := 7, locals := 150 } : Room) s m args below meth c 4 0 0 (VI below (fun r u => K r u.1 u.2 ∧ Ext δ0 u.1) (fun _ _ _ => False) 1 7 Γ δ0 s args) Γ δ0 δ σ 25 [(0, .ref i0), (1, .int x1), (2, .int x2)] [.long t0, .long t1, .long t2] := by
  obtain ⟨⟨hx, hb, hml, hown, hts, hK, hr, hlk⟩, hZ, htb⟩ := id Xc
  have hA : ∀ q, s.heap.size ≤ q → AX δ0 s.heap.size q := fun q h => Or.inr h
  intro x1 x2 t0 t1 t2 δ σ hE hwp H locs ls hP hO hD hS hl
  unfold xw_S_ask_25 at hwp
  refine x_goi (va_runS (As := [.long t2, .long t1, .long t0]) (rest := []) ⟨hx, hb, hml, hown, hts⟩ (xt_S_in hwp H.size) (va_cwS 3 hts (lw_S q332 q333 q75 q334) rfl rfl rfl (by decide +kernel) ⟨Nat.le_of_ble_eq_true rfl, Nat.le_of_ble_eq_true rfl⟩) (x_preS hK hO hD hP) rfl rfl hl.1 rfl (lv_room (Nat.le_of_ble_eq_true rfl)) dX0_ask_25 ⟨(Nat.le_of_ble_eq_true rfl), (Nat.le_of_ble_eq_true rfl)⟩) hD hA hS (fun r1 u H locs hk hP hO hD hS => ?_)
  obtain ⟨hwp, eu⟩ := hk
  subst eu
  dsimp only at hP hO hD
  refine lv_if_eq (tgt := 35) hx hb dX0_ask_28 (by decide) (fun c2 => ?_) (fun c2 => ?_)
  · replace hwp := hwp.1 c2
    refine W.widen (k := 0) (n := 0) (Nat.le_of_ble_eq_true rfl) (Nat.le_of_ble_eq_true rfl) ?_
    exact xk_S_ask_35 hst Xc h0 _ _ δ σ hE hwp H locs ls hP hO hD hS (lv_sub hl [0, 1, 2] rfl)
  · replace hwp := hwp.2 c2
    refine lv_iconst (v := 1) hx hb dX0_ask_31 (by decide) ?_
    refine lv_goto (tgt := 36) hx hb dX0_ask_32 (by decide) ?_
    refine W.widen (k := 0) (n := 0) (Nat.le_of_ble_eq_true rfl) (Nat.le_of_ble_eq_true rfl) ?_
    exact xk_S_ask_36 hst Xc h0 _ _ _ δ σ hE hwp H locs ls hP hO hD hS (lv_sub hl [0, 1, 2] rfl)
def xw_S_ask (K : Int32 → XSh → XSt → Prop) (i0 : Nat) (x1 : Int32) (x2 : Int32) (δ : XSh) (σ : XSt) : Prop :=
  xw_S_in δ σ (fun r1 => ((r1 = 0) → (xw_S_ask_35 K i0 x1 x2 δ σ)) ∧ ((¬ (r1 = 0)) → (((¬ (x1 = 0)) → (xw_S_ask_25 K i0 x1 x2 9 x1.toInt64 x2.toInt64 δ σ)) ∧ ((x1 = 0) → (xw_S_ask_25 K i0 x1 x2 1 x1.toInt64 x2.toInt64 δ σ))))) x1.toInt64 0 1
set_option maxHeartbeats 4000000 in
set_option maxRecDepth 100000 in
theorem xk_S_ask_e {p : Program} {l : Launch} {e : Env} {s : State} {m : MethodId} {args : Array Value} {below : List Frame} {meth : Method} {c : Code} {Γ : GA} {δ0 : XSh} {K : Int32 → XSh → XSt → Prop} {i0 : Nat} (hst : l.stackTraces = false) (Xc : CY p s m args meth c cX0_ask 4 (some .int) RX0 Γ δ0 (tableOf [(0, 98, 99, 21)])) (h0 : (0, i0) ∈ δ0.1) {x1 : Int32} {x2 : Int32} : ∀ (δ : XSh) (σ : XSt), Ext δ0 δ → xw_S_ask K i0 x1 x2 δ σ → TX p l e ({ frames := 5, cells := 1, slots := 7, locals := 150 } : Room) s m args below meth c 4 0 0 (VI below (fun r u => K r u.1 u.2 ∧ Ext δ0 u.1) (fun _ _ _ => False) 1 7 Γ δ0 s args) Γ δ0 δ σ 0 [(0, .ref i0), (1, .int x1), (2, .int x2)] [] := by
  obtain ⟨⟨hx, hb, hml, hown, hts, hK, hr, hlk⟩, hZ, htb⟩ := id Xc
  have hA : ∀ q, s.heap.size ≤ q → AX δ0 s.heap.size q := fun q h => Or.inr h
  intro δ σ hE hwp H locs ls hP hO hD hS hl
  unfold xw_S_ask at hwp
  refine lv_iload_n hx hb dX0_ask_0 rfl (lv_at hl 1 rfl) ?_
  refine lv_i2l (v := x1.toInt64) hx hb dX0_ask_1 rfl ?_
  refine lv_lconst (v := 0) hx hb dX0_ask_2 (by decide) ?_
  refine lv_lconst (v := 1) hx hb dX0_ask_3 (by decide) ?_
  refine x_goi (va_runS (As := [.long x1.toInt64, .long 0, .long 1]) (rest := []) ⟨hx, hb, hml, hown, hts⟩ (xt_S_in hwp H.size) (va_cwS 3 hts (lw_S q332 q333 q75 q334) rfl rfl rfl (by decide +kernel) ⟨Nat.le_of_ble_eq_true rfl, Nat.le_of_ble_eq_true rfl⟩) (x_preS hK hO hD hP) rfl rfl hl.1 rfl (lv_room (Nat.le_of_ble_eq_true rfl)) dX0_ask_4 ⟨(Nat.le_of_ble_eq_true rfl), (Nat.le_of_ble_eq_true rfl)⟩) hD hA hS (fun r1 u H locs hk hP hO hD hS => ?_)
  obtain ⟨hwp, eu⟩ := hk
  subst eu
  dsimp only at hP hO hD
  refine lv_if_eq (tgt := 35) hx hb dX0_ask_7 (by decide) (fun c2 => ?_) (fun c2 => ?_)
  · replace hwp := hwp.1 c2
    refine W.widen (k := 0) (n := 0) (Nat.le_of_ble_eq_true rfl) (Nat.le_of_ble_eq_true rfl) ?_
    exact xk_S_ask_35 hst Xc h0 _ _ δ σ hE hwp H locs ls hP hO hD hS (lv_sub hl [0, 1, 2] rfl)
  · replace hwp := hwp.2 c2
    refine lv_iload_n hx hb dX0_ask_10 rfl (lv_at hl 2 rfl) ?_
    refine lv_i2l (v := x2.toInt64) hx hb dX0_ask_11 rfl ?_
    refine lv_iload_n hx hb dX0_ask_12 rfl (lv_at hl 1 rfl) ?_
    refine lv_i2l (v := x1.toInt64) hx hb dX0_ask_13 rfl ?_
    refine lv_iload_n hx hb dX0_ask_14 rfl (lv_at hl 1 rfl) ?_
    refine lv_if_ne (tgt := 22) hx hb dX0_ask_15 (by decide) (fun c3 => ?_) (fun c3 => ?_)
    · replace hwp := hwp.1 c3
      refine lv_ldc2 hx hb hown (hts _ q693) dX0_ask_22 ?_
      refine W.widen (k := 0) (n := 0) (Nat.le_of_ble_eq_true rfl) (Nat.le_of_ble_eq_true rfl) ?_
      exact xk_S_ask_25 hst Xc h0 _ _ _ _ _ δ σ hE hwp H locs ls hP hO hD hS (lv_sub hl [0, 1, 2] rfl)
    · replace hwp := hwp.2 c3
      refine lv_lconst (v := 1) hx hb dX0_ask_18 (by decide) ?_
      refine lv_goto (tgt := 25) hx hb dX0_ask_19 (by decide) ?_
      refine W.widen (k := 0) (n := 0) (Nat.le_of_ble_eq_true rfl) (Nat.le_of_ble_eq_true rfl) ?_
      exact xk_S_ask_25 hst Xc h0 _ _ _ _ _ δ σ hE hwp H locs ls hP hO hD hS (lv_sub hl [0, 1, 2] rfl)
set_option maxHeartbeats 4000000 in
set_option maxRecDepth 100000 in
theorem xt_S_ask {l : Launch} (hst : l.stackTraces = false) {Γ : GA} {δ0 : XSh} {σ : XSt} {K : Int32 → XSh → XSt → Prop} {i0 : Nat} (h0 : (0, i0) ∈ δ0.1) {x1 : Int32} {x2 : Int32} (hwp : xw_S_ask K i0 x1 x2 δ0 σ) : yI l yX0_ask (wsW_ yX0_ask cX0_ask 4 (some .int) [(0, 98, 99, 21)]) ({ frames := 5, cells := 1, slots := 7, locals := 150 } : Room) 1 7 Γ δ0 [.ref i0, .int x1, .int x2] σ (fun r u => K r u.1 u.2 ∧ Ext δ0 u.1) (fun _ _ _ => False) := by
  intro sz
  refine yW_of (by decide) [(0, .ref i0), (1, .int x1), (2, .int x2)] (fun _ h => h) (Nat.le_of_ble_eq_true rfl) ?_
  intro p e s m args below meth c hsz Xc
  subst hsz
  exact xk_S_ask_e hst Xc h0 δ0 σ Ext.rf hwp
/-! S_shut -/
def xw_S_shut_72 (K : Int32 → XSh → XSt → Prop) (i0 : Nat) (x3 : Int32) (x4 : Int32) (t0 : Int32) (t1 : Int32) (z2 : Nat) (δ : XSh) (σ : XSt) : Prop :=
  vp_in t1 8 ∧ (∀ σ2, σ2 = tI σ 10 z2 t1.toNatClampNeg t0 → (((x4 = x3) → (K 0 δ σ2)) ∧ ((¬ (x4 = x3)) → (K 1 δ σ2))))
set_option maxHeartbeats 4000000 in
set_option maxRecDepth 100000 in
theorem xk_S_shut_72 {p : Program} {l : Launch} {e : Env} {s : State} {m : MethodId} {args : Array Value} {below : List Frame} {meth : Method} {c : Code} {Γ : GA} {δ0 : XSh} {K : Int32 → XSh → XSt → Prop} {i0 : Nat} (hst : l.stackTraces = false) (Xc : CY p s m args meth c cX0_shut 5 (some .int) RX0 Γ δ0 (tableOf [(0, 84, 85, 21)])) (h0 : (0, i0) ∈ δ0.1) : ∀ (x3 : Int32) (x4 : Int32) (t0 : Int32) (t1 : Int32) (z2 : Nat) (δ : XSh) (σ : XSt), Ext δ0 δ → (10, z2) ∈ δ.1 → xw_S_shut_72 K i0 x3 x4 t0 t1 z2 δ σ → TX p l e ({ frames := 6, cells := 3, slots := 21, locals := 172 } : Room) s m args below meth c 5 3 21 (VI below (fun r u => K r u.1 u.2 ∧ Ext δ0 u.1) (fun _ _ _ => False) 3 21 Γ δ0 s args) Γ δ0 δ σ 72 [(3, .int x3), (4, .int x4)] [.int t0, .int t1, .ref (δ.2.1 10 z2)] := by
  obtain ⟨⟨hx, hb, hml, hown, hts, hK, hr, hlk⟩, hZ, htb⟩ := id Xc
  have hA : ∀ q, s.heap.size ≤ q → AX δ0 s.heap.size q := fun q h => Or.inr h
  intro x3 x4 t0 t1 z2 δ σ hE hz2 hwp H locs ls hP hO hD hS hl
  unfold xw_S_shut_72 at hwp
  obtain ⟨hi1, hwp⟩ := hwp
  refine x_iast hx hb hK hD hP hS 10 z2 hz2 (fun _ => rfl) hi1 dX0_shut_72 (fun H locs hP hS => ?_)
  obtain ⟨σ2, eσ2⟩ : ∃ z, z = tI σ 10 z2 t1.toNatClampNeg t0 := ⟨_, rfl⟩
  replace hP : XH Γ δ σ2 H := by rw [eσ2]; exact hP
  replace hwp := hwp σ2 eσ2
  refine lv_iload hx hb dX0_shut_73 (lv_at hl 1 rfl) ?_
  refine lv_iload_n hx hb dX0_shut_75 rfl (lv_at hl 0 rfl) ?_
  refine lv_icmp_eq (tgt := 83) hx hb dX0_shut_76 (by decide) (fun c3 => ?_) (fun c3 => ?_)
  · replace hwp := hwp.1 c3
    refine lv_iconst (v := 0) hx hb dX0_shut_83 (by decide) ?_
    refine W.widen (k := 3) (n := 21) (Nat.le_of_ble_eq_true rfl) (Nat.le_of_ble_eq_true rfl) ?_
    refine vx_ret ?_
    exact x_iret hx hb hr hlk hP hO hD hS ⟨hwp, hE⟩ dX0_shut_84
  · replace hwp := hwp.2 c3
    refine lv_iconst (v := 1) hx hb dX0_shut_79 (by decide) ?_
    refine lv_goto (tgt := 84) hx hb dX0_shut_80 (by decide) ?_
    refine W.widen (k := 3) (n := 21) (Nat.le_of_ble_eq_true rfl) (Nat.le_of_ble_eq_true rfl) ?_
    refine vx_ret ?_
    exact x_iret hx hb hr hlk hP hO hD hS ⟨hwp, hE⟩ dX0_shut_84
def xw_S_shut_27 (K : Int32 → XSh → XSt → Prop) (i0 : Nat) (x1 : Int32) (x2 : Int32) (x3 : Int32) (t0 : Int32) (δ : XSh) (σ : XSt) : Prop :=
  ∃ o1, σ.2.2 0 i0 4 = some o1 ∧ (((x3 = 0) → (vp_in x2 8 ∧ (xw_S_shut_72 K i0 x3 t0 ((σ.1 10 o1 x2.toNatClampNeg) &&& (((1 : Int32) <<< (x1 &&& 31)) ^^^ (-1))) x2 o1 δ σ))) ∧ ((¬ (x3 = 0)) → (vp_in x2 8 ∧ (xw_S_shut_72 K i0 x3 t0 ((σ.1 10 o1 x2.toNatClampNeg) ||| ((1 : Int32) <<< (x1 &&& 31))) x2 o1 δ σ))))
set_option maxHeartbeats 4000000 in
set_option maxRecDepth 100000 in
theorem xk_S_shut_27 {p : Program} {l : Launch} {e : Env} {s : State} {m : MethodId} {args : Array Value} {below : List Frame} {meth : Method} {c : Code} {Γ : GA} {δ0 : XSh} {K : Int32 → XSh → XSt → Prop} {i0 : Nat} (hst : l.stackTraces = false) (Xc : CY p s m args meth c cX0_shut 5 (some .int) RX0 Γ δ0 (tableOf [(0, 84, 85, 21)])) (h0 : (0, i0) ∈ δ0.1) : ∀ (x1 : Int32) (x2 : Int32) (x3 : Int32) (t0 : Int32) (δ : XSh) (σ : XSt), Ext δ0 δ → xw_S_shut_27 K i0 x1 x2 x3 t0 δ σ → TX p l e ({ frames := 6, cells := 3, slots := 21, locals := 172 } : Room) s m args below meth c 5 3 21 (VI below (fun r u => K r u.1 u.2 ∧ Ext δ0 u.1) (fun _ _ _ => False) 3 21 Γ δ0 s args) Γ δ0 δ σ 27 [(0, .ref i0), (1, .int x1), (2, .int x2), (3, .int x3)] [.int t0] := by
  obtain ⟨⟨hx, hb, hml, hown, hts, hK, hr, hlk⟩, hZ, htb⟩ := id Xc
  have hA : ∀ q, s.heap.size ≤ q → AX δ0 s.heap.size q := fun q h => Or.inr h
  intro x1 x2 x3 t0 δ σ hE hwp H locs ls hP hO hD hS hl
  unfold xw_S_shut_27 at hwp
  refine lv_istore (lv' := [(4, .int t0), (0, .ref i0), (1, .int x1), (2, .int x2), (3, .int x3)]) hx hb dX0_shut_27 hl (by decide) rfl (fun ls hl => ?_)
  refine lv_aload_n hx hb dX0_shut_29 rfl (lv_at hl 1 rfl) ?_
  obtain ⟨o1, eo1, hwp⟩ := hwp
  refine x_getr hx hb hts hown hK hP 0 i0 (hE.m h0) rfl rfl in_X0 4 (by decide) q200 rfl rfl eo1 dX0_shut_30 (fun ho1 co1 => ?_)
  refine x_get hx hb hts hown hK hP 6 o1 ho1 rfl rfl in_X2 8 (by decide) q166 rfl (v := .ref (δ.2.1 10 o1)) rfl dX0_shut_33 ?_
  refine lv_iload_n hx hb dX0_shut_36 rfl (lv_at hl 3 rfl) ?_
  refine lv_iload_n hx hb dX0_shut_37 rfl (lv_at hl 4 rfl) ?_
  refine lv_if_eq (tgt := 57) hx hb dX0_shut_38 (by decide) (fun c2 => ?_) (fun c2 => ?_)
  · replace hwp := hwp.1 c2
    refine lv_aload_n hx hb dX0_shut_57 rfl (lv_at hl 1 rfl) ?_
    refine x_getr hx hb hts hown hK hP 0 i0 (hE.m h0) rfl rfl in_X0 4 (by decide) q200 rfl rfl eo1 dX0_shut_58 (fun ho1 co1 => ?_)
    refine x_get hx hb hts hown hK hP 6 o1 ho1 rfl rfl in_X2 8 (by decide) q166 rfl (v := .ref (δ.2.1 10 o1)) rfl dX0_shut_61 ?_
    refine lv_iload_n hx hb dX0_shut_64 rfl (lv_at hl 3 rfl) ?_
    obtain ⟨hi3, hwp⟩ := hwp
    refine x_iald hx hb hK hP 10 o1 ((hO.1 _ ho1).2.2) rfl hi3 dX0_shut_65 ?_
    refine lv_iconst (v := 1) hx hb dX0_shut_66 (by decide) ?_
    refine lv_iload_n hx hb dX0_shut_67 rfl (lv_at hl 2 rfl) ?_
    refine lv_ishl hx hb dX0_shut_68 ?_
    refine lv_iconst (v := (-1)) hx hb dX0_shut_69 (by decide) ?_
    refine lv_ixor hx hb dX0_shut_70 ?_
    refine lv_iand hx hb dX0_shut_71 ?_
    refine W.widen (k := 3) (n := 21) (Nat.le_of_ble_eq_true rfl) (Nat.le_of_ble_eq_true rfl) ?_
    exact xk_S_shut_72 hst Xc h0 _ _ _ _ _ δ σ hE ((hO.1 _ ho1).2.2) hwp H locs ls hP hO hD hS (lv_sub hl [4, 0] rfl)
  · replace hwp := hwp.2 c2
    refine lv_aload_n hx hb dX0_shut_41 rfl (lv_at hl 1 rfl) ?_
    refine x_getr hx hb hts hown hK hP 0 i0 (hE.m h0) rfl rfl in_X0 4 (by decide) q200 rfl rfl eo1 dX0_shut_42 (fun ho1 co1 => ?_)
    refine x_get hx hb hts hown hK hP 6 o1 ho1 rfl rfl in_X2 8 (by decide) q166 rfl (v := .ref (δ.2.1 10 o1)) rfl dX0_shut_45 ?_
    refine lv_iload_n hx hb dX0_shut_48 rfl (lv_at hl 3 rfl) ?_
    obtain ⟨hi4, hwp⟩ := hwp
    refine x_iald hx hb hK hP 10 o1 ((hO.1 _ ho1).2.2) rfl hi4 dX0_shut_49 ?_
    refine lv_iconst (v := 1) hx hb dX0_shut_50 (by decide) ?_
    refine lv_iload_n hx hb dX0_shut_51 rfl (lv_at hl 2 rfl) ?_
    refine lv_ishl hx hb dX0_shut_52 ?_
    refine lv_ior hx hb dX0_shut_53 ?_
    refine lv_goto (tgt := 72) hx hb dX0_shut_54 (by decide) ?_
    refine W.widen (k := 3) (n := 21) (Nat.le_of_ble_eq_true rfl) (Nat.le_of_ble_eq_true rfl) ?_
    exact xk_S_shut_72 hst Xc h0 _ _ _ _ _ δ σ hE ((hO.1 _ ho1).2.2) hwp H locs ls hP hO hD hS (lv_sub hl [4, 0] rfl)
def xw_S_shut (K : Int32 → XSh → XSt → Prop) (i0 : Nat) (x1 : Int32) (x2 : Int32) (x3 : Int32) (δ : XSh) (σ : XSt) : Prop :=
  xw_S_mustHouses (fun δ1 σ2 => ∃ o4, σ2.2.2 0 i0 4 = some o4 ∧ (vp_in x2 8 ∧ ((((((σ2.1 10 o4 x2.toNatClampNeg) >>> (x1 &&& 31)) &&& 1) = 0) → (xw_S_shut_27 K i0 x1 x2 x3 0 δ1 σ2)) ∧ ((¬ ((((σ2.1 10 o4 x2.toNatClampNeg) >>> (x1 &&& 31)) &&& 1) = 0)) → (xw_S_shut_27 K i0 x1 x2 x3 1 δ1 σ2))))) (fun q10 δ7 σ8 => xw_S_refused δ7 (fun r11 σ12 => K r11 δ7 σ12) i0 q10 σ8) i0 x1 x2 δ σ
set_option maxHeartbeats 4000000 in
set_option maxRecDepth 100000 in
theorem xk_S_shut_e {p : Program} {l : Launch} {e : Env} {s : State} {m : MethodId} {args : Array Value} {below : List Frame} {meth : Method} {c : Code} {Γ : GA} {δ0 : XSh} {K : Int32 → XSh → XSt → Prop} {i0 : Nat} (hst : l.stackTraces = false) (Xc : CY p s m args meth c cX0_shut 5 (some .int) RX0 Γ δ0 (tableOf [(0, 84, 85, 21)])) (h0 : (0, i0) ∈ δ0.1) {x1 : Int32} {x2 : Int32} {x3 : Int32} : ∀ (δ : XSh) (σ : XSt), Ext δ0 δ → xw_S_shut K i0 x1 x2 x3 δ σ → TX p l e ({ frames := 6, cells := 3, slots := 21, locals := 172 } : Room) s m args below meth c 5 0 0 (VI below (fun r u => K r u.1 u.2 ∧ Ext δ0 u.1) (fun _ _ _ => False) 3 21 Γ δ0 s args) Γ δ0 δ σ 0 [(0, .ref i0), (1, .int x1), (2, .int x2), (3, .int x3)] [] := by
  obtain ⟨⟨hx, hb, hml, hown, hts, hK, hr, hlk⟩, hZ, htb⟩ := id Xc
  have hA : ∀ q, s.heap.size ≤ q → AX δ0 s.heap.size q := fun q h => Or.inr h
  intro δ σ hE hwp H locs ls hP hO hD hS hl
  unfold xw_S_shut at hwp
  refine lv_aload_n hx hb dX0_shut_0 rfl (lv_at hl 0 rfl) ?_
  refine lv_iload_n hx hb dX0_shut_1 rfl (lv_at hl 1 rfl) ?_
  refine lv_iload_n hx hb dX0_shut_2 rfl (lv_at hl 2 rfl) ?_
  refine y_gov (vx_runV (As := [.int x1, .int x2]) (rest := []) ⟨hx, hb, hml, hown, hts⟩ (xt_S_mustHouses hst (hE.m h0) hwp H.size) (cwV 2 hts (lw_V q854 q856 qs6 q75 q857) rfl rfl rfl (by decide +kernel) ⟨(Nat.le_of_ble_eq_true rfl), (Nat.le_of_ble_eq_true rfl)⟩) (y_preV hK hO hD hA hZ hP hS 0 i0 (hE.m h0) rfl rfl) rfl rfl hl.1 rfl (lv_room (Nat.le_of_ble_eq_true rfl)) dX0_shut_3 ⟨(Nat.le_of_ble_eq_true rfl), (Nat.le_of_ble_eq_true rfl)⟩) hD hA hS (fun E ce q10 u H locs hk hP hO hD hS k1 k2 k3 => ?_) (fun u H locs hk hP hO hD hS => ?_)
  · obtain ⟨δ7, σ8⟩ := u
    obtain ⟨⟨rfl, hq10⟩, hwp, hF9⟩ := hk
    dsimp only at hP hO hD hwp hF9 hq10
    replace hE := hE.tr hF9
    refine vx_catch (E := RX5) (name := RX5) hown [] ⟨0, 84, 85, 21⟩ [] (htb.trans rfl) (fun z hz => nomatch hz) rfl (by decide) (hts _ q222) ((hK.2.1 (.castable RX5 RX5) (by simp [nwL])).use rfl) k1 k2 k3 ?_
    refine W.eq (g2 := F0 m 85 ls [.ref q10]) rfl ?_
    refine lv_astore (lv' := [(4, .ref q10), (0, .ref i0), (1, .int x1), (2, .int x2), (3, .int x3)]) hx hb dX0_shut_85 hl (by decide) rfl (fun ls hl => ?_)
    refine lv_aload_n hx hb dX0_shut_87 rfl (lv_at hl 1 rfl) ?_
    refine lv_aload hx hb dX0_shut_88 (lv_at hl 0 rfl) ?_
    refine x_goi (va_runV (As := [.ref q10]) (rest := []) ⟨hx, hb, hml, hown, hts⟩ (xt_S_refused (hE.m h0) hq10 hwp H.size) (cwV 1 hts (lw_V q397 q399 qs2 q75 q400) rfl rfl rfl (by decide +kernel) ⟨Nat.le_of_ble_eq_true rfl, Nat.le_of_ble_eq_true rfl⟩) (x_preV hK hO hD hP 0 i0 (hE.m h0) rfl rfl) rfl rfl hl.1 rfl (lv_room (Nat.le_of_ble_eq_true rfl)) dX0_shut_90 ⟨(Nat.le_of_ble_eq_true rfl), (Nat.le_of_ble_eq_true rfl)⟩) hD hA hS (fun r11 u H locs hk hP hO hD hS => ?_)
    obtain ⟨u1, σ12⟩ := u
    obtain ⟨hwp, eu⟩ := hk
    have eu : δ7 = u1 := eu.symm
    subst eu
    dsimp only at hP hO hD hwp
    refine W.widen (k := 3) (n := 21) (Nat.le_of_ble_eq_true rfl) (Nat.le_of_ble_eq_true rfl) ?_
    refine vx_ret ?_
    exact x_iret hx hb hr hlk hP hO hD hS ⟨hwp, hE⟩ dX0_shut_93
  · obtain ⟨δ1, σ2⟩ := u
    obtain ⟨hwp, hF3⟩ := hk
    dsimp only at hP hO hD hwp hF3
    replace hE := hE.tr hF3
    refine lv_aload_n hx hb dX0_shut_6 rfl (lv_at hl 0 rfl) ?_
    obtain ⟨o4, eo4, hwp⟩ := hwp
    refine x_getr hx hb hts hown hK hP 0 i0 (hE.m h0) rfl rfl in_X0 4 (by decide) q200 rfl rfl eo4 dX0_shut_7 (fun ho4 co4 => ?_)
    refine x_get hx hb hts hown hK hP 6 o4 ho4 rfl rfl in_X2 8 (by decide) q166 rfl (v := .ref (δ1.2.1 10 o4)) rfl dX0_shut_10 ?_
    refine lv_iload_n hx hb dX0_shut_13 rfl (lv_at hl 2 rfl) ?_
    obtain ⟨hi5, hwp⟩ := hwp
    refine x_iald hx hb hK hP 10 o4 ((hO.1 _ ho4).2.2) rfl hi5 dX0_shut_14 ?_
    refine lv_iload_n hx hb dX0_shut_15 rfl (lv_at hl 1 rfl) ?_
    refine lv_ishr hx hb dX0_shut_16 ?_
    refine lv_iconst (v := 1) hx hb dX0_shut_17 (by decide) ?_
    refine lv_iand hx hb dX0_shut_18 ?_
    refine lv_if_eq (tgt := 26) hx hb dX0_shut_19 (by decide) (fun c6 => ?_) (fun c6 => ?_)
    · replace hwp := hwp.1 c6
      refine lv_iconst (v := 0) hx hb dX0_shut_26 (by decide) ?_
      refine W.widen (k := 3) (n := 21) (Nat.le_of_ble_eq_true rfl) (Nat.le_of_ble_eq_true rfl) ?_
      exact xk_S_shut_27 hst Xc h0 _ _ _ _ δ1 σ2 hE hwp H locs ls hP hO hD hS (lv_sub hl [0, 1, 2, 3] rfl)
    · replace hwp := hwp.2 c6
      refine lv_iconst (v := 1) hx hb dX0_shut_22 (by decide) ?_
      refine lv_goto (tgt := 27) hx hb dX0_shut_23 (by decide) ?_
      refine W.widen (k := 3) (n := 21) (Nat.le_of_ble_eq_true rfl) (Nat.le_of_ble_eq_true rfl) ?_
      exact xk_S_shut_27 hst Xc h0 _ _ _ _ δ1 σ2 hE hwp H locs ls hP hO hD hS (lv_sub hl [0, 1, 2, 3] rfl)
set_option maxHeartbeats 4000000 in
set_option maxRecDepth 100000 in
theorem xt_S_shut {l : Launch} (hst : l.stackTraces = false) {Γ : GA} {δ0 : XSh} {σ : XSt} {K : Int32 → XSh → XSt → Prop} {i0 : Nat} (h0 : (0, i0) ∈ δ0.1) {x1 : Int32} {x2 : Int32} {x3 : Int32} (hwp : xw_S_shut K i0 x1 x2 x3 δ0 σ) : yI l yX0_shut (wsW_ yX0_shut cX0_shut 5 (some .int) [(0, 84, 85, 21)]) ({ frames := 6, cells := 3, slots := 21, locals := 172 } : Room) 3 21 Γ δ0 [.ref i0, .int x1, .int x2, .int x3] σ (fun r u => K r u.1 u.2 ∧ Ext δ0 u.1) (fun _ _ _ => False) := by
  intro sz
  refine yW_of (by decide) [(0, .ref i0), (1, .int x1), (2, .int x2), (3, .int x3)] (fun _ h => h) (Nat.le_of_ble_eq_true rfl) ?_
  intro p e s m args below meth c hsz Xc
  subst hsz
  exact xk_S_shut_e hst Xc h0 δ0 σ Ext.rf hwp
/-! S_draw -/
def xw_S_draw_60 (K : Int32 → XSh → XSt → Prop) (i0 : Nat) (x2 : Int32) (x3 : Int32) (t0 : Int32) (z1 : Nat) (δ : XSh) (σ : XSt) : Prop :=
  ∀ σ1, σ1 = tI σ 6 z1 3 t0 → (((x3 = x2) → (K 0 δ σ1)) ∧ ((¬ (x3 = x2)) → (K 1 δ σ1)))
set_option maxHeartbeats 4000000 in
set_option maxRecDepth 100000 in
theorem xk_S_draw_60 {p : Program} {l : Launch} {e : Env} {s : State} {m : MethodId} {args : Array Value} {below : List Frame} {meth : Method} {c : Code} {Γ : GA} {δ0 : XSh} {K : Int32 → XSh → XSt → Prop} {i0 : Nat} (hst : l.stackTraces = false) (Xc : CY p s m args meth c cX0_draw 4 (some .int) RX0 Γ δ0 (tableOf [(0, 73, 74, 21)])) (h0 : (0, i0) ∈ δ0.1) : ∀ (x2 : Int32) (x3 : Int32) (t0 : Int32) (z1 : Nat) (δ : XSh) (σ : XSt), Ext δ0 δ → (6, z1) ∈ δ.1 → xw_S_draw_60 K i0 x2 x3 t0 z1 δ σ → TX p l e ({ frames := 7, cells := 2, slots := 14, locals := 192 } : Room) s m args below meth c 4 2 14 (VI below (fun r u => K r u.1 u.2 ∧ Ext δ0 u.1) (fun _ _ _ => False) 2 14 Γ δ0 s args) Γ δ0 δ σ 60 [(2, .int x2), (3, .int x3)] [.int t0, .ref z1] := by
  obtain ⟨⟨hx, hb, hml, hown, hts, hK, hr, hlk⟩, hZ, htb⟩ := id Xc
  have hA : ∀ q, s.heap.size ≤ q → AX δ0 s.heap.size q := fun q h => Or.inr h
  intro x2 x3 t0 z1 δ σ hE hz1 hwp H locs ls hP hO hD hS hl
  unfold xw_S_draw_60 at hwp
  refine x_puti hx hb hts hown hK hD hP hS 6 z1 hz1 rfl rfl in_X2 tyX2 tyX2_ok nmX2 3 (by decide) q154 rfl rfl rfl rfl (Nat.le_of_ble_eq_true rfl) rfl dX0_draw_60 (fun H locs hP hS => ?_)
  obtain ⟨σ1, eσ1⟩ : ∃ z, z = tI σ 6 z1 3 t0 := ⟨_, rfl⟩
  replace hP : XH Γ δ σ1 H := by rw [eσ1]; exact hP
  replace hwp := hwp σ1 eσ1
  refine lv_iload_n hx hb dX0_draw_63 rfl (lv_at hl 1 rfl) ?_
  refine lv_iload_n hx hb dX0_draw_64 rfl (lv_at hl 0 rfl) ?_
  refine lv_icmp_eq (tgt := 72) hx hb dX0_draw_65 (by decide) (fun c2 => ?_) (fun c2 => ?_)
  · replace hwp := hwp.1 c2
    refine lv_iconst (v := 0) hx hb dX0_draw_72 (by decide) ?_
    refine W.widen (k := 2) (n := 14) (Nat.le_of_ble_eq_true rfl) (Nat.le_of_ble_eq_true rfl) ?_
    refine vx_ret ?_
    exact x_iret hx hb hr hlk hP hO hD hS ⟨hwp, hE⟩ dX0_draw_73
  · replace hwp := hwp.2 c2
    refine lv_iconst (v := 1) hx hb dX0_draw_68 (by decide) ?_
    refine lv_goto (tgt := 73) hx hb dX0_draw_69 (by decide) ?_
    refine W.widen (k := 2) (n := 14) (Nat.le_of_ble_eq_true rfl) (Nat.le_of_ble_eq_true rfl) ?_
    refine vx_ret ?_
    exact x_iret hx hb hr hlk hP hO hD hS ⟨hwp, hE⟩ dX0_draw_73
def xw_S_draw_24 (K : Int32 → XSh → XSt → Prop) (i0 : Nat) (x1 : Int32) (x2 : Int32) (t0 : Int32) (δ : XSh) (σ : XSt) : Prop :=
  ∃ o1, σ.2.2 0 i0 4 = some o1 ∧ (((x2 = 0) → (xw_S_draw_60 K i0 x2 t0 ((σ.1 6 o1 3) &&& (((1 : Int32) <<< (x1 &&& 31)) ^^^ (-1))) o1 δ σ)) ∧ ((¬ (x2 = 0)) → (xw_S_draw_60 K i0 x2 t0 ((σ.1 6 o1 3) ||| ((1 : Int32) <<< (x1 &&& 31))) o1 δ σ)))
set_option maxHeartbeats 4000000 in
set_option maxRecDepth 100000 in
theorem xk_S_draw_24 {p : Program} {l : Launch} {e : Env} {s : State} {m : MethodId} {args : Array Value} {below : List Frame} {meth : Method} {c : Code} {Γ : GA} {δ0 : XSh} {K : Int32 → XSh → XSt → Prop} {i0 : Nat} (hst : l.stackTraces = false) (Xc : CY p s m args meth c cX0_draw 4 (some .int) RX0 Γ δ0 (tableOf [(0, 73, 74, 21)])) (h0 : (0, i0) ∈ δ0.1) : ∀ (x1 : Int32) (x2 : Int32) (t0 : Int32) (δ : XSh) (σ : XSt), Ext δ0 δ → xw_S_draw_24 K i0 x1 x2 t0 δ σ → TX p l e ({ frames := 7, cells := 2, slots := 14, locals := 192 } : Room) s m args below meth c 4 2 14 (VI below (fun r u => K r u.1 u.2 ∧ Ext δ0 u.1) (fun _ _ _ => False) 2 14 Γ δ0 s args) Γ δ0 δ σ 24 [(0, .ref i0), (1, .int x1), (2, .int x2)] [.int t0] := by
  obtain ⟨⟨hx, hb, hml, hown, hts, hK, hr, hlk⟩, hZ, htb⟩ := id Xc
  have hA : ∀ q, s.heap.size ≤ q → AX δ0 s.heap.size q := fun q h => Or.inr h
  intro x1 x2 t0 δ σ hE hwp H locs ls hP hO hD hS hl
  unfold xw_S_draw_24 at hwp
  refine lv_istore_n (lv' := [(3, .int t0), (0, .ref i0), (1, .int x1), (2, .int x2)]) hx hb dX0_draw_24 rfl hl (by decide) rfl (fun ls hl => ?_)
  refine lv_aload_n hx hb dX0_draw_25 rfl (lv_at hl 1 rfl) ?_
  obtain ⟨o1, eo1, hwp⟩ := hwp
  refine x_getr hx hb hts hown hK hP 0 i0 (hE.m h0) rfl rfl in_X0 4 (by decide) q200 rfl rfl eo1 dX0_draw_26 (fun ho1 co1 => ?_)
  refine lv_iload_n hx hb dX0_draw_29 rfl (lv_at hl 3 rfl) ?_
  refine lv_if_eq (tgt := 47) hx hb dX0_draw_30 (by decide) (fun c2 => ?_) (fun c2 => ?_)
  · replace hwp := hwp.1 c2
    refine lv_aload_n hx hb dX0_draw_47 rfl (lv_at hl 1 rfl) ?_
    refine x_getr hx hb hts hown hK hP 0 i0 (hE.m h0) rfl rfl in_X0 4 (by decide) q200 rfl rfl eo1 dX0_draw_48 (fun ho1 co1 => ?_)
    refine x_get hx hb hts hown hK hP 6 o1 ho1 rfl rfl in_X2 3 (by decide) q154 rfl (v := .int (σ.1 6 o1 3)) rfl dX0_draw_51 ?_
    refine lv_iconst (v := 1) hx hb dX0_draw_54 (by decide) ?_
    refine lv_iload_n hx hb dX0_draw_55 rfl (lv_at hl 2 rfl) ?_
    refine lv_ishl hx hb dX0_draw_56 ?_
    refine lv_iconst (v := (-1)) hx hb dX0_draw_57 (by decide) ?_
    refine lv_ixor hx hb dX0_draw_58 ?_
    refine lv_iand hx hb dX0_draw_59 ?_
    refine W.widen (k := 2) (n := 14) (Nat.le_of_ble_eq_true rfl) (Nat.le_of_ble_eq_true rfl) ?_
    exact xk_S_draw_60 hst Xc h0 _ _ _ _ δ σ hE ho1 hwp H locs ls hP hO hD hS (lv_sub hl [3, 0] rfl)
  · replace hwp := hwp.2 c2
    refine lv_aload_n hx hb dX0_draw_33 rfl (lv_at hl 1 rfl) ?_
    refine x_getr hx hb hts hown hK hP 0 i0 (hE.m h0) rfl rfl in_X0 4 (by decide) q200 rfl rfl eo1 dX0_draw_34 (fun ho1 co1 => ?_)
    refine x_get hx hb hts hown hK hP 6 o1 ho1 rfl rfl in_X2 3 (by decide) q154 rfl (v := .int (σ.1 6 o1 3)) rfl dX0_draw_37 ?_
    refine lv_iconst (v := 1) hx hb dX0_draw_40 (by decide) ?_
    refine lv_iload_n hx hb dX0_draw_41 rfl (lv_at hl 2 rfl) ?_
    refine lv_ishl hx hb dX0_draw_42 ?_
    refine lv_ior hx hb dX0_draw_43 ?_
    refine lv_goto (tgt := 60) hx hb dX0_draw_44 (by decide) ?_
    refine W.widen (k := 2) (n := 14) (Nat.le_of_ble_eq_true rfl) (Nat.le_of_ble_eq_true rfl) ?_
    exact xk_S_draw_60 hst Xc h0 _ _ _ _ δ σ hE ho1 hwp H locs ls hP hO hD hS (lv_sub hl [3, 0] rfl)
def xw_S_draw (K : Int32 → XSh → XSt → Prop) (i0 : Nat) (x1 : Int32) (x2 : Int32) (δ : XSh) (σ : XSt) : Prop :=
  xw_S_mustHouse (fun δ1 σ2 => ∃ o4, σ2.2.2 0 i0 4 = some o4 ∧ ((((((σ2.1 6 o4 3) >>> (x1 &&& 31)) &&& 1) = 0) → (xw_S_draw_24 K i0 x1 x2 0 δ1 σ2)) ∧ ((¬ ((((σ2.1 6 o4 3) >>> (x1 &&& 31)) &&& 1) = 0)) → (xw_S_draw_24 K i0 x1 x2 1 δ1 σ2)))) (fun q9 δ6 σ7 => xw_S_refused δ6 (fun r10 σ11 => K r10 δ6 σ11) i0 q9 σ7) i0 x1 δ σ
set_option maxHeartbeats 4000000 in
set_option maxRecDepth 100000 in
theorem xk_S_draw_e {p : Program} {l : Launch} {e : Env} {s : State} {m : MethodId} {args : Array Value} {below : List Frame} {meth : Method} {c : Code} {Γ : GA} {δ0 : XSh} {K : Int32 → XSh → XSt → Prop} {i0 : Nat} (hst : l.stackTraces = false) (Xc : CY p s m args meth c cX0_draw 4 (some .int) RX0 Γ δ0 (tableOf [(0, 73, 74, 21)])) (h0 : (0, i0) ∈ δ0.1) {x1 : Int32} {x2 : Int32} : ∀ (δ : XSh) (σ : XSt), Ext δ0 δ → xw_S_draw K i0 x1 x2 δ σ → TX p l e ({ frames := 7, cells := 2, slots := 14, locals := 192 } : Room) s m args below meth c 4 0 0 (VI below (fun r u => K r u.1 u.2 ∧ Ext δ0 u.1) (fun _ _ _ => False) 2 14 Γ δ0 s args) Γ δ0 δ σ 0 [(0, .ref i0), (1, .int x1), (2, .int x2)] [] := by
  obtain ⟨⟨hx, hb, hml, hown, hts, hK, hr, hlk⟩, hZ, htb⟩ := id Xc
  have hA : ∀ q, s.heap.size ≤ q → AX δ0 s.heap.size q := fun q h => Or.inr h
  intro δ σ hE hwp H locs ls hP hO hD hS hl
  unfold xw_S_draw at hwp
  refine lv_aload_n hx hb dX0_draw_0 rfl (lv_at hl 0 rfl) ?_
  refine lv_iload_n hx hb dX0_draw_1 rfl (lv_at hl 1 rfl) ?_
  refine y_gov (vx_runV (As := [.int x1]) (rest := []) ⟨hx, hb, hml, hown, hts⟩ (xt_S_mustHouse hst (hE.m h0) hwp H.size) (cwV 1 hts (lw_V q863 q865 qs7 q75 q866) rfl rfl rfl (by decide +kernel) ⟨(Nat.le_of_ble_eq_true rfl), (Nat.le_of_ble_eq_true rfl)⟩) (y_preV hK hO hD hA hZ hP hS 0 i0 (hE.m h0) rfl rfl) rfl rfl hl.1 rfl (lv_room (Nat.le_of_ble_eq_true rfl)) dX0_draw_2 ⟨(Nat.le_of_ble_eq_true rfl), (Nat.le_of_ble_eq_true rfl)⟩) hD hA hS (fun E ce q9 u H locs hk hP hO hD hS k1 k2 k3 => ?_) (fun u H locs hk hP hO hD hS => ?_)
  · obtain ⟨δ6, σ7⟩ := u
    obtain ⟨⟨rfl, hq9⟩, hwp, hF8⟩ := hk
    dsimp only at hP hO hD hwp hF8 hq9
    replace hE := hE.tr hF8
    refine vx_catch (E := RX5) (name := RX5) hown [] ⟨0, 73, 74, 21⟩ [] (htb.trans rfl) (fun z hz => nomatch hz) rfl (by decide) (hts _ q222) ((hK.2.1 (.castable RX5 RX5) (by simp [nwL])).use rfl) k1 k2 k3 ?_
    refine W.eq (g2 := F0 m 74 ls [.ref q9]) rfl ?_
    refine lv_astore_n (lv' := [(3, .ref q9), (0, .ref i0), (1, .int x1), (2, .int x2)]) hx hb dX0_draw_74 rfl hl (by decide) rfl (fun ls hl => ?_)
    refine lv_aload_n hx hb dX0_draw_75 rfl (lv_at hl 1 rfl) ?_
    refine lv_aload_n hx hb dX0_draw_76 rfl (lv_at hl 0 rfl) ?_
    refine x_goi (va_runV (As := [.ref q9]) (rest := []) ⟨hx, hb, hml, hown, hts⟩ (xt_S_refused (hE.m h0) hq9 hwp H.size) (cwV 1 hts (lw_V q397 q399 qs2 q75 q400) rfl rfl rfl (by decide +kernel) ⟨Nat.le_of_ble_eq_true rfl, Nat.le_of_ble_eq_true rfl⟩) (x_preV hK hO hD hP 0 i0 (hE.m h0) rfl rfl) rfl rfl hl.1 rfl (lv_room (Nat.le_of_ble_eq_true rfl)) dX0_draw_77 ⟨(Nat.le_of_ble_eq_true rfl), (Nat.le_of_ble_eq_true rfl)⟩) hD hA hS (fun r10 u H locs hk hP hO hD hS => ?_)
    obtain ⟨u1, σ11⟩ := u
    obtain ⟨hwp, eu⟩ := hk
    have eu : δ6 = u1 := eu.symm
    subst eu
    dsimp only at hP hO hD hwp
    refine W.widen (k := 2) (n := 14) (Nat.le_of_ble_eq_true rfl) (Nat.le_of_ble_eq_true rfl) ?_
    refine vx_ret ?_
    exact x_iret hx hb hr hlk hP hO hD hS ⟨hwp, hE⟩ dX0_draw_80
  · obtain ⟨δ1, σ2⟩ := u
    obtain ⟨hwp, hF3⟩ := hk
    dsimp only at hP hO hD hwp hF3
    replace hE := hE.tr hF3
    refine lv_aload_n hx hb dX0_draw_5 rfl (lv_at hl 0 rfl) ?_
    obtain ⟨o4, eo4, hwp⟩ := hwp
    refine x_getr hx hb hts hown hK hP 0 i0 (hE.m h0) rfl rfl in_X0 4 (by decide) q200 rfl rfl eo4 dX0_draw_6 (fun ho4 co4 => ?_)
    refine x_get hx hb hts hown hK hP 6 o4 ho4 rfl rfl in_X2 3 (by decide) q154 rfl (v := .int (σ2.1 6 o4 3)) rfl dX0_draw_9 ?_
    refine lv_iload_n hx hb dX0_draw_12 rfl (lv_at hl 1 rfl) ?_
    refine lv_ishr hx hb dX0_draw_13 ?_
    refine lv_iconst (v := 1) hx hb dX0_draw_14 (by decide) ?_
    refine lv_iand hx hb dX0_draw_15 ?_
    refine lv_if_eq (tgt := 23) hx hb dX0_draw_16 (by decide) (fun c5 => ?_) (fun c5 => ?_)
    · replace hwp := hwp.1 c5
      refine lv_iconst (v := 0) hx hb dX0_draw_23 (by decide) ?_
      refine W.widen (k := 2) (n := 14) (Nat.le_of_ble_eq_true rfl) (Nat.le_of_ble_eq_true rfl) ?_
      exact xk_S_draw_24 hst Xc h0 _ _ _ δ1 σ2 hE hwp H locs ls hP hO hD hS (lv_sub hl [0, 1, 2] rfl)
    · replace hwp := hwp.2 c5
      refine lv_iconst (v := 1) hx hb dX0_draw_19 (by decide) ?_
      refine lv_goto (tgt := 24) hx hb dX0_draw_20 (by decide) ?_
      refine W.widen (k := 2) (n := 14) (Nat.le_of_ble_eq_true rfl) (Nat.le_of_ble_eq_true rfl) ?_
      exact xk_S_draw_24 hst Xc h0 _ _ _ δ1 σ2 hE hwp H locs ls hP hO hD hS (lv_sub hl [0, 1, 2] rfl)
set_option maxHeartbeats 4000000 in
set_option maxRecDepth 100000 in
theorem xt_S_draw {l : Launch} (hst : l.stackTraces = false) {Γ : GA} {δ0 : XSh} {σ : XSt} {K : Int32 → XSh → XSt → Prop} {i0 : Nat} (h0 : (0, i0) ∈ δ0.1) {x1 : Int32} {x2 : Int32} (hwp : xw_S_draw K i0 x1 x2 δ0 σ) : yI l yX0_draw (wsW_ yX0_draw cX0_draw 4 (some .int) [(0, 73, 74, 21)]) ({ frames := 7, cells := 2, slots := 14, locals := 192 } : Room) 2 14 Γ δ0 [.ref i0, .int x1, .int x2] σ (fun r u => K r u.1 u.2 ∧ Ext δ0 u.1) (fun _ _ _ => False) := by
  intro sz
  refine yW_of (by decide) [(0, .ref i0), (1, .int x1), (2, .int x2)] (fun _ h => h) (Nat.le_of_ble_eq_true rfl) ?_
  intro p e s m args below meth c hsz Xc
  subst hsz
  exact xk_S_draw_e hst Xc h0 δ0 σ Ext.rf hwp
/-! S_sees -/
def xw_S_sees_128 (K : Int32 → XSh → XSt → Prop) (i0 : Nat) (z0 : Nat) (δ : XSh) (σ : XSt) : Prop :=
  xw_S_refused δ (fun r1 σ2 => K r1 δ σ2) i0 z0 σ
set_option maxHeartbeats 4000000 in
set_option maxRecDepth 100000 in
theorem xk_S_sees_128 {p : Program} {l : Launch} {e : Env} {s : State} {m : MethodId} {args : Array Value} {below : List Frame} {meth : Method} {c : Code} {Γ : GA} {δ0 : XSh} {K : Int32 → XSh → XSt → Prop} {i0 : Nat} (hst : l.stackTraces = false) (Xc : CY p s m args meth c cX0_sees 5 (some .int) RX0 Γ δ0 (tableOf [(0, 127, 128, 21)])) (h0 : (0, i0) ∈ δ0.1) : ∀ (z0 : Nat) (δ : XSh) (σ : XSt), Ext δ0 δ → (13, z0) ∈ δ.1 → xw_S_sees_128 K i0 z0 δ σ → TX p l e ({ frames := 21, cells := 4, slots := 28, locals := 454 } : Room) s m args below meth c 5 4 28 (VI below (fun r u => K r u.1 u.2 ∧ Ext δ0 u.1) (fun _ _ _ => False) 4 28 Γ δ0 s args) Γ δ0 δ σ 128 [(0, .ref i0)] [.ref z0] := by
  obtain ⟨⟨hx, hb, hml, hown, hts, hK, hr, hlk⟩, hZ, htb⟩ := id Xc
  have hA : ∀ q, s.heap.size ≤ q → AX δ0 s.heap.size q := fun q h => Or.inr h
  intro z0 δ σ hE hz0 hwp H locs ls hP hO hD hS hl
  unfold xw_S_sees_128 at hwp
  refine lv_astore (lv' := [(4, .ref z0), (0, .ref i0)]) hx hb dX0_sees_128 hl (by decide) rfl (fun ls hl => ?_)
  refine lv_aload_n hx hb dX0_sees_130 rfl (lv_at hl 1 rfl) ?_
  refine lv_aload hx hb dX0_sees_131 (lv_at hl 0 rfl) ?_
  refine x_goi (va_runV (As := [.ref z0]) (rest := []) ⟨hx, hb, hml, hown, hts⟩ (xt_S_refused (hE.m h0) hz0 hwp H.size) (cwV 1 hts (lw_V q397 q399 qs2 q75 q400) rfl rfl rfl (by decide +kernel) ⟨Nat.le_of_ble_eq_true rfl, Nat.le_of_ble_eq_true rfl⟩) (x_preV hK hO hD hP 0 i0 (hE.m h0) rfl rfl) rfl rfl hl.1 rfl (lv_room (Nat.le_of_ble_eq_true rfl)) dX0_sees_133 ⟨(Nat.le_of_ble_eq_true rfl), (Nat.le_of_ble_eq_true rfl)⟩) hD hA hS (fun r1 u H locs hk hP hO hD hS => ?_)
  obtain ⟨u1, σ2⟩ := u
  obtain ⟨hwp, eu⟩ := hk
  have eu : δ = u1 := eu.symm
  subst eu
  dsimp only at hP hO hD hwp
  refine W.widen (k := 4) (n := 28) (Nat.le_of_ble_eq_true rfl) (Nat.le_of_ble_eq_true rfl) ?_
  refine vx_ret ?_
  exact x_iret hx hb hr hlk hP hO hD hS ⟨hwp, hE⟩ dX0_sees_136
def xw_S_sees_115 (K : Int32 → XSh → XSt → Prop) (i0 : Nat) (t0 : Int32) (δ : XSh) (σ : XSt) : Prop :=
  ((t0 = 0) → (K 0 δ σ)) ∧ ((¬ (t0 = 0)) → (K 1 δ σ))
set_option maxHeartbeats 4000000 in
set_option maxRecDepth 100000 in
theorem xk_S_sees_115 {p : Program} {l : Launch} {e : Env} {s : State} {m : MethodId} {args : Array Value} {below : List Frame} {meth : Method} {c : Code} {Γ : GA} {δ0 : XSh} {K : Int32 → XSh → XSt → Prop} {i0 : Nat} (hst : l.stackTraces = false) (Xc : CY p s m args meth c cX0_sees 5 (some .int) RX0 Γ δ0 (tableOf [(0, 127, 128, 21)])) (h0 : (0, i0) ∈ δ0.1) : ∀ (t0 : Int32) (δ : XSh) (σ : XSt), Ext δ0 δ → xw_S_sees_115 K i0 t0 δ σ → TX p l e ({ frames := 21, cells := 4, slots := 28, locals := 454 } : Room) s m args below meth c 5 4 28 (VI below (fun r u => K r u.1 u.2 ∧ Ext δ0 u.1) (fun _ _ _ => False) 4 28 Γ δ0 s args) Γ δ0 δ σ 115 [] [.int t0] := by
  obtain ⟨⟨hx, hb, hml, hown, hts, hK, hr, hlk⟩, hZ, htb⟩ := id Xc
  have hA : ∀ q, s.heap.size ≤ q → AX δ0 s.heap.size q := fun q h => Or.inr h
  intro t0 δ σ hE hwp H locs ls hP hO hD hS hl
  unfold xw_S_sees_115 at hwp
  refine lv_istore (lv' := [(4, .int t0)]) hx hb dX0_sees_115 hl (by decide) rfl (fun ls hl => ?_)
  refine lv_iload hx hb dX0_sees_117 (lv_at hl 0 rfl) ?_
  refine lv_if_eq (tgt := 126) hx hb dX0_sees_119 (by decide) (fun c1 => ?_) (fun c1 => ?_)
  · replace hwp := hwp.1 c1
    refine lv_iconst (v := 0) hx hb dX0_sees_126 (by decide) ?_
    refine W.widen (k := 4) (n := 28) (Nat.le_of_ble_eq_true rfl) (Nat.le_of_ble_eq_true rfl) ?_
    refine vx_ret ?_
    exact x_iret hx hb hr hlk hP hO hD hS ⟨hwp, hE⟩ dX0_sees_127
  · replace hwp := hwp.2 c1
    refine lv_iconst (v := 1) hx hb dX0_sees_122 (by decide) ?_
    refine lv_goto (tgt := 127) hx hb dX0_sees_123 (by decide) ?_
    refine W.widen (k := 4) (n := 28) (Nat.le_of_ble_eq_true rfl) (Nat.le_of_ble_eq_true rfl) ?_
    refine vx_ret ?_
    exact x_iret hx hb hr hlk hP hO hD hS ⟨hwp, hE⟩ dX0_sees_127
def xw_S_sees_85 (K : Int32 → XSh → XSt → Prop) (i0 : Nat) (x1 : Int32) (x2 : Int32) (x3 : Int32) (t0 : Int32) (δ : XSh) (σ : XSt) : Prop :=
  xw_S_need (fun δ1 σ2 => ((¬ (x3 = 0)) → (∃ o5, σ2.2.2 0 i0 4 = some o5 ∧ (xw_G_seesInto δ1 σ2 (fun r6 => xw_S_sees_115 K i0 r6 δ1 σ2) o5 x1 x2))) ∧ ((x3 = 0) → (∃ o7, σ2.2.2 0 i0 4 = some o7 ∧ (xw_G_looksInto δ1 σ2 (fun r8 => xw_S_sees_115 K i0 r8 δ1 σ2) o7 x1 x2)))) (fun q12 δ9 σ10 => xw_S_sees_128 K i0 q12 δ9 σ10) t0 (-6) δ σ
set_option maxHeartbeats 4000000 in
set_option maxRecDepth 100000 in
theorem xk_S_sees_85 {p : Program} {l : Launch} {e : Env} {s : State} {m : MethodId} {args : Array Value} {below : List Frame} {meth : Method} {c : Code} {Γ : GA} {δ0 : XSh} {K : Int32 → XSh → XSt → Prop} {i0 : Nat} (hst : l.stackTraces = false) (Xc : CY p s m args meth c cX0_sees 5 (some .int) RX0 Γ δ0 (tableOf [(0, 127, 128, 21)])) (h0 : (0, i0) ∈ δ0.1) : ∀ (x1 : Int32) (x2 : Int32) (x3 : Int32) (t0 : Int32) (δ : XSh) (σ : XSt), Ext δ0 δ → xw_S_sees_85 K i0 x1 x2 x3 t0 δ σ → TX p l e ({ frames := 21, cells := 4, slots := 28, locals := 454 } : Room) s m args below meth c 5 3 21 (VI below (fun r u => K r u.1 u.2 ∧ Ext δ0 u.1) (fun _ _ _ => False) 4 28 Γ δ0 s args) Γ δ0 δ σ 85 [(0, .ref i0), (1, .int x1), (2, .int x2), (3, .int x3)] [.int t0] := by
  obtain ⟨⟨hx, hb, hml, hown, hts, hK, hr, hlk⟩, hZ, htb⟩ := id Xc
  have hA : ∀ q, s.heap.size ≤ q → AX δ0 s.heap.size q := fun q h => Or.inr h
  intro x1 x2 x3 t0 δ σ hE hwp H locs ls hP hO hD hS hl
  unfold xw_S_sees_85 at hwp
  refine lv_bipush (v := (-6)) hx hb dX0_sees_85 (by decide) ?_
  refine y_gov (vx_runS (As := [.int t0, .int (-6)]) (rest := []) ⟨hx, hb, hml, hown, hts⟩ (xt_S_need hst hwp H.size) (va_cwS 2 hts (lw_S q328 q329 q75 q330) rfl rfl rfl (by decide +kernel) ⟨(Nat.le_of_ble_eq_true rfl), (Nat.le_of_ble_eq_true rfl)⟩) (y_preS hK hO hD hA hZ hP hS) rfl rfl hl.1 rfl (lv_room (Nat.le_of_ble_eq_true rfl)) dX0_sees_87 ⟨(Nat.le_of_ble_eq_true rfl), (Nat.le_of_ble_eq_true rfl)⟩) hD hA hS (fun E ce q12 u H locs hk hP hO hD hS k1 k2 k3 => ?_) (fun u H locs hk hP hO hD hS => ?_)
  · obtain ⟨δ9, σ10⟩ := u
    obtain ⟨⟨rfl, hq12⟩, hwp, hF11⟩ := hk
    dsimp only at hP hO hD hwp hF11 hq12
    replace hE := hE.tr hF11
    refine vx_catch (E := RX5) (name := RX5) hown [] ⟨0, 127, 128, 21⟩ [] (htb.trans rfl) (fun z hz => nomatch hz) rfl (by decide) (hts _ q222) ((hK.2.1 (.castable RX5 RX5) (by simp [nwL])).use rfl) k1 k2 k3 ?_
    refine W.eq (g2 := F0 m 128 ls [.ref q12]) rfl ?_
    refine W.widen (k := 4) (n := 28) (Nat.le_of_ble_eq_true rfl) (Nat.le_of_ble_eq_true rfl) ?_
    exact xk_S_sees_128 hst Xc h0 _ δ9 σ10 hE hq12 hwp H locs ls hP hO hD hS (lv_sub hl [0] rfl)
  · obtain ⟨δ1, σ2⟩ := u
    obtain ⟨hwp, hF3⟩ := hk
    dsimp only at hP hO hD hwp hF3
    replace hE := hE.tr hF3
    refine lv_iload_n hx hb dX0_sees_90 rfl (lv_at hl 3 rfl) ?_
    refine lv_if_ne (tgt := 106) hx hb dX0_sees_91 (by decide) (fun c4 => ?_) (fun c4 => ?_)
    · replace hwp := hwp.1 c4
      refine lv_aload_n hx hb dX0_sees_106 rfl (lv_at hl 0 rfl) ?_
      obtain ⟨o5, eo5, hwp⟩ := hwp
      refine x_getr hx hb hts hown hK hP 0 i0 (hE.m h0) rfl rfl in_X0 4 (by decide) q200 rfl rfl eo5 dX0_sees_107 (fun ho5 co5 => ?_)
      refine lv_iload_n hx hb dX0_sees_110 rfl (lv_at hl 1 rfl) ?_
      refine lv_iload_n hx hb dX0_sees_111 rfl (lv_at hl 2 rfl) ?_
      refine x_goi (va_runV (As := [.int x1, .int x2]) (rest := []) ⟨hx, hb, hml, hown, hts⟩ (xt_G_seesInto ho5 hwp H.size) (cwV 2 hts (lw_V q1049 q560 q561 q77 q562) rfl rfl rfl (by decide +kernel) ⟨Nat.le_of_ble_eq_true rfl, Nat.le_of_ble_eq_true rfl⟩) (x_preV hK hO hD hP 6 o5 ho5 rfl rfl) rfl rfl hl.1 rfl (lv_room (Nat.le_of_ble_eq_true rfl)) dX0_sees_112 ⟨(Nat.le_of_ble_eq_true rfl), (Nat.le_of_ble_eq_true rfl)⟩) hD hA hS (fun r6 u H locs hk hP hO hD hS => ?_)
      obtain ⟨hwp, eu⟩ := hk
      subst eu
      dsimp only at hP hO hD
      refine W.widen (k := 4) (n := 28) (Nat.le_of_ble_eq_true rfl) (Nat.le_of_ble_eq_true rfl) ?_
      exact xk_S_sees_115 hst Xc h0 _ δ1 σ2 hE hwp H locs ls hP hO hD hS (lv_sub hl [] rfl)
    · replace hwp := hwp.2 c4
      refine lv_aload_n hx hb dX0_sees_94 rfl (lv_at hl 0 rfl) ?_
      obtain ⟨o7, eo7, hwp⟩ := hwp
      refine x_getr hx hb hts hown hK hP 0 i0 (hE.m h0) rfl rfl in_X0 4 (by decide) q200 rfl rfl eo7 dX0_sees_95 (fun ho7 co7 => ?_)
      refine lv_iload_n hx hb dX0_sees_98 rfl (lv_at hl 1 rfl) ?_
      refine lv_iload_n hx hb dX0_sees_99 rfl (lv_at hl 2 rfl) ?_
      refine x_goi (va_runV (As := [.int x1, .int x2]) (rest := []) ⟨hx, hb, hml, hown, hts⟩ (xt_G_looksInto ho7 hwp H.size) (cwV 2 hts (lw_V q1048 q564 q565 q77 q566) rfl rfl rfl (by decide +kernel) ⟨Nat.le_of_ble_eq_true rfl, Nat.le_of_ble_eq_true rfl⟩) (x_preV hK hO hD hP 6 o7 ho7 rfl rfl) rfl rfl hl.1 rfl (lv_room (Nat.le_of_ble_eq_true rfl)) dX0_sees_100 ⟨(Nat.le_of_ble_eq_true rfl), (Nat.le_of_ble_eq_true rfl)⟩) hD hA hS (fun r8 u H locs hk hP hO hD hS => ?_)
      obtain ⟨hwp, eu⟩ := hk
      subst eu
      dsimp only at hP hO hD
      refine lv_goto (tgt := 115) hx hb dX0_sees_103 (by decide) ?_
      refine W.widen (k := 4) (n := 28) (Nat.le_of_ble_eq_true rfl) (Nat.le_of_ble_eq_true rfl) ?_
      exact xk_S_sees_115 hst Xc h0 _ δ1 σ2 hE hwp H locs ls hP hO hD hS (lv_sub hl [] rfl)
def xw_S_sees_58 (K : Int32 → XSh → XSt → Prop) (i0 : Nat) (x1 : Int32) (x2 : Int32) (x3 : Int32) (t0 : Int32) (δ : XSh) (σ : XSt) : Prop :=
  xw_S_need (fun δ1 σ2 => xw_S_in δ1 σ2 (fun r4 => xw_S_need (fun δ5 σ6 => ((x1 = x2) → (xw_S_sees_85 K i0 x1 x2 x3 0 δ5 σ6)) ∧ ((¬ (x1 = x2)) → (xw_S_sees_85 K i0 x1 x2 x3 1 δ5 σ6))) (fun q12 δ9 σ10 => xw_S_sees_128 K i0 q12 δ9 σ10) r4 (-5) δ1 σ2) x3.toInt64 0 1) (fun q16 δ13 σ14 => xw_S_sees_128 K i0 q16 δ13 σ14) t0 (-2) δ σ
set_option maxHeartbeats 4000000 in
set_option maxRecDepth 100000 in
theorem xk_S_sees_58 {p : Program} {l : Launch} {e : Env} {s : State} {m : MethodId} {args : Array Value} {below : List Frame} {meth : Method} {c : Code} {Γ : GA} {δ0 : XSh} {K : Int32 → XSh → XSt → Prop} {i0 : Nat} (hst : l.stackTraces = false) (Xc : CY p s m args meth c cX0_sees 5 (some .int) RX0 Γ δ0 (tableOf [(0, 127, 128, 21)])) (h0 : (0, i0) ∈ δ0.1) : ∀ (x1 : Int32) (x2 : Int32) (x3 : Int32) (t0 : Int32) (δ : XSh) (σ : XSt), Ext δ0 δ → xw_S_sees_58 K i0 x1 x2 x3 t0 δ σ → TX p l e ({ frames := 21, cells := 4, slots := 28, locals := 454 } : Room) s m args below meth c 5 1 7 (VI below (fun r u => K r u.1 u.2 ∧ Ext δ0 u.1) (fun _ _ _ => False) 4 28 Γ δ0 s args) Γ δ0 δ σ 58 [(0, .ref i0), (1, .int x1), (2, .int x2), (3, .int x3)] [.int t0] := by
  obtain ⟨⟨hx, hb, hml, hown, hts, hK, hr, hlk⟩, hZ, htb⟩ := id Xc
  have hA : ∀ q, s.heap.size ≤ q → AX δ0 s.heap.size q := fun q h => Or.inr h
  intro x1 x2 x3 t0 δ σ hE hwp H locs ls hP hO hD hS hl
  unfold xw_S_sees_58 at hwp
  refine lv_bipush (v := (-2)) hx hb dX0_sees_58 (by decide) ?_
  refine y_gov (vx_runS (As := [.int t0, .int (-2)]) (rest := []) ⟨hx, hb, hml, hown, hts⟩ (xt_S_need hst hwp H.size) (va_cwS 2 hts (lw_S q328 q329 q75 q330) rfl rfl rfl (by decide +kernel) ⟨(Nat.le_of_ble_eq_true rfl), (Nat.le_of_ble_eq_true rfl)⟩) (y_preS hK hO hD hA hZ hP hS) rfl rfl hl.1 rfl (lv_room (Nat.le_of_ble_eq_true rfl)) dX0_sees_60 ⟨(Nat.le_of_ble_eq_true rfl), (Nat.le_of_ble_eq_true rfl)⟩) hD hA hS (fun E ce q16 u H locs hk hP hO hD hS k1 k2 k3 => ?_) (fun u H locs hk hP hO hD hS => ?_)
  · obtain ⟨δ13, σ14⟩ := u
    obtain ⟨⟨rfl, hq16⟩, hwp, hF15⟩ := hk
    dsimp only at hP hO hD hwp hF15 hq16
    replace hE := hE.tr hF15
    refine vx_catch (E := RX5) (name := RX5) hown [] ⟨0, 127, 128, 21⟩ [] (htb.trans rfl) (fun z hz => nomatch hz) rfl (by decide) (hts _ q222) ((hK.2.1 (.castable RX5 RX5) (by simp [nwL])).use rfl) k1 k2 k3 ?_
    refine W.eq (g2 := F0 m 128 ls [.ref q16]) rfl ?_
    refine W.widen (k := 4) (n := 28) (Nat.le_of_ble_eq_true rfl) (Nat.le_of_ble_eq_true rfl) ?_
    exact xk_S_sees_128 hst Xc h0 _ δ13 σ14 hE hq16 hwp H locs ls hP hO hD hS (lv_sub hl [0] rfl)
  · obtain ⟨δ1, σ2⟩ := u
    obtain ⟨hwp, hF3⟩ := hk
    dsimp only at hP hO hD hwp hF3
    replace hE := hE.tr hF3
    refine lv_iload_n hx hb dX0_sees_63 rfl (lv_at hl 3 rfl) ?_
    refine lv_i2l (v := x3.toInt64) hx hb dX0_sees_64 rfl ?_
    refine lv_lconst (v := 0) hx hb dX0_sees_65 (by decide) ?_
    refine lv_lconst (v := 1) hx hb dX0_sees_66 (by decide) ?_
    refine x_goi (va_runS (As := [.long x3.toInt64, .long 0, .long 1]) (rest := []) ⟨hx, hb, hml, hown, hts⟩ (xt_S_in hwp H.size) (va_cwS 3 hts (lw_S q332 q333 q75 q334) rfl rfl rfl (by decide +kernel) ⟨Nat.le_of_ble_eq_true rfl, Nat.le_of_ble_eq_true rfl⟩) (x_preS hK hO hD hP) rfl rfl hl.1 rfl (lv_room (Nat.le_of_ble_eq_true rfl)) dX0_sees_67 ⟨(Nat.le_of_ble_eq_true rfl), (Nat.le_of_ble_eq_true rfl)⟩) hD hA hS (fun r4 u H locs hk hP hO hD hS => ?_)
    obtain ⟨hwp, eu⟩ := hk
    subst eu
    dsimp only at hP hO hD
    refine lv_bipush (v := (-5)) hx hb dX0_sees_70 (by decide) ?_
    refine y_gov (vx_runS (As := [.int r4, .int (-5)]) (rest := []) ⟨hx, hb, hml, hown, hts⟩ (xt_S_need hst hwp H.size) (va_cwS 2 hts (lw_S q328 q329 q75 q330) rfl rfl rfl (by decide +kernel) ⟨(Nat.le_of_ble_eq_true rfl), (Nat.le_of_ble_eq_true rfl)⟩) (y_preS hK hO hD hA hZ hP hS) rfl rfl hl.1 rfl (lv_room (Nat.le_of_ble_eq_true rfl)) dX0_sees_72 ⟨(Nat.le_of_ble_eq_true rfl), (Nat.le_of_ble_eq_true rfl)⟩) hD hA hS (fun E ce q12 u H locs hk hP hO hD hS k1 k2 k3 => ?_) (fun u H locs hk hP hO hD hS => ?_)
    · obtain ⟨δ9, σ10⟩ := u
      obtain ⟨⟨rfl, hq12⟩, hwp, hF11⟩ := hk
      dsimp only at hP hO hD hwp hF11 hq12
      replace hE := hE.tr hF11
      refine vx_catch (E := RX5) (name := RX5) hown [] ⟨0, 127, 128, 21⟩ [] (htb.trans rfl) (fun z hz => nomatch hz) rfl (by decide) (hts _ q222) ((hK.2.1 (.castable RX5 RX5) (by simp [nwL])).use rfl) k1 k2 k3 ?_
      refine W.eq (g2 := F0 m 128 ls [.ref q12]) rfl ?_
      refine W.widen (k := 4) (n := 28) (Nat.le_of_ble_eq_true rfl) (Nat.le_of_ble_eq_true rfl) ?_
      exact xk_S_sees_128 hst Xc h0 _ δ9 σ10 hE hq12 hwp H locs ls hP hO hD hS (lv_sub hl [0] rfl)
    · obtain ⟨δ5, σ6⟩ := u
      obtain ⟨hwp, hF7⟩ := hk
      dsimp only at hP hO hD hwp hF7
      replace hE := hE.tr hF7
      refine lv_iload_n hx hb dX0_sees_75 rfl (lv_at hl 1 rfl) ?_
      refine lv_iload_n hx hb dX0_sees_76 rfl (lv_at hl 2 rfl) ?_
      refine lv_icmp_eq (tgt := 84) hx hb dX0_sees_77 (by decide) (fun c8 => ?_) (fun c8 => ?_)
      · replace hwp := hwp.1 c8
        refine lv_iconst (v := 0) hx hb dX0_sees_84 (by decide) ?_
        refine W.widen (k := 3) (n := 21) (Nat.le_of_ble_eq_true rfl) (Nat.le_of_ble_eq_true rfl) ?_
        exact xk_S_sees_85 hst Xc h0 _ _ _ _ δ5 σ6 hE hwp H locs ls hP hO hD hS (lv_sub hl [0, 1, 2, 3] rfl)
      · replace hwp := hwp.2 c8
        refine lv_iconst (v := 1) hx hb dX0_sees_80 (by decide) ?_
        refine lv_goto (tgt := 85) hx hb dX0_sees_81 (by decide) ?_
        refine W.widen (k := 3) (n := 21) (Nat.le_of_ble_eq_true rfl) (Nat.le_of_ble_eq_true rfl) ?_
        exact xk_S_sees_85 hst Xc h0 _ _ _ _ δ5 σ6 hE hwp H locs ls hP hO hD hS (lv_sub hl [0, 1, 2, 3] rfl)
def xw_S_sees_57 (K : Int32 → XSh → XSt → Prop) (i0 : Nat) (x1 : Int32) (x2 : Int32) (x3 : Int32) (δ : XSh) (σ : XSt) : Prop :=
  xw_S_sees_58 K i0 x1 x2 x3 0 δ σ
set_option maxHeartbeats 4000000 in
set_option maxRecDepth 100000 in
theorem xk_S_sees_57 {p : Program} {l : Launch} {e : Env} {s : State} {m : MethodId} {args : Array Value} {below : List Frame} {meth : Method} {c : Code} {Γ : GA} {δ0 : XSh} {K : Int32 → XSh → XSt → Prop} {i0 : Nat} (hst : l.stackTraces = false) (Xc : CY p s m args meth c cX0_sees 5 (some .int) RX0 Γ δ0 (tableOf [(0, 127, 128, 21)])) (h0 : (0, i0) ∈ δ0.1) : ∀ (x1 : Int32) (x2 : Int32) (x3 : Int32) (δ : XSh) (σ : XSt), Ext δ0 δ → xw_S_sees_57 K i0 x1 x2 x3 δ σ → TX p l e ({ frames := 21, cells := 4, slots := 28, locals := 454 } : Room) s m args below meth c 5 1 7 (VI below (fun r u => K r u.1 u.2 ∧ Ext δ0 u.1) (fun _ _ _ => False) 4 28 Γ δ0 s args) Γ δ0 δ σ 57 [(0, .ref i0), (1, .int x1), (2, .int x2), (3, .int x3)] [] := by
  obtain ⟨⟨hx, hb, hml, hown, hts, hK, hr, hlk⟩, hZ, htb⟩ := id Xc
  have hA : ∀ q, s.heap.size ≤ q → AX δ0 s.heap.size q := fun q h => Or.inr h
  intro x1 x2 x3 δ σ hE hwp H locs ls hP hO hD hS hl
  unfold xw_S_sees_57 at hwp
  refine lv_iconst (v := 0) hx hb dX0_sees_57 (by decide) ?_
  refine W.widen (k := 1) (n := 7) (Nat.le_of_ble_eq_true rfl) (Nat.le_of_ble_eq_true rfl) ?_
  exact xk_S_sees_58 hst Xc h0 _ _ _ _ δ σ hE hwp H locs ls hP hO hD hS (lv_sub hl [0, 1, 2, 3] rfl)
def xw_S_sees_27 (K : Int32 → XSh → XSt → Prop) (i0 : Nat) (x1 : Int32) (x2 : Int32) (x3 : Int32) (t0 : Int32) (δ : XSh) (σ : XSt) : Prop :=
  xw_S_need (fun δ1 σ2 => ∃ o4, σ2.2.2 0 i0 4 = some o4 ∧ (xw_G_isHouse δ1 σ2 (fun r5 => ((r5 = 0) → (xw_S_sees_57 K i0 x1 x2 x3 δ1 σ2)) ∧ ((¬ (r5 = 0)) → (xw_G_isHouse δ1 σ2 (fun r7 => ((r7 = 0) → (xw_S_sees_57 K i0 x1 x2 x3 δ1 σ2)) ∧ ((¬ (r7 = 0)) → (xw_S_sees_58 K i0 x1 x2 x3 1 δ1 σ2))) o4 x2))) o4 x1)) (fun q12 δ9 σ10 => xw_S_sees_128 K i0 q12 δ9 σ10) t0 (-1) δ σ
set_option maxHeartbeats 4000000 in
set_option maxRecDepth 100000 in
theorem xk_S_sees_27 {p : Program} {l : Launch} {e : Env} {s : State} {m : MethodId} {args : Array Value} {below : List Frame} {meth : Method} {c : Code} {Γ : GA} {δ0 : XSh} {K : Int32 → XSh → XSt → Prop} {i0 : Nat} (hst : l.stackTraces = false) (Xc : CY p s m args meth c cX0_sees 5 (some .int) RX0 Γ δ0 (tableOf [(0, 127, 128, 21)])) (h0 : (0, i0) ∈ δ0.1) : ∀ (x1 : Int32) (x2 : Int32) (x3 : Int32) (t0 : Int32) (δ : XSh) (σ : XSt), Ext δ0 δ → xw_S_sees_27 K i0 x1 x2 x3 t0 δ σ → TX p l e ({ frames := 21, cells := 4, slots := 28, locals := 454 } : Room) s m args below meth c 5 0 0 (VI below (fun r u => K r u.1 u.2 ∧ Ext δ0 u.1) (fun _ _ _ => False) 4 28 Γ δ0 s args) Γ δ0 δ σ 27 [(0, .ref i0), (1, .int x1), (2, .int x2), (3, .int x3)] [.int t0] := by
  obtain ⟨⟨hx, hb, hml, hown, hts, hK, hr, hlk⟩, hZ, htb⟩ := id Xc
  have hA : ∀ q, s.heap.size ≤ q → AX δ0 s.heap.size q := fun q h => Or.inr h
  intro x1 x2 x3 t0 δ σ hE hwp H locs ls hP hO hD hS hl
  unfold xw_S_sees_27 at hwp
  refine lv_iconst (v := (-1)) hx hb dX0_sees_27 (by decide) ?_
  refine y_gov (vx_runS (As := [.int t0, .int (-1)]) (rest := []) ⟨hx, hb, hml, hown, hts⟩ (xt_S_need hst hwp H.size) (va_cwS 2 hts (lw_S q328 q329 q75 q330) rfl rfl rfl (by decide +kernel) ⟨(Nat.le_of_ble_eq_true rfl), (Nat.le_of_ble_eq_true rfl)⟩) (y_preS hK hO hD hA hZ hP hS) rfl rfl hl.1 rfl (lv_room (Nat.le_of_ble_eq_true rfl)) dX0_sees_28 ⟨(Nat.le_of_ble_eq_true rfl), (Nat.le_of_ble_eq_true rfl)⟩) hD hA hS (fun E ce q12 u H locs hk hP hO hD hS k1 k2 k3 => ?_) (fun u H locs hk hP hO hD hS => ?_)
  · obtain ⟨δ9, σ10⟩ := u
    obtain ⟨⟨rfl, hq12⟩, hwp, hF11⟩ := hk
    dsimp only at hP hO hD hwp hF11 hq12
    replace hE := hE.tr hF11
    refine vx_catch (E := RX5) (name := RX5) hown [] ⟨0, 127, 128, 21⟩ [] (htb.trans rfl) (fun z hz => nomatch hz) rfl (by decide) (hts _ q222) ((hK.2.1 (.castable RX5 RX5) (by simp [nwL])).use rfl) k1 k2 k3 ?_
    refine W.eq (g2 := F0 m 128 ls [.ref q12]) rfl ?_
    refine W.widen (k := 4) (n := 28) (Nat.le_of_ble_eq_true rfl) (Nat.le_of_ble_eq_true rfl) ?_
    exact xk_S_sees_128 hst Xc h0 _ δ9 σ10 hE hq12 hwp H locs ls hP hO hD hS (lv_sub hl [0] rfl)
  · obtain ⟨δ1, σ2⟩ := u
    obtain ⟨hwp, hF3⟩ := hk
    dsimp only at hP hO hD hwp hF3
    replace hE := hE.tr hF3
    refine lv_aload_n hx hb dX0_sees_31 rfl (lv_at hl 0 rfl) ?_
    obtain ⟨o4, eo4, hwp⟩ := hwp
    refine x_getr hx hb hts hown hK hP 0 i0 (hE.m h0) rfl rfl in_X0 4 (by decide) q200 rfl rfl eo4 dX0_sees_32 (fun ho4 co4 => ?_)
    refine lv_iload_n hx hb dX0_sees_35 rfl (lv_at hl 1 rfl) ?_
    refine x_goi (va_runV (As := [.int x1]) (rest := []) ⟨hx, hb, hml, hown, hts⟩ (xt_G_isHouse ho4 hwp H.size) (cwV 1 hts (lw_V q858 q542 q543 q77 q544) rfl rfl rfl (by decide +kernel) ⟨Nat.le_of_ble_eq_true rfl, Nat.le_of_ble_eq_true rfl⟩) (x_preV hK hO hD hP 6 o4 ho4 rfl rfl) rfl rfl hl.1 rfl (lv_room (Nat.le_of_ble_eq_true rfl)) dX0_sees_36 ⟨(Nat.le_of_ble_eq_true rfl), (Nat.le_of_ble_eq_true rfl)⟩) hD hA hS (fun r5 u H locs hk hP hO hD hS => ?_)
    obtain ⟨hwp, eu⟩ := hk
    subst eu
    dsimp only at hP hO hD
    refine lv_if_eq (tgt := 57) hx hb dX0_sees_39 (by decide) (fun c6 => ?_) (fun c6 => ?_)
    · replace hwp := hwp.1 c6
      refine W.widen (k := 1) (n := 7) (Nat.le_of_ble_eq_true rfl) (Nat.le_of_ble_eq_true rfl) ?_
      exact xk_S_sees_57 hst Xc h0 _ _ _ δ1 σ2 hE hwp H locs ls hP hO hD hS (lv_sub hl [0, 1, 2, 3] rfl)
    · replace hwp := hwp.2 c6
      refine lv_aload_n hx hb dX0_sees_42 rfl (lv_at hl 0 rfl) ?_
      refine x_getr hx hb hts hown hK hP 0 i0 (hE.m h0) rfl rfl in_X0 4 (by decide) q200 rfl rfl eo4 dX0_sees_43 (fun ho4 co4 => ?_)
      refine lv_iload_n hx hb dX0_sees_46 rfl (lv_at hl 2 rfl) ?_
      refine x_goi (va_runV (As := [.int x2]) (rest := []) ⟨hx, hb, hml, hown, hts⟩ (xt_G_isHouse ho4 hwp H.size) (cwV 1 hts (lw_V q858 q542 q543 q77 q544) rfl rfl rfl (by decide +kernel) ⟨Nat.le_of_ble_eq_true rfl, Nat.le_of_ble_eq_true rfl⟩) (x_preV hK hO hD hP 6 o4 ho4 rfl rfl) rfl rfl hl.1 rfl (lv_room (Nat.le_of_ble_eq_true rfl)) dX0_sees_47 ⟨(Nat.le_of_ble_eq_true rfl), (Nat.le_of_ble_eq_true rfl)⟩) hD hA hS (fun r7 u H locs hk hP hO hD hS => ?_)
      obtain ⟨hwp, eu⟩ := hk
      subst eu
      dsimp only at hP hO hD
      refine lv_if_eq (tgt := 57) hx hb dX0_sees_50 (by decide) (fun c8 => ?_) (fun c8 => ?_)
      · replace hwp := hwp.1 c8
        refine W.widen (k := 1) (n := 7) (Nat.le_of_ble_eq_true rfl) (Nat.le_of_ble_eq_true rfl) ?_
        exact xk_S_sees_57 hst Xc h0 _ _ _ δ1 σ2 hE hwp H locs ls hP hO hD hS (lv_sub hl [0, 1, 2, 3] rfl)
      · replace hwp := hwp.2 c8
        refine lv_iconst (v := 1) hx hb dX0_sees_53 (by decide) ?_
        refine lv_goto (tgt := 58) hx hb dX0_sees_54 (by decide) ?_
        refine W.widen (k := 1) (n := 7) (Nat.le_of_ble_eq_true rfl) (Nat.le_of_ble_eq_true rfl) ?_
        exact xk_S_sees_58 hst Xc h0 _ _ _ _ δ1 σ2 hE hwp H locs ls hP hO hD hS (lv_sub hl [0, 1, 2, 3] rfl)
def xw_S_sees_26 (K : Int32 → XSh → XSt → Prop) (i0 : Nat) (x1 : Int32) (x2 : Int32) (x3 : Int32) (δ : XSh) (σ : XSt) : Prop :=
  xw_S_sees_27 K i0 x1 x2 x3 0 δ σ
set_option maxHeartbeats 4000000 in
set_option maxRecDepth 100000 in
theorem xk_S_sees_26 {p : Program} {l : Launch} {e : Env} {s : State} {m : MethodId} {args : Array Value} {below : List Frame} {meth : Method} {c : Code} {Γ : GA} {δ0 : XSh} {K : Int32 → XSh → XSt → Prop} {i0 : Nat} (hst : l.stackTraces = false) (Xc : CY p s m args meth c cX0_sees 5 (some .int) RX0 Γ δ0 (tableOf [(0, 127, 128, 21)])) (h0 : (0, i0) ∈ δ0.1) : ∀ (x1 : Int32) (x2 : Int32) (x3 : Int32) (δ : XSh) (σ : XSt), Ext δ0 δ → xw_S_sees_26 K i0 x1 x2 x3 δ σ → TX p l e ({ frames := 21, cells := 4, slots := 28, locals := 454 } : Room) s m args below meth c 5 0 0 (VI below (fun r u => K r u.1 u.2 ∧ Ext δ0 u.1) (fun _ _ _ => False) 4 28 Γ δ0 s args) Γ δ0 δ σ 26 [(0, .ref i0), (1, .int x1), (2, .int x2), (3, .int x3)] [] := by
  obtain ⟨⟨hx, hb, hml, hown, hts, hK, hr, hlk⟩, hZ, htb⟩ := id Xc
  have hA : ∀ q, s.heap.size ≤ q → AX δ0 s.heap.size q := fun q h => Or.inr h
  intro x1 x2 x3 δ σ hE hwp H locs ls hP hO hD hS hl
  unfold xw_S_sees_26 at hwp
  refine lv_iconst (v := 0) hx hb dX0_sees_26 (by decide) ?_
  refine W.widen (k := 0) (n := 0) (Nat.le_of_ble_eq_true rfl) (Nat.le_of_ble_eq_true rfl) ?_
  exact xk_S_sees_27 hst Xc h0 _ _ _ _ δ σ hE hwp H locs ls hP hO hD hS (lv_sub hl [0, 1, 2, 3] rfl)
def xw_S_sees (K : Int32 → XSh → XSt → Prop) (i0 : Nat) (x1 : Int32) (x2 : Int32) (x3 : Int32) (δ : XSh) (σ : XSt) : Prop :=
  ∃ o1, σ.2.2 0 i0 4 = some o1 ∧ (xw_G_isThing δ σ (fun r2 => ((r2 = 0) → (xw_S_sees_26 K i0 x1 x2 x3 δ σ)) ∧ ((¬ (r2 = 0)) → (xw_G_isThing δ σ (fun r4 => ((r4 = 0) → (xw_S_sees_26 K i0 x1 x2 x3 δ σ)) ∧ ((¬ (r4 = 0)) → (xw_S_sees_27 K i0 x1 x2 x3 1 δ σ))) o1 x2))) o1 x1)
set_option maxHeartbeats 4000000 in
set_option maxRecDepth 100000 in
theorem xk_S_sees_e {p : Program} {l : Launch} {e : Env} {s : State} {m : MethodId} {args : Array Value} {below : List Frame} {meth : Method} {c : Code} {Γ : GA} {δ0 : XSh} {K : Int32 → XSh → XSt → Prop} {i0 : Nat} (hst : l.stackTraces = false) (Xc : CY p s m args meth c cX0_sees 5 (some .int) RX0 Γ δ0 (tableOf [(0, 127, 128, 21)])) (h0 : (0, i0) ∈ δ0.1) {x1 : Int32} {x2 : Int32} {x3 : Int32} : ∀ (δ : XSh) (σ : XSt), Ext δ0 δ → xw_S_sees K i0 x1 x2 x3 δ σ → TX p l e ({ frames := 21, cells := 4, slots := 28, locals := 454 } : Room) s m args below meth c 5 0 0 (VI below (fun r u => K r u.1 u.2 ∧ Ext δ0 u.1) (fun _ _ _ => False) 4 28 Γ δ0 s args) Γ δ0 δ σ 0 [(0, .ref i0), (1, .int x1), (2, .int x2), (3, .int x3)] [] := by
  obtain ⟨⟨hx, hb, hml, hown, hts, hK, hr, hlk⟩, hZ, htb⟩ := id Xc
  have hA : ∀ q, s.heap.size ≤ q → AX δ0 s.heap.size q := fun q h => Or.inr h
  intro δ σ hE hwp H locs ls hP hO hD hS hl
  unfold xw_S_sees at hwp
  refine lv_aload_n hx hb dX0_sees_0 rfl (lv_at hl 0 rfl) ?_
  obtain ⟨o1, eo1, hwp⟩ := hwp
  refine x_getr hx hb hts hown hK hP 0 i0 (hE.m h0) rfl rfl in_X0 4 (by decide) q200 rfl rfl eo1 dX0_sees_1 (fun ho1 co1 => ?_)
  refine lv_iload_n hx hb dX0_sees_4 rfl (lv_at hl 1 rfl) ?_
  refine x_goi (va_runV (As := [.int x1]) (rest := []) ⟨hx, hb, hml, hown, hts⟩ (xt_G_isThing ho1 hwp H.size) (cwV 1 hts (lw_V q512 q513 q514 q77 q515) rfl rfl rfl (by decide +kernel) ⟨Nat.le_of_ble_eq_true rfl, Nat.le_of_ble_eq_true rfl⟩) (x_preV hK hO hD hP 6 o1 ho1 rfl rfl) rfl rfl hl.1 rfl (lv_room (Nat.le_of_ble_eq_true rfl)) dX0_sees_5 ⟨(Nat.le_of_ble_eq_true rfl), (Nat.le_of_ble_eq_true rfl)⟩) hD hA hS (fun r2 u H locs hk hP hO hD hS => ?_)
  obtain ⟨hwp, eu⟩ := hk
  subst eu
  dsimp only at hP hO hD
  refine lv_if_eq (tgt := 26) hx hb dX0_sees_8 (by decide) (fun c3 => ?_) (fun c3 => ?_)
  · replace hwp := hwp.1 c3
    refine W.widen (k := 0) (n := 0) (Nat.le_of_ble_eq_true rfl) (Nat.le_of_ble_eq_true rfl) ?_
    exact xk_S_sees_26 hst Xc h0 _ _ _ δ σ hE hwp H locs ls hP hO hD hS (lv_sub hl [0, 1, 2, 3] rfl)
  · replace hwp := hwp.2 c3
    refine lv_aload_n hx hb dX0_sees_11 rfl (lv_at hl 0 rfl) ?_
    refine x_getr hx hb hts hown hK hP 0 i0 (hE.m h0) rfl rfl in_X0 4 (by decide) q200 rfl rfl eo1 dX0_sees_12 (fun ho1 co1 => ?_)
    refine lv_iload_n hx hb dX0_sees_15 rfl (lv_at hl 2 rfl) ?_
    refine x_goi (va_runV (As := [.int x2]) (rest := []) ⟨hx, hb, hml, hown, hts⟩ (xt_G_isThing ho1 hwp H.size) (cwV 1 hts (lw_V q512 q513 q514 q77 q515) rfl rfl rfl (by decide +kernel) ⟨Nat.le_of_ble_eq_true rfl, Nat.le_of_ble_eq_true rfl⟩) (x_preV hK hO hD hP 6 o1 ho1 rfl rfl) rfl rfl hl.1 rfl (lv_room (Nat.le_of_ble_eq_true rfl)) dX0_sees_16 ⟨(Nat.le_of_ble_eq_true rfl), (Nat.le_of_ble_eq_true rfl)⟩) hD hA hS (fun r4 u H locs hk hP hO hD hS => ?_)
    obtain ⟨hwp, eu⟩ := hk
    subst eu
    dsimp only at hP hO hD
    refine lv_if_eq (tgt := 26) hx hb dX0_sees_19 (by decide) (fun c5 => ?_) (fun c5 => ?_)
    · replace hwp := hwp.1 c5
      refine W.widen (k := 0) (n := 0) (Nat.le_of_ble_eq_true rfl) (Nat.le_of_ble_eq_true rfl) ?_
      exact xk_S_sees_26 hst Xc h0 _ _ _ δ σ hE hwp H locs ls hP hO hD hS (lv_sub hl [0, 1, 2, 3] rfl)
    · replace hwp := hwp.2 c5
      refine lv_iconst (v := 1) hx hb dX0_sees_22 (by decide) ?_
      refine lv_goto (tgt := 27) hx hb dX0_sees_23 (by decide) ?_
      refine W.widen (k := 0) (n := 0) (Nat.le_of_ble_eq_true rfl) (Nat.le_of_ble_eq_true rfl) ?_
      exact xk_S_sees_27 hst Xc h0 _ _ _ _ δ σ hE hwp H locs ls hP hO hD hS (lv_sub hl [0, 1, 2, 3] rfl)
set_option maxHeartbeats 4000000 in
set_option maxRecDepth 100000 in
theorem xt_S_sees {l : Launch} (hst : l.stackTraces = false) {Γ : GA} {δ0 : XSh} {σ : XSt} {K : Int32 → XSh → XSt → Prop} {i0 : Nat} (h0 : (0, i0) ∈ δ0.1) {x1 : Int32} {x2 : Int32} {x3 : Int32} (hwp : xw_S_sees K i0 x1 x2 x3 δ0 σ) : yI l yX0_sees (wsW_ yX0_sees cX0_sees 5 (some .int) [(0, 127, 128, 21)]) ({ frames := 21, cells := 4, slots := 28, locals := 454 } : Room) 4 28 Γ δ0 [.ref i0, .int x1, .int x2, .int x3] σ (fun r u => K r u.1 u.2 ∧ Ext δ0 u.1) (fun _ _ _ => False) := by
  intro sz
  refine yW_of (by decide) [(0, .ref i0), (1, .int x1), (2, .int x2), (3, .int x3)] (fun _ h => h) (Nat.le_of_ble_eq_true rfl) ?_
  intro p e s m args below meth c hsz Xc
  subst hsz
  exact xk_S_sees_e hst Xc h0 δ0 σ Ext.rf hwp
/-! S_bars -/
def xw_S_bars (K : Int32 → XSh → XSt → Prop) (i0 : Nat) (x1 : Int32) (x2 : Int32) (δ : XSh) (σ : XSt) : Prop :=
  xw_S_mustHouses (fun δ1 σ2 => ∃ o4, σ2.2.2 0 i0 4 = some o4 ∧ (xw_G_bars δ1 σ2 (fun r5 => K r5 δ1 σ2) o4 x1 x2)) (fun q9 δ6 σ7 => xw_S_refused δ6 (fun r10 σ11 => K (r10 - 10) δ6 σ11) i0 q9 σ7) i0 x1 x2 δ σ
set_option maxHeartbeats 4000000 in
set_option maxRecDepth 100000 in
theorem xk_S_bars_e {p : Program} {l : Launch} {e : Env} {s : State} {m : MethodId} {args : Array Value} {below : List Frame} {meth : Method} {c : Code} {Γ : GA} {δ0 : XSh} {K : Int32 → XSh → XSt → Prop} {i0 : Nat} (hst : l.stackTraces = false) (Xc : CY p s m args meth c cX0_bars 4 (some .int) RX0 Γ δ0 (tableOf [(0, 15, 16, 21)])) (h0 : (0, i0) ∈ δ0.1) {x1 : Int32} {x2 : Int32} : ∀ (δ : XSh) (σ : XSt), Ext δ0 δ → xw_S_bars K i0 x1 x2 δ σ → TX p l e ({ frames := 19, cells := 3, slots := 21, locals := 410 } : Room) s m args below meth c 4 0 0 (VI below (fun r u => K r u.1 u.2 ∧ Ext δ0 u.1) (fun _ _ _ => False) 3 21 Γ δ0 s args) Γ δ0 δ σ 0 [(0, .ref i0), (1, .int x1), (2, .int x2)] [] := by
  obtain ⟨⟨hx, hb, hml, hown, hts, hK, hr, hlk⟩, hZ, htb⟩ := id Xc
  have hA : ∀ q, s.heap.size ≤ q → AX δ0 s.heap.size q := fun q h => Or.inr h
  intro δ σ hE hwp H locs ls hP hO hD hS hl
  unfold xw_S_bars at hwp
  refine lv_aload_n hx hb dX0_bars_0 rfl (lv_at hl 0 rfl) ?_
  refine lv_iload_n hx hb dX0_bars_1 rfl (lv_at hl 1 rfl) ?_
  refine lv_iload_n hx hb dX0_bars_2 rfl (lv_at hl 2 rfl) ?_
  refine y_gov (vx_runV (As := [.int x1, .int x2]) (rest := []) ⟨hx, hb, hml, hown, hts⟩ (xt_S_mustHouses hst (hE.m h0) hwp H.size) (cwV 2 hts (lw_V q854 q856 qs6 q75 q857) rfl rfl rfl (by decide +kernel) ⟨(Nat.le_of_ble_eq_true rfl), (Nat.le_of_ble_eq_true rfl)⟩) (y_preV hK hO hD hA hZ hP hS 0 i0 (hE.m h0) rfl rfl) rfl rfl hl.1 rfl (lv_room (Nat.le_of_ble_eq_true rfl)) dX0_bars_3 ⟨(Nat.le_of_ble_eq_true rfl), (Nat.le_of_ble_eq_true rfl)⟩) hD hA hS (fun E ce q9 u H locs hk hP hO hD hS k1 k2 k3 => ?_) (fun u H locs hk hP hO hD hS => ?_)
  · obtain ⟨δ6, σ7⟩ := u
    obtain ⟨⟨rfl, hq9⟩, hwp, hF8⟩ := hk
    dsimp only at hP hO hD hwp hF8 hq9
    replace hE := hE.tr hF8
    refine vx_catch (E := RX5) (name := RX5) hown [] ⟨0, 15, 16, 21⟩ [] (htb.trans rfl) (fun z hz => nomatch hz) rfl (by decide) (hts _ q222) ((hK.2.1 (.castable RX5 RX5) (by simp [nwL])).use rfl) k1 k2 k3 ?_
    refine W.eq (g2 := F0 m 16 ls [.ref q9]) rfl ?_
    refine lv_astore_n (lv' := [(3, .ref q9), (0, .ref i0), (1, .int x1), (2, .int x2)]) hx hb dX0_bars_16 rfl hl (by decide) rfl (fun ls hl => ?_)
    refine lv_aload_n hx hb dX0_bars_17 rfl (lv_at hl 1 rfl) ?_
    refine lv_aload_n hx hb dX0_bars_18 rfl (lv_at hl 0 rfl) ?_
    refine x_goi (va_runV (As := [.ref q9]) (rest := []) ⟨hx, hb, hml, hown, hts⟩ (xt_S_refused (hE.m h0) hq9 hwp H.size) (cwV 1 hts (lw_V q397 q399 qs2 q75 q400) rfl rfl rfl (by decide +kernel) ⟨Nat.le_of_ble_eq_true rfl, Nat.le_of_ble_eq_true rfl⟩) (x_preV hK hO hD hP 0 i0 (hE.m h0) rfl rfl) rfl rfl hl.1 rfl (lv_room (Nat.le_of_ble_eq_true rfl)) dX0_bars_19 ⟨(Nat.le_of_ble_eq_true rfl), (Nat.le_of_ble_eq_true rfl)⟩) hD hA hS (fun r10 u H locs hk hP hO hD hS => ?_)
    obtain ⟨u1, σ11⟩ := u
    obtain ⟨hwp, eu⟩ := hk
    have eu : δ6 = u1 := eu.symm
    subst eu
    dsimp only at hP hO hD hwp
    refine lv_bipush (v := 10) hx hb dX0_bars_22 (by decide) ?_
    refine lv_isub hx hb dX0_bars_24 ?_
    refine W.widen (k := 3) (n := 21) (Nat.le_of_ble_eq_true rfl) (Nat.le_of_ble_eq_true rfl) ?_
    refine vx_ret ?_
    exact x_iret hx hb hr hlk hP hO hD hS ⟨hwp, hE⟩ dX0_bars_25
  · obtain ⟨δ1, σ2⟩ := u
    obtain ⟨hwp, hF3⟩ := hk
    dsimp only at hP hO hD hwp hF3
    replace hE := hE.tr hF3
    refine lv_aload_n hx hb dX0_bars_6 rfl (lv_at hl 0 rfl) ?_
    obtain ⟨o4, eo4, hwp⟩ := hwp
    refine x_getr hx hb hts hown hK hP 0 i0 (hE.m h0) rfl rfl in_X0 4 (by decide) q200 rfl rfl eo4 dX0_bars_7 (fun ho4 co4 => ?_)
    refine lv_iload_n hx hb dX0_bars_10 rfl (lv_at hl 1 rfl) ?_
    refine lv_iload_n hx hb dX0_bars_11 rfl (lv_at hl 2 rfl) ?_
    refine x_goi (va_runV (As := [.int x1, .int x2]) (rest := []) ⟨hx, hb, hml, hown, hts⟩ (xt_G_bars ho4 hwp H.size) (cwV 2 hts (lw_V q1054 q597 q598 q77 q599) rfl rfl rfl (by decide +kernel) ⟨Nat.le_of_ble_eq_true rfl, Nat.le_of_ble_eq_true rfl⟩) (x_preV hK hO hD hP 6 o4 ho4 rfl rfl) rfl rfl hl.1 rfl (lv_room (Nat.le_of_ble_eq_true rfl)) dX0_bars_12 ⟨(Nat.le_of_ble_eq_true rfl), (Nat.le_of_ble_eq_true rfl)⟩) hD hA hS (fun r5 u H locs hk hP hO hD hS => ?_)
    obtain ⟨hwp, eu⟩ := hk
    subst eu
    dsimp only at hP hO hD
    refine W.widen (k := 3) (n := 21) (Nat.le_of_ble_eq_true rfl) (Nat.le_of_ble_eq_true rfl) ?_
    refine vx_ret ?_
    exact x_iret hx hb hr hlk hP hO hD hS ⟨hwp, hE⟩ dX0_bars_15
set_option maxHeartbeats 4000000 in
set_option maxRecDepth 100000 in
theorem xt_S_bars {l : Launch} (hst : l.stackTraces = false) {Γ : GA} {δ0 : XSh} {σ : XSt} {K : Int32 → XSh → XSt → Prop} {i0 : Nat} (h0 : (0, i0) ∈ δ0.1) {x1 : Int32} {x2 : Int32} (hwp : xw_S_bars K i0 x1 x2 δ0 σ) : yI l yX0_bars (wsW_ yX0_bars cX0_bars 4 (some .int) [(0, 15, 16, 21)]) ({ frames := 19, cells := 3, slots := 21, locals := 410 } : Room) 3 21 Γ δ0 [.ref i0, .int x1, .int x2] σ (fun r u => K r u.1 u.2 ∧ Ext δ0 u.1) (fun _ _ _ => False) := by
  intro sz
  refine yW_of (by decide) [(0, .ref i0), (1, .int x1), (2, .int x2)] (fun _ h => h) (Nat.le_of_ble_eq_true rfl) ?_
  intro p e s m args below meth c hsz Xc
  subst hsz
  exact xk_S_bars_e hst Xc h0 δ0 σ Ext.rf hwp
/-! S_seers -/
def xw_S_seers (K : Int32 → XSh → XSt → Prop) (i0 : Nat) (x1 : Int32) (δ : XSh) (σ : XSt) : Prop :=
  xw_S_mustHouse (fun δ1 σ2 => ∃ o4, σ2.2.2 0 i0 4 = some o4 ∧ (xw_G_seers δ1 σ2 (fun r5 => K r5 δ1 σ2) o4 x1)) (fun q9 δ6 σ7 => xw_S_refused δ6 (fun r10 σ11 => K r10 δ6 σ11) i0 q9 σ7) i0 x1 δ σ
set_option maxHeartbeats 4000000 in
set_option maxRecDepth 100000 in
theorem xk_S_seers_e {p : Program} {l : Launch} {e : Env} {s : State} {m : MethodId} {args : Array Value} {below : List Frame} {meth : Method} {c : Code} {Γ : GA} {δ0 : XSh} {K : Int32 → XSh → XSt → Prop} {i0 : Nat} (hst : l.stackTraces = false) (Xc : CY p s m args meth c cX0_seers 3 (some .int) RX0 Γ δ0 (tableOf [(0, 13, 14, 21)])) (h0 : (0, i0) ∈ δ0.1) {x1 : Int32} : ∀ (δ : XSh) (σ : XSt), Ext δ0 δ → xw_S_seers K i0 x1 δ σ → TX p l e ({ frames := 23, cells := 2, slots := 14, locals := 500 } : Room) s m args below meth c 3 0 0 (VI below (fun r u => K r u.1 u.2 ∧ Ext δ0 u.1) (fun _ _ _ => False) 2 14 Γ δ0 s args) Γ δ0 δ σ 0 [(0, .ref i0), (1, .int x1)] [] := by
  obtain ⟨⟨hx, hb, hml, hown, hts, hK, hr, hlk⟩, hZ, htb⟩ := id Xc
  have hA : ∀ q, s.heap.size ≤ q → AX δ0 s.heap.size q := fun q h => Or.inr h
  intro δ σ hE hwp H locs ls hP hO hD hS hl
  unfold xw_S_seers at hwp
  refine lv_aload_n hx hb dX0_seers_0 rfl (lv_at hl 0 rfl) ?_
  refine lv_iload_n hx hb dX0_seers_1 rfl (lv_at hl 1 rfl) ?_
  refine y_gov (vx_runV (As := [.int x1]) (rest := []) ⟨hx, hb, hml, hown, hts⟩ (xt_S_mustHouse hst (hE.m h0) hwp H.size) (cwV 1 hts (lw_V q863 q865 qs7 q75 q866) rfl rfl rfl (by decide +kernel) ⟨(Nat.le_of_ble_eq_true rfl), (Nat.le_of_ble_eq_true rfl)⟩) (y_preV hK hO hD hA hZ hP hS 0 i0 (hE.m h0) rfl rfl) rfl rfl hl.1 rfl (lv_room (Nat.le_of_ble_eq_true rfl)) dX0_seers_2 ⟨(Nat.le_of_ble_eq_true rfl), (Nat.le_of_ble_eq_true rfl)⟩) hD hA hS (fun E ce q9 u H locs hk hP hO hD hS k1 k2 k3 => ?_) (fun u H locs hk hP hO hD hS => ?_)
  · obtain ⟨δ6, σ7⟩ := u
    obtain ⟨⟨rfl, hq9⟩, hwp, hF8⟩ := hk
    dsimp only at hP hO hD hwp hF8 hq9
    replace hE := hE.tr hF8
    refine vx_catch (E := RX5) (name := RX5) hown [] ⟨0, 13, 14, 21⟩ [] (htb.trans rfl) (fun z hz => nomatch hz) rfl (by decide) (hts _ q222) ((hK.2.1 (.castable RX5 RX5) (by simp [nwL])).use rfl) k1 k2 k3 ?_
    refine W.eq (g2 := F0 m 14 ls [.ref q9]) rfl ?_
    refine lv_astore_n (lv' := [(2, .ref q9), (0, .ref i0), (1, .int x1)]) hx hb dX0_seers_14 rfl hl (by decide) rfl (fun ls hl => ?_)
    refine lv_aload_n hx hb dX0_seers_15 rfl (lv_at hl 1 rfl) ?_
    refine lv_aload_n hx hb dX0_seers_16 rfl (lv_at hl 0 rfl) ?_
    refine x_goi (va_runV (As := [.ref q9]) (rest := []) ⟨hx, hb, hml, hown, hts⟩ (xt_S_refused (hE.m h0) hq9 hwp H.size) (cwV 1 hts (lw_V q397 q399 qs2 q75 q400) rfl rfl rfl (by decide +kernel) ⟨Nat.le_of_ble_eq_true rfl, Nat.le_of_ble_eq_true rfl⟩) (x_preV hK hO hD hP 0 i0 (hE.m h0) rfl rfl) rfl rfl hl.1 rfl (lv_room (Nat.le_of_ble_eq_true rfl)) dX0_seers_17 ⟨(Nat.le_of_ble_eq_true rfl), (Nat.le_of_ble_eq_true rfl)⟩) hD hA hS (fun r10 u H locs hk hP hO hD hS => ?_)
    obtain ⟨u1, σ11⟩ := u
    obtain ⟨hwp, eu⟩ := hk
    have eu : δ6 = u1 := eu.symm
    subst eu
    dsimp only at hP hO hD hwp
    refine W.widen (k := 2) (n := 14) (Nat.le_of_ble_eq_true rfl) (Nat.le_of_ble_eq_true rfl) ?_
    refine vx_ret ?_
    exact x_iret hx hb hr hlk hP hO hD hS ⟨hwp, hE⟩ dX0_seers_20
  · obtain ⟨δ1, σ2⟩ := u
    obtain ⟨hwp, hF3⟩ := hk
    dsimp only at hP hO hD hwp hF3
    replace hE := hE.tr hF3
    refine lv_aload_n hx hb dX0_seers_5 rfl (lv_at hl 0 rfl) ?_
    obtain ⟨o4, eo4, hwp⟩ := hwp
    refine x_getr hx hb hts hown hK hP 0 i0 (hE.m h0) rfl rfl in_X0 4 (by decide) q200 rfl rfl eo4 dX0_seers_6 (fun ho4 co4 => ?_)
    refine lv_iload_n hx hb dX0_seers_9 rfl (lv_at hl 1 rfl) ?_
    refine x_goi (va_runV (As := [.int x1]) (rest := []) ⟨hx, hb, hml, hown, hts⟩ (xt_G_seers ho4 hwp H.size) (cwV 1 hts (lw_V q1059 q534 q535 q77 q536) rfl rfl rfl (by decide +kernel) ⟨Nat.le_of_ble_eq_true rfl, Nat.le_of_ble_eq_true rfl⟩) (x_preV hK hO hD hP 6 o4 ho4 rfl rfl) rfl rfl hl.1 rfl (lv_room (Nat.le_of_ble_eq_true rfl)) dX0_seers_10 ⟨(Nat.le_of_ble_eq_true rfl), (Nat.le_of_ble_eq_true rfl)⟩) hD hA hS (fun r5 u H locs hk hP hO hD hS => ?_)
    obtain ⟨hwp, eu⟩ := hk
    subst eu
    dsimp only at hP hO hD
    refine W.widen (k := 2) (n := 14) (Nat.le_of_ble_eq_true rfl) (Nat.le_of_ble_eq_true rfl) ?_
    refine vx_ret ?_
    exact x_iret hx hb hr hlk hP hO hD hS ⟨hwp, hE⟩ dX0_seers_13
set_option maxHeartbeats 4000000 in
set_option maxRecDepth 100000 in
theorem xt_S_seers {l : Launch} (hst : l.stackTraces = false) {Γ : GA} {δ0 : XSh} {σ : XSt} {K : Int32 → XSh → XSt → Prop} {i0 : Nat} (h0 : (0, i0) ∈ δ0.1) {x1 : Int32} (hwp : xw_S_seers K i0 x1 δ0 σ) : yI l yX0_seers (wsW_ yX0_seers cX0_seers 3 (some .int) [(0, 13, 14, 21)]) ({ frames := 23, cells := 2, slots := 14, locals := 500 } : Room) 2 14 Γ δ0 [.ref i0, .int x1] σ (fun r u => K r u.1 u.2 ∧ Ext δ0 u.1) (fun _ _ _ => False) := by
  intro sz
  refine yW_of (by decide) [(0, .ref i0), (1, .int x1)] (fun _ h => h) (Nat.le_of_ble_eq_true rfl) ?_
  intro p e s m args below meth c hsz Xc
  subst hsz
  exact xk_S_seers_e hst Xc h0 δ0 σ Ext.rf hwp
/-! S_cost -/
def xw_S_cost (K : Int32 → XSh → XSt → Prop) (i0 : Nat) (x1 : Int32) (x2 : Int32) (δ : XSh) (σ : XSt) : Prop :=
  xw_S_mustHouses (fun δ1 σ2 => ∃ o4, σ2.2.2 0 i0 4 = some o4 ∧ (xw_G_cost δ1 σ2 (fun r5 => K r5 δ1 σ2) o4 x1 x2)) (fun q9 δ6 σ7 => xw_S_refused δ6 (fun r10 σ11 => K r10 δ6 σ11) i0 q9 σ7) i0 x1 x2 δ σ
set_option maxHeartbeats 4000000 in
set_option maxRecDepth 100000 in
theorem xk_S_cost_e {p : Program} {l : Launch} {e : Env} {s : State} {m : MethodId} {args : Array Value} {below : List Frame} {meth : Method} {c : Code} {Γ : GA} {δ0 : XSh} {K : Int32 → XSh → XSt → Prop} {i0 : Nat} (hst : l.stackTraces = false) (Xc : CY p s m args meth c cX0_cost 4 (some .int) RX0 Γ δ0 (tableOf [(0, 15, 16, 21)])) (h0 : (0, i0) ∈ δ0.1) {x1 : Int32} {x2 : Int32} : ∀ (δ : XSh) (σ : XSt), Ext δ0 δ → xw_S_cost K i0 x1 x2 δ σ → TX p l e ({ frames := 6, cells := 3, slots := 21, locals := 172 } : Room) s m args below meth c 4 0 0 (VI below (fun r u => K r u.1 u.2 ∧ Ext δ0 u.1) (fun _ _ _ => False) 3 21 Γ δ0 s args) Γ δ0 δ σ 0 [(0, .ref i0), (1, .int x1), (2, .int x2)] [] := by
  obtain ⟨⟨hx, hb, hml, hown, hts, hK, hr, hlk⟩, hZ, htb⟩ := id Xc
  have hA : ∀ q, s.heap.size ≤ q → AX δ0 s.heap.size q := fun q h => Or.inr h
  intro δ σ hE hwp H locs ls hP hO hD hS hl
  unfold xw_S_cost at hwp
  refine lv_aload_n hx hb dX0_cost_0 rfl (lv_at hl 0 rfl) ?_
  refine lv_iload_n hx hb dX0_cost_1 rfl (lv_at hl 1 rfl) ?_
  refine lv_iload_n hx hb dX0_cost_2 rfl (lv_at hl 2 rfl) ?_
  refine y_gov (vx_runV (As := [.int x1, .int x2]) (rest := []) ⟨hx, hb, hml, hown, hts⟩ (xt_S_mustHouses hst (hE.m h0) hwp H.size) (cwV 2 hts (lw_V q854 q856 qs6 q75 q857) rfl rfl rfl (by decide +kernel) ⟨(Nat.le_of_ble_eq_true rfl), (Nat.le_of_ble_eq_true rfl)⟩) (y_preV hK hO hD hA hZ hP hS 0 i0 (hE.m h0) rfl rfl) rfl rfl hl.1 rfl (lv_room (Nat.le_of_ble_eq_true rfl)) dX0_cost_3 ⟨(Nat.le_of_ble_eq_true rfl), (Nat.le_of_ble_eq_true rfl)⟩) hD hA hS (fun E ce q9 u H locs hk hP hO hD hS k1 k2 k3 => ?_) (fun u H locs hk hP hO hD hS => ?_)
  · obtain ⟨δ6, σ7⟩ := u
    obtain ⟨⟨rfl, hq9⟩, hwp, hF8⟩ := hk
    dsimp only at hP hO hD hwp hF8 hq9
    replace hE := hE.tr hF8
    refine vx_catch (E := RX5) (name := RX5) hown [] ⟨0, 15, 16, 21⟩ [] (htb.trans rfl) (fun z hz => nomatch hz) rfl (by decide) (hts _ q222) ((hK.2.1 (.castable RX5 RX5) (by simp [nwL])).use rfl) k1 k2 k3 ?_
    refine W.eq (g2 := F0 m 16 ls [.ref q9]) rfl ?_
    refine lv_astore_n (lv' := [(3, .ref q9), (0, .ref i0), (1, .int x1), (2, .int x2)]) hx hb dX0_cost_16 rfl hl (by decide) rfl (fun ls hl => ?_)
    refine lv_aload_n hx hb dX0_cost_17 rfl (lv_at hl 1 rfl) ?_
    refine lv_aload_n hx hb dX0_cost_18 rfl (lv_at hl 0 rfl) ?_
    refine x_goi (va_runV (As := [.ref q9]) (rest := []) ⟨hx, hb, hml, hown, hts⟩ (xt_S_refused (hE.m h0) hq9 hwp H.size) (cwV 1 hts (lw_V q397 q399 qs2 q75 q400) rfl rfl rfl (by decide +kernel) ⟨Nat.le_of_ble_eq_true rfl, Nat.le_of_ble_eq_true rfl⟩) (x_preV hK hO hD hP 0 i0 (hE.m h0) rfl rfl) rfl rfl hl.1 rfl (lv_room (Nat.le_of_ble_eq_true rfl)) dX0_cost_19 ⟨(Nat.le_of_ble_eq_true rfl), (Nat.le_of_ble_eq_true rfl)⟩) hD hA hS (fun r10 u H locs hk hP hO hD hS => ?_)
    obtain ⟨u1, σ11⟩ := u
    obtain ⟨hwp, eu⟩ := hk
    have eu : δ6 = u1 := eu.symm
    subst eu
    dsimp only at hP hO hD hwp
    refine W.widen (k := 3) (n := 21) (Nat.le_of_ble_eq_true rfl) (Nat.le_of_ble_eq_true rfl) ?_
    refine vx_ret ?_
    exact x_iret hx hb hr hlk hP hO hD hS ⟨hwp, hE⟩ dX0_cost_22
  · obtain ⟨δ1, σ2⟩ := u
    obtain ⟨hwp, hF3⟩ := hk
    dsimp only at hP hO hD hwp hF3
    replace hE := hE.tr hF3
    refine lv_aload_n hx hb dX0_cost_6 rfl (lv_at hl 0 rfl) ?_
    obtain ⟨o4, eo4, hwp⟩ := hwp
    refine x_getr hx hb hts hown hK hP 0 i0 (hE.m h0) rfl rfl in_X0 4 (by decide) q200 rfl rfl eo4 dX0_cost_7 (fun ho4 co4 => ?_)
    refine lv_iload_n hx hb dX0_cost_10 rfl (lv_at hl 1 rfl) ?_
    refine lv_iload_n hx hb dX0_cost_11 rfl (lv_at hl 2 rfl) ?_
    refine x_goi (va_runV (As := [.int x1, .int x2]) (rest := []) ⟨hx, hb, hml, hown, hts⟩ (xt_G_cost ho4 hwp H.size) (cwV 2 hts (lw_V q1085 q1086 q1087 q77 q1088) rfl rfl rfl (by decide +kernel) ⟨Nat.le_of_ble_eq_true rfl, Nat.le_of_ble_eq_true rfl⟩) (x_preV hK hO hD hP 6 o4 ho4 rfl rfl) rfl rfl hl.1 rfl (lv_room (Nat.le_of_ble_eq_true rfl)) dX0_cost_12 ⟨(Nat.le_of_ble_eq_true rfl), (Nat.le_of_ble_eq_true rfl)⟩) hD hA hS (fun r5 u H locs hk hP hO hD hS => ?_)
    obtain ⟨hwp, eu⟩ := hk
    subst eu
    dsimp only at hP hO hD
    refine W.widen (k := 3) (n := 21) (Nat.le_of_ble_eq_true rfl) (Nat.le_of_ble_eq_true rfl) ?_
    refine vx_ret ?_
    exact x_iret hx hb hr hlk hP hO hD hS ⟨hwp, hE⟩ dX0_cost_15
set_option maxHeartbeats 4000000 in
set_option maxRecDepth 100000 in
theorem xt_S_cost {l : Launch} (hst : l.stackTraces = false) {Γ : GA} {δ0 : XSh} {σ : XSt} {K : Int32 → XSh → XSt → Prop} {i0 : Nat} (h0 : (0, i0) ∈ δ0.1) {x1 : Int32} {x2 : Int32} (hwp : xw_S_cost K i0 x1 x2 δ0 σ) : yI l yX0_cost (wsW_ yX0_cost cX0_cost 4 (some .int) [(0, 15, 16, 21)]) ({ frames := 6, cells := 3, slots := 21, locals := 172 } : Room) 3 21 Γ δ0 [.ref i0, .int x1, .int x2] σ (fun r u => K r u.1 u.2 ∧ Ext δ0 u.1) (fun _ _ _ => False) := by
  intro sz
  refine yW_of (by decide) [(0, .ref i0), (1, .int x1), (2, .int x2)] (fun _ h => h) (Nat.le_of_ble_eq_true rfl) ?_
  intro p e s m args below meth c hsz Xc
  subst hsz
  exact xk_S_cost_e hst Xc h0 δ0 σ Ext.rf hwp
/-! S_cheapest -/
def xw_S_cheapest_95_b (K : Int32 → XSh → XSt → Prop) (i0 : Nat) (L24 : Int32 → Int32 → Int32 → Int32 → Int32 → XSh → XSt → Prop) (L95 : Int32 → Int32 → Int32 → Int32 → Int32 → Int32 → Int32 → XSh → XSt → Prop) (x1 : Int32) (x2 : Int32) (x3 : Int32) (x4 : Int32) (x5 : Int32) (x6 : Int32) (x7 : Int32) (δ : XSh) (σ : XSt) : Prop :=
  ∃ o1, σ.2.2 0 i0 4 = some o1 ∧ ((((σ.1 6 o1 0) ≤ x7) → (L24 x1 x2 x3 x4 (x5 + 1) δ σ)) ∧ ((¬ ((σ.1 6 o1 0) ≤ x7)) → (((((x6 >>> (x7 &&& 31)) &&& 1) = 0) → (L95 x1 (x2 + 0) x3 x4 x5 x6 (x7 + 1) δ σ)) ∧ ((¬ (((x6 >>> (x7 &&& 31)) &&& 1) = 0)) → (xw_G_cost δ σ (fun r4 => L95 x1 (x2 + r4) x3 x4 x5 x6 (x7 + 1) δ σ) o1 x7 x5)))))
def xw_S_cheapest_95 (K : Int32 → XSh → XSt → Prop) (i0 : Nat) (L24 : Int32 → Int32 → Int32 → Int32 → Int32 → XSh → XSt → Prop) : Nat → Int32 → Int32 → Int32 → Int32 → Int32 → Int32 → Int32 → XSh → XSt → Prop
  | 0 => fun _ _ _ _ _ _ _ _ _ => False
  | n + 1 => fun x1 x2 x3 x4 x5 x6 x7 δ σ => xw_S_cheapest_95_b K i0 L24 (xw_S_cheapest_95 K i0 L24 n) x1 x2 x3 x4 x5 x6 x7 δ σ
set_option maxHeartbeats 4000000 in
set_option maxRecDepth 100000 in
theorem xk_S_cheapest_95_b {p : Program} {l : Launch} {e : Env} {s : State} {m : MethodId} {args : Array Value} {below : List Frame} {meth : Method} {c : Code} {Γ : GA} {δ0 : XSh} {K : Int32 → XSh → XSt → Prop} {i0 : Nat} (hst : l.stackTraces = false) (Xc : CY p s m args meth c cX0_cheapest 8 (some .int) RX0 Γ δ0 (tableOf [(0, 166, 167, 21)])) (h0 : (0, i0) ∈ δ0.1) {L24 : Int32 → Int32 → Int32 → Int32 → Int32 → XSh → XSt → Prop} (hL24 : ∀ (x1 : Int32) (x2 : Int32) (x3 : Int32) (x4 : Int32) (x5 : Int32) (δ : XSh) (σ : XSt), Ext δ0 δ → L24 x1 x2 x3 x4 x5 δ σ → TX p l e ({ frames := 26, cells := 1, slots := 7, locals := 568 } : Room) s m args below meth c 8 1 7 (VI below (fun r u => K r u.1 u.2 ∧ Ext δ0 u.1) (fun _ _ _ => False) 1 7 Γ δ0 s args) Γ δ0 δ σ 24 [(0, .ref i0), (1, .int x1), (2, .int x2), (3, .int x3), (4, .int x4), (5, .int x5)] []) {L95 : Int32 → Int32 → Int32 → Int32 → Int32 → Int32 → Int32 → XSh → XSt → Prop} (hL95 : ∀ (x1 : Int32) (x2 : Int32) (x3 : Int32) (x4 : Int32) (x5 : Int32) (x6 : Int32) (x7 : Int32) (δ : XSh) (σ : XSt), Ext δ0 δ → L95 x1 x2 x3 x4 x5 x6 x7 δ σ → TX p l e ({ frames := 26, cells := 1, slots := 7, locals := 568 } : Room) s m args below meth c 8 1 7 (VI below (fun r u => K r u.1 u.2 ∧ Ext δ0 u.1) (fun _ _ _ => False) 1 7 Γ δ0 s args) Γ δ0 δ σ 95 [(0, .ref i0), (1, .int x1), (2, .int x2), (3, .int x3), (4, .int x4), (5, .int x5), (6, .int x6), (7, .int x7)] []) : ∀ (x1 : Int32) (x2 : Int32) (x3 : Int32) (x4 : Int32) (x5 : Int32) (x6 : Int32) (x7 : Int32) (δ : XSh) (σ : XSt), Ext δ0 δ → xw_S_cheapest_95_b K i0 L24 L95 x1 x2 x3 x4 x5 x6 x7 δ σ → TX p l e ({ frames := 26, cells := 1, slots := 7, locals := 568 } : Room) s m args below meth c 8 1 7 (VI below (fun r u => K r u.1 u.2 ∧ Ext δ0 u.1) (fun _ _ _ => False) 1 7 Γ δ0 s args) Γ δ0 δ σ 95 [(0, .ref i0), (1, .int x1), (2, .int x2), (3, .int x3), (4, .int x4), (5, .int x5), (6, .int x6), (7, .int x7)] [] := by
  obtain ⟨⟨hx, hb, hml, hown, hts, hK, hr, hlk⟩, hZ, htb⟩ := id Xc
  have hA : ∀ q, s.heap.size ≤ q → AX δ0 s.heap.size q := fun q h => Or.inr h
  intro x1 x2 x3 x4 x5 x6 x7 δ σ hE hwp H locs ls hP hO hD hS hl
  unfold xw_S_cheapest_95_b at hwp
  refine lv_iload hx hb dX0_cheapest_95 (lv_at hl 7 rfl) ?_
  refine lv_aload_n hx hb dX0_cheapest_97 rfl (lv_at hl 0 rfl) ?_
  obtain ⟨o1, eo1, hwp⟩ := hwp
  refine x_getr hx hb hts hown hK hP 0 i0 (hE.m h0) rfl rfl in_X0 4 (by decide) q200 rfl rfl eo1 dX0_cheapest_98 (fun ho1 co1 => ?_)
  refine x_get hx hb hts hown hK hP 6 o1 ho1 rfl rfl in_X2 0 (by decide) q145 rfl (v := .int (σ.1 6 o1 0)) rfl dX0_cheapest_101 ?_
  refine lv_icmp_ge (tgt := 141) hx hb dX0_cheapest_104 (by decide) (fun c2 => ?_) (fun c2 => ?_)
  · replace hwp := hwp.1 c2
    refine lv_iinc (v := x5 + 1) (lv' := [(5, .int (x5 + 1)), (0, .ref i0), (1, .int x1), (2, .int x2), (3, .int x3), (4, .int x4), (6, .int x6), (7, .int x7)]) hx hb dX0_cheapest_141 hl (k := 5) rfl rfl (by decide) rfl (fun ls hl => ?_)
    refine lv_goto (tgt := 24) hx hb dX0_cheapest_144 (by decide) ?_
    refine W.widen (k := 1) (n := 7) (Nat.le_of_ble_eq_true rfl) (Nat.le_of_ble_eq_true rfl) ?_
    exact hL24 _ _ _ _ _ δ σ hE hwp H locs ls hP hO hD hS (lv_sub hl [1, 2, 3, 4, 5, 0] rfl)
  · replace hwp := hwp.2 c2
    refine lv_iload_n hx hb dX0_cheapest_107 rfl (lv_at hl 2 rfl) ?_
    refine lv_iload hx hb dX0_cheapest_108 (lv_at hl 6 rfl) ?_
    refine lv_iload hx hb dX0_cheapest_110 (lv_at hl 7 rfl) ?_
    refine lv_ishr hx hb dX0_cheapest_112 ?_
    refine lv_iconst (v := 1) hx hb dX0_cheapest_113 (by decide) ?_
    refine lv_iand hx hb dX0_cheapest_114 ?_
    refine lv_if_eq (tgt := 132) hx hb dX0_cheapest_115 (by decide) (fun c3 => ?_) (fun c3 => ?_)
    · replace hwp := hwp.1 c3
      refine lv_iconst (v := 0) hx hb dX0_cheapest_132 (by decide) ?_
      refine lv_iadd hx hb dX0_cheapest_133 ?_
      refine lv_istore_n (lv' := [(2, .int (x2 + 0)), (0, .ref i0), (1, .int x1), (3, .int x3), (4, .int x4), (5, .int x5), (6, .int x6), (7, .int x7)]) hx hb dX0_cheapest_134 rfl hl (by decide) rfl (fun ls hl => ?_)
      refine lv_iinc (v := x7 + 1) (lv' := [(7, .int (x7 + 1)), (2, .int (x2 + 0)), (0, .ref i0), (1, .int x1), (3, .int x3), (4, .int x4), (5, .int x5), (6, .int x6)]) hx hb dX0_cheapest_135 hl (k := 7) rfl rfl (by decide) rfl (fun ls hl => ?_)
      refine lv_goto (tgt := 95) hx hb dX0_cheapest_138 (by decide) ?_
      refine W.widen (k := 1) (n := 7) (Nat.le_of_ble_eq_true rfl) (Nat.le_of_ble_eq_true rfl) ?_
      exact hL95 _ _ _ _ _ _ _ δ σ hE hwp H locs ls hP hO hD hS (lv_sub hl [2, 3, 1, 4, 5, 6, 7, 0] rfl)
    · replace hwp := hwp.2 c3
      refine lv_aload_n hx hb dX0_cheapest_118 rfl (lv_at hl 0 rfl) ?_
      refine x_getr hx hb hts hown hK hP 0 i0 (hE.m h0) rfl rfl in_X0 4 (by decide) q200 rfl rfl eo1 dX0_cheapest_119 (fun ho1 co1 => ?_)
      refine lv_iload hx hb dX0_cheapest_122 (lv_at hl 7 rfl) ?_
      refine lv_iload hx hb dX0_cheapest_124 (lv_at hl 5 rfl) ?_
      refine x_goi (va_runV (As := [.int x7, .int x5]) (rest := [.int x2]) ⟨hx, hb, hml, hown, hts⟩ (xt_G_cost ho1 hwp H.size) (cwV 2 hts (lw_V q1085 q1086 q1087 q77 q1088) rfl rfl rfl (by decide +kernel) ⟨Nat.le_of_ble_eq_true rfl, Nat.le_of_ble_eq_true rfl⟩) (x_preV hK hO hD hP 6 o1 ho1 rfl rfl) rfl rfl hl.1 rfl (lv_room (Nat.le_of_ble_eq_true rfl)) dX0_cheapest_126 ⟨(Nat.le_of_ble_eq_true rfl), (Nat.le_of_ble_eq_true rfl)⟩) hD hA hS (fun r4 u H locs hk hP hO hD hS => ?_)
      obtain ⟨hwp, eu⟩ := hk
      subst eu
      dsimp only at hP hO hD
      refine lv_goto (tgt := 133) hx hb dX0_cheapest_129 (by decide) ?_
      refine lv_iadd hx hb dX0_cheapest_133 ?_
      refine lv_istore_n (lv' := [(2, .int (x2 + r4)), (0, .ref i0), (1, .int x1), (3, .int x3), (4, .int x4), (5, .int x5), (6, .int x6), (7, .int x7)]) hx hb dX0_cheapest_134 rfl hl (by decide) rfl (fun ls hl => ?_)
      refine lv_iinc (v := x7 + 1) (lv' := [(7, .int (x7 + 1)), (2, .int (x2 + r4)), (0, .ref i0), (1, .int x1), (3, .int x3), (4, .int x4), (5, .int x5), (6, .int x6)]) hx hb dX0_cheapest_135 hl (k := 7) rfl rfl (by decide) rfl (fun ls hl => ?_)
      refine lv_goto (tgt := 95) hx hb dX0_cheapest_138 (by decide) ?_
      refine W.widen (k := 1) (n := 7) (Nat.le_of_ble_eq_true rfl) (Nat.le_of_ble_eq_true rfl) ?_
      exact hL95 _ _ _ _ _ _ _ δ σ hE hwp H locs ls hP hO hD hS (lv_sub hl [2, 3, 1, 4, 5, 6, 7, 0] rfl)
set_option maxHeartbeats 4000000 in
set_option maxRecDepth 100000 in
theorem xk_S_cheapest_95 {p : Program} {l : Launch} {e : Env} {s : State} {m : MethodId} {args : Array Value} {below : List Frame} {meth : Method} {c : Code} {Γ : GA} {δ0 : XSh} {K : Int32 → XSh → XSt → Prop} {i0 : Nat} (hst : l.stackTraces = false) (Xc : CY p s m args meth c cX0_cheapest 8 (some .int) RX0 Γ δ0 (tableOf [(0, 166, 167, 21)])) (h0 : (0, i0) ∈ δ0.1) {L24 : Int32 → Int32 → Int32 → Int32 → Int32 → XSh → XSt → Prop} (hL24 : ∀ (x1 : Int32) (x2 : Int32) (x3 : Int32) (x4 : Int32) (x5 : Int32) (δ : XSh) (σ : XSt), Ext δ0 δ → L24 x1 x2 x3 x4 x5 δ σ → TX p l e ({ frames := 26, cells := 1, slots := 7, locals := 568 } : Room) s m args below meth c 8 1 7 (VI below (fun r u => K r u.1 u.2 ∧ Ext δ0 u.1) (fun _ _ _ => False) 1 7 Γ δ0 s args) Γ δ0 δ σ 24 [(0, .ref i0), (1, .int x1), (2, .int x2), (3, .int x3), (4, .int x4), (5, .int x5)] []) : ∀ n (x1 : Int32) (x2 : Int32) (x3 : Int32) (x4 : Int32) (x5 : Int32) (x6 : Int32) (x7 : Int32) (δ : XSh) (σ : XSt), Ext δ0 δ → xw_S_cheapest_95 K i0 L24 n x1 x2 x3 x4 x5 x6 x7 δ σ → TX p l e ({ frames := 26, cells := 1, slots := 7, locals := 568 } : Room) s m args below meth c 8 1 7 (VI below (fun r u => K r u.1 u.2 ∧ Ext δ0 u.1) (fun _ _ _ => False) 1 7 Γ δ0 s args) Γ δ0 δ σ 95 [(0, .ref i0), (1, .int x1), (2, .int x2), (3, .int x3), (4, .int x4), (5, .int x5), (6, .int x6), (7, .int x7)] [] := by
  intro n
  induction n with
  | zero => intro _ _ _ _ _ _ _ _ _ _ hwp; exact hwp.elim
  | succ n ih => intro x1 x2 x3 x4 x5 x6 x7 δ σ hE hwp; exact xk_S_cheapest_95_b hst Xc h0 hL24 ih x1 x2 x3 x4 x5 x6 x7 δ σ hE hwp
def xw_S_cheapest_69 (K : Int32 → XSh → XSt → Prop) (i0 : Nat) (L24 : Int32 → Int32 → Int32 → Int32 → Int32 → XSh → XSt → Prop) (x1 : Int32) (x2 : Int32) (x4 : Int32) (x5 : Int32) (t0 : Int32) (t1 : Int32) (δ : XSh) (σ : XSt) : Prop :=
  ∃ o1, σ.2.2 0 i0 4 = some o1 ∧ (xw_G_toShut δ σ (fun r2 => xw_Jn_bitCount δ σ (fun r3 => ∃ n, xw_S_cheapest_95 K i0 L24 n x1 x2 (t1 ||| t0) (x4 + r3) x5 r2 0 δ σ) r2) o1 x5)
set_option maxHeartbeats 4000000 in
set_option maxRecDepth 100000 in
theorem xk_S_cheapest_69 {p : Program} {l : Launch} {e : Env} {s : State} {m : MethodId} {args : Array Value} {below : List Frame} {meth : Method} {c : Code} {Γ : GA} {δ0 : XSh} {K : Int32 → XSh → XSt → Prop} {i0 : Nat} (hst : l.stackTraces = false) (Xc : CY p s m args meth c cX0_cheapest 8 (some .int) RX0 Γ δ0 (tableOf [(0, 166, 167, 21)])) (h0 : (0, i0) ∈ δ0.1) {L24 : Int32 → Int32 → Int32 → Int32 → Int32 → XSh → XSt → Prop} (hL24 : ∀ (x1 : Int32) (x2 : Int32) (x3 : Int32) (x4 : Int32) (x5 : Int32) (δ : XSh) (σ : XSt), Ext δ0 δ → L24 x1 x2 x3 x4 x5 δ σ → TX p l e ({ frames := 26, cells := 1, slots := 7, locals := 568 } : Room) s m args below meth c 8 1 7 (VI below (fun r u => K r u.1 u.2 ∧ Ext δ0 u.1) (fun _ _ _ => False) 1 7 Γ δ0 s args) Γ δ0 δ σ 24 [(0, .ref i0), (1, .int x1), (2, .int x2), (3, .int x3), (4, .int x4), (5, .int x5)] []) : ∀ (x1 : Int32) (x2 : Int32) (x4 : Int32) (x5 : Int32) (t0 : Int32) (t1 : Int32) (δ : XSh) (σ : XSt), Ext δ0 δ → xw_S_cheapest_69 K i0 L24 x1 x2 x4 x5 t0 t1 δ σ → TX p l e ({ frames := 26, cells := 1, slots := 7, locals := 568 } : Room) s m args below meth c 8 1 7 (VI below (fun r u => K r u.1 u.2 ∧ Ext δ0 u.1) (fun _ _ _ => False) 1 7 Γ δ0 s args) Γ δ0 δ σ 69 [(0, .ref i0), (1, .int x1), (2, .int x2), (4, .int x4), (5, .int x5)] [.int t0, .int t1] := by
  obtain ⟨⟨hx, hb, hml, hown, hts, hK, hr, hlk⟩, hZ, htb⟩ := id Xc
  have hA : ∀ q, s.heap.size ≤ q → AX δ0 s.heap.size q := fun q h => Or.inr h
  intro x1 x2 x4 x5 t0 t1 δ σ hE hwp H locs ls hP hO hD hS hl
  unfold xw_S_cheapest_69 at hwp
  refine lv_ior hx hb dX0_cheapest_69 ?_
  refine lv_istore_n (lv' := [(3, .int (t1 ||| t0)), (0, .ref i0), (1, .int x1), (2, .int x2), (4, .int x4), (5, .int x5)]) hx hb dX0_cheapest_70 rfl hl (by decide) rfl (fun ls hl => ?_)
  refine lv_aload_n hx hb dX0_cheapest_71 rfl (lv_at hl 1 rfl) ?_
  obtain ⟨o1, eo1, hwp⟩ := hwp
  refine x_getr hx hb hts hown hK hP 0 i0 (hE.m h0) rfl rfl in_X0 4 (by decide) q200 rfl rfl eo1 dX0_cheapest_72 (fun ho1 co1 => ?_)
  refine lv_iload hx hb dX0_cheapest_75 (lv_at hl 5 rfl) ?_
  refine x_goi (va_runV (As := [.int x5]) (rest := []) ⟨hx, hb, hml, hown, hts⟩ (xt_G_toShut ho1 hwp H.size) (cwV 1 hts (lw_V q1098 q1099 q1100 q77 q1101) rfl rfl rfl (by decide +kernel) ⟨Nat.le_of_ble_eq_true rfl, Nat.le_of_ble_eq_true rfl⟩) (x_preV hK hO hD hP 6 o1 ho1 rfl rfl) rfl rfl hl.1 rfl (lv_room (Nat.le_of_ble_eq_true rfl)) dX0_cheapest_77 ⟨(Nat.le_of_ble_eq_true rfl), (Nat.le_of_ble_eq_true rfl)⟩) hD hA hS (fun r2 u H locs hk hP hO hD hS => ?_)
  obtain ⟨hwp, eu⟩ := hk
  subst eu
  dsimp only at hP hO hD
  refine lv_istore (lv' := [(6, .int r2), (3, .int (t1 ||| t0)), (0, .ref i0), (1, .int x1), (2, .int x2), (4, .int x4), (5, .int x5)]) hx hb dX0_cheapest_80 hl (by decide) rfl (fun ls hl => ?_)
  refine lv_iload hx hb dX0_cheapest_82 (lv_at hl 5 rfl) ?_
  refine lv_iload hx hb dX0_cheapest_84 (lv_at hl 0 rfl) ?_
  refine x_goi (va_runS (As := [.int r2]) (rest := [.int x4]) ⟨hx, hb, hml, hown, hts⟩ (xt_Jn_bitCount hwp H.size) (va_cwS 1 hts (lw_S q1111 q644 q96 q645) rfl rfl rfl (by decide +kernel) ⟨Nat.le_of_ble_eq_true rfl, Nat.le_of_ble_eq_true rfl⟩) (x_preS hK hO hD hP) rfl rfl hl.1 rfl (lv_room (Nat.le_of_ble_eq_true rfl)) dX0_cheapest_86 ⟨(Nat.le_of_ble_eq_true rfl), (Nat.le_of_ble_eq_true rfl)⟩) hD hA hS (fun r3 u H locs hk hP hO hD hS => ?_)
  obtain ⟨hwp, eu⟩ := hk
  subst eu
  dsimp only at hP hO hD
  refine lv_iadd hx hb dX0_cheapest_89 ?_
  refine lv_istore (lv' := [(4, .int (x4 + r3)), (6, .int r2), (3, .int (t1 ||| t0)), (0, .ref i0), (1, .int x1), (2, .int x2), (5, .int x5)]) hx hb dX0_cheapest_90 hl (by decide) rfl (fun ls hl => ?_)
  refine lv_iconst (v := 0) hx hb dX0_cheapest_92 (by decide) ?_
  refine lv_istore (lv' := [(7, .int 0), (4, .int (x4 + r3)), (6, .int r2), (3, .int (t1 ||| t0)), (0, .ref i0), (1, .int x1), (2, .int x2), (5, .int x5)]) hx hb dX0_cheapest_93 hl (by decide) rfl (fun ls hl => ?_)
  obtain ⟨n, hwp⟩ := hwp
  refine W.widen (k := 1) (n := 7) (Nat.le_of_ble_eq_true rfl) (Nat.le_of_ble_eq_true rfl) ?_
  exact xk_S_cheapest_95 hst Xc h0 hL24 n _ _ _ _ _ _ _ δ σ hE hwp H locs ls hP hO hD hS (lv_sub hl [4, 5, 6, 3, 1, 7, 2, 0] rfl)
def xw_S_cheapest_24_b (K : Int32 → XSh → XSt → Prop) (i0 : Nat) (L24 : Int32 → Int32 → Int32 → Int32 → Int32 → XSh → XSt → Prop) (x1 : Int32) (x2 : Int32) (x3 : Int32) (x4 : Int32) (x5 : Int32) (δ : XSh) (σ : XSt) : Prop :=
  ∃ o1, σ.2.2 0 i0 4 = some o1 ∧ ((((σ.1 6 o1 0) ≤ x5) → (((¬ (x1 = 0)) → (((¬ (x1 = 1)) → (K x4 δ σ)) ∧ ((x1 = 1) → (K x3 δ σ)))) ∧ ((x1 = 0) → (K x2 δ σ)))) ∧ ((¬ ((σ.1 6 o1 0) ≤ x5)) → (xw_G_isHouse δ σ (fun r5 => ((r5 = 0) → (L24 x1 x2 x3 x4 (x5 + 1) δ σ)) ∧ ((¬ (r5 = 0)) → (xw_G_canBe δ σ (fun r7 => ((r7 = 0) → (xw_S_cheapest_69 K i0 L24 x1 x2 x4 x5 ((1 : Int32) <<< (x5 &&& 31)) x3 δ σ)) ∧ ((¬ (r7 = 0)) → (xw_S_cheapest_69 K i0 L24 x1 x2 x4 x5 0 x3 δ σ))) o1 x5))) o1 x5)))
def xw_S_cheapest_24 (K : Int32 → XSh → XSt → Prop) (i0 : Nat) : Nat → Int32 → Int32 → Int32 → Int32 → Int32 → XSh → XSt → Prop
  | 0 => fun _ _ _ _ _ _ _ => False
  | n + 1 => fun x1 x2 x3 x4 x5 δ σ => xw_S_cheapest_24_b K i0 (xw_S_cheapest_24 K i0 n) x1 x2 x3 x4 x5 δ σ
set_option maxHeartbeats 4000000 in
set_option maxRecDepth 100000 in
theorem xk_S_cheapest_24_b {p : Program} {l : Launch} {e : Env} {s : State} {m : MethodId} {args : Array Value} {below : List Frame} {meth : Method} {c : Code} {Γ : GA} {δ0 : XSh} {K : Int32 → XSh → XSt → Prop} {i0 : Nat} (hst : l.stackTraces = false) (Xc : CY p s m args meth c cX0_cheapest 8 (some .int) RX0 Γ δ0 (tableOf [(0, 166, 167, 21)])) (h0 : (0, i0) ∈ δ0.1) {L24 : Int32 → Int32 → Int32 → Int32 → Int32 → XSh → XSt → Prop} (hL24 : ∀ (x1 : Int32) (x2 : Int32) (x3 : Int32) (x4 : Int32) (x5 : Int32) (δ : XSh) (σ : XSt), Ext δ0 δ → L24 x1 x2 x3 x4 x5 δ σ → TX p l e ({ frames := 26, cells := 1, slots := 7, locals := 568 } : Room) s m args below meth c 8 1 7 (VI below (fun r u => K r u.1 u.2 ∧ Ext δ0 u.1) (fun _ _ _ => False) 1 7 Γ δ0 s args) Γ δ0 δ σ 24 [(0, .ref i0), (1, .int x1), (2, .int x2), (3, .int x3), (4, .int x4), (5, .int x5)] []) : ∀ (x1 : Int32) (x2 : Int32) (x3 : Int32) (x4 : Int32) (x5 : Int32) (δ : XSh) (σ : XSt), Ext δ0 δ → xw_S_cheapest_24_b K i0 L24 x1 x2 x3 x4 x5 δ σ → TX p l e ({ frames := 26, cells := 1, slots := 7, locals := 568 } : Room) s m args below meth c 8 1 7 (VI below (fun r u => K r u.1 u.2 ∧ Ext δ0 u.1) (fun _ _ _ => False) 1 7 Γ δ0 s args) Γ δ0 δ σ 24 [(0, .ref i0), (1, .int x1), (2, .int x2), (3, .int x3), (4, .int x4), (5, .int x5)] [] := by
  obtain ⟨⟨hx, hb, hml, hown, hts, hK, hr, hlk⟩, hZ, htb⟩ := id Xc
  have hA : ∀ q, s.heap.size ≤ q → AX δ0 s.heap.size q := fun q h => Or.inr h
  intro x1 x2 x3 x4 x5 δ σ hE hwp H locs ls hP hO hD hS hl
  unfold xw_S_cheapest_24_b at hwp
  refine lv_iload hx hb dX0_cheapest_24 (lv_at hl 5 rfl) ?_
  refine lv_aload_n hx hb dX0_cheapest_26 rfl (lv_at hl 0 rfl) ?_
  obtain ⟨o1, eo1, hwp⟩ := hwp
  refine x_getr hx hb hts hown hK hP 0 i0 (hE.m h0) rfl rfl in_X0 4 (by decide) q200 rfl rfl eo1 dX0_cheapest_27 (fun ho1 co1 => ?_)
  refine x_get hx hb hts hown hK hP 6 o1 ho1 rfl rfl in_X2 0 (by decide) q145 rfl (v := .int (σ.1 6 o1 0)) rfl dX0_cheapest_30 ?_
  refine lv_icmp_ge (tgt := 147) hx hb dX0_cheapest_33 (by decide) (fun c2 => ?_) (fun c2 => ?_)
  · replace hwp := hwp.1 c2
    refine lv_iload_n hx hb dX0_cheapest_147 rfl (lv_at hl 1 rfl) ?_
    refine lv_if_ne (tgt := 155) hx hb dX0_cheapest_148 (by decide) (fun c3 => ?_) (fun c3 => ?_)
    · replace hwp := hwp.1 c3
      refine lv_iload_n hx hb dX0_cheapest_155 rfl (lv_at hl 1 rfl) ?_
      refine lv_iconst (v := 1) hx hb dX0_cheapest_156 (by decide) ?_
      refine lv_icmp_ne (tgt := 164) hx hb dX0_cheapest_157 (by decide) (fun c4 => ?_) (fun c4 => ?_)
      · replace hwp := hwp.1 c4
        refine lv_iload hx hb dX0_cheapest_164 (lv_at hl 4 rfl) ?_
        refine W.widen (k := 1) (n := 7) (Nat.le_of_ble_eq_true rfl) (Nat.le_of_ble_eq_true rfl) ?_
        refine vx_ret ?_
        exact x_iret hx hb hr hlk hP hO hD hS ⟨hwp, hE⟩ dX0_cheapest_166
      · replace hwp := hwp.2 c4
        refine lv_iload_n hx hb dX0_cheapest_160 rfl (lv_at hl 3 rfl) ?_
        refine lv_goto (tgt := 166) hx hb dX0_cheapest_161 (by decide) ?_
        refine W.widen (k := 1) (n := 7) (Nat.le_of_ble_eq_true rfl) (Nat.le_of_ble_eq_true rfl) ?_
        refine vx_ret ?_
        exact x_iret hx hb hr hlk hP hO hD hS ⟨hwp, hE⟩ dX0_cheapest_166
    · replace hwp := hwp.2 c3
      refine lv_iload_n hx hb dX0_cheapest_151 rfl (lv_at hl 2 rfl) ?_
      refine lv_goto (tgt := 166) hx hb dX0_cheapest_152 (by decide) ?_
      refine W.widen (k := 1) (n := 7) (Nat.le_of_ble_eq_true rfl) (Nat.le_of_ble_eq_true rfl) ?_
      refine vx_ret ?_
      exact x_iret hx hb hr hlk hP hO hD hS ⟨hwp, hE⟩ dX0_cheapest_166
  · replace hwp := hwp.2 c2
    refine lv_aload_n hx hb dX0_cheapest_36 rfl (lv_at hl 0 rfl) ?_
    refine x_getr hx hb hts hown hK hP 0 i0 (hE.m h0) rfl rfl in_X0 4 (by decide) q200 rfl rfl eo1 dX0_cheapest_37 (fun ho1 co1 => ?_)
    refine lv_iload hx hb dX0_cheapest_40 (lv_at hl 5 rfl) ?_
    refine x_goi (va_runV (As := [.int x5]) (rest := []) ⟨hx, hb, hml, hown, hts⟩ (xt_G_isHouse ho1 hwp H.size) (cwV 1 hts (lw_V q858 q542 q543 q77 q544) rfl rfl rfl (by decide +kernel) ⟨Nat.le_of_ble_eq_true rfl, Nat.le_of_ble_eq_true rfl⟩) (x_preV hK hO hD hP 6 o1 ho1 rfl rfl) rfl rfl hl.1 rfl (lv_room (Nat.le_of_ble_eq_true rfl)) dX0_cheapest_42 ⟨(Nat.le_of_ble_eq_true rfl), (Nat.le_of_ble_eq_true rfl)⟩) hD hA hS (fun r5 u H locs hk hP hO hD hS => ?_)
    obtain ⟨hwp, eu⟩ := hk
    subst eu
    dsimp only at hP hO hD
    refine lv_if_eq (tgt := 141) hx hb dX0_cheapest_45 (by decide) (fun c6 => ?_) (fun c6 => ?_)
    · replace hwp := hwp.1 c6
      refine lv_iinc (v := x5 + 1) (lv' := [(5, .int (x5 + 1)), (0, .ref i0), (1, .int x1), (2, .int x2), (3, .int x3), (4, .int x4)]) hx hb dX0_cheapest_141 hl (k := 5) rfl rfl (by decide) rfl (fun ls hl => ?_)
      refine lv_goto (tgt := 24) hx hb dX0_cheapest_144 (by decide) ?_
      refine W.widen (k := 1) (n := 7) (Nat.le_of_ble_eq_true rfl) (Nat.le_of_ble_eq_true rfl) ?_
      exact hL24 _ _ _ _ _ δ σ hE hwp H locs ls hP hO hD hS (lv_sub hl [1, 2, 3, 4, 5, 0] rfl)
    · replace hwp := hwp.2 c6
      refine lv_iload_n hx hb dX0_cheapest_48 rfl (lv_at hl 3 rfl) ?_
      refine lv_aload_n hx hb dX0_cheapest_49 rfl (lv_at hl 0 rfl) ?_
      refine x_getr hx hb hts hown hK hP 0 i0 (hE.m h0) rfl rfl in_X0 4 (by decide) q200 rfl rfl eo1 dX0_cheapest_50 (fun ho1 co1 => ?_)
      refine lv_iload hx hb dX0_cheapest_53 (lv_at hl 5 rfl) ?_
      refine x_goi (va_runV (As := [.int x5]) (rest := [.int x3]) ⟨hx, hb, hml, hown, hts⟩ (xt_G_canBe ho1 hwp H.size) (cwV 1 hts (lw_V q1094 q1095 q1096 q77 q1097) rfl rfl rfl (by decide +kernel) ⟨Nat.le_of_ble_eq_true rfl, Nat.le_of_ble_eq_true rfl⟩) (x_preV hK hO hD hP 6 o1 ho1 rfl rfl) rfl rfl hl.1 rfl (lv_room (Nat.le_of_ble_eq_true rfl)) dX0_cheapest_55 ⟨(Nat.le_of_ble_eq_true rfl), (Nat.le_of_ble_eq_true rfl)⟩) hD hA hS (fun r7 u H locs hk hP hO hD hS => ?_)
      obtain ⟨hwp, eu⟩ := hk
      subst eu
      dsimp only at hP hO hD
      refine lv_if_eq (tgt := 65) hx hb dX0_cheapest_58 (by decide) (fun c8 => ?_) (fun c8 => ?_)
      · replace hwp := hwp.1 c8
        refine lv_iconst (v := 1) hx hb dX0_cheapest_65 (by decide) ?_
        refine lv_iload hx hb dX0_cheapest_66 (lv_at hl 5 rfl) ?_
        refine lv_ishl hx hb dX0_cheapest_68 ?_
        refine W.widen (k := 1) (n := 7) (Nat.le_of_ble_eq_true rfl) (Nat.le_of_ble_eq_true rfl) ?_
        exact xk_S_cheapest_69 hst Xc h0 hL24 _ _ _ _ _ _ δ σ hE hwp H locs ls hP hO hD hS (lv_sub hl [0, 1, 2, 4, 5] rfl)
      · replace hwp := hwp.2 c8
        refine lv_iconst (v := 0) hx hb dX0_cheapest_61 (by decide) ?_
        refine lv_goto (tgt := 69) hx hb dX0_cheapest_62 (by decide) ?_
        refine W.widen (k := 1) (n := 7) (Nat.le_of_ble_eq_true rfl) (Nat.le_of_ble_eq_true rfl) ?_
        exact xk_S_cheapest_69 hst Xc h0 hL24 _ _ _ _ _ _ δ σ hE hwp H locs ls hP hO hD hS (lv_sub hl [0, 1, 2, 4, 5] rfl)
set_option maxHeartbeats 4000000 in
set_option maxRecDepth 100000 in
theorem xk_S_cheapest_24 {p : Program} {l : Launch} {e : Env} {s : State} {m : MethodId} {args : Array Value} {below : List Frame} {meth : Method} {c : Code} {Γ : GA} {δ0 : XSh} {K : Int32 → XSh → XSt → Prop} {i0 : Nat} (hst : l.stackTraces = false) (Xc : CY p s m args meth c cX0_cheapest 8 (some .int) RX0 Γ δ0 (tableOf [(0, 166, 167, 21)])) (h0 : (0, i0) ∈ δ0.1) : ∀ n (x1 : Int32) (x2 : Int32) (x3 : Int32) (x4 : Int32) (x5 : Int32) (δ : XSh) (σ : XSt), Ext δ0 δ → xw_S_cheapest_24 K i0 n x1 x2 x3 x4 x5 δ σ → TX p l e ({ frames := 26, cells := 1, slots := 7, locals := 568 } : Room) s m args below meth c 8 1 7 (VI below (fun r u => K r u.1 u.2 ∧ Ext δ0 u.1) (fun _ _ _ => False) 1 7 Γ δ0 s args) Γ δ0 δ σ 24 [(0, .ref i0), (1, .int x1), (2, .int x2), (3, .int x3), (4, .int x4), (5, .int x5)] [] := by
  intro n
  induction n with
  | zero => intro _ _ _ _ _ _ _ _ hwp; exact hwp.elim
  | succ n ih => intro x1 x2 x3 x4 x5 δ σ hE hwp; exact xk_S_cheapest_24_b hst Xc h0 ih x1 x2 x3 x4 x5 δ σ hE hwp
def xw_S_cheapest (K : Int32 → XSh → XSt → Prop) (i0 : Nat) (x1 : Int32) (δ : XSh) (σ : XSt) : Prop :=
  xw_S_in δ σ (fun r1 => xw_S_need (fun δ2 σ3 => ∃ n, xw_S_cheapest_24 K i0 n x1 0 0 0 0 δ2 σ3) (fun q8 δ5 σ6 => xw_S_refused δ5 (fun r9 σ10 => K r9 δ5 σ10) i0 q8 σ6) r1 (-5) δ σ) x1.toInt64 0 2
set_option maxHeartbeats 4000000 in
set_option maxRecDepth 100000 in
theorem xk_S_cheapest_e {p : Program} {l : Launch} {e : Env} {s : State} {m : MethodId} {args : Array Value} {below : List Frame} {meth : Method} {c : Code} {Γ : GA} {δ0 : XSh} {K : Int32 → XSh → XSt → Prop} {i0 : Nat} (hst : l.stackTraces = false) (Xc : CY p s m args meth c cX0_cheapest 8 (some .int) RX0 Γ δ0 (tableOf [(0, 166, 167, 21)])) (h0 : (0, i0) ∈ δ0.1) {x1 : Int32} : ∀ (δ : XSh) (σ : XSt), Ext δ0 δ → xw_S_cheapest K i0 x1 δ σ → TX p l e ({ frames := 26, cells := 1, slots := 7, locals := 568 } : Room) s m args below meth c 8 0 0 (VI below (fun r u => K r u.1 u.2 ∧ Ext δ0 u.1) (fun _ _ _ => False) 1 7 Γ δ0 s args) Γ δ0 δ σ 0 [(0, .ref i0), (1, .int x1)] [] := by
  obtain ⟨⟨hx, hb, hml, hown, hts, hK, hr, hlk⟩, hZ, htb⟩ := id Xc
  have hA : ∀ q, s.heap.size ≤ q → AX δ0 s.heap.size q := fun q h => Or.inr h
  intro δ σ hE hwp H locs ls hP hO hD hS hl
  unfold xw_S_cheapest at hwp
  refine lv_iload_n hx hb dX0_cheapest_0 rfl (lv_at hl 1 rfl) ?_
  refine lv_i2l (v := x1.toInt64) hx hb dX0_cheapest_1 rfl ?_
  refine lv_lconst (v := 0) hx hb dX0_cheapest_2 (by decide) ?_
  refine lv_ldc2 hx hb hown (hts _ q1093) dX0_cheapest_3 ?_
  refine x_goi (va_runS (As := [.long x1.toInt64, .long 0, .long 2]) (rest := []) ⟨hx, hb, hml, hown, hts⟩ (xt_S_in hwp H.size) (va_cwS 3 hts (lw_S q332 q333 q75 q334) rfl rfl rfl (by decide +kernel) ⟨Nat.le_of_ble_eq_true rfl, Nat.le_of_ble_eq_true rfl⟩) (x_preS hK hO hD hP) rfl rfl hl.1 rfl (lv_room (Nat.le_of_ble_eq_true rfl)) dX0_cheapest_6 ⟨(Nat.le_of_ble_eq_true rfl), (Nat.le_of_ble_eq_true rfl)⟩) hD hA hS (fun r1 u H locs hk hP hO hD hS => ?_)
  obtain ⟨hwp, eu⟩ := hk
  subst eu
  dsimp only at hP hO hD
  refine lv_bipush (v := (-5)) hx hb dX0_cheapest_9 (by decide) ?_
  refine y_gov (vx_runS (As := [.int r1, .int (-5)]) (rest := []) ⟨hx, hb, hml, hown, hts⟩ (xt_S_need hst hwp H.size) (va_cwS 2 hts (lw_S q328 q329 q75 q330) rfl rfl rfl (by decide +kernel) ⟨(Nat.le_of_ble_eq_true rfl), (Nat.le_of_ble_eq_true rfl)⟩) (y_preS hK hO hD hA hZ hP hS) rfl rfl hl.1 rfl (lv_room (Nat.le_of_ble_eq_true rfl)) dX0_cheapest_11 ⟨(Nat.le_of_ble_eq_true rfl), (Nat.le_of_ble_eq_true rfl)⟩) hD hA hS (fun E ce q8 u H locs hk hP hO hD hS k1 k2 k3 => ?_) (fun u H locs hk hP hO hD hS => ?_)
  · obtain ⟨δ5, σ6⟩ := u
    obtain ⟨⟨rfl, hq8⟩, hwp, hF7⟩ := hk
    dsimp only at hP hO hD hwp hF7 hq8
    replace hE := hE.tr hF7
    refine vx_catch (E := RX5) (name := RX5) hown [] ⟨0, 166, 167, 21⟩ [] (htb.trans rfl) (fun z hz => nomatch hz) rfl (by decide) (hts _ q222) ((hK.2.1 (.castable RX5 RX5) (by simp [nwL])).use rfl) k1 k2 k3 ?_
    refine W.eq (g2 := F0 m 167 ls [.ref q8]) rfl ?_
    refine lv_astore_n (lv' := [(2, .ref q8), (0, .ref i0), (1, .int x1)]) hx hb dX0_cheapest_167 rfl hl (by decide) rfl (fun ls hl => ?_)
    refine lv_aload_n hx hb dX0_cheapest_168 rfl (lv_at hl 1 rfl) ?_
    refine lv_aload_n hx hb dX0_cheapest_169 rfl (lv_at hl 0 rfl) ?_
    refine x_goi (va_runV (As := [.ref q8]) (rest := []) ⟨hx, hb, hml, hown, hts⟩ (xt_S_refused (hE.m h0) hq8 hwp H.size) (cwV 1 hts (lw_V q397 q399 qs2 q75 q400) rfl rfl rfl (by decide +kernel) ⟨Nat.le_of_ble_eq_true rfl, Nat.le_of_ble_eq_true rfl⟩) (x_preV hK hO hD hP 0 i0 (hE.m h0) rfl rfl) rfl rfl hl.1 rfl (lv_room (Nat.le_of_ble_eq_true rfl)) dX0_cheapest_170 ⟨(Nat.le_of_ble_eq_true rfl), (Nat.le_of_ble_eq_true rfl)⟩) hD hA hS (fun r9 u H locs hk hP hO hD hS => ?_)
    obtain ⟨u1, σ10⟩ := u
    obtain ⟨hwp, eu⟩ := hk
    have eu : δ5 = u1 := eu.symm
    subst eu
    dsimp only at hP hO hD hwp
    refine W.widen (k := 1) (n := 7) (Nat.le_of_ble_eq_true rfl) (Nat.le_of_ble_eq_true rfl) ?_
    refine vx_ret ?_
    exact x_iret hx hb hr hlk hP hO hD hS ⟨hwp, hE⟩ dX0_cheapest_173
  · obtain ⟨δ2, σ3⟩ := u
    obtain ⟨hwp, hF4⟩ := hk
    dsimp only at hP hO hD hwp hF4
    replace hE := hE.tr hF4
    refine lv_iconst (v := 0) hx hb dX0_cheapest_14 (by decide) ?_
    refine lv_istore_n (lv' := [(2, .int 0), (0, .ref i0), (1, .int x1)]) hx hb dX0_cheapest_15 rfl hl (by decide) rfl (fun ls hl => ?_)
    refine lv_iconst (v := 0) hx hb dX0_cheapest_16 (by decide) ?_
    refine lv_istore_n (lv' := [(3, .int 0), (2, .int 0), (0, .ref i0), (1, .int x1)]) hx hb dX0_cheapest_17 rfl hl (by decide) rfl (fun ls hl => ?_)
    refine lv_iconst (v := 0) hx hb dX0_cheapest_18 (by decide) ?_
    refine lv_istore (lv' := [(4, .int 0), (3, .int 0), (2, .int 0), (0, .ref i0), (1, .int x1)]) hx hb dX0_cheapest_19 hl (by decide) rfl (fun ls hl => ?_)
    refine lv_iconst (v := 0) hx hb dX0_cheapest_21 (by decide) ?_
    refine lv_istore (lv' := [(5, .int 0), (4, .int 0), (3, .int 0), (2, .int 0), (0, .ref i0), (1, .int x1)]) hx hb dX0_cheapest_22 hl (by decide) rfl (fun ls hl => ?_)
    obtain ⟨n, hwp⟩ := hwp
    refine W.widen (k := 1) (n := 7) (Nat.le_of_ble_eq_true rfl) (Nat.le_of_ble_eq_true rfl) ?_
    exact xk_S_cheapest_24 hst Xc h0 n _ _ _ _ _ δ2 σ3 hE hwp H locs ls hP hO hD hS (lv_sub hl [4, 5, 3, 2, 1, 0] rfl)
set_option maxHeartbeats 4000000 in
set_option maxRecDepth 100000 in
theorem xt_S_cheapest {l : Launch} (hst : l.stackTraces = false) {Γ : GA} {δ0 : XSh} {σ : XSt} {K : Int32 → XSh → XSt → Prop} {i0 : Nat} (h0 : (0, i0) ∈ δ0.1) {x1 : Int32} (hwp : xw_S_cheapest K i0 x1 δ0 σ) : yI l yX0_cheapest (wsW_ yX0_cheapest cX0_cheapest 8 (some .int) [(0, 166, 167, 21)]) ({ frames := 26, cells := 1, slots := 7, locals := 568 } : Room) 1 7 Γ δ0 [.ref i0, .int x1] σ (fun r u => K r u.1 u.2 ∧ Ext δ0 u.1) (fun _ _ _ => False) := by
  intro sz
  refine yW_of (by decide) [(0, .ref i0), (1, .int x1)] (fun _ h => h) (Nat.le_of_ble_eq_true rfl) ?_
  intro p e s m args below meth c hsz Xc
  subst hsz
  exact xk_S_cheapest_e hst Xc h0 δ0 σ Ext.rf hwp
/-! S_keeps -/
def xw_S_keeps (K : Int32 → XSh → XSt → Prop) (i0 : Nat) (x1 : Int32) (δ : XSh) (σ : XSt) : Prop :=
  xw_S_mustHouse (fun δ1 σ2 => ∃ o4, σ2.2.2 0 i0 4 = some o4 ∧ (xw_G_keeps δ1 σ2 (fun r5 => K r5 δ1 σ2) o4 x1)) (fun q9 δ6 σ7 => xw_S_refused δ6 (fun r10 σ11 => K (r10 - 10) δ6 σ11) i0 q9 σ7) i0 x1 δ σ
set_option maxHeartbeats 4000000 in
set_option maxRecDepth 100000 in
theorem xk_S_keeps_e {p : Program} {l : Launch} {e : Env} {s : State} {m : MethodId} {args : Array Value} {below : List Frame} {meth : Method} {c : Code} {Γ : GA} {δ0 : XSh} {K : Int32 → XSh → XSt → Prop} {i0 : Nat} (hst : l.stackTraces = false) (Xc : CY p s m args meth c cX0_keeps 3 (some .int) RX0 Γ δ0 (tableOf [(0, 13, 14, 21)])) (h0 : (0, i0) ∈ δ0.1) {x1 : Int32} : ∀ (δ : XSh) (σ : XSt), Ext δ0 δ → xw_S_keeps K i0 x1 δ σ → TX p l e ({ frames := 25, cells := 2, slots := 14, locals := 546 } : Room) s m args below meth c 3 0 0 (VI below (fun r u => K r u.1 u.2 ∧ Ext δ0 u.1) (fun _ _ _ => False) 2 14 Γ δ0 s args) Γ δ0 δ σ 0 [(0, .ref i0), (1, .int x1)] [] := by
  obtain ⟨⟨hx, hb, hml, hown, hts, hK, hr, hlk⟩, hZ, htb⟩ := id Xc
  have hA : ∀ q, s.heap.size ≤ q → AX δ0 s.heap.size q := fun q h => Or.inr h
  intro δ σ hE hwp H locs ls hP hO hD hS hl
  unfold xw_S_keeps at hwp
  refine lv_aload_n hx hb dX0_keeps_0 rfl (lv_at hl 0 rfl) ?_
  refine lv_iload_n hx hb dX0_keeps_1 rfl (lv_at hl 1 rfl) ?_
  refine y_gov (vx_runV (As := [.int x1]) (rest := []) ⟨hx, hb, hml, hown, hts⟩ (xt_S_mustHouse hst (hE.m h0) hwp H.size) (cwV 1 hts (lw_V q863 q865 qs7 q75 q866) rfl rfl rfl (by decide +kernel) ⟨(Nat.le_of_ble_eq_true rfl), (Nat.le_of_ble_eq_true rfl)⟩) (y_preV hK hO hD hA hZ hP hS 0 i0 (hE.m h0) rfl rfl) rfl rfl hl.1 rfl (lv_room (Nat.le_of_ble_eq_true rfl)) dX0_keeps_2 ⟨(Nat.le_of_ble_eq_true rfl), (Nat.le_of_ble_eq_true rfl)⟩) hD hA hS (fun E ce q9 u H locs hk hP hO hD hS k1 k2 k3 => ?_) (fun u H locs hk hP hO hD hS => ?_)
  · obtain ⟨δ6, σ7⟩ := u
    obtain ⟨⟨rfl, hq9⟩, hwp, hF8⟩ := hk
    dsimp only at hP hO hD hwp hF8 hq9
    replace hE := hE.tr hF8
    refine vx_catch (E := RX5) (name := RX5) hown [] ⟨0, 13, 14, 21⟩ [] (htb.trans rfl) (fun z hz => nomatch hz) rfl (by decide) (hts _ q222) ((hK.2.1 (.castable RX5 RX5) (by simp [nwL])).use rfl) k1 k2 k3 ?_
    refine W.eq (g2 := F0 m 14 ls [.ref q9]) rfl ?_
    refine lv_astore_n (lv' := [(2, .ref q9), (0, .ref i0), (1, .int x1)]) hx hb dX0_keeps_14 rfl hl (by decide) rfl (fun ls hl => ?_)
    refine lv_aload_n hx hb dX0_keeps_15 rfl (lv_at hl 1 rfl) ?_
    refine lv_aload_n hx hb dX0_keeps_16 rfl (lv_at hl 0 rfl) ?_
    refine x_goi (va_runV (As := [.ref q9]) (rest := []) ⟨hx, hb, hml, hown, hts⟩ (xt_S_refused (hE.m h0) hq9 hwp H.size) (cwV 1 hts (lw_V q397 q399 qs2 q75 q400) rfl rfl rfl (by decide +kernel) ⟨Nat.le_of_ble_eq_true rfl, Nat.le_of_ble_eq_true rfl⟩) (x_preV hK hO hD hP 0 i0 (hE.m h0) rfl rfl) rfl rfl hl.1 rfl (lv_room (Nat.le_of_ble_eq_true rfl)) dX0_keeps_17 ⟨(Nat.le_of_ble_eq_true rfl), (Nat.le_of_ble_eq_true rfl)⟩) hD hA hS (fun r10 u H locs hk hP hO hD hS => ?_)
    obtain ⟨u1, σ11⟩ := u
    obtain ⟨hwp, eu⟩ := hk
    have eu : δ6 = u1 := eu.symm
    subst eu
    dsimp only at hP hO hD hwp
    refine lv_bipush (v := 10) hx hb dX0_keeps_20 (by decide) ?_
    refine lv_isub hx hb dX0_keeps_22 ?_
    refine W.widen (k := 2) (n := 14) (Nat.le_of_ble_eq_true rfl) (Nat.le_of_ble_eq_true rfl) ?_
    refine vx_ret ?_
    exact x_iret hx hb hr hlk hP hO hD hS ⟨hwp, hE⟩ dX0_keeps_23
  · obtain ⟨δ1, σ2⟩ := u
    obtain ⟨hwp, hF3⟩ := hk
    dsimp only at hP hO hD hwp hF3
    replace hE := hE.tr hF3
    refine lv_aload_n hx hb dX0_keeps_5 rfl (lv_at hl 0 rfl) ?_
    obtain ⟨o4, eo4, hwp⟩ := hwp
    refine x_getr hx hb hts hown hK hP 0 i0 (hE.m h0) rfl rfl in_X0 4 (by decide) q200 rfl rfl eo4 dX0_keeps_6 (fun ho4 co4 => ?_)
    refine lv_iload_n hx hb dX0_keeps_9 rfl (lv_at hl 1 rfl) ?_
    refine x_goi (va_runV (As := [.int x1]) (rest := []) ⟨hx, hb, hml, hown, hts⟩ (xt_G_keeps ho4 hwp H.size) (cwV 1 hts (lw_V q1116 q1103 q1104 q77 q1105) rfl rfl rfl (by decide +kernel) ⟨Nat.le_of_ble_eq_true rfl, Nat.le_of_ble_eq_true rfl⟩) (x_preV hK hO hD hP 6 o4 ho4 rfl rfl) rfl rfl hl.1 rfl (lv_room (Nat.le_of_ble_eq_true rfl)) dX0_keeps_10 ⟨(Nat.le_of_ble_eq_true rfl), (Nat.le_of_ble_eq_true rfl)⟩) hD hA hS (fun r5 u H locs hk hP hO hD hS => ?_)
    obtain ⟨hwp, eu⟩ := hk
    subst eu
    dsimp only at hP hO hD
    refine W.widen (k := 2) (n := 14) (Nat.le_of_ble_eq_true rfl) (Nat.le_of_ble_eq_true rfl) ?_
    refine vx_ret ?_
    exact x_iret hx hb hr hlk hP hO hD hS ⟨hwp, hE⟩ dX0_keeps_13
set_option maxHeartbeats 4000000 in
set_option maxRecDepth 100000 in
theorem xt_S_keeps {l : Launch} (hst : l.stackTraces = false) {Γ : GA} {δ0 : XSh} {σ : XSt} {K : Int32 → XSh → XSt → Prop} {i0 : Nat} (h0 : (0, i0) ∈ δ0.1) {x1 : Int32} (hwp : xw_S_keeps K i0 x1 δ0 σ) : yI l yX0_keeps (wsW_ yX0_keeps cX0_keeps 3 (some .int) [(0, 13, 14, 21)]) ({ frames := 25, cells := 2, slots := 14, locals := 546 } : Room) 2 14 Γ δ0 [.ref i0, .int x1] σ (fun r u => K r u.1 u.2 ∧ Ext δ0 u.1) (fun _ _ _ => False) := by
  intro sz
  refine yW_of (by decide) [(0, .ref i0), (1, .int x1)] (fun _ h => h) (Nat.le_of_ble_eq_true rfl) ?_
  intro p e s m args below meth c hsz Xc
  subst hsz
  exact xk_S_keeps_e hst Xc h0 δ0 σ Ext.rf hwp
/-! S_shuts -/
def xw_S_shuts_67_b (K : Int32 → XSh → XSt → Prop) (i0 : Nat) (L67 : Nat → Int32 → Int32 → XSh → XSt → Prop) (y1 : Nat) (x2 : Int32) (x3 : Int32) (δ : XSh) (σ : XSt) : Prop :=
  ∃ o1, σ.2.2 0 i0 4 = some o1 ∧ ((((σ.1 6 o1 0) ≤ x3) → (K x2 δ σ)) ∧ ((¬ ((σ.1 6 o1 0) ≤ x3)) → (vp_in x3 8 ∧ (vp_in x3 8 ∧ (vp_in x3 8 ∧ (∀ σ6, σ6 = tI σ 10 o1 x3.toNatClampNeg ((σ.1 10 o1 x3.toNatClampNeg) ||| (σ.1 15 y1 x3.toNatClampNeg)) → (L67 y1 x2 (x3 + 1) δ σ6)))))))
def xw_S_shuts_67 (K : Int32 → XSh → XSt → Prop) (i0 : Nat) : Nat → Nat → Int32 → Int32 → XSh → XSt → Prop
  | 0 => fun _ _ _ _ _ => False
  | n + 1 => fun y1 x2 x3 δ σ => xw_S_shuts_67_b K i0 (xw_S_shuts_67 K i0 n) y1 x2 x3 δ σ
set_option maxHeartbeats 4000000 in
set_option maxRecDepth 100000 in
theorem xk_S_shuts_67_b {p : Program} {l : Launch} {e : Env} {s : State} {m : MethodId} {args : Array Value} {below : List Frame} {meth : Method} {c : Code} {Γ : GA} {δ0 : XSh} {K : Int32 → XSh → XSt → Prop} {i0 : Nat} (hst : l.stackTraces = false) (Xc : CY p s m args meth c cX0_shuts 4 (some .int) RX0 Γ δ0 (tableOf [(0, 100, 101, 21)])) (h0 : (0, i0) ∈ δ0.1) {L67 : Nat → Int32 → Int32 → XSh → XSt → Prop} (hL67 : ∀ (y1 : Nat) (x2 : Int32) (x3 : Int32) (δ : XSh) (σ : XSt), Ext δ0 δ → (15, y1) ∈ δ.1 → L67 y1 x2 x3 δ σ → TX p l e ({ frames := 27, cells := 11, slots := 78, locals := 595 } : Room) s m args below meth c 4 11 78 (VI below (fun r u => K r u.1 u.2 ∧ Ext δ0 u.1) (fun _ _ _ => False) 11 78 Γ δ0 s args) Γ δ0 δ σ 67 [(0, .ref i0), (1, .ref y1), (2, .int x2), (3, .int x3)] []) : ∀ (y1 : Nat) (x2 : Int32) (x3 : Int32) (δ : XSh) (σ : XSt), Ext δ0 δ → (15, y1) ∈ δ.1 → xw_S_shuts_67_b K i0 L67 y1 x2 x3 δ σ → TX p l e ({ frames := 27, cells := 11, slots := 78, locals := 595 } : Room) s m args below meth c 4 11 78 (VI below (fun r u => K r u.1 u.2 ∧ Ext δ0 u.1) (fun _ _ _ => False) 11 78 Γ δ0 s args) Γ δ0 δ σ 67 [(0, .ref i0), (1, .ref y1), (2, .int x2), (3, .int x3)] [] := by
  obtain ⟨⟨hx, hb, hml, hown, hts, hK, hr, hlk⟩, hZ, htb⟩ := id Xc
  have hA : ∀ q, s.heap.size ≤ q → AX δ0 s.heap.size q := fun q h => Or.inr h
  intro y1 x2 x3 δ σ hE hy1 hwp H locs ls hP hO hD hS hl
  unfold xw_S_shuts_67_b at hwp
  refine lv_iload_n hx hb dX0_shuts_67 rfl (lv_at hl 3 rfl) ?_
  refine lv_aload_n hx hb dX0_shuts_68 rfl (lv_at hl 0 rfl) ?_
  obtain ⟨o1, eo1, hwp⟩ := hwp
  refine x_getr hx hb hts hown hK hP 0 i0 (hE.m h0) rfl rfl in_X0 4 (by decide) q200 rfl rfl eo1 dX0_shuts_69 (fun ho1 co1 => ?_)
  refine x_get hx hb hts hown hK hP 6 o1 ho1 rfl rfl in_X2 0 (by decide) q145 rfl (v := .int (σ.1 6 o1 0)) rfl dX0_shuts_72 ?_
  refine lv_icmp_ge (tgt := 99) hx hb dX0_shuts_75 (by decide) (fun c2 => ?_) (fun c2 => ?_)
  · replace hwp := hwp.1 c2
    refine lv_iload_n hx hb dX0_shuts_99 rfl (lv_at hl 2 rfl) ?_
    refine W.widen (k := 11) (n := 78) (Nat.le_of_ble_eq_true rfl) (Nat.le_of_ble_eq_true rfl) ?_
    refine vx_ret ?_
    exact x_iret hx hb hr hlk hP hO hD hS ⟨hwp, hE⟩ dX0_shuts_100
  · replace hwp := hwp.2 c2
    refine lv_aload_n hx hb dX0_shuts_78 rfl (lv_at hl 0 rfl) ?_
    refine x_getr hx hb hts hown hK hP 0 i0 (hE.m h0) rfl rfl in_X0 4 (by decide) q200 rfl rfl eo1 dX0_shuts_79 (fun ho1 co1 => ?_)
    refine x_get hx hb hts hown hK hP 6 o1 ho1 rfl rfl in_X2 8 (by decide) q166 rfl (v := .ref (δ.2.1 10 o1)) rfl dX0_shuts_82 ?_
    refine lv_iload_n hx hb dX0_shuts_85 rfl (lv_at hl 3 rfl) ?_
    refine lv_dup2_11 hx hb dX0_shuts_86 rfl rfl ?_
    obtain ⟨hi3, hwp⟩ := hwp
    refine x_iald hx hb hK hP 10 o1 ((hO.1 _ ho1).2.2) rfl hi3 dX0_shuts_87 ?_
    refine lv_aload_n hx hb dX0_shuts_88 rfl (lv_at hl 1 rfl) ?_
    refine lv_iload_n hx hb dX0_shuts_89 rfl (lv_at hl 3 rfl) ?_
    obtain ⟨hi4, hwp⟩ := hwp
    refine x_iald hx hb hK hP 15 y1 hy1 rfl hi4 dX0_shuts_90 ?_
    refine lv_ior hx hb dX0_shuts_91 ?_
    obtain ⟨hi5, hwp⟩ := hwp
    refine x_iast hx hb hK hD hP hS 10 o1 ((hO.1 _ ho1).2.2) (fun _ => rfl) hi5 dX0_shuts_92 (fun H locs hP hS => ?_)
    obtain ⟨σ6, eσ6⟩ : ∃ z, z = tI σ 10 o1 x3.toNatClampNeg ((σ.1 10 o1 x3.toNatClampNeg) ||| (σ.1 15 y1 x3.toNatClampNeg)) := ⟨_, rfl⟩
    replace hP : XH Γ δ σ6 H := by rw [eσ6]; exact hP
    replace hwp := hwp σ6 eσ6
    refine lv_iinc (v := x3 + 1) (lv' := [(3, .int (x3 + 1)), (0, .ref i0), (1, .ref y1), (2, .int x2)]) hx hb dX0_shuts_93 hl (k := 3) rfl rfl (by decide) rfl (fun ls hl => ?_)
    refine lv_goto (tgt := 67) hx hb dX0_shuts_96 (by decide) ?_
    refine W.widen (k := 11) (n := 78) (Nat.le_of_ble_eq_true rfl) (Nat.le_of_ble_eq_true rfl) ?_
    exact hL67 _ _ _ δ σ6 hE hy1 hwp H locs ls hP hO hD hS (lv_sub hl [1, 2, 3, 0] rfl)
set_option maxHeartbeats 4000000 in
set_option maxRecDepth 100000 in
theorem xk_S_shuts_67 {p : Program} {l : Launch} {e : Env} {s : State} {m : MethodId} {args : Array Value} {below : List Frame} {meth : Method} {c : Code} {Γ : GA} {δ0 : XSh} {K : Int32 → XSh → XSt → Prop} {i0 : Nat} (hst : l.stackTraces = false) (Xc : CY p s m args meth c cX0_shuts 4 (some .int) RX0 Γ δ0 (tableOf [(0, 100, 101, 21)])) (h0 : (0, i0) ∈ δ0.1) : ∀ n (y1 : Nat) (x2 : Int32) (x3 : Int32) (δ : XSh) (σ : XSt), Ext δ0 δ → (15, y1) ∈ δ.1 → xw_S_shuts_67 K i0 n y1 x2 x3 δ σ → TX p l e ({ frames := 27, cells := 11, slots := 78, locals := 595 } : Room) s m args below meth c 4 11 78 (VI below (fun r u => K r u.1 u.2 ∧ Ext δ0 u.1) (fun _ _ _ => False) 11 78 Γ δ0 s args) Γ δ0 δ σ 67 [(0, .ref i0), (1, .ref y1), (2, .int x2), (3, .int x3)] [] := by
  intro n
  induction n with
  | zero => intro _ _ _ _ _ _ _ hwp; exact hwp.elim
  | succ n ih => intro y1 x2 x3 δ σ hE hy1 hwp; exact xk_S_shuts_67_b hst Xc h0 ih y1 x2 x3 δ σ hE hy1 hwp
def xw_S_shuts_7_b (K : Int32 → XSh → XSt → Prop) (i0 : Nat) (L7 : Nat → Int32 → XSh → XSt → Prop) (y1 : Nat) (x2 : Int32) (δ : XSh) (σ : XSt) : Prop :=
  ∃ o1, σ.2.2 0 i0 4 = some o1 ∧ ((((σ.1 6 o1 0) ≤ x2) → (xw_S_cheapest (fun r3 δ4 σ5 => ∃ n, xw_S_shuts_67 K i0 n y1 r3 0 δ4 σ5) i0 0 δ σ)) ∧ ((¬ ((σ.1 6 o1 0) ≤ x2)) → (xw_G_isHouse δ σ (fun r9 => ((r9 = 0) → (L7 y1 (x2 + 1) δ σ)) ∧ ((¬ (r9 = 0)) → (xw_G_canBe δ σ (fun r11 => xw_S_need (fun δ12 σ13 => ∃ o17, σ13.2.2 0 i0 4 = some o17 ∧ (xw_G_toShut δ12 σ13 (fun r18 => vp_in x2 8 ∧ (∀ σ20, σ20 = tI σ13 15 y1 x2.toNatClampNeg r18 → (L7 y1 (x2 + 1) δ12 σ20))) o17 x2)) (fun q24 δ21 σ22 => xw_S_refused δ21 (fun r27 σ28 => K r27 δ21 σ28) i0 q24 σ22) r11 (-6) δ σ) o1 x2))) o1 x2)))
def xw_S_shuts_7 (K : Int32 → XSh → XSt → Prop) (i0 : Nat) : Nat → Nat → Int32 → XSh → XSt → Prop
  | 0 => fun _ _ _ _ => False
  | n + 1 => fun y1 x2 δ σ => xw_S_shuts_7_b K i0 (xw_S_shuts_7 K i0 n) y1 x2 δ σ
set_option maxHeartbeats 4000000 in
set_option maxRecDepth 100000 in
theorem xk_S_shuts_7_b {p : Program} {l : Launch} {e : Env} {s : State} {m : MethodId} {args : Array Value} {below : List Frame} {meth : Method} {c : Code} {Γ : GA} {δ0 : XSh} {K : Int32 → XSh → XSt → Prop} {i0 : Nat} (hst : l.stackTraces = false) (Xc : CY p s m args meth c cX0_shuts 4 (some .int) RX0 Γ δ0 (tableOf [(0, 100, 101, 21)])) (h0 : (0, i0) ∈ δ0.1) {c0 s0 : Nat} (hc0 : c0 + 1 ≤ 10) (hs0 : s0 + 7 ≤ 71) {L7 : Nat → Int32 → XSh → XSt → Prop} (hL7 : ∀ (y1 : Nat) (x2 : Int32) (δ : XSh) (σ : XSt), Ext δ0 δ → (15, y1) ∈ δ.1 → L7 y1 x2 δ σ → TX p l e ({ frames := 27, cells := 11, slots := 78, locals := 595 } : Room) s m args below meth c 4 (c0 + 1) (s0 + 7) (VI below (fun r u => K r u.1 u.2 ∧ Ext δ0 u.1) (fun _ _ _ => False) 11 78 Γ δ0 s args) Γ δ0 δ σ 7 [(0, .ref i0), (1, .ref y1), (2, .int x2)] []) : ∀ (y1 : Nat) (x2 : Int32) (δ : XSh) (σ : XSt), Ext δ0 δ → (15, y1) ∈ δ.1 → xw_S_shuts_7_b K i0 L7 y1 x2 δ σ → TX p l e ({ frames := 27, cells := 11, slots := 78, locals := 595 } : Room) s m args below meth c 4 (c0) (s0) (VI below (fun r u => K r u.1 u.2 ∧ Ext δ0 u.1) (fun _ _ _ => False) 11 78 Γ δ0 s args) Γ δ0 δ σ 7 [(0, .ref i0), (1, .ref y1), (2, .int x2)] [] := by
  obtain ⟨⟨hx, hb, hml, hown, hts, hK, hr, hlk⟩, hZ, htb⟩ := id Xc
  have hA : ∀ q, s.heap.size ≤ q → AX δ0 s.heap.size q := fun q h => Or.inr h
  intro y1 x2 δ σ hE hy1 hwp H locs ls hP hO hD hS hl
  unfold xw_S_shuts_7_b at hwp
  refine lv_iload_n hx hb dX0_shuts_7 rfl (lv_at hl 2 rfl) ?_
  refine lv_aload_n hx hb dX0_shuts_8 rfl (lv_at hl 0 rfl) ?_
  obtain ⟨o1, eo1, hwp⟩ := hwp
  refine x_getr hx hb hts hown hK hP 0 i0 (hE.m h0) rfl rfl in_X0 4 (by decide) q200 rfl rfl eo1 dX0_shuts_9 (fun ho1 co1 => ?_)
  refine x_get hx hb hts hown hK hP 6 o1 ho1 rfl rfl in_X2 0 (by decide) q145 rfl (v := .int (σ.1 6 o1 0)) rfl dX0_shuts_12 ?_
  refine lv_icmp_ge (tgt := 59) hx hb dX0_shuts_15 (by decide) (fun c2 => ?_) (fun c2 => ?_)
  · replace hwp := hwp.1 c2
    refine lv_aload_n hx hb dX0_shuts_59 rfl (lv_at hl 0 rfl) ?_
    refine lv_iconst (v := 0) hx hb dX0_shuts_60 (by decide) ?_
    refine y_goi (vx_runVX (As := [.int 0]) (rest := []) ⟨hx, hb, hml, hown, hts⟩ (xt_S_cheapest hst (hE.m h0) hwp H.size) (vx_cwVW 1 hts (lw_VW q1121 q1090 q1091 q75 q1092) rfl rfl rfl (by decide +kernel) ⟨(Nat.le_of_ble_eq_true rfl), (Nat.le_of_ble_eq_true rfl)⟩) (y_preV hK hO hD hA hZ hP hS 0 i0 (hE.m h0) rfl rfl) rfl rfl hl.1 rfl (lv_room (Nat.le_of_ble_eq_true rfl)) dX0_shuts_61 ⟨(by first | omega | (dsimp only; omega)), (by first | omega | (dsimp only; omega))⟩) hD hA hS (fun E ce q u H locs hk hP hO hD hS k1 k2 k3 => ?_) (fun r3 u H locs hk hP hO hD hS => ?_)
    · exact hk.elim
    · obtain ⟨δ4, σ5⟩ := u
      obtain ⟨hwp, hF6⟩ := hk
      dsimp only at hP hO hD hwp hF6
      have hh7 := hF6.m hy1
      replace hE := hE.tr hF6
      refine lv_istore_n (lv' := [(2, .int r3), (0, .ref i0), (1, .ref y1)]) hx hb dX0_shuts_64 rfl hl (by decide) rfl (fun ls hl => ?_)
      refine lv_iconst (v := 0) hx hb dX0_shuts_65 (by decide) ?_
      refine lv_istore_n (lv' := [(3, .int 0), (2, .int r3), (0, .ref i0), (1, .ref y1)]) hx hb dX0_shuts_66 rfl hl (by decide) rfl (fun ls hl => ?_)
      obtain ⟨n, hwp⟩ := hwp
      refine W.widen (k := 11) (n := 78) (by first | omega | (dsimp only; omega)) (by first | omega | (dsimp only; omega)) ?_
      exact xk_S_shuts_67 hst Xc h0 n _ _ _ δ4 σ5 hE hh7 hwp H locs ls hP hO hD hS (lv_sub hl [2, 3, 1, 0] rfl)
  · replace hwp := hwp.2 c2
    refine lv_aload_n hx hb dX0_shuts_18 rfl (lv_at hl 0 rfl) ?_
    refine x_getr hx hb hts hown hK hP 0 i0 (hE.m h0) rfl rfl in_X0 4 (by decide) q200 rfl rfl eo1 dX0_shuts_19 (fun ho1 co1 => ?_)
    refine lv_iload_n hx hb dX0_shuts_22 rfl (lv_at hl 2 rfl) ?_
    refine x_goi (va_runV (As := [.int x2]) (rest := []) ⟨hx, hb, hml, hown, hts⟩ (xt_G_isHouse ho1 hwp H.size) (cwV 1 hts (lw_V q858 q542 q543 q77 q544) rfl rfl rfl (by decide +kernel) ⟨Nat.le_of_ble_eq_true rfl, Nat.le_of_ble_eq_true rfl⟩) (x_preV hK hO hD hP 6 o1 ho1 rfl rfl) rfl rfl hl.1 rfl (lv_room (Nat.le_of_ble_eq_true rfl)) dX0_shuts_23 ⟨(by first | omega | (dsimp only; omega)), (by first | omega | (dsimp only; omega))⟩) hD hA hS (fun r9 u H locs hk hP hO hD hS => ?_)
    obtain ⟨hwp, eu⟩ := hk
    subst eu
    dsimp only at hP hO hD
    refine lv_if_eq (tgt := 53) hx hb dX0_shuts_26 (by decide) (fun c10 => ?_) (fun c10 => ?_)
    · replace hwp := hwp.1 c10
      refine lv_iinc (v := x2 + 1) (lv' := [(2, .int (x2 + 1)), (0, .ref i0), (1, .ref y1)]) hx hb dX0_shuts_53 hl (k := 2) rfl rfl (by decide) rfl (fun ls hl => ?_)
      refine lv_goto (tgt := 7) hx hb dX0_shuts_56 (by decide) ?_
      refine W.widen (k := c0 + 1) (n := s0 + 7) (by first | omega | (dsimp only; omega)) (by first | omega | (dsimp only; omega)) ?_
      exact hL7 _ _ δ σ hE hy1 hwp H locs ls hP hO hD hS (lv_sub hl [1, 2, 0] rfl)
    · replace hwp := hwp.2 c10
      refine lv_aload_n hx hb dX0_shuts_29 rfl (lv_at hl 0 rfl) ?_
      refine x_getr hx hb hts hown hK hP 0 i0 (hE.m h0) rfl rfl in_X0 4 (by decide) q200 rfl rfl eo1 dX0_shuts_30 (fun ho1 co1 => ?_)
      refine lv_iload_n hx hb dX0_shuts_33 rfl (lv_at hl 2 rfl) ?_
      refine x_goi (va_runV (As := [.int x2]) (rest := []) ⟨hx, hb, hml, hown, hts⟩ (xt_G_canBe ho1 hwp H.size) (cwV 1 hts (lw_V q1094 q1095 q1096 q77 q1097) rfl rfl rfl (by decide +kernel) ⟨Nat.le_of_ble_eq_true rfl, Nat.le_of_ble_eq_true rfl⟩) (x_preV hK hO hD hP 6 o1 ho1 rfl rfl) rfl rfl hl.1 rfl (lv_room (Nat.le_of_ble_eq_true rfl)) dX0_shuts_34 ⟨(by first | omega | (dsimp only; omega)), (by first | omega | (dsimp only; omega))⟩) hD hA hS (fun r11 u H locs hk hP hO hD hS => ?_)
      obtain ⟨hwp, eu⟩ := hk
      subst eu
      dsimp only at hP hO hD
      refine lv_bipush (v := (-6)) hx hb dX0_shuts_37 (by decide) ?_
      refine y_gov (vx_runS (As := [.int r11, .int (-6)]) (rest := []) ⟨hx, hb, hml, hown, hts⟩ (xt_S_need hst hwp H.size) (va_cwS 2 hts (lw_S q328 q329 q75 q330) rfl rfl rfl (by decide +kernel) ⟨(Nat.le_of_ble_eq_true rfl), (Nat.le_of_ble_eq_true rfl)⟩) (y_preS hK hO hD hA hZ hP hS) rfl rfl hl.1 rfl (lv_room (Nat.le_of_ble_eq_true rfl)) dX0_shuts_39 ⟨(by first | omega | (dsimp only; omega)), (by first | omega | (dsimp only; omega))⟩) hD hA hS (fun E ce q24 u H locs hk hP hO hD hS k1 k2 k3 => ?_) (fun u H locs hk hP hO hD hS => ?_)
      · obtain ⟨δ21, σ22⟩ := u
        obtain ⟨⟨rfl, hq24⟩, hwp, hF23⟩ := hk
        dsimp only at hP hO hD hwp hF23 hq24
        have hh25 := hF23.m hy1
        replace hE := hE.tr hF23
        refine vx_catch (E := RX5) (name := RX5) hown [] ⟨0, 100, 101, 21⟩ [] (htb.trans rfl) (fun z hz => nomatch hz) rfl (by decide) (hts _ q222) ((hK.2.1 (.castable RX5 RX5) (by simp [nwL])).use rfl) k1 k2 k3 ?_
        refine W.eq (g2 := F0 m 101 ls [.ref q24]) rfl ?_
        refine lv_astore_n (lv' := [(1, .ref q24), (0, .ref i0), (2, .int x2)]) hx hb dX0_shuts_101 rfl hl (by decide) rfl (fun ls hl => ?_)
        refine lv_aload_n hx hb dX0_shuts_102 rfl (lv_at hl 1 rfl) ?_
        refine lv_aload_n hx hb dX0_shuts_103 rfl (lv_at hl 0 rfl) ?_
        refine x_goi (va_runV (As := [.ref q24]) (rest := []) ⟨hx, hb, hml, hown, hts⟩ (xt_S_refused (hE.m h0) hq24 hwp H.size) (cwV 1 hts (lw_V q397 q399 qs2 q75 q400) rfl rfl rfl (by decide +kernel) ⟨Nat.le_of_ble_eq_true rfl, Nat.le_of_ble_eq_true rfl⟩) (x_preV hK hO hD hP 0 i0 (hE.m h0) rfl rfl) rfl rfl hl.1 rfl (lv_room (Nat.le_of_ble_eq_true rfl)) dX0_shuts_104 ⟨(by first | omega | (dsimp only; omega)), (by first | omega | (dsimp only; omega))⟩) hD hA hS (fun r27 u H locs hk hP hO hD hS => ?_)
        obtain ⟨u1, σ28⟩ := u
        obtain ⟨hwp, eu⟩ := hk
        have eu : δ21 = u1 := eu.symm
        subst eu
        dsimp only at hP hO hD hwp
        refine W.widen (k := 11) (n := 78) (by first | omega | (dsimp only; omega)) (by first | omega | (dsimp only; omega)) ?_
        refine vx_ret ?_
        exact x_iret hx hb hr hlk hP hO hD hS ⟨hwp, hE⟩ dX0_shuts_107
      · obtain ⟨δ12, σ13⟩ := u
        obtain ⟨hwp, hF14⟩ := hk
        dsimp only at hP hO hD hwp hF14
        have hh15 := hF14.m hy1
        replace hE := hE.tr hF14
        refine lv_aload_n hx hb dX0_shuts_42 rfl (lv_at hl 1 rfl) ?_
        refine lv_iload_n hx hb dX0_shuts_43 rfl (lv_at hl 2 rfl) ?_
        refine lv_aload_n hx hb dX0_shuts_44 rfl (lv_at hl 0 rfl) ?_
        obtain ⟨o17, eo17, hwp⟩ := hwp
        refine x_getr hx hb hts hown hK hP 0 i0 (hE.m h0) rfl rfl in_X0 4 (by decide) q200 rfl rfl eo17 dX0_shuts_45 (fun ho17 co17 => ?_)
        refine lv_iload_n hx hb dX0_shuts_48 rfl (lv_at hl 2 rfl) ?_
        refine x_goi (va_runV (As := [.int x2]) (rest := [.int x2, .ref y1]) ⟨hx, hb, hml, hown, hts⟩ (xt_G_toShut ho17 hwp H.size) (cwV 1 hts (lw_V q1098 q1099 q1100 q77 q1101) rfl rfl rfl (by decide +kernel) ⟨Nat.le_of_ble_eq_true rfl, Nat.le_of_ble_eq_true rfl⟩) (x_preV hK hO hD hP 6 o17 ho17 rfl rfl) rfl rfl hl.1 rfl (lv_room (Nat.le_of_ble_eq_true rfl)) dX0_shuts_49 ⟨(by first | omega | (dsimp only; omega)), (by first | omega | (dsimp only; omega))⟩) hD hA hS (fun r18 u H locs hk hP hO hD hS => ?_)
        obtain ⟨hwp, eu⟩ := hk
        subst eu
        dsimp only at hP hO hD
        obtain ⟨hi19, hwp⟩ := hwp
        refine x_iast hx hb hK hD hP hS 15 y1 hh15 (fun _ => rfl) hi19 dX0_shuts_52 (fun H locs hP hS => ?_)
        obtain ⟨σ20, eσ20⟩ : ∃ z, z = tI σ13 15 y1 x2.toNatClampNeg r18 := ⟨_, rfl⟩
        replace hP : XH Γ δ12 σ20 H := by rw [eσ20]; exact hP
        replace hwp := hwp σ20 eσ20
        refine lv_iinc (v := x2 + 1) (lv' := [(2, .int (x2 + 1)), (0, .ref i0), (1, .ref y1)]) hx hb dX0_shuts_53 hl (k := 2) rfl rfl (by decide) rfl (fun ls hl => ?_)
        refine lv_goto (tgt := 7) hx hb dX0_shuts_56 (by decide) ?_
        refine W.widen (k := c0 + 1) (n := s0 + 7) (by first | omega | (dsimp only; omega)) (by first | omega | (dsimp only; omega)) ?_
        exact hL7 _ _ δ12 σ20 hE hh15 hwp H locs ls hP hO hD hS (lv_sub hl [1, 2, 0] rfl)
set_option maxHeartbeats 4000000 in
set_option maxRecDepth 100000 in
theorem xk_S_shuts_7 {p : Program} {l : Launch} {e : Env} {s : State} {m : MethodId} {args : Array Value} {below : List Frame} {meth : Method} {c : Code} {Γ : GA} {δ0 : XSh} {K : Int32 → XSh → XSt → Prop} {i0 : Nat} (hst : l.stackTraces = false) (Xc : CY p s m args meth c cX0_shuts 4 (some .int) RX0 Γ δ0 (tableOf [(0, 100, 101, 21)])) (h0 : (0, i0) ∈ δ0.1) : ∀ n, n ≤ 9 → ∀ (y1 : Nat) (x2 : Int32) (δ : XSh) (σ : XSt), Ext δ0 δ → (15, y1) ∈ δ.1 → xw_S_shuts_7 K i0 n y1 x2 δ σ → TX p l e ({ frames := 27, cells := 11, slots := 78, locals := 595 } : Room) s m args below meth c 4 (1 + (9 - n) * 1) (8 + (9 - n) * 7) (VI below (fun r u => K r u.1 u.2 ∧ Ext δ0 u.1) (fun _ _ _ => False) 11 78 Γ δ0 s args) Γ δ0 δ σ 7 [(0, .ref i0), (1, .ref y1), (2, .int x2)] [] := by
  intro n
  induction n with
  | zero => intro _ _ _ _ _ _ _ hwp; exact hwp.elim
  | succ n ih =>
    intro hn y1 x2 δ σ hE hy1 hwp
    refine xk_S_shuts_7_b hst Xc h0 (c0 := 1 + (9 - (n + 1)) * 1) (s0 := 8 + (9 - (n + 1)) * 7) (by omega) (by omega) (fun y1 x2 δ σ hE hy1 hwp => ?_) y1 x2 δ σ hE hy1 hwp
    have h9 := ih (by omega) y1 x2 δ σ hE hy1 hwp
    rw [show 1 + (9 - (n + 1)) * 1 + 1 = 1 + (9 - n) * 1 by omega, show 8 + (9 - (n + 1)) * 7 + 7 = 8 + (9 - n) * 7 by omega]
    exact h9
def xw_S_shuts (K : Int32 → XSh → XSt → Prop) (i0 : Nat) (δ : XSh) (σ : XSt) : Prop :=
  ∀ q1 δ2 σ3, NewA δ σ q1 δ2 σ3 → (∃ n, n ≤ 9 ∧ xw_S_shuts_7 K i0 n q1 0 δ2 σ3)
set_option maxHeartbeats 4000000 in
set_option maxRecDepth 100000 in
theorem xk_S_shuts_e {p : Program} {l : Launch} {e : Env} {s : State} {m : MethodId} {args : Array Value} {below : List Frame} {meth : Method} {c : Code} {Γ : GA} {δ0 : XSh} {K : Int32 → XSh → XSt → Prop} {i0 : Nat} (hst : l.stackTraces = false) (Xc : CY p s m args meth c cX0_shuts 4 (some .int) RX0 Γ δ0 (tableOf [(0, 100, 101, 21)])) (h0 : (0, i0) ∈ δ0.1) : ∀ (δ : XSh) (σ : XSt), Ext δ0 δ → xw_S_shuts K i0  δ σ → TX p l e ({ frames := 27, cells := 11, slots := 78, locals := 595 } : Room) s m args below meth c 4 0 0 (VI below (fun r u => K r u.1 u.2 ∧ Ext δ0 u.1) (fun _ _ _ => False) 11 78 Γ δ0 s args) Γ δ0 δ σ 0 [(0, .ref i0)] [] := by
  obtain ⟨⟨hx, hb, hml, hown, hts, hK, hr, hlk⟩, hZ, htb⟩ := id Xc
  have hA : ∀ q, s.heap.size ≤ q → AX δ0 s.heap.size q := fun q h => Or.inr h
  intro δ σ hE hwp H locs ls hP hO hD hS hl
  unfold xw_S_shuts at hwp
  refine lv_bipush (v := 8) hx hb dX0_shuts_0 (by decide) ?_
  refine va_newa (D := Γ.1) (atype := .int) (ty := .int) (N' := 8) (a0 := (8, .inl (fun _ => 0))) hx hb (hts _ q134) rfl hK.1 hP.1 (hD.va (fun _ => rfl)) hS hA (fun _ => rfl) (by decide) rfl (Nat.le_of_ble_eq_true rfl) (Nat.le_of_ble_eq_true rfl) (Nat.le_of_ble_eq_true rfl) dX0_shuts_2 (fun q1 cA H hK9 hR hRD hS => ?_)
  obtain rfl : cA = Γ.2 0 := ka_same hK9 (t0 := 0) rfl
  obtain ⟨δ2, σ3, hP, hO, hD, hN4⟩ := mkA (rotP hR) (rotD hRD) hP.2 hO
  replace hE := hE.tr hN4.1.1
  replace hwp := hwp q1 δ2 σ3 hN4
  refine lv_astore_n (lv' := [(1, .ref q1), (0, .ref i0)]) hx hb dX0_shuts_4 rfl hl (by decide) rfl (fun ls hl => ?_)
  refine lv_iconst (v := 0) hx hb dX0_shuts_5 (by decide) ?_
  refine lv_istore_n (lv' := [(2, .int 0), (1, .ref q1), (0, .ref i0)]) hx hb dX0_shuts_6 rfl hl (by decide) rfl (fun ls hl => ?_)
  obtain ⟨n, hn, hwp⟩ := hwp
  refine W.widen (k := 1 + (9 - n) * 1) (n := 8 + (9 - n) * 7) (Nat.le_trans (Nat.le_of_ble_eq_true rfl) (Nat.le_add_right _ _)) (Nat.le_trans (Nat.le_of_ble_eq_true rfl) (Nat.le_add_right _ _)) ?_
  exact xk_S_shuts_7 hst Xc h0 n hn _ _ δ2 σ3 hE hN4.2.2.1 hwp H locs ls hP hO hD hS (lv_sub hl [2, 1, 0] rfl)
set_option maxHeartbeats 4000000 in
set_option maxRecDepth 100000 in
theorem xt_S_shuts {l : Launch} (hst : l.stackTraces = false) {Γ : GA} {δ0 : XSh} {σ : XSt} {K : Int32 → XSh → XSt → Prop} {i0 : Nat} (h0 : (0, i0) ∈ δ0.1) (hwp : xw_S_shuts K i0  δ0 σ) : yI l yX0_shuts (wsW_ yX0_shuts cX0_shuts 4 (some .int) [(0, 100, 101, 21)]) ({ frames := 27, cells := 11, slots := 78, locals := 595 } : Room) 11 78 Γ δ0 [.ref i0] σ (fun r u => K r u.1 u.2 ∧ Ext δ0 u.1) (fun _ _ _ => False) := by
  intro sz
  refine yW_of (by decide) [(0, .ref i0)] (fun _ h => h) (Nat.le_of_ble_eq_true rfl) ?_
  intro p e s m args below meth c hsz Xc
  subst hsz
  exact xk_S_shuts_e hst Xc h0 δ0 σ Ext.rf hwp
/-! S_curtains -/
def xw_S_curtains_137 (K : Int32 → XSh → XSt → Prop) (i0 : Nat) (L64 : Int32 → Nat → Nat → Int32 → Int32 → Int32 → Int32 → XSh → XSt → Prop) (x1 : Int32) (y2 : Nat) (y3 : Nat) (x6 : Int32) (x7 : Int32) (x8 : Int32) (δ : XSh) (σ : XSt) : Prop :=
  L64 x1 y2 y3 x7 x8 x6 (x7 + 1) δ σ
set_option maxHeartbeats 4000000 in
set_option maxRecDepth 100000 in
theorem xk_S_curtains_137 {p : Program} {l : Launch} {e : Env} {s : State} {m : MethodId} {args : Array Value} {below : List Frame} {meth : Method} {c : Code} {Γ : GA} {δ0 : XSh} {K : Int32 → XSh → XSt → Prop} {i0 : Nat} (hst : l.stackTraces = false) (Xc : CY p s m args meth c cX0_curtains 9 (some .int) RX0 Γ δ0 (tableOf [(0, 164, 165, 21)])) (h0 : (0, i0) ∈ δ0.1) {L64 : Int32 → Nat → Nat → Int32 → Int32 → Int32 → Int32 → XSh → XSt → Prop} (hL64 : ∀ (x1 : Int32) (y2 : Nat) (y3 : Nat) (x4 : Int32) (x5 : Int32) (x6 : Int32) (x7 : Int32) (δ : XSh) (σ : XSt), Ext δ0 δ → (15, y2) ∈ δ.1 → (15, y3) ∈ δ.1 → L64 x1 y2 y3 x4 x5 x6 x7 δ σ → TX p l e ({ frames := 25, cells := 3, slots := 23, locals := 545 } : Room) s m args below meth c 9 3 23 (VI below (fun r u => K r u.1 u.2 ∧ Ext δ0 u.1) (fun _ _ _ => False) 3 23 Γ δ0 s args) Γ δ0 δ σ 64 [(0, .ref i0), (1, .int x1), (2, .ref y2), (3, .ref y3), (4, .int x4), (5, .int x5), (6, .int x6), (7, .int x7)] []) : ∀ (x1 : Int32) (y2 : Nat) (y3 : Nat) (x6 : Int32) (x7 : Int32) (x8 : Int32) (δ : XSh) (σ : XSt), Ext δ0 δ → (15, y2) ∈ δ.1 → (15, y3) ∈ δ.1 → xw_S_curtains_137 K i0 L64 x1 y2 y3 x6 x7 x8 δ σ → TX p l e ({ frames := 25, cells := 3, slots := 23, locals := 545 } : Room) s m args below meth c 9 3 23 (VI below (fun r u => K r u.1 u.2 ∧ Ext δ0 u.1) (fun _ _ _ => False) 3 23 Γ δ0 s args) Γ δ0 δ σ 137 [(0, .ref i0), (1, .int x1), (2, .ref y2), (3, .ref y3), (6, .int x6), (7, .int x7), (8, .int x8)] [] := by
  obtain ⟨⟨hx, hb, hml, hown, hts, hK, hr, hlk⟩, hZ, htb⟩ := id Xc
  have hA : ∀ q, s.heap.size ≤ q → AX δ0 s.heap.size q := fun q h => Or.inr h
  intro x1 y2 y3 x6 x7 x8 δ σ hE hy2 hy3 hwp H locs ls hP hO hD hS hl
  unfold xw_S_curtains_137 at hwp
  refine lv_iload hx hb dX0_curtains_137 (lv_at hl 5 rfl) ?_
  refine lv_istore (lv' := [(4, .int x7), (0, .ref i0), (1, .int x1), (2, .ref y2), (3, .ref y3), (6, .int x6), (7, .int x7), (8, .int x8)]) hx hb dX0_curtains_139 hl (by decide) rfl (fun ls hl => ?_)
  refine lv_iload hx hb dX0_curtains_141 (lv_at hl 7 rfl) ?_
  refine lv_istore (lv' := [(5, .int x8), (4, .int x7), (0, .ref i0), (1, .int x1), (2, .ref y2), (3, .ref y3), (6, .int x6), (7, .int x7), (8, .int x8)]) hx hb dX0_curtains_143 hl (by decide) rfl (fun ls hl => ?_)
  refine lv_iinc (v := x7 + 1) (lv' := [(7, .int (x7 + 1)), (5, .int x8), (4, .int x7), (0, .ref i0), (1, .int x1), (2, .ref y2), (3, .ref y3), (6, .int x6), (8, .int x8)]) hx hb dX0_curtains_145 hl (k := 7) rfl rfl (by decide) rfl (fun ls hl => ?_)
  refine lv_goto (tgt := 64) hx hb dX0_curtains_148 (by decide) ?_
  refine W.widen (k := 3) (n := 23) (Nat.le_of_ble_eq_true rfl) (Nat.le_of_ble_eq_true rfl) ?_
  exact hL64 _ _ _ _ _ _ _ δ σ hE hy2 hy3 hwp H locs ls hP hO hD hS (lv_sub hl [3, 4, 5, 6, 2, 1, 7, 0] rfl)
def xw_S_curtains_107 (K : Int32 → XSh → XSt → Prop) (i0 : Nat) (L64 : Int32 → Nat → Nat → Int32 → Int32 → Int32 → Int32 → XSh → XSt → Prop) (x1 : Int32) (y2 : Nat) (y3 : Nat) (x4 : Int32) (x5 : Int32) (x6 : Int32) (x7 : Int32) (t0 : Int32) (t1 : Int32) (δ : XSh) (σ : XSt) : Prop :=
  ((x5 < (t1 + t0)) → (xw_S_curtains_137 K i0 L64 x1 y2 y3 x6 x7 (t1 + t0) δ σ)) ∧ ((¬ (x5 < (t1 + t0))) → (((¬ ((t1 + t0) = x5)) → (L64 x1 y2 y3 x4 x5 x6 (x7 + 1) δ σ)) ∧ (((t1 + t0) = x5) → (xw_Jn_bitCount δ σ (fun r3 => xw_Jn_bitCount δ σ (fun r4 => ((r4 ≤ r3) → (L64 x1 y2 y3 x4 x5 x6 (x7 + 1) δ σ)) ∧ ((¬ (r4 ≤ r3)) → (xw_S_curtains_137 K i0 L64 x1 y2 y3 x6 x7 (t1 + t0) δ σ))) x4) x7))))
set_option maxHeartbeats 4000000 in
set_option maxRecDepth 100000 in
theorem xk_S_curtains_107 {p : Program} {l : Launch} {e : Env} {s : State} {m : MethodId} {args : Array Value} {below : List Frame} {meth : Method} {c : Code} {Γ : GA} {δ0 : XSh} {K : Int32 → XSh → XSt → Prop} {i0 : Nat} (hst : l.stackTraces = false) (Xc : CY p s m args meth c cX0_curtains 9 (some .int) RX0 Γ δ0 (tableOf [(0, 164, 165, 21)])) (h0 : (0, i0) ∈ δ0.1) {L64 : Int32 → Nat → Nat → Int32 → Int32 → Int32 → Int32 → XSh → XSt → Prop} (hL64 : ∀ (x1 : Int32) (y2 : Nat) (y3 : Nat) (x4 : Int32) (x5 : Int32) (x6 : Int32) (x7 : Int32) (δ : XSh) (σ : XSt), Ext δ0 δ → (15, y2) ∈ δ.1 → (15, y3) ∈ δ.1 → L64 x1 y2 y3 x4 x5 x6 x7 δ σ → TX p l e ({ frames := 25, cells := 3, slots := 23, locals := 545 } : Room) s m args below meth c 9 3 23 (VI below (fun r u => K r u.1 u.2 ∧ Ext δ0 u.1) (fun _ _ _ => False) 3 23 Γ δ0 s args) Γ δ0 δ σ 64 [(0, .ref i0), (1, .int x1), (2, .ref y2), (3, .ref y3), (4, .int x4), (5, .int x5), (6, .int x6), (7, .int x7)] []) : ∀ (x1 : Int32) (y2 : Nat) (y3 : Nat) (x4 : Int32) (x5 : Int32) (x6 : Int32) (x7 : Int32) (t0 : Int32) (t1 : Int32) (δ : XSh) (σ : XSt), Ext δ0 δ → (15, y2) ∈ δ.1 → (15, y3) ∈ δ.1 → xw_S_curtains_107 K i0 L64 x1 y2 y3 x4 x5 x6 x7 t0 t1 δ σ → TX p l e ({ frames := 25, cells := 3, slots := 23, locals := 545 } : Room) s m args below meth c 9 3 23 (VI below (fun r u => K r u.1 u.2 ∧ Ext δ0 u.1) (fun _ _ _ => False) 3 23 Γ δ0 s args) Γ δ0 δ σ 107 [(0, .ref i0), (1, .int x1), (2, .ref y2), (3, .ref y3), (4, .int x4), (5, .int x5), (6, .int x6), (7, .int x7)] [.int t0, .int t1] := by
  obtain ⟨⟨hx, hb, hml, hown, hts, hK, hr, hlk⟩, hZ, htb⟩ := id Xc
  have hA : ∀ q, s.heap.size ≤ q → AX δ0 s.heap.size q := fun q h => Or.inr h
  intro x1 y2 y3 x4 x5 x6 x7 t0 t1 δ σ hE hy2 hy3 hwp H locs ls hP hO hD hS hl
  unfold xw_S_curtains_107 at hwp
  refine lv_iadd hx hb dX0_curtains_107 ?_
  refine lv_istore (lv' := [(8, .int (t1 + t0)), (0, .ref i0), (1, .int x1), (2, .ref y2), (3, .ref y3), (4, .int x4), (5, .int x5), (6, .int x6), (7, .int x7)]) hx hb dX0_curtains_108 hl (by decide) rfl (fun ls hl => ?_)
  refine lv_iload hx hb dX0_curtains_110 (lv_at hl 0 rfl) ?_
  refine lv_iload hx hb dX0_curtains_112 (lv_at hl 6 rfl) ?_
  refine lv_icmp_gt (tgt := 137) hx hb dX0_curtains_114 (by decide) (fun c1 => ?_) (fun c1 => ?_)
  · replace hwp := hwp.1 c1
    refine W.widen (k := 3) (n := 23) (Nat.le_of_ble_eq_true rfl) (Nat.le_of_ble_eq_true rfl) ?_
    exact xk_S_curtains_137 hst Xc h0 hL64 _ _ _ _ _ _ δ σ hE hy2 hy3 hwp H locs ls hP hO hD hS (lv_sub hl [1, 2, 3, 4, 7, 8, 0] rfl)
  · replace hwp := hwp.2 c1
    refine lv_iload hx hb dX0_curtains_117 (lv_at hl 0 rfl) ?_
    refine lv_iload hx hb dX0_curtains_119 (lv_at hl 6 rfl) ?_
    refine lv_icmp_ne (tgt := 145) hx hb dX0_curtains_121 (by decide) (fun c2 => ?_) (fun c2 => ?_)
    · replace hwp := hwp.1 c2
      refine lv_iinc (v := x7 + 1) (lv' := [(7, .int (x7 + 1)), (8, .int (t1 + t0)), (0, .ref i0), (1, .int x1), (2, .ref y2), (3, .ref y3), (4, .int x4), (5, .int x5), (6, .int x6)]) hx hb dX0_curtains_145 hl (k := 8) rfl rfl (by decide) rfl (fun ls hl => ?_)
      refine lv_goto (tgt := 64) hx hb dX0_curtains_148 (by decide) ?_
      refine W.widen (k := 3) (n := 23) (Nat.le_of_ble_eq_true rfl) (Nat.le_of_ble_eq_true rfl) ?_
      exact hL64 _ _ _ _ _ _ _ δ σ hE hy2 hy3 hwp H locs ls hP hO hD hS (lv_sub hl [2, 3, 4, 5, 6, 7, 8, 0] rfl)
    · replace hwp := hwp.2 c2
      refine lv_iload hx hb dX0_curtains_124 (lv_at hl 8 rfl) ?_
      refine x_goi (va_runS (As := [.int x7]) (rest := []) ⟨hx, hb, hml, hown, hts⟩ (xt_Jn_bitCount hwp H.size) (va_cwS 1 hts (lw_S q1111 q644 q96 q645) rfl rfl rfl (by decide +kernel) ⟨Nat.le_of_ble_eq_true rfl, Nat.le_of_ble_eq_true rfl⟩) (x_preS hK hO hD hP) rfl rfl hl.1 rfl (lv_room (Nat.le_of_ble_eq_true rfl)) dX0_curtains_126 ⟨(Nat.le_of_ble_eq_true rfl), (Nat.le_of_ble_eq_true rfl)⟩) hD hA hS (fun r3 u H locs hk hP hO hD hS => ?_)
      obtain ⟨hwp, eu⟩ := hk
      subst eu
      dsimp only at hP hO hD
      refine lv_iload hx hb dX0_curtains_129 (lv_at hl 5 rfl) ?_
      refine x_goi (va_runS (As := [.int x4]) (rest := [.int r3]) ⟨hx, hb, hml, hown, hts⟩ (xt_Jn_bitCount hwp H.size) (va_cwS 1 hts (lw_S q1111 q644 q96 q645) rfl rfl rfl (by decide +kernel) ⟨Nat.le_of_ble_eq_true rfl, Nat.le_of_ble_eq_true rfl⟩) (x_preS hK hO hD hP) rfl rfl hl.1 rfl (lv_room (Nat.le_of_ble_eq_true rfl)) dX0_curtains_131 ⟨(Nat.le_of_ble_eq_true rfl), (Nat.le_of_ble_eq_true rfl)⟩) hD hA hS (fun r4 u H locs hk hP hO hD hS => ?_)
      obtain ⟨hwp, eu⟩ := hk
      subst eu
      dsimp only at hP hO hD
      refine lv_icmp_ge (tgt := 145) hx hb dX0_curtains_134 (by decide) (fun c5 => ?_) (fun c5 => ?_)
      · replace hwp := hwp.1 c5
        refine lv_iinc (v := x7 + 1) (lv' := [(7, .int (x7 + 1)), (8, .int (t1 + t0)), (0, .ref i0), (1, .int x1), (2, .ref y2), (3, .ref y3), (4, .int x4), (5, .int x5), (6, .int x6)]) hx hb dX0_curtains_145 hl (k := 8) rfl rfl (by decide) rfl (fun ls hl => ?_)
        refine lv_goto (tgt := 64) hx hb dX0_curtains_148 (by decide) ?_
        refine W.widen (k := 3) (n := 23) (Nat.le_of_ble_eq_true rfl) (Nat.le_of_ble_eq_true rfl) ?_
        exact hL64 _ _ _ _ _ _ _ δ σ hE hy2 hy3 hwp H locs ls hP hO hD hS (lv_sub hl [2, 3, 4, 5, 6, 7, 8, 0] rfl)
      · replace hwp := hwp.2 c5
        refine W.widen (k := 3) (n := 23) (Nat.le_of_ble_eq_true rfl) (Nat.le_of_ble_eq_true rfl) ?_
        exact xk_S_curtains_137 hst Xc h0 hL64 _ _ _ _ _ _ δ σ hE hy2 hy3 hwp H locs ls hP hO hD hS (lv_sub hl [1, 2, 3, 4, 7, 8, 0] rfl)
def xw_S_curtains_64_b (K : Int32 → XSh → XSt → Prop) (i0 : Nat) (L64 : Int32 → Nat → Nat → Int32 → Int32 → Int32 → Int32 → XSh → XSt → Prop) (x1 : Int32) (y2 : Nat) (y3 : Nat) (x4 : Int32) (x5 : Int32) (x6 : Int32) (x7 : Int32) (δ : XSh) (σ : XSt) : Prop :=
  ((x6 < x7) → (((¬ ((x1 - x1 / 2 * 2) = 0)) → (K x5 δ σ)) ∧ (((x1 - x1 / 2 * 2) = 0) → (K x4 δ σ)))) ∧ ((¬ (x6 < x7)) → ((((x7 &&& (x6 ^^^ (-1))) = 0) → (xw_S_rightsBy δ σ (fun r4 => ((2 ≤ x1) → (xw_S_rightsBy δ σ (fun r6 => xw_S_curtains_107 K i0 L64 x1 y2 y3 x4 x5 x6 x7 r6 r4 δ σ) i0 y3 x7)) ∧ ((¬ (2 ≤ x1)) → (xw_S_curtains_107 K i0 L64 x1 y2 y3 x4 x5 x6 x7 0 r4 δ σ))) i0 y2 x7)) ∧ ((¬ ((x7 &&& (x6 ^^^ (-1))) = 0)) → (L64 x1 y2 y3 x4 x5 x6 (x7 + 1) δ σ))))
def xw_S_curtains_64 (K : Int32 → XSh → XSt → Prop) (i0 : Nat) : Nat → Int32 → Nat → Nat → Int32 → Int32 → Int32 → Int32 → XSh → XSt → Prop
  | 0 => fun _ _ _ _ _ _ _ _ _ => False
  | n + 1 => fun x1 y2 y3 x4 x5 x6 x7 δ σ => xw_S_curtains_64_b K i0 (xw_S_curtains_64 K i0 n) x1 y2 y3 x4 x5 x6 x7 δ σ
set_option maxHeartbeats 4000000 in
set_option maxRecDepth 100000 in
theorem xk_S_curtains_64_b {p : Program} {l : Launch} {e : Env} {s : State} {m : MethodId} {args : Array Value} {below : List Frame} {meth : Method} {c : Code} {Γ : GA} {δ0 : XSh} {K : Int32 → XSh → XSt → Prop} {i0 : Nat} (hst : l.stackTraces = false) (Xc : CY p s m args meth c cX0_curtains 9 (some .int) RX0 Γ δ0 (tableOf [(0, 164, 165, 21)])) (h0 : (0, i0) ∈ δ0.1) {L64 : Int32 → Nat → Nat → Int32 → Int32 → Int32 → Int32 → XSh → XSt → Prop} (hL64 : ∀ (x1 : Int32) (y2 : Nat) (y3 : Nat) (x4 : Int32) (x5 : Int32) (x6 : Int32) (x7 : Int32) (δ : XSh) (σ : XSt), Ext δ0 δ → (15, y2) ∈ δ.1 → (15, y3) ∈ δ.1 → L64 x1 y2 y3 x4 x5 x6 x7 δ σ → TX p l e ({ frames := 25, cells := 3, slots := 23, locals := 545 } : Room) s m args below meth c 9 3 23 (VI below (fun r u => K r u.1 u.2 ∧ Ext δ0 u.1) (fun _ _ _ => False) 3 23 Γ δ0 s args) Γ δ0 δ σ 64 [(0, .ref i0), (1, .int x1), (2, .ref y2), (3, .ref y3), (4, .int x4), (5, .int x5), (6, .int x6), (7, .int x7)] []) : ∀ (x1 : Int32) (y2 : Nat) (y3 : Nat) (x4 : Int32) (x5 : Int32) (x6 : Int32) (x7 : Int32) (δ : XSh) (σ : XSt), Ext δ0 δ → (15, y2) ∈ δ.1 → (15, y3) ∈ δ.1 → xw_S_curtains_64_b K i0 L64 x1 y2 y3 x4 x5 x6 x7 δ σ → TX p l e ({ frames := 25, cells := 3, slots := 23, locals := 545 } : Room) s m args below meth c 9 3 23 (VI below (fun r u => K r u.1 u.2 ∧ Ext δ0 u.1) (fun _ _ _ => False) 3 23 Γ δ0 s args) Γ δ0 δ σ 64 [(0, .ref i0), (1, .int x1), (2, .ref y2), (3, .ref y3), (4, .int x4), (5, .int x5), (6, .int x6), (7, .int x7)] [] := by
  obtain ⟨⟨hx, hb, hml, hown, hts, hK, hr, hlk⟩, hZ, htb⟩ := id Xc
  have hA : ∀ q, s.heap.size ≤ q → AX δ0 s.heap.size q := fun q h => Or.inr h
  intro x1 y2 y3 x4 x5 x6 x7 δ σ hE hy2 hy3 hwp H locs ls hP hO hD hS hl
  unfold xw_S_curtains_64_b at hwp
  refine lv_iload hx hb dX0_curtains_64 (lv_at hl 7 rfl) ?_
  refine lv_iload hx hb dX0_curtains_66 (lv_at hl 6 rfl) ?_
  refine lv_icmp_gt (tgt := 151) hx hb dX0_curtains_68 (by decide) (fun c1 => ?_) (fun c1 => ?_)
  · replace hwp := hwp.1 c1
    refine lv_iload_n hx hb dX0_curtains_151 rfl (lv_at hl 1 rfl) ?_
    refine lv_iconst (v := 2) hx hb dX0_curtains_152 (by decide) ?_
    refine lv_irem hx hb dX0_curtains_153 (by decide) ?_
    refine lv_if_ne (tgt := 162) hx hb dX0_curtains_154 (by decide) (fun c2 => ?_) (fun c2 => ?_)
    · replace hwp := hwp.1 c2
      refine lv_iload hx hb dX0_curtains_162 (lv_at hl 5 rfl) ?_
      refine W.widen (k := 3) (n := 23) (Nat.le_of_ble_eq_true rfl) (Nat.le_of_ble_eq_true rfl) ?_
      refine vx_ret ?_
      exact x_iret hx hb hr hlk hP hO hD hS ⟨hwp, hE⟩ dX0_curtains_164
    · replace hwp := hwp.2 c2
      refine lv_iload hx hb dX0_curtains_157 (lv_at hl 4 rfl) ?_
      refine lv_goto (tgt := 164) hx hb dX0_curtains_159 (by decide) ?_
      refine W.widen (k := 3) (n := 23) (Nat.le_of_ble_eq_true rfl) (Nat.le_of_ble_eq_true rfl) ?_
      refine vx_ret ?_
      exact x_iret hx hb hr hlk hP hO hD hS ⟨hwp, hE⟩ dX0_curtains_164
  · replace hwp := hwp.2 c1
    refine lv_iload hx hb dX0_curtains_71 (lv_at hl 7 rfl) ?_
    refine lv_iload hx hb dX0_curtains_73 (lv_at hl 6 rfl) ?_
    refine lv_iconst (v := (-1)) hx hb dX0_curtains_75 (by decide) ?_
    refine lv_ixor hx hb dX0_curtains_76 ?_
    refine lv_iand hx hb dX0_curtains_77 ?_
    refine lv_if_eq (tgt := 84) hx hb dX0_curtains_78 (by decide) (fun c3 => ?_) (fun c3 => ?_)
    · replace hwp := hwp.1 c3
      refine lv_aload_n hx hb dX0_curtains_84 rfl (lv_at hl 0 rfl) ?_
      refine lv_iload hx hb dX0_curtains_85 (lv_at hl 7 rfl) ?_
      refine lv_aload_n hx hb dX0_curtains_87 rfl (lv_at hl 2 rfl) ?_
      refine x_goi (va_runV (As := [.int x7, .ref y2]) (rest := []) ⟨hx, hb, hml, hown, hts⟩ (xt_S_rightsBy (hE.m h0) hy2 hwp H.size) (cwV 2 hts (lw_V q1142 q1144 qs20 q75 q1145) rfl rfl rfl (by decide +kernel) ⟨Nat.le_of_ble_eq_true rfl, Nat.le_of_ble_eq_true rfl⟩) (x_preV hK hO hD hP 0 i0 (hE.m h0) rfl rfl) rfl rfl hl.1 rfl (lv_room (Nat.le_of_ble_eq_true rfl)) dX0_curtains_88 ⟨(Nat.le_of_ble_eq_true rfl), (Nat.le_of_ble_eq_true rfl)⟩) hD hA hS (fun r4 u H locs hk hP hO hD hS => ?_)
      obtain ⟨hwp, eu⟩ := hk
      subst eu
      dsimp only at hP hO hD
      refine lv_iload_n hx hb dX0_curtains_91 rfl (lv_at hl 1 rfl) ?_
      refine lv_iconst (v := 2) hx hb dX0_curtains_92 (by decide) ?_
      refine lv_icmp_ge (tgt := 100) hx hb dX0_curtains_93 (by decide) (fun c5 => ?_) (fun c5 => ?_)
      · replace hwp := hwp.1 c5
        refine lv_aload_n hx hb dX0_curtains_100 rfl (lv_at hl 0 rfl) ?_
        refine lv_iload hx hb dX0_curtains_101 (lv_at hl 7 rfl) ?_
        refine lv_aload_n hx hb dX0_curtains_103 rfl (lv_at hl 3 rfl) ?_
        refine x_goi (va_runV (As := [.int x7, .ref y3]) (rest := [.int r4]) ⟨hx, hb, hml, hown, hts⟩ (xt_S_rightsBy (hE.m h0) hy3 hwp H.size) (cwV 2 hts (lw_V q1142 q1144 qs20 q75 q1145) rfl rfl rfl (by decide +kernel) ⟨Nat.le_of_ble_eq_true rfl, Nat.le_of_ble_eq_true rfl⟩) (x_preV hK hO hD hP 0 i0 (hE.m h0) rfl rfl) rfl rfl hl.1 rfl (lv_room (Nat.le_of_ble_eq_true rfl)) dX0_curtains_104 ⟨(Nat.le_of_ble_eq_true rfl), (Nat.le_of_ble_eq_true rfl)⟩) hD hA hS (fun r6 u H locs hk hP hO hD hS => ?_)
        obtain ⟨hwp, eu⟩ := hk
        subst eu
        dsimp only at hP hO hD
        refine W.widen (k := 3) (n := 23) (Nat.le_of_ble_eq_true rfl) (Nat.le_of_ble_eq_true rfl) ?_
        exact xk_S_curtains_107 hst Xc h0 hL64 _ _ _ _ _ _ _ _ _ δ σ hE hy2 hy3 hwp H locs ls hP hO hD hS (lv_sub hl [0, 1, 2, 3, 4, 5, 6, 7] rfl)
      · replace hwp := hwp.2 c5
        refine lv_iconst (v := 0) hx hb dX0_curtains_96 (by decide) ?_
        refine lv_goto (tgt := 107) hx hb dX0_curtains_97 (by decide) ?_
        refine W.widen (k := 3) (n := 23) (Nat.le_of_ble_eq_true rfl) (Nat.le_of_ble_eq_true rfl) ?_
        exact xk_S_curtains_107 hst Xc h0 hL64 _ _ _ _ _ _ _ _ _ δ σ hE hy2 hy3 hwp H locs ls hP hO hD hS (lv_sub hl [0, 1, 2, 3, 4, 5, 6, 7] rfl)
    · replace hwp := hwp.2 c3
      refine lv_goto (tgt := 145) hx hb dX0_curtains_81 (by decide) ?_
      refine lv_iinc (v := x7 + 1) (lv' := [(7, .int (x7 + 1)), (0, .ref i0), (1, .int x1), (2, .ref y2), (3, .ref y3), (4, .int x4), (5, .int x5), (6, .int x6)]) hx hb dX0_curtains_145 hl (k := 7) rfl rfl (by decide) rfl (fun ls hl => ?_)
      refine lv_goto (tgt := 64) hx hb dX0_curtains_148 (by decide) ?_
      refine W.widen (k := 3) (n := 23) (Nat.le_of_ble_eq_true rfl) (Nat.le_of_ble_eq_true rfl) ?_
      exact hL64 _ _ _ _ _ _ _ δ σ hE hy2 hy3 hwp H locs ls hP hO hD hS (lv_sub hl [1, 2, 3, 4, 5, 6, 7, 0] rfl)
set_option maxHeartbeats 4000000 in
set_option maxRecDepth 100000 in
theorem xk_S_curtains_64 {p : Program} {l : Launch} {e : Env} {s : State} {m : MethodId} {args : Array Value} {below : List Frame} {meth : Method} {c : Code} {Γ : GA} {δ0 : XSh} {K : Int32 → XSh → XSt → Prop} {i0 : Nat} (hst : l.stackTraces = false) (Xc : CY p s m args meth c cX0_curtains 9 (some .int) RX0 Γ δ0 (tableOf [(0, 164, 165, 21)])) (h0 : (0, i0) ∈ δ0.1) : ∀ n (x1 : Int32) (y2 : Nat) (y3 : Nat) (x4 : Int32) (x5 : Int32) (x6 : Int32) (x7 : Int32) (δ : XSh) (σ : XSt), Ext δ0 δ → (15, y2) ∈ δ.1 → (15, y3) ∈ δ.1 → xw_S_curtains_64 K i0 n x1 y2 y3 x4 x5 x6 x7 δ σ → TX p l e ({ frames := 25, cells := 3, slots := 23, locals := 545 } : Room) s m args below meth c 9 3 23 (VI below (fun r u => K r u.1 u.2 ∧ Ext δ0 u.1) (fun _ _ _ => False) 3 23 Γ δ0 s args) Γ δ0 δ σ 64 [(0, .ref i0), (1, .int x1), (2, .ref y2), (3, .ref y3), (4, .int x4), (5, .int x5), (6, .int x6), (7, .int x7)] [] := by
  intro n
  induction n with
  | zero => intro _ _ _ _ _ _ _ _ _ _ _ _ hwp; exact hwp.elim
  | succ n ih => intro x1 y2 y3 x4 x5 x6 x7 δ σ hE hy2 hy3 hwp; exact xk_S_curtains_64_b hst Xc h0 ih x1 y2 y3 x4 x5 x6 x7 δ σ hE hy2 hy3 hwp
def xw_S_curtains_42 (K : Int32 → XSh → XSt → Prop) (i0 : Nat) (x1 : Int32) (y2 : Nat) (t0 : Int32) (z1 : Nat) (δ : XSh) (σ : XSt) : Prop :=
  xw_S_allInto (fun r1 δ2 σ3 => ∃ o7, σ3.2.2 0 i0 4 = some o7 ∧ (xw_G_houses δ2 σ3 (fun r8 => ∃ n, xw_S_curtains_64 K i0 n x1 y2 r1 0 (-1) r8 0 δ2 σ3) o7)) z1 t0 δ σ
set_option maxHeartbeats 4000000 in
set_option maxRecDepth 100000 in
theorem xk_S_curtains_42 {p : Program} {l : Launch} {e : Env} {s : State} {m : MethodId} {args : Array Value} {below : List Frame} {meth : Method} {c : Code} {Γ : GA} {δ0 : XSh} {K : Int32 → XSh → XSt → Prop} {i0 : Nat} (hst : l.stackTraces = false) (Xc : CY p s m args meth c cX0_curtains 9 (some .int) RX0 Γ δ0 (tableOf [(0, 164, 165, 21)])) (h0 : (0, i0) ∈ δ0.1) : ∀ (x1 : Int32) (y2 : Nat) (t0 : Int32) (z1 : Nat) (δ : XSh) (σ : XSt), Ext δ0 δ → (15, y2) ∈ δ.1 → (0, z1) ∈ δ.1 → xw_S_curtains_42 K i0 x1 y2 t0 z1 δ σ → TX p l e ({ frames := 25, cells := 3, slots := 23, locals := 545 } : Room) s m args below meth c 9 2 15 (VI below (fun r u => K r u.1 u.2 ∧ Ext δ0 u.1) (fun _ _ _ => False) 3 23 Γ δ0 s args) Γ δ0 δ σ 42 [(0, .ref i0), (1, .int x1), (2, .ref y2)] [.int t0, .ref z1] := by
  obtain ⟨⟨hx, hb, hml, hown, hts, hK, hr, hlk⟩, hZ, htb⟩ := id Xc
  have hA : ∀ q, s.heap.size ≤ q → AX δ0 s.heap.size q := fun q h => Or.inr h
  intro x1 y2 t0 z1 δ σ hE hy2 hz1 hwp H locs ls hP hO hD hS hl
  unfold xw_S_curtains_42 at hwp
  refine y_gor (vx_runV (As := [.int t0]) (rest := []) ⟨hx, hb, hml, hown, hts⟩ (xt_S_allInto hst hz1 hwp H.size) (cwV 1 hts (lw_V q1134 q1136 qs18 q75 q1137) rfl rfl rfl (by decide +kernel) ⟨(Nat.le_of_ble_eq_true rfl), (Nat.le_of_ble_eq_true rfl)⟩) (y_preV hK hO hD hA hZ hP hS 0 z1 hz1 rfl rfl) rfl rfl hl.1 rfl (lv_room (Nat.le_of_ble_eq_true rfl)) dX0_curtains_42 ⟨(Nat.le_of_ble_eq_true rfl), (Nat.le_of_ble_eq_true rfl)⟩) hD hA hS (fun E ce q u H locs hk hP hO hD hS k1 k2 k3 => ?_) (fun r1 u H locs hk hP hO hD hS => ?_)
  · exact hk.elim
  · obtain ⟨δ2, σ3⟩ := u
    obtain ⟨⟨hwp, hF4⟩, hr1, cr1⟩ := hk
    dsimp only at hP hO hD hwp hF4 hr1 cr1
    have hh5 := hF4.m hy2
    replace hE := hE.tr hF4
    refine lv_astore_n (lv' := [(3, .ref r1), (0, .ref i0), (1, .int x1), (2, .ref y2)]) hx hb dX0_curtains_45 rfl hl (by decide) rfl (fun ls hl => ?_)
    refine lv_iconst (v := 0) hx hb dX0_curtains_46 (by decide) ?_
    refine lv_istore (lv' := [(4, .int 0), (3, .ref r1), (0, .ref i0), (1, .int x1), (2, .ref y2)]) hx hb dX0_curtains_47 hl (by decide) rfl (fun ls hl => ?_)
    refine lv_iconst (v := (-1)) hx hb dX0_curtains_49 (by decide) ?_
    refine lv_istore (lv' := [(5, .int (-1)), (4, .int 0), (3, .ref r1), (0, .ref i0), (1, .int x1), (2, .ref y2)]) hx hb dX0_curtains_50 hl (by decide) rfl (fun ls hl => ?_)
    refine lv_aload_n hx hb dX0_curtains_52 rfl (lv_at hl 3 rfl) ?_
    obtain ⟨o7, eo7, hwp⟩ := hwp
    refine x_getr hx hb hts hown hK hP 0 i0 (hE.m h0) rfl rfl in_X0 4 (by decide) q200 rfl rfl eo7 dX0_curtains_53 (fun ho7 co7 => ?_)
    refine x_goi (va_runV (As := []) (rest := []) ⟨hx, hb, hml, hown, hts⟩ (xt_G_houses ho7 hwp H.size) (cwV 0 hts (lw_V q1073 q1074 q1075 q77 q1076) rfl rfl rfl (by decide +kernel) ⟨Nat.le_of_ble_eq_true rfl, Nat.le_of_ble_eq_true rfl⟩) (x_preV hK hO hD hP 6 o7 ho7 rfl rfl) rfl rfl hl.1 rfl (lv_room (Nat.le_of_ble_eq_true rfl)) dX0_curtains_56 ⟨(Nat.le_of_ble_eq_true rfl), (Nat.le_of_ble_eq_true rfl)⟩) hD hA hS (fun r8 u H locs hk hP hO hD hS => ?_)
    obtain ⟨hwp, eu⟩ := hk
    subst eu
    dsimp only at hP hO hD
    refine lv_istore (lv' := [(6, .int r8), (5, .int (-1)), (4, .int 0), (3, .ref r1), (0, .ref i0), (1, .int x1), (2, .ref y2)]) hx hb dX0_curtains_59 hl (by decide) rfl (fun ls hl => ?_)
    refine lv_iconst (v := 0) hx hb dX0_curtains_61 (by decide) ?_
    refine lv_istore (lv' := [(7, .int 0), (6, .int r8), (5, .int (-1)), (4, .int 0), (3, .ref r1), (0, .ref i0), (1, .int x1), (2, .ref y2)]) hx hb dX0_curtains_62 hl (by decide) rfl (fun ls hl => ?_)
    obtain ⟨n, hwp⟩ := hwp
    refine W.widen (k := 3) (n := 23) (Nat.le_of_ble_eq_true rfl) (Nat.le_of_ble_eq_true rfl) ?_
    exact xk_S_curtains_64 hst Xc h0 n _ _ _ _ _ _ _ δ2 σ3 hE hh5 hr1 hwp H locs ls hP hO hD hS (lv_sub hl [5, 6, 7, 4, 3, 2, 1, 0] rfl)
def xw_S_curtains (K : Int32 → XSh → XSt → Prop) (i0 : Nat) (x1 : Int32) (δ : XSh) (σ : XSt) : Prop :=
  xw_S_in δ σ (fun r1 => xw_S_need (fun δ2 σ3 => ∃ o5, σ3.2.2 0 i0 4 = some o5 ∧ (xw_S_allInto (fun r6 δ7 σ8 => ∃ o10, σ8.2.2 0 i0 4 = some o10 ∧ (((¬ ((σ8.1 6 o10 1) = 0)) → (xw_S_curtains_42 K i0 x1 r6 0 i0 δ7 σ8)) ∧ (((σ8.1 6 o10 1) = 0) → (xw_S_curtains_42 K i0 x1 r6 1 i0 δ7 σ8)))) i0 (σ3.1 6 o5 1) δ2 σ3)) (fun q15 δ12 σ13 => xw_S_refused δ12 (fun r16 σ17 => K r16 δ12 σ17) i0 q15 σ13) r1 (-5) δ σ) x1.toInt64 0 3
set_option maxHeartbeats 4000000 in
set_option maxRecDepth 100000 in
theorem xk_S_curtains_e {p : Program} {l : Launch} {e : Env} {s : State} {m : MethodId} {args : Array Value} {below : List Frame} {meth : Method} {c : Code} {Γ : GA} {δ0 : XSh} {K : Int32 → XSh → XSt → Prop} {i0 : Nat} (hst : l.stackTraces = false) (Xc : CY p s m args meth c cX0_curtains 9 (some .int) RX0 Γ δ0 (tableOf [(0, 164, 165, 21)])) (h0 : (0, i0) ∈ δ0.1) {x1 : Int32} : ∀ (δ : XSh) (σ : XSt), Ext δ0 δ → xw_S_curtains K i0 x1 δ σ → TX p l e ({ frames := 25, cells := 3, slots := 23, locals := 545 } : Room) s m args below meth c 9 0 0 (VI below (fun r u => K r u.1 u.2 ∧ Ext δ0 u.1) (fun _ _ _ => False) 3 23 Γ δ0 s args) Γ δ0 δ σ 0 [(0, .ref i0), (1, .int x1)] [] := by
  obtain ⟨⟨hx, hb, hml, hown, hts, hK, hr, hlk⟩, hZ, htb⟩ := id Xc
  have hA : ∀ q, s.heap.size ≤ q → AX δ0 s.heap.size q := fun q h => Or.inr h
  intro δ σ hE hwp H locs ls hP hO hD hS hl
  unfold xw_S_curtains at hwp
  refine lv_iload_n hx hb dX0_curtains_0 rfl (lv_at hl 1 rfl) ?_
  refine lv_i2l (v := x1.toInt64) hx hb dX0_curtains_1 rfl ?_
  refine lv_lconst (v := 0) hx hb dX0_curtains_2 (by decide) ?_
  refine lv_ldc2 hx hb hown (hts _ q331) dX0_curtains_3 ?_
  refine x_goi (va_runS (As := [.long x1.toInt64, .long 0, .long 3]) (rest := []) ⟨hx, hb, hml, hown, hts⟩ (xt_S_in hwp H.size) (va_cwS 3 hts (lw_S q332 q333 q75 q334) rfl rfl rfl (by decide +kernel) ⟨Nat.le_of_ble_eq_true rfl, Nat.le_of_ble_eq_true rfl⟩) (x_preS hK hO hD hP) rfl rfl hl.1 rfl (lv_room (Nat.le_of_ble_eq_true rfl)) dX0_curtains_6 ⟨(Nat.le_of_ble_eq_true rfl), (Nat.le_of_ble_eq_true rfl)⟩) hD hA hS (fun r1 u H locs hk hP hO hD hS => ?_)
  obtain ⟨hwp, eu⟩ := hk
  subst eu
  dsimp only at hP hO hD
  refine lv_bipush (v := (-5)) hx hb dX0_curtains_9 (by decide) ?_
  refine y_gov (vx_runS (As := [.int r1, .int (-5)]) (rest := []) ⟨hx, hb, hml, hown, hts⟩ (xt_S_need hst hwp H.size) (va_cwS 2 hts (lw_S q328 q329 q75 q330) rfl rfl rfl (by decide +kernel) ⟨(Nat.le_of_ble_eq_true rfl), (Nat.le_of_ble_eq_true rfl)⟩) (y_preS hK hO hD hA hZ hP hS) rfl rfl hl.1 rfl (lv_room (Nat.le_of_ble_eq_true rfl)) dX0_curtains_11 ⟨(Nat.le_of_ble_eq_true rfl), (Nat.le_of_ble_eq_true rfl)⟩) hD hA hS (fun E ce q15 u H locs hk hP hO hD hS k1 k2 k3 => ?_) (fun u H locs hk hP hO hD hS => ?_)
  · obtain ⟨δ12, σ13⟩ := u
    obtain ⟨⟨rfl, hq15⟩, hwp, hF14⟩ := hk
    dsimp only at hP hO hD hwp hF14 hq15
    replace hE := hE.tr hF14
    refine vx_catch (E := RX5) (name := RX5) hown [] ⟨0, 164, 165, 21⟩ [] (htb.trans rfl) (fun z hz => nomatch hz) rfl (by decide) (hts _ q222) ((hK.2.1 (.castable RX5 RX5) (by simp [nwL])).use rfl) k1 k2 k3 ?_
    refine W.eq (g2 := F0 m 165 ls [.ref q15]) rfl ?_
    refine lv_astore_n (lv' := [(2, .ref q15), (0, .ref i0), (1, .int x1)]) hx hb dX0_curtains_165 rfl hl (by decide) rfl (fun ls hl => ?_)
    refine lv_aload_n hx hb dX0_curtains_166 rfl (lv_at hl 1 rfl) ?_
    refine lv_aload_n hx hb dX0_curtains_167 rfl (lv_at hl 0 rfl) ?_
    refine x_goi (va_runV (As := [.ref q15]) (rest := []) ⟨hx, hb, hml, hown, hts⟩ (xt_S_refused (hE.m h0) hq15 hwp H.size) (cwV 1 hts (lw_V q397 q399 qs2 q75 q400) rfl rfl rfl (by decide +kernel) ⟨Nat.le_of_ble_eq_true rfl, Nat.le_of_ble_eq_true rfl⟩) (x_preV hK hO hD hP 0 i0 (hE.m h0) rfl rfl) rfl rfl hl.1 rfl (lv_room (Nat.le_of_ble_eq_true rfl)) dX0_curtains_168 ⟨(Nat.le_of_ble_eq_true rfl), (Nat.le_of_ble_eq_true rfl)⟩) hD hA hS (fun r16 u H locs hk hP hO hD hS => ?_)
    obtain ⟨u1, σ17⟩ := u
    obtain ⟨hwp, eu⟩ := hk
    have eu : δ12 = u1 := eu.symm
    subst eu
    dsimp only at hP hO hD hwp
    refine W.widen (k := 3) (n := 23) (Nat.le_of_ble_eq_true rfl) (Nat.le_of_ble_eq_true rfl) ?_
    refine vx_ret ?_
    exact x_iret hx hb hr hlk hP hO hD hS ⟨hwp, hE⟩ dX0_curtains_171
  · obtain ⟨δ2, σ3⟩ := u
    obtain ⟨hwp, hF4⟩ := hk
    dsimp only at hP hO hD hwp hF4
    replace hE := hE.tr hF4
    refine lv_aload_n hx hb dX0_curtains_14 rfl (lv_at hl 0 rfl) ?_
    refine lv_aload_n hx hb dX0_curtains_15 rfl (lv_at hl 0 rfl) ?_
    obtain ⟨o5, eo5, hwp⟩ := hwp
    refine x_getr hx hb hts hown hK hP 0 i0 (hE.m h0) rfl rfl in_X0 4 (by decide) q200 rfl rfl eo5 dX0_curtains_16 (fun ho5 co5 => ?_)
    refine x_get hx hb hts hown hK hP 6 o5 ho5 rfl rfl in_X2 1 (by decide) q148 rfl (v := .int (σ3.1 6 o5 1)) rfl dX0_curtains_19 ?_
    refine y_gor (vx_runV (As := [.int (σ3.1 6 o5 1)]) (rest := []) ⟨hx, hb, hml, hown, hts⟩ (xt_S_allInto hst (hE.m h0) hwp H.size) (cwV 1 hts (lw_V q1134 q1136 qs18 q75 q1137) rfl rfl rfl (by decide +kernel) ⟨(Nat.le_of_ble_eq_true rfl), (Nat.le_of_ble_eq_true rfl)⟩) (y_preV hK hO hD hA hZ hP hS 0 i0 (hE.m h0) rfl rfl) rfl rfl hl.1 rfl (lv_room (Nat.le_of_ble_eq_true rfl)) dX0_curtains_22 ⟨(Nat.le_of_ble_eq_true rfl), (Nat.le_of_ble_eq_true rfl)⟩) hD hA hS (fun E ce q u H locs hk hP hO hD hS k1 k2 k3 => ?_) (fun r6 u H locs hk hP hO hD hS => ?_)
    · exact hk.elim
    · obtain ⟨δ7, σ8⟩ := u
      obtain ⟨⟨hwp, hF9⟩, hr6, cr6⟩ := hk
      dsimp only at hP hO hD hwp hF9 hr6 cr6
      replace hE := hE.tr hF9
      refine lv_astore_n (lv' := [(2, .ref r6), (0, .ref i0), (1, .int x1)]) hx hb dX0_curtains_25 rfl hl (by decide) rfl (fun ls hl => ?_)
      refine lv_aload_n hx hb dX0_curtains_26 rfl (lv_at hl 1 rfl) ?_
      refine lv_aload_n hx hb dX0_curtains_27 rfl (lv_at hl 1 rfl) ?_
      obtain ⟨o10, eo10, hwp⟩ := hwp
      refine x_getr hx hb hts hown hK hP 0 i0 (hE.m h0) rfl rfl in_X0 4 (by decide) q200 rfl rfl eo10 dX0_curtains_28 (fun ho10 co10 => ?_)
      refine x_get hx hb hts hown hK hP 6 o10 ho10 rfl rfl in_X2 1 (by decide) q148 rfl (v := .int (σ8.1 6 o10 1)) rfl dX0_curtains_31 ?_
      refine lv_if_ne (tgt := 41) hx hb dX0_curtains_34 (by decide) (fun c11 => ?_) (fun c11 => ?_)
      · replace hwp := hwp.1 c11
        refine lv_iconst (v := 0) hx hb dX0_curtains_41 (by decide) ?_
        refine W.widen (k := 2) (n := 15) (Nat.le_of_ble_eq_true rfl) (Nat.le_of_ble_eq_true rfl) ?_
        exact xk_S_curtains_42 hst Xc h0 _ _ _ _ δ7 σ8 hE hr6 (hE.m h0) hwp H locs ls hP hO hD hS (lv_sub hl [1, 2, 0] rfl)
      · replace hwp := hwp.2 c11
        refine lv_iconst (v := 1) hx hb dX0_curtains_37 (by decide) ?_
        refine lv_goto (tgt := 42) hx hb dX0_curtains_38 (by decide) ?_
        refine W.widen (k := 2) (n := 15) (Nat.le_of_ble_eq_true rfl) (Nat.le_of_ble_eq_true rfl) ?_
        exact xk_S_curtains_42 hst Xc h0 _ _ _ _ δ7 σ8 hE hr6 (hE.m h0) hwp H locs ls hP hO hD hS (lv_sub hl [1, 2, 0] rfl)
set_option maxHeartbeats 4000000 in
set_option maxRecDepth 100000 in
theorem xt_S_curtains {l : Launch} (hst : l.stackTraces = false) {Γ : GA} {δ0 : XSh} {σ : XSt} {K : Int32 → XSh → XSt → Prop} {i0 : Nat} (h0 : (0, i0) ∈ δ0.1) {x1 : Int32} (hwp : xw_S_curtains K i0 x1 δ0 σ) : yI l yX0_curtains (wsW_ yX0_curtains cX0_curtains 9 (some .int) [(0, 164, 165, 21)]) ({ frames := 25, cells := 3, slots := 23, locals := 545 } : Room) 3 23 Γ δ0 [.ref i0, .int x1] σ (fun r u => K r u.1 u.2 ∧ Ext δ0 u.1) (fun _ _ _ => False) := by
  intro sz
  refine yW_of (by decide) [(0, .ref i0), (1, .int x1)] (fun _ h => h) (Nat.le_of_ble_eq_true rfl) ?_
  intro p e s m args below meth c hsz Xc
  subst hsz
  exact xk_S_curtains_e hst Xc h0 δ0 σ Ext.rf hwp
/-! S_newly -/
def xw_S_newly_129 (K : Int32 → XSh → XSt → Prop) (i0 : Nat) (z0 : Nat) (δ : XSh) (σ : XSt) : Prop :=
  xw_S_refused δ (fun r1 σ2 => K r1 δ σ2) i0 z0 σ
set_option maxHeartbeats 4000000 in
set_option maxRecDepth 100000 in
theorem xk_S_newly_129 {p : Program} {l : Launch} {e : Env} {s : State} {m : MethodId} {args : Array Value} {below : List Frame} {meth : Method} {c : Code} {Γ : GA} {δ0 : XSh} {K : Int32 → XSh → XSt → Prop} {i0 : Nat} (hst : l.stackTraces = false) (Xc : CY p s m args meth c cX0_newly 8 (some .int) RX0 Γ δ0 (tableOf [(0, 128, 129, 21)])) (h0 : (0, i0) ∈ δ0.1) : ∀ (z0 : Nat) (δ : XSh) (σ : XSt), Ext δ0 δ → (13, z0) ∈ δ.1 → xw_S_newly_129 K i0 z0 δ σ → TX p l e ({ frames := 26, cells := 103, slots := 418, locals := 563 } : Room) s m args below meth c 8 2 14 (VI below (fun r u => K r u.1 u.2 ∧ Ext δ0 u.1) (fun _ _ _ => False) 103 418 Γ δ0 s args) Γ δ0 δ σ 129 [(0, .ref i0)] [.ref z0] := by
  obtain ⟨⟨hx, hb, hml, hown, hts, hK, hr, hlk⟩, hZ, htb⟩ := id Xc
  have hA : ∀ q, s.heap.size ≤ q → AX δ0 s.heap.size q := fun q h => Or.inr h
  intro z0 δ σ hE hz0 hwp H locs ls hP hO hD hS hl
  unfold xw_S_newly_129 at hwp
  refine lv_astore_n (lv' := [(2, .ref z0), (0, .ref i0)]) hx hb dX0_newly_129 rfl hl (by decide) rfl (fun ls hl => ?_)
  refine lv_aload_n hx hb dX0_newly_130 rfl (lv_at hl 1 rfl) ?_
  refine lv_aload_n hx hb dX0_newly_131 rfl (lv_at hl 0 rfl) ?_
  refine x_goi (va_runV (As := [.ref z0]) (rest := []) ⟨hx, hb, hml, hown, hts⟩ (xt_S_refused (hE.m h0) hz0 hwp H.size) (cwV 1 hts (lw_V q397 q399 qs2 q75 q400) rfl rfl rfl (by decide +kernel) ⟨Nat.le_of_ble_eq_true rfl, Nat.le_of_ble_eq_true rfl⟩) (x_preV hK hO hD hP 0 i0 (hE.m h0) rfl rfl) rfl rfl hl.1 rfl (lv_room (Nat.le_of_ble_eq_true rfl)) dX0_newly_132 ⟨(Nat.le_of_ble_eq_true rfl), (Nat.le_of_ble_eq_true rfl)⟩) hD hA hS (fun r1 u H locs hk hP hO hD hS => ?_)
  obtain ⟨u1, σ2⟩ := u
  obtain ⟨hwp, eu⟩ := hk
  have eu : δ = u1 := eu.symm
  subst eu
  dsimp only at hP hO hD hwp
  refine W.widen (k := 103) (n := 418) (Nat.le_of_ble_eq_true rfl) (Nat.le_of_ble_eq_true rfl) ?_
  refine vx_ret ?_
  exact x_iret hx hb hr hlk hP hO hD hS ⟨hwp, hE⟩ dX0_newly_135
def xw_S_newly_43_b (K : Int32 → XSh → XSt → Prop) (i0 : Nat) (L43 : Int32 → Int32 → Int32 → Int32 → XSh → XSt → Prop) (x1 : Int32) (x2 : Int32) (x3 : Int32) (x4 : Int32) (δ : XSh) (σ : XSt) : Prop :=
  ((100 ≤ x4) → (K x2 δ σ)) ∧ ((¬ (100 ≤ x4)) → (∃ o2, σ.2.2 0 i0 4 = some o2 ∧ (xw_G_isFree δ σ (fun r3 => ((r3 = 0) → (L43 x1 x2 x3 (x4 + 1) δ σ)) ∧ ((¬ (r3 = 0)) → (∃ o5, σ.2.2 0 i0 3 = some o5 ∧ (xw_G_take δ (fun r6 σ7 => xw_G_add (fun r8 δ9 σ10 => ∃ o12, σ10.2.2 0 i0 3 = some o12 ∧ (xw_G_rights δ9 σ10 (fun r13 => ((r13 ≤ x3) → (L43 x1 x2 x3 (x4 + 1) δ9 σ10)) ∧ ((¬ (r13 ≤ x3)) → (L43 x1 x4 r13 (x4 + 1) δ9 σ10))) o12)) r6 1 (x4 - x4 / 10 * 10) (x4 / 10) x1 0 δ σ7) o5 o2 σ)))) o2 (x4 - x4 / 10 * 10) (x4 / 10))))
def xw_S_newly_43 (K : Int32 → XSh → XSt → Prop) (i0 : Nat) : Nat → Int32 → Int32 → Int32 → Int32 → XSh → XSt → Prop
  | 0 => fun _ _ _ _ _ _ => False
  | n + 1 => fun x1 x2 x3 x4 δ σ => xw_S_newly_43_b K i0 (xw_S_newly_43 K i0 n) x1 x2 x3 x4 δ σ
set_option maxHeartbeats 4000000 in
set_option maxRecDepth 100000 in
theorem xk_S_newly_43_b {p : Program} {l : Launch} {e : Env} {s : State} {m : MethodId} {args : Array Value} {below : List Frame} {meth : Method} {c : Code} {Γ : GA} {δ0 : XSh} {K : Int32 → XSh → XSt → Prop} {i0 : Nat} (hst : l.stackTraces = false) (Xc : CY p s m args meth c cX0_newly 8 (some .int) RX0 Γ δ0 (tableOf [(0, 128, 129, 21)])) (h0 : (0, i0) ∈ δ0.1) {c0 s0 : Nat} (hc0 : c0 + 1 ≤ 103) (hs0 : s0 + 4 ≤ 418) {L43 : Int32 → Int32 → Int32 → Int32 → XSh → XSt → Prop} (hL43 : ∀ (x1 : Int32) (x2 : Int32) (x3 : Int32) (x4 : Int32) (δ : XSh) (σ : XSt), Ext δ0 δ → L43 x1 x2 x3 x4 δ σ → TX p l e ({ frames := 26, cells := 103, slots := 418, locals := 563 } : Room) s m args below meth c 8 (c0 + 1) (s0 + 4) (VI below (fun r u => K r u.1 u.2 ∧ Ext δ0 u.1) (fun _ _ _ => False) 103 418 Γ δ0 s args) Γ δ0 δ σ 43 [(0, .ref i0), (1, .int x1), (2, .int x2), (3, .int x3), (4, .int x4)] []) : ∀ (x1 : Int32) (x2 : Int32) (x3 : Int32) (x4 : Int32) (δ : XSh) (σ : XSt), Ext δ0 δ → xw_S_newly_43_b K i0 L43 x1 x2 x3 x4 δ σ → TX p l e ({ frames := 26, cells := 103, slots := 418, locals := 563 } : Room) s m args below meth c 8 (c0) (s0) (VI below (fun r u => K r u.1 u.2 ∧ Ext δ0 u.1) (fun _ _ _ => False) 103 418 Γ δ0 s args) Γ δ0 δ σ 43 [(0, .ref i0), (1, .int x1), (2, .int x2), (3, .int x3), (4, .int x4)] [] := by
  obtain ⟨⟨hx, hb, hml, hown, hts, hK, hr, hlk⟩, hZ, htb⟩ := id Xc
  have hA : ∀ q, s.heap.size ≤ q → AX δ0 s.heap.size q := fun q h => Or.inr h
  intro x1 x2 x3 x4 δ σ hE hwp H locs ls hP hO hD hS hl
  unfold xw_S_newly_43_b at hwp
  refine lv_iload hx hb dX0_newly_43 (lv_at hl 4 rfl) ?_
  refine lv_bipush (v := 100) hx hb dX0_newly_45 (by decide) ?_
  refine lv_icmp_ge (tgt := 127) hx hb dX0_newly_47 (by decide) (fun c1 => ?_) (fun c1 => ?_)
  · replace hwp := hwp.1 c1
    refine lv_iload_n hx hb dX0_newly_127 rfl (lv_at hl 2 rfl) ?_
    refine W.widen (k := 103) (n := 418) (by first | omega | (dsimp only; omega)) (by first | omega | (dsimp only; omega)) ?_
    refine vx_ret ?_
    exact x_iret hx hb hr hlk hP hO hD hS ⟨hwp, hE⟩ dX0_newly_128
  · replace hwp := hwp.2 c1
    refine lv_iload hx hb dX0_newly_50 (lv_at hl 4 rfl) ?_
    refine lv_bipush (v := 10) hx hb dX0_newly_52 (by decide) ?_
    refine lv_irem hx hb dX0_newly_54 (by decide) ?_
    refine lv_istore (lv' := [(5, .int (x4 - x4 / 10 * 10)), (0, .ref i0), (1, .int x1), (2, .int x2), (3, .int x3), (4, .int x4)]) hx hb dX0_newly_55 hl (by decide) rfl (fun ls hl => ?_)
    refine lv_iload hx hb dX0_newly_57 (lv_at hl 5 rfl) ?_
    refine lv_bipush (v := 10) hx hb dX0_newly_59 (by decide) ?_
    refine lv_idiv hx hb dX0_newly_61 (by decide) ?_
    refine lv_istore (lv' := [(6, .int (x4 / 10)), (5, .int (x4 - x4 / 10 * 10)), (0, .ref i0), (1, .int x1), (2, .int x2), (3, .int x3), (4, .int x4)]) hx hb dX0_newly_62 hl (by decide) rfl (fun ls hl => ?_)
    refine lv_aload_n hx hb dX0_newly_64 rfl (lv_at hl 2 rfl) ?_
    obtain ⟨o2, eo2, hwp⟩ := hwp
    refine x_getr hx hb hts hown hK hP 0 i0 (hE.m h0) rfl rfl in_X0 4 (by decide) q200 rfl rfl eo2 dX0_newly_65 (fun ho2 co2 => ?_)
    refine lv_iload hx hb dX0_newly_68 (lv_at hl 1 rfl) ?_
    refine lv_iload hx hb dX0_newly_70 (lv_at hl 0 rfl) ?_
    refine x_goi (va_runV (As := [.int (x4 - x4 / 10 * 10), .int (x4 / 10)]) (rest := []) ⟨hx, hb, hml, hown, hts⟩ (xt_G_isFree ho2 hwp H.size) (cwV 2 hts (lw_V q695 q696 q697 q77 q698) rfl rfl rfl (by decide +kernel) ⟨Nat.le_of_ble_eq_true rfl, Nat.le_of_ble_eq_true rfl⟩) (x_preV hK hO hD hP 6 o2 ho2 rfl rfl) rfl rfl hl.1 rfl (lv_room (Nat.le_of_ble_eq_true rfl)) dX0_newly_72 ⟨(by first | omega | (dsimp only; omega)), (by first | omega | (dsimp only; omega))⟩) hD hA hS (fun r3 u H locs hk hP hO hD hS => ?_)
    obtain ⟨hwp, eu⟩ := hk
    subst eu
    dsimp only at hP hO hD
    refine lv_if_eq (tgt := 121) hx hb dX0_newly_75 (by decide) (fun c4 => ?_) (fun c4 => ?_)
    · replace hwp := hwp.1 c4
      refine lv_iinc (v := x4 + 1) (lv' := [(4, .int (x4 + 1)), (6, .int (x4 / 10)), (5, .int (x4 - x4 / 10 * 10)), (0, .ref i0), (1, .int x1), (2, .int x2), (3, .int x3)]) hx hb dX0_newly_121 hl (k := 6) rfl rfl (by decide) rfl (fun ls hl => ?_)
      refine lv_goto (tgt := 43) hx hb dX0_newly_124 (by decide) ?_
      refine W.widen (k := c0 + 1) (n := s0 + 4) (by first | omega | (dsimp only; omega)) (by first | omega | (dsimp only; omega)) ?_
      exact hL43 _ _ _ _ δ σ hE hwp H locs ls hP hO hD hS (lv_sub hl [3, 4, 5, 6, 0] rfl)
    · replace hwp := hwp.2 c4
      refine lv_aload_n hx hb dX0_newly_78 rfl (lv_at hl 2 rfl) ?_
      obtain ⟨o5, eo5, hwp⟩ := hwp
      refine x_getr hx hb hts hown hK hP 0 i0 (hE.m h0) rfl rfl in_X0 3 (by decide) q199 rfl rfl eo5 dX0_newly_79 (fun ho5 co5 => ?_)
      refine lv_aload_n hx hb dX0_newly_82 rfl (lv_at hl 2 rfl) ?_
      refine x_getr hx hb hts hown hK hP 0 i0 (hE.m h0) rfl rfl in_X0 4 (by decide) q200 rfl rfl eo2 dX0_newly_83 (fun ho2 co2 => ?_)
      refine x_gor (va_runV (As := [.ref o2]) (rest := []) ⟨hx, hb, hml, hown, hts⟩ (xt_G_take ho5 ho2 hwp H.size) (cwV 1 hts (lw_V q872 q873 q874 q77 q875) rfl rfl rfl (by decide +kernel) ⟨Nat.le_of_ble_eq_true rfl, Nat.le_of_ble_eq_true rfl⟩) (x_preV hK hO hD hP 6 o5 ho5 rfl rfl) rfl rfl hl.1 rfl (lv_room (Nat.le_of_ble_eq_true rfl)) dX0_newly_86 ⟨(by first | omega | (dsimp only; omega)), (by first | omega | (dsimp only; omega))⟩) hD hA hS (fun r6 u H locs hk hP hO hD hS => ?_)
      obtain ⟨u1, σ7⟩ := u
      obtain ⟨⟨hwp, eu⟩, hr6⟩ := hk
      have eu : δ = u1 := eu.symm
      subst eu
      dsimp only at hP hO hD hwp hr6
      refine lv_iconst (v := 1) hx hb dX0_newly_89 (by decide) ?_
      refine lv_iload hx hb dX0_newly_90 (lv_at hl 1 rfl) ?_
      refine lv_iload hx hb dX0_newly_92 (lv_at hl 0 rfl) ?_
      refine lv_iload_n hx hb dX0_newly_94 rfl (lv_at hl 3 rfl) ?_
      refine lv_iconst (v := 0) hx hb dX0_newly_95 (by decide) ?_
      refine y_goi (vx_runV (As := [.int 1, .int (x4 - x4 / 10 * 10), .int (x4 / 10), .int x1, .int 0]) (rest := []) ⟨hx, hb, hml, hown, hts⟩ (xt_G_add hst hr6 hwp H.size) (cwV 5 hts (lw_V q699 q700 q701 q77 q702) rfl rfl rfl (by decide +kernel) ⟨(Nat.le_of_ble_eq_true rfl), (Nat.le_of_ble_eq_true rfl)⟩) (y_preV hK hO hD hA hZ hP hS 6 r6 hr6 rfl rfl) rfl rfl hl.1 rfl (lv_room (Nat.le_of_ble_eq_true rfl)) dX0_newly_96 ⟨(by first | omega | (dsimp only; omega)), (by first | omega | (dsimp only; omega))⟩) hD hA hS (fun E ce q u H locs hk hP hO hD hS k1 k2 k3 => ?_) (fun r8 u H locs hk hP hO hD hS => ?_)
      · exact hk.elim
      · obtain ⟨δ9, σ10⟩ := u
        obtain ⟨hwp, hF11⟩ := hk
        dsimp only at hP hO hD hwp hF11
        replace hE := hE.tr hF11
        refine lv_pop hx hb dX0_newly_99 rfl ?_
        refine lv_aload_n hx hb dX0_newly_100 rfl (lv_at hl 2 rfl) ?_
        obtain ⟨o12, eo12, hwp⟩ := hwp
        refine x_getr hx hb hts hown hK hP 0 i0 (hE.m h0) rfl rfl in_X0 3 (by decide) q199 rfl rfl eo12 dX0_newly_101 (fun ho12 co12 => ?_)
        refine x_goi (va_runV (As := []) (rest := []) ⟨hx, hb, hml, hown, hts⟩ (xt_G_rights ho12 hwp H.size) (cwV 0 hts (lw_V q1151 q1152 q1153 q77 q1154) rfl rfl rfl (by decide +kernel) ⟨Nat.le_of_ble_eq_true rfl, Nat.le_of_ble_eq_true rfl⟩) (x_preV hK hO hD hP 6 o12 ho12 rfl rfl) rfl rfl hl.1 rfl (lv_room (Nat.le_of_ble_eq_true rfl)) dX0_newly_104 ⟨(by first | omega | (dsimp only; omega)), (by first | omega | (dsimp only; omega))⟩) hD hA hS (fun r13 u H locs hk hP hO hD hS => ?_)
        obtain ⟨hwp, eu⟩ := hk
        subst eu
        dsimp only at hP hO hD
        refine lv_istore (lv' := [(7, .int r13), (6, .int (x4 / 10)), (5, .int (x4 - x4 / 10 * 10)), (0, .ref i0), (1, .int x1), (2, .int x2), (3, .int x3), (4, .int x4)]) hx hb dX0_newly_107 hl (by decide) rfl (fun ls hl => ?_)
        refine lv_iload hx hb dX0_newly_109 (lv_at hl 0 rfl) ?_
        refine lv_iload_n hx hb dX0_newly_111 rfl (lv_at hl 6 rfl) ?_
        refine lv_icmp_le (tgt := 121) hx hb dX0_newly_112 (by decide) (fun c14 => ?_) (fun c14 => ?_)
        · replace hwp := hwp.1 c14
          refine lv_iinc (v := x4 + 1) (lv' := [(4, .int (x4 + 1)), (7, .int r13), (6, .int (x4 / 10)), (5, .int (x4 - x4 / 10 * 10)), (0, .ref i0), (1, .int x1), (2, .int x2), (3, .int x3)]) hx hb dX0_newly_121 hl (k := 7) rfl rfl (by decide) rfl (fun ls hl => ?_)
          refine lv_goto (tgt := 43) hx hb dX0_newly_124 (by decide) ?_
          refine W.widen (k := c0 + 1) (n := s0 + 4) (by first | omega | (dsimp only; omega)) (by first | omega | (dsimp only; omega)) ?_
          exact hL43 _ _ _ _ δ9 σ10 hE hwp H locs ls hP hO hD hS (lv_sub hl [4, 5, 6, 7, 0] rfl)
        · replace hwp := hwp.2 c14
          refine lv_iload hx hb dX0_newly_115 (lv_at hl 7 rfl) ?_
          refine lv_istore_n (lv' := [(2, .int x4), (7, .int r13), (6, .int (x4 / 10)), (5, .int (x4 - x4 / 10 * 10)), (0, .ref i0), (1, .int x1), (3, .int x3), (4, .int x4)]) hx hb dX0_newly_117 rfl hl (by decide) rfl (fun ls hl => ?_)
          refine lv_iload hx hb dX0_newly_118 (lv_at hl 1 rfl) ?_
          refine lv_istore_n (lv' := [(3, .int r13), (2, .int x4), (7, .int r13), (6, .int (x4 / 10)), (5, .int (x4 - x4 / 10 * 10)), (0, .ref i0), (1, .int x1), (4, .int x4)]) hx hb dX0_newly_120 rfl hl (by decide) rfl (fun ls hl => ?_)
          refine lv_iinc (v := x4 + 1) (lv' := [(4, .int (x4 + 1)), (3, .int r13), (2, .int x4), (7, .int r13), (6, .int (x4 / 10)), (5, .int (x4 - x4 / 10 * 10)), (0, .ref i0), (1, .int x1)]) hx hb dX0_newly_121 hl (k := 7) rfl rfl (by decide) rfl (fun ls hl => ?_)
          refine lv_goto (tgt := 43) hx hb dX0_newly_124 (by decide) ?_
          refine W.widen (k := c0 + 1) (n := s0 + 4) (by first | omega | (dsimp only; omega)) (by first | omega | (dsimp only; omega)) ?_
          exact hL43 _ _ _ _ δ9 σ10 hE hwp H locs ls hP hO hD hS (lv_sub hl [6, 7, 2, 1, 0] rfl)
set_option maxHeartbeats 4000000 in
set_option maxRecDepth 100000 in
theorem xk_S_newly_43 {p : Program} {l : Launch} {e : Env} {s : State} {m : MethodId} {args : Array Value} {below : List Frame} {meth : Method} {c : Code} {Γ : GA} {δ0 : XSh} {K : Int32 → XSh → XSt → Prop} {i0 : Nat} (hst : l.stackTraces = false) (Xc : CY p s m args meth c cX0_newly 8 (some .int) RX0 Γ δ0 (tableOf [(0, 128, 129, 21)])) (h0 : (0, i0) ∈ δ0.1) : ∀ n, n ≤ 101 → ∀ (x1 : Int32) (x2 : Int32) (x3 : Int32) (x4 : Int32) (δ : XSh) (σ : XSt), Ext δ0 δ → xw_S_newly_43 K i0 n x1 x2 x3 x4 δ σ → TX p l e ({ frames := 26, cells := 103, slots := 418, locals := 563 } : Room) s m args below meth c 8 (2 + (101 - n) * 1) (14 + (101 - n) * 4) (VI below (fun r u => K r u.1 u.2 ∧ Ext δ0 u.1) (fun _ _ _ => False) 103 418 Γ δ0 s args) Γ δ0 δ σ 43 [(0, .ref i0), (1, .int x1), (2, .int x2), (3, .int x3), (4, .int x4)] [] := by
  intro n
  induction n with
  | zero => intro _ _ _ _ _ _ _ _ hwp; exact hwp.elim
  | succ n ih =>
    intro hn x1 x2 x3 x4 δ σ hE hwp
    refine xk_S_newly_43_b hst Xc h0 (c0 := 2 + (101 - (n + 1)) * 1) (s0 := 14 + (101 - (n + 1)) * 4) (by omega) (by omega) (fun x1 x2 x3 x4 δ σ hE hwp => ?_) x1 x2 x3 x4 δ σ hE hwp
    have h9 := ih (by omega) x1 x2 x3 x4 δ σ hE hwp
    rw [show 2 + (101 - (n + 1)) * 1 + 1 = 2 + (101 - n) * 1 by omega, show 14 + (101 - (n + 1)) * 4 + 4 = 14 + (101 - n) * 4 by omega]
    exact h9
def xw_S_newly_31 (K : Int32 → XSh → XSt → Prop) (i0 : Nat) (x1 : Int32) (t0 : Int32) (δ : XSh) (σ : XSt) : Prop :=
  xw_S_need (fun δ1 σ2 => ∃ n, n ≤ 101 ∧ xw_S_newly_43 K i0 n x1 (-1) (-1) 0 δ1 σ2) (fun q7 δ4 σ5 => xw_S_newly_129 K i0 q7 δ4 σ5) t0 (-7) δ σ
set_option maxHeartbeats 4000000 in
set_option maxRecDepth 100000 in
theorem xk_S_newly_31 {p : Program} {l : Launch} {e : Env} {s : State} {m : MethodId} {args : Array Value} {below : List Frame} {meth : Method} {c : Code} {Γ : GA} {δ0 : XSh} {K : Int32 → XSh → XSt → Prop} {i0 : Nat} (hst : l.stackTraces = false) (Xc : CY p s m args meth c cX0_newly 8 (some .int) RX0 Γ δ0 (tableOf [(0, 128, 129, 21)])) (h0 : (0, i0) ∈ δ0.1) : ∀ (x1 : Int32) (t0 : Int32) (δ : XSh) (σ : XSt), Ext δ0 δ → xw_S_newly_31 K i0 x1 t0 δ σ → TX p l e ({ frames := 26, cells := 103, slots := 418, locals := 563 } : Room) s m args below meth c 8 1 7 (VI below (fun r u => K r u.1 u.2 ∧ Ext δ0 u.1) (fun _ _ _ => False) 103 418 Γ δ0 s args) Γ δ0 δ σ 31 [(0, .ref i0), (1, .int x1)] [.int t0] := by
  obtain ⟨⟨hx, hb, hml, hown, hts, hK, hr, hlk⟩, hZ, htb⟩ := id Xc
  have hA : ∀ q, s.heap.size ≤ q → AX δ0 s.heap.size q := fun q h => Or.inr h
  intro x1 t0 δ σ hE hwp H locs ls hP hO hD hS hl
  unfold xw_S_newly_31 at hwp
  refine lv_bipush (v := (-7)) hx hb dX0_newly_31 (by decide) ?_
  refine y_gov (vx_runS (As := [.int t0, .int (-7)]) (rest := []) ⟨hx, hb, hml, hown, hts⟩ (xt_S_need hst hwp H.size) (va_cwS 2 hts (lw_S q328 q329 q75 q330) rfl rfl rfl (by decide +kernel) ⟨(Nat.le_of_ble_eq_true rfl), (Nat.le_of_ble_eq_true rfl)⟩) (y_preS hK hO hD hA hZ hP hS) rfl rfl hl.1 rfl (lv_room (Nat.le_of_ble_eq_true rfl)) dX0_newly_33 ⟨(Nat.le_of_ble_eq_true rfl), (Nat.le_of_ble_eq_true rfl)⟩) hD hA hS (fun E ce q7 u H locs hk hP hO hD hS k1 k2 k3 => ?_) (fun u H locs hk hP hO hD hS => ?_)
  · obtain ⟨δ4, σ5⟩ := u
    obtain ⟨⟨rfl, hq7⟩, hwp, hF6⟩ := hk
    dsimp only at hP hO hD hwp hF6 hq7
    replace hE := hE.tr hF6
    refine vx_catch (E := RX5) (name := RX5) hown [] ⟨0, 128, 129, 21⟩ [] (htb.trans rfl) (fun z hz => nomatch hz) rfl (by decide) (hts _ q222) ((hK.2.1 (.castable RX5 RX5) (by simp [nwL])).use rfl) k1 k2 k3 ?_
    refine W.eq (g2 := F0 m 129 ls [.ref q7]) rfl ?_
    refine W.widen (k := 2) (n := 14) (Nat.le_of_ble_eq_true rfl) (Nat.le_of_ble_eq_true rfl) ?_
    exact xk_S_newly_129 hst Xc h0 _ δ4 σ5 hE hq7 hwp H locs ls hP hO hD hS (lv_sub hl [0] rfl)
  · obtain ⟨δ1, σ2⟩ := u
    obtain ⟨hwp, hF3⟩ := hk
    dsimp only at hP hO hD hwp hF3
    replace hE := hE.tr hF3
    refine lv_iconst (v := (-1)) hx hb dX0_newly_36 (by decide) ?_
    refine lv_istore_n (lv' := [(2, .int (-1)), (0, .ref i0), (1, .int x1)]) hx hb dX0_newly_37 rfl hl (by decide) rfl (fun ls hl => ?_)
    refine lv_iconst (v := (-1)) hx hb dX0_newly_38 (by decide) ?_
    refine lv_istore_n (lv' := [(3, .int (-1)), (2, .int (-1)), (0, .ref i0), (1, .int x1)]) hx hb dX0_newly_39 rfl hl (by decide) rfl (fun ls hl => ?_)
    refine lv_iconst (v := 0) hx hb dX0_newly_40 (by decide) ?_
    refine lv_istore (lv' := [(4, .int 0), (3, .int (-1)), (2, .int (-1)), (0, .ref i0), (1, .int x1)]) hx hb dX0_newly_41 hl (by decide) rfl (fun ls hl => ?_)
    obtain ⟨n, hn, hwp⟩ := hwp
    refine W.widen (k := 2 + (101 - n) * 1) (n := 14 + (101 - n) * 4) (Nat.le_trans (Nat.le_of_ble_eq_true rfl) (Nat.le_add_right _ _)) (Nat.le_trans (Nat.le_of_ble_eq_true rfl) (Nat.le_add_right _ _)) ?_
    exact xk_S_newly_43 hst Xc h0 n hn _ _ _ _ δ1 σ2 hE hwp H locs ls hP hO hD hS (lv_sub hl [3, 4, 2, 1, 0] rfl)
def xw_S_newly (K : Int32 → XSh → XSt → Prop) (i0 : Nat) (x1 : Int32) (δ : XSh) (σ : XSt) : Prop :=
  xw_S_in δ σ (fun r1 => xw_S_need (fun δ2 σ3 => ∃ o5, σ3.2.2 0 i0 4 = some o5 ∧ (((8 ≤ (σ3.1 6 o5 0)) → (xw_S_newly_31 K i0 x1 0 δ2 σ3)) ∧ ((¬ (8 ≤ (σ3.1 6 o5 0))) → (xw_S_newly_31 K i0 x1 1 δ2 σ3)))) (fun q10 δ7 σ8 => xw_S_newly_129 K i0 q10 δ7 σ8) r1 (-6) δ σ) x1.toInt64 0 20
set_option maxHeartbeats 4000000 in
set_option maxRecDepth 100000 in
theorem xk_S_newly_e {p : Program} {l : Launch} {e : Env} {s : State} {m : MethodId} {args : Array Value} {below : List Frame} {meth : Method} {c : Code} {Γ : GA} {δ0 : XSh} {K : Int32 → XSh → XSt → Prop} {i0 : Nat} (hst : l.stackTraces = false) (Xc : CY p s m args meth c cX0_newly 8 (some .int) RX0 Γ δ0 (tableOf [(0, 128, 129, 21)])) (h0 : (0, i0) ∈ δ0.1) {x1 : Int32} : ∀ (δ : XSh) (σ : XSt), Ext δ0 δ → xw_S_newly K i0 x1 δ σ → TX p l e ({ frames := 26, cells := 103, slots := 418, locals := 563 } : Room) s m args below meth c 8 0 0 (VI below (fun r u => K r u.1 u.2 ∧ Ext δ0 u.1) (fun _ _ _ => False) 103 418 Γ δ0 s args) Γ δ0 δ σ 0 [(0, .ref i0), (1, .int x1)] [] := by
  obtain ⟨⟨hx, hb, hml, hown, hts, hK, hr, hlk⟩, hZ, htb⟩ := id Xc
  have hA : ∀ q, s.heap.size ≤ q → AX δ0 s.heap.size q := fun q h => Or.inr h
  intro δ σ hE hwp H locs ls hP hO hD hS hl
  unfold xw_S_newly at hwp
  refine lv_iload_n hx hb dX0_newly_0 rfl (lv_at hl 1 rfl) ?_
  refine lv_i2l (v := x1.toInt64) hx hb dX0_newly_1 rfl ?_
  refine lv_lconst (v := 0) hx hb dX0_newly_2 (by decide) ?_
  refine lv_ldc2 hx hb hown (hts _ q694) dX0_newly_3 ?_
  refine x_goi (va_runS (As := [.long x1.toInt64, .long 0, .long 20]) (rest := []) ⟨hx, hb, hml, hown, hts⟩ (xt_S_in hwp H.size) (va_cwS 3 hts (lw_S q332 q333 q75 q334) rfl rfl rfl (by decide +kernel) ⟨Nat.le_of_ble_eq_true rfl, Nat.le_of_ble_eq_true rfl⟩) (x_preS hK hO hD hP) rfl rfl hl.1 rfl (lv_room (Nat.le_of_ble_eq_true rfl)) dX0_newly_6 ⟨(Nat.le_of_ble_eq_true rfl), (Nat.le_of_ble_eq_true rfl)⟩) hD hA hS (fun r1 u H locs hk hP hO hD hS => ?_)
  obtain ⟨hwp, eu⟩ := hk
  subst eu
  dsimp only at hP hO hD
  refine lv_bipush (v := (-6)) hx hb dX0_newly_9 (by decide) ?_
  refine y_gov (vx_runS (As := [.int r1, .int (-6)]) (rest := []) ⟨hx, hb, hml, hown, hts⟩ (xt_S_need hst hwp H.size) (va_cwS 2 hts (lw_S q328 q329 q75 q330) rfl rfl rfl (by decide +kernel) ⟨(Nat.le_of_ble_eq_true rfl), (Nat.le_of_ble_eq_true rfl)⟩) (y_preS hK hO hD hA hZ hP hS) rfl rfl hl.1 rfl (lv_room (Nat.le_of_ble_eq_true rfl)) dX0_newly_11 ⟨(Nat.le_of_ble_eq_true rfl), (Nat.le_of_ble_eq_true rfl)⟩) hD hA hS (fun E ce q10 u H locs hk hP hO hD hS k1 k2 k3 => ?_) (fun u H locs hk hP hO hD hS => ?_)
  · obtain ⟨δ7, σ8⟩ := u
    obtain ⟨⟨rfl, hq10⟩, hwp, hF9⟩ := hk
    dsimp only at hP hO hD hwp hF9 hq10
    replace hE := hE.tr hF9
    refine vx_catch (E := RX5) (name := RX5) hown [] ⟨0, 128, 129, 21⟩ [] (htb.trans rfl) (fun z hz => nomatch hz) rfl (by decide) (hts _ q222) ((hK.2.1 (.castable RX5 RX5) (by simp [nwL])).use rfl) k1 k2 k3 ?_
    refine W.eq (g2 := F0 m 129 ls [.ref q10]) rfl ?_
    refine W.widen (k := 2) (n := 14) (Nat.le_of_ble_eq_true rfl) (Nat.le_of_ble_eq_true rfl) ?_
    exact xk_S_newly_129 hst Xc h0 _ δ7 σ8 hE hq10 hwp H locs ls hP hO hD hS (lv_sub hl [0] rfl)
  · obtain ⟨δ2, σ3⟩ := u
    obtain ⟨hwp, hF4⟩ := hk
    dsimp only at hP hO hD hwp hF4
    replace hE := hE.tr hF4
    refine lv_aload_n hx hb dX0_newly_14 rfl (lv_at hl 0 rfl) ?_
    obtain ⟨o5, eo5, hwp⟩ := hwp
    refine x_getr hx hb hts hown hK hP 0 i0 (hE.m h0) rfl rfl in_X0 4 (by decide) q200 rfl rfl eo5 dX0_newly_15 (fun ho5 co5 => ?_)
    refine x_get hx hb hts hown hK hP 6 o5 ho5 rfl rfl in_X2 0 (by decide) q145 rfl (v := .int (σ3.1 6 o5 0)) rfl dX0_newly_18 ?_
    refine lv_bipush (v := 8) hx hb dX0_newly_21 (by decide) ?_
    refine lv_icmp_ge (tgt := 30) hx hb dX0_newly_23 (by decide) (fun c6 => ?_) (fun c6 => ?_)
    · replace hwp := hwp.1 c6
      refine lv_iconst (v := 0) hx hb dX0_newly_30 (by decide) ?_
      refine W.widen (k := 1) (n := 7) (Nat.le_of_ble_eq_true rfl) (Nat.le_of_ble_eq_true rfl) ?_
      exact xk_S_newly_31 hst Xc h0 _ _ δ2 σ3 hE hwp H locs ls hP hO hD hS (lv_sub hl [0, 1] rfl)
    · replace hwp := hwp.2 c6
      refine lv_iconst (v := 1) hx hb dX0_newly_26 (by decide) ?_
      refine lv_goto (tgt := 31) hx hb dX0_newly_27 (by decide) ?_
      refine W.widen (k := 1) (n := 7) (Nat.le_of_ble_eq_true rfl) (Nat.le_of_ble_eq_true rfl) ?_
      exact xk_S_newly_31 hst Xc h0 _ _ δ2 σ3 hE hwp H locs ls hP hO hD hS (lv_sub hl [0, 1] rfl)
set_option maxHeartbeats 4000000 in
set_option maxRecDepth 100000 in
theorem xt_S_newly {l : Launch} (hst : l.stackTraces = false) {Γ : GA} {δ0 : XSh} {σ : XSt} {K : Int32 → XSh → XSt → Prop} {i0 : Nat} (h0 : (0, i0) ∈ δ0.1) {x1 : Int32} (hwp : xw_S_newly K i0 x1 δ0 σ) : yI l yX0_newly (wsW_ yX0_newly cX0_newly 8 (some .int) [(0, 128, 129, 21)]) ({ frames := 26, cells := 103, slots := 418, locals := 563 } : Room) 103 418 Γ δ0 [.ref i0, .int x1] σ (fun r u => K r u.1 u.2 ∧ Ext δ0 u.1) (fun _ _ _ => False) := by
  intro sz
  refine yW_of (by decide) [(0, .ref i0), (1, .int x1)] (fun _ h => h) (Nat.le_of_ble_eq_true rfl) ?_
  intro p e s m args below meth c hsz Xc
  subst hsz
  exact xk_S_newly_e hst Xc h0 δ0 σ Ext.rf hwp
/-! S_storey -/
def xw_S_storey (K : Int32 → XSh → XSt → Prop) (i0 : Nat) (x1 : Int32) (δ : XSh) (σ : XSt) : Prop :=
  xw_S_raises (fun δ1 σ2 => ∃ o4, σ2.2.2 0 i0 3 = some o4 ∧ (xw_G_rights δ1 σ2 (fun r5 => ∃ o6, σ2.2.2 0 i0 4 = some o6 ∧ (xw_G_rights δ1 σ2 (fun r7 => K (r5 - r7) δ1 σ2) o6)) o4)) (fun q11 δ8 σ9 => xw_S_refused δ8 (fun r12 σ13 => K ((-1000 : Int32) + r12) δ8 σ13) i0 q11 σ9) i0 x1 δ σ
set_option maxHeartbeats 4000000 in
set_option maxRecDepth 100000 in
theorem xk_S_storey_e {p : Program} {l : Launch} {e : Env} {s : State} {m : MethodId} {args : Array Value} {below : List Frame} {meth : Method} {c : Code} {Γ : GA} {δ0 : XSh} {K : Int32 → XSh → XSt → Prop} {i0 : Nat} (hst : l.stackTraces = false) (Xc : CY p s m args meth c cX0_storey 3 (some .int) RX0 Γ δ0 (tableOf [(0, 20, 21, 21)])) (h0 : (0, i0) ∈ δ0.1) {x1 : Int32} : ∀ (δ : XSh) (σ : XSt), Ext δ0 δ → xw_S_storey K i0 x1 δ σ → TX p l e ({ frames := 26, cells := 3, slots := 21, locals := 563 } : Room) s m args below meth c 3 0 0 (VI below (fun r u => K r u.1 u.2 ∧ Ext δ0 u.1) (fun _ _ _ => False) 3 21 Γ δ0 s args) Γ δ0 δ σ 0 [(0, .ref i0), (1, .int x1)] [] := by
  obtain ⟨⟨hx, hb, hml, hown, hts, hK, hr, hlk⟩, hZ, htb⟩ := id Xc
  have hA : ∀ q, s.heap.size ≤ q → AX δ0 s.heap.size q := fun q h => Or.inr h
  intro δ σ hE hwp H locs ls hP hO hD hS hl
  unfold xw_S_storey at hwp
  refine lv_aload_n hx hb dX0_storey_0 rfl (lv_at hl 0 rfl) ?_
  refine lv_iload_n hx hb dX0_storey_1 rfl (lv_at hl 1 rfl) ?_
  refine y_gov (vx_runV (As := [.int x1]) (rest := []) ⟨hx, hb, hml, hown, hts⟩ (xt_S_raises hst (hE.m h0) hwp H.size) (cwV 1 hts (lw_V q1160 q1162 qs21 q75 q1163) rfl rfl rfl (by decide +kernel) ⟨(Nat.le_of_ble_eq_true rfl), (Nat.le_of_ble_eq_true rfl)⟩) (y_preV hK hO hD hA hZ hP hS 0 i0 (hE.m h0) rfl rfl) rfl rfl hl.1 rfl (lv_room (Nat.le_of_ble_eq_true rfl)) dX0_storey_2 ⟨(Nat.le_of_ble_eq_true rfl), (Nat.le_of_ble_eq_true rfl)⟩) hD hA hS (fun E ce q11 u H locs hk hP hO hD hS k1 k2 k3 => ?_) (fun u H locs hk hP hO hD hS => ?_)
  · obtain ⟨δ8, σ9⟩ := u
    obtain ⟨⟨rfl, hq11⟩, hwp, hF10⟩ := hk
    dsimp only at hP hO hD hwp hF10 hq11
    replace hE := hE.tr hF10
    refine vx_catch (E := RX5) (name := RX5) hown [] ⟨0, 20, 21, 21⟩ [] (htb.trans rfl) (fun z hz => nomatch hz) rfl (by decide) (hts _ q222) ((hK.2.1 (.castable RX5 RX5) (by simp [nwL])).use rfl) k1 k2 k3 ?_
    refine W.eq (g2 := F0 m 21 ls [.ref q11]) rfl ?_
    refine lv_astore_n (lv' := [(2, .ref q11), (0, .ref i0), (1, .int x1)]) hx hb dX0_storey_21 rfl hl (by decide) rfl (fun ls hl => ?_)
    refine lv_sipush (v := (-1000)) hx hb dX0_storey_22 (by decide) ?_
    refine lv_aload_n hx hb dX0_storey_25 rfl (lv_at hl 1 rfl) ?_
    refine lv_aload_n hx hb dX0_storey_26 rfl (lv_at hl 0 rfl) ?_
    refine x_goi (va_runV (As := [.ref q11]) (rest := [.int (-1000)]) ⟨hx, hb, hml, hown, hts⟩ (xt_S_refused (hE.m h0) hq11 hwp H.size) (cwV 1 hts (lw_V q397 q399 qs2 q75 q400) rfl rfl rfl (by decide +kernel) ⟨Nat.le_of_ble_eq_true rfl, Nat.le_of_ble_eq_true rfl⟩) (x_preV hK hO hD hP 0 i0 (hE.m h0) rfl rfl) rfl rfl hl.1 rfl (lv_room (Nat.le_of_ble_eq_true rfl)) dX0_storey_27 ⟨(Nat.le_of_ble_eq_true rfl), (Nat.le_of_ble_eq_true rfl)⟩) hD hA hS (fun r12 u H locs hk hP hO hD hS => ?_)
    obtain ⟨u1, σ13⟩ := u
    obtain ⟨hwp, eu⟩ := hk
    have eu : δ8 = u1 := eu.symm
    subst eu
    dsimp only at hP hO hD hwp
    refine lv_iadd hx hb dX0_storey_30 ?_
    refine W.widen (k := 3) (n := 21) (Nat.le_of_ble_eq_true rfl) (Nat.le_of_ble_eq_true rfl) ?_
    refine vx_ret ?_
    exact x_iret hx hb hr hlk hP hO hD hS ⟨hwp, hE⟩ dX0_storey_31
  · obtain ⟨δ1, σ2⟩ := u
    obtain ⟨hwp, hF3⟩ := hk
    dsimp only at hP hO hD hwp hF3
    replace hE := hE.tr hF3
    refine lv_aload_n hx hb dX0_storey_5 rfl (lv_at hl 0 rfl) ?_
    obtain ⟨o4, eo4, hwp⟩ := hwp
    refine x_getr hx hb hts hown hK hP 0 i0 (hE.m h0) rfl rfl in_X0 3 (by decide) q199 rfl rfl eo4 dX0_storey_6 (fun ho4 co4 => ?_)
    refine x_goi (va_runV (As := []) (rest := []) ⟨hx, hb, hml, hown, hts⟩ (xt_G_rights ho4 hwp H.size) (cwV 0 hts (lw_V q1151 q1152 q1153 q77 q1154) rfl rfl rfl (by decide +kernel) ⟨Nat.le_of_ble_eq_true rfl, Nat.le_of_ble_eq_true rfl⟩) (x_preV hK hO hD hP 6 o4 ho4 rfl rfl) rfl rfl hl.1 rfl (lv_room (Nat.le_of_ble_eq_true rfl)) dX0_storey_9 ⟨(Nat.le_of_ble_eq_true rfl), (Nat.le_of_ble_eq_true rfl)⟩) hD hA hS (fun r5 u H locs hk hP hO hD hS => ?_)
    obtain ⟨hwp, eu⟩ := hk
    subst eu
    dsimp only at hP hO hD
    refine lv_aload_n hx hb dX0_storey_12 rfl (lv_at hl 0 rfl) ?_
    obtain ⟨o6, eo6, hwp⟩ := hwp
    refine x_getr hx hb hts hown hK hP 0 i0 (hE.m h0) rfl rfl in_X0 4 (by decide) q200 rfl rfl eo6 dX0_storey_13 (fun ho6 co6 => ?_)
    refine x_goi (va_runV (As := []) (rest := [.int r5]) ⟨hx, hb, hml, hown, hts⟩ (xt_G_rights ho6 hwp H.size) (cwV 0 hts (lw_V q1151 q1152 q1153 q77 q1154) rfl rfl rfl (by decide +kernel) ⟨Nat.le_of_ble_eq_true rfl, Nat.le_of_ble_eq_true rfl⟩) (x_preV hK hO hD hP 6 o6 ho6 rfl rfl) rfl rfl hl.1 rfl (lv_room (Nat.le_of_ble_eq_true rfl)) dX0_storey_16 ⟨(Nat.le_of_ble_eq_true rfl), (Nat.le_of_ble_eq_true rfl)⟩) hD hA hS (fun r7 u H locs hk hP hO hD hS => ?_)
    obtain ⟨hwp, eu⟩ := hk
    subst eu
    dsimp only at hP hO hD
    refine lv_isub hx hb dX0_storey_19 ?_
    refine W.widen (k := 3) (n := 21) (Nat.le_of_ble_eq_true rfl) (Nat.le_of_ble_eq_true rfl) ?_
    refine vx_ret ?_
    exact x_iret hx hb hr hlk hP hO hD hS ⟨hwp, hE⟩ dX0_storey_20
set_option maxHeartbeats 4000000 in
set_option maxRecDepth 100000 in
theorem xt_S_storey {l : Launch} (hst : l.stackTraces = false) {Γ : GA} {δ0 : XSh} {σ : XSt} {K : Int32 → XSh → XSt → Prop} {i0 : Nat} (h0 : (0, i0) ∈ δ0.1) {x1 : Int32} (hwp : xw_S_storey K i0 x1 δ0 σ) : yI l yX0_storey (wsW_ yX0_storey cX0_storey 3 (some .int) [(0, 20, 21, 21)]) ({ frames := 26, cells := 3, slots := 21, locals := 563 } : Room) 3 21 Γ δ0 [.ref i0, .int x1] σ (fun r u => K r u.1 u.2 ∧ Ext δ0 u.1) (fun _ _ _ => False) := by
  intro sz
  refine yW_of (by decide) [(0, .ref i0), (1, .int x1)] (fun _ h => h) (Nat.le_of_ble_eq_true rfl) ?_
  intro p e s m args below meth c hsz Xc
  subst hsz
  exact xk_S_storey_e hst Xc h0 δ0 σ Ext.rf hwp
/-! S_blinded -/
def xw_S_blinded_9_b (K : Int32 → XSh → XSt → Prop) (i0 : Nat) (L9 : Int32 → Int32 → XSh → XSt → Prop) (x2 : Int32) (x3 : Int32) (δ : XSh) (σ : XSt) : Prop :=
  ∃ o1, σ.2.2 0 i0 4 = some o1 ∧ ((((σ.1 6 o1 0) ≤ x3) → (K x2 δ σ)) ∧ ((¬ ((σ.1 6 o1 0) ≤ x3)) → (xw_G_into δ σ (fun r3 => ∃ o4, σ.2.2 0 i0 3 = some o4 ∧ (xw_G_into δ σ (fun r5 => xw_Jn_bitCount δ σ (fun r6 => L9 (x2 + r6) (x3 + 1) δ σ) (r3 &&& (r5 ^^^ (-1)))) o4 x3)) o1 x3)))
def xw_S_blinded_9 (K : Int32 → XSh → XSt → Prop) (i0 : Nat) : Nat → Int32 → Int32 → XSh → XSt → Prop
  | 0 => fun _ _ _ _ => False
  | n + 1 => fun x2 x3 δ σ => xw_S_blinded_9_b K i0 (xw_S_blinded_9 K i0 n) x2 x3 δ σ
set_option maxHeartbeats 4000000 in
set_option maxRecDepth 100000 in
theorem xk_S_blinded_9_b {p : Program} {l : Launch} {e : Env} {s : State} {m : MethodId} {args : Array Value} {below : List Frame} {meth : Method} {c : Code} {Γ : GA} {δ0 : XSh} {K : Int32 → XSh → XSt → Prop} {i0 : Nat} (hst : l.stackTraces = false) (Xc : CY p s m args meth c cX0_blinded 4 (some .int) RX0 Γ δ0 (tableOf [(0, 52, 53, 21)])) (h0 : (0, i0) ∈ δ0.1) {L9 : Int32 → Int32 → XSh → XSt → Prop} (hL9 : ∀ (x2 : Int32) (x3 : Int32) (δ : XSh) (σ : XSt), Ext δ0 δ → L9 x2 x3 δ σ → TX p l e ({ frames := 22, cells := 3, slots := 21, locals := 477 } : Room) s m args below meth c 4 3 21 (VI below (fun r u => K r u.1 u.2 ∧ Ext δ0 u.1) (fun _ _ _ => False) 3 21 Γ δ0 s args) Γ δ0 δ σ 9 [(0, .ref i0), (2, .int x2), (3, .int x3)] []) : ∀ (x2 : Int32) (x3 : Int32) (δ : XSh) (σ : XSt), Ext δ0 δ → xw_S_blinded_9_b K i0 L9 x2 x3 δ σ → TX p l e ({ frames := 22, cells := 3, slots := 21, locals := 477 } : Room) s m args below meth c 4 3 21 (VI below (fun r u => K r u.1 u.2 ∧ Ext δ0 u.1) (fun _ _ _ => False) 3 21 Γ δ0 s args) Γ δ0 δ σ 9 [(0, .ref i0), (2, .int x2), (3, .int x3)] [] := by
  obtain ⟨⟨hx, hb, hml, hown, hts, hK, hr, hlk⟩, hZ, htb⟩ := id Xc
  have hA : ∀ q, s.heap.size ≤ q → AX δ0 s.heap.size q := fun q h => Or.inr h
  intro x2 x3 δ σ hE hwp H locs ls hP hO hD hS hl
  unfold xw_S_blinded_9_b at hwp
  refine lv_iload_n hx hb dX0_blinded_9 rfl (lv_at hl 2 rfl) ?_
  refine lv_aload_n hx hb dX0_blinded_10 rfl (lv_at hl 0 rfl) ?_
  obtain ⟨o1, eo1, hwp⟩ := hwp
  refine x_getr hx hb hts hown hK hP 0 i0 (hE.m h0) rfl rfl in_X0 4 (by decide) q200 rfl rfl eo1 dX0_blinded_11 (fun ho1 co1 => ?_)
  refine x_get hx hb hts hown hK hP 6 o1 ho1 rfl rfl in_X2 0 (by decide) q145 rfl (v := .int (σ.1 6 o1 0)) rfl dX0_blinded_14 ?_
  refine lv_icmp_ge (tgt := 51) hx hb dX0_blinded_17 (by decide) (fun c2 => ?_) (fun c2 => ?_)
  · replace hwp := hwp.1 c2
    refine lv_iload_n hx hb dX0_blinded_51 rfl (lv_at hl 1 rfl) ?_
    refine W.widen (k := 3) (n := 21) (Nat.le_of_ble_eq_true rfl) (Nat.le_of_ble_eq_true rfl) ?_
    refine vx_ret ?_
    exact x_iret hx hb hr hlk hP hO hD hS ⟨hwp, hE⟩ dX0_blinded_52
  · replace hwp := hwp.2 c2
    refine lv_iload_n hx hb dX0_blinded_20 rfl (lv_at hl 1 rfl) ?_
    refine lv_aload_n hx hb dX0_blinded_21 rfl (lv_at hl 0 rfl) ?_
    refine x_getr hx hb hts hown hK hP 0 i0 (hE.m h0) rfl rfl in_X0 4 (by decide) q200 rfl rfl eo1 dX0_blinded_22 (fun ho1 co1 => ?_)
    refine lv_iload_n hx hb dX0_blinded_25 rfl (lv_at hl 2 rfl) ?_
    refine x_goi (va_runV (As := [.int x3]) (rest := [.int x2]) ⟨hx, hb, hml, hown, hts⟩ (xt_G_into ho1 hwp H.size) (cwV 1 hts (lw_V q1168 q538 q539 q77 q540) rfl rfl rfl (by decide +kernel) ⟨Nat.le_of_ble_eq_true rfl, Nat.le_of_ble_eq_true rfl⟩) (x_preV hK hO hD hP 6 o1 ho1 rfl rfl) rfl rfl hl.1 rfl (lv_room (Nat.le_of_ble_eq_true rfl)) dX0_blinded_26 ⟨(Nat.le_of_ble_eq_true rfl), (Nat.le_of_ble_eq_true rfl)⟩) hD hA hS (fun r3 u H locs hk hP hO hD hS => ?_)
    obtain ⟨hwp, eu⟩ := hk
    subst eu
    dsimp only at hP hO hD
    refine lv_aload_n hx hb dX0_blinded_29 rfl (lv_at hl 0 rfl) ?_
    obtain ⟨o4, eo4, hwp⟩ := hwp
    refine x_getr hx hb hts hown hK hP 0 i0 (hE.m h0) rfl rfl in_X0 3 (by decide) q199 rfl rfl eo4 dX0_blinded_30 (fun ho4 co4 => ?_)
    refine lv_iload_n hx hb dX0_blinded_33 rfl (lv_at hl 2 rfl) ?_
    refine x_goi (va_runV (As := [.int x3]) (rest := [.int r3, .int x2]) ⟨hx, hb, hml, hown, hts⟩ (xt_G_into ho4 hwp H.size) (cwV 1 hts (lw_V q1168 q538 q539 q77 q540) rfl rfl rfl (by decide +kernel) ⟨Nat.le_of_ble_eq_true rfl, Nat.le_of_ble_eq_true rfl⟩) (x_preV hK hO hD hP 6 o4 ho4 rfl rfl) rfl rfl hl.1 rfl (lv_room (Nat.le_of_ble_eq_true rfl)) dX0_blinded_34 ⟨(Nat.le_of_ble_eq_true rfl), (Nat.le_of_ble_eq_true rfl)⟩) hD hA hS (fun r5 u H locs hk hP hO hD hS => ?_)
    obtain ⟨hwp, eu⟩ := hk
    subst eu
    dsimp only at hP hO hD
    refine lv_iconst (v := (-1)) hx hb dX0_blinded_37 (by decide) ?_
    refine lv_ixor hx hb dX0_blinded_38 ?_
    refine lv_iand hx hb dX0_blinded_39 ?_
    refine x_goi (va_runS (As := [.int (r3 &&& (r5 ^^^ (-1)))]) (rest := [.int x2]) ⟨hx, hb, hml, hown, hts⟩ (xt_Jn_bitCount hwp H.size) (va_cwS 1 hts (lw_S q1111 q644 q96 q645) rfl rfl rfl (by decide +kernel) ⟨Nat.le_of_ble_eq_true rfl, Nat.le_of_ble_eq_true rfl⟩) (x_preS hK hO hD hP) rfl rfl hl.1 rfl (lv_room (Nat.le_of_ble_eq_true rfl)) dX0_blinded_40 ⟨(Nat.le_of_ble_eq_true rfl), (Nat.le_of_ble_eq_true rfl)⟩) hD hA hS (fun r6 u H locs hk hP hO hD hS => ?_)
    obtain ⟨hwp, eu⟩ := hk
    subst eu
    dsimp only at hP hO hD
    refine lv_iadd hx hb dX0_blinded_43 ?_
    refine lv_istore_n (lv' := [(2, .int (x2 + r6)), (0, .ref i0), (3, .int x3)]) hx hb dX0_blinded_44 rfl hl (by decide) rfl (fun ls hl => ?_)
    refine lv_iinc (v := x3 + 1) (lv' := [(3, .int (x3 + 1)), (2, .int (x2 + r6)), (0, .ref i0)]) hx hb dX0_blinded_45 hl (k := 2) rfl rfl (by decide) rfl (fun ls hl => ?_)
    refine lv_goto (tgt := 9) hx hb dX0_blinded_48 (by decide) ?_
    refine W.widen (k := 3) (n := 21) (Nat.le_of_ble_eq_true rfl) (Nat.le_of_ble_eq_true rfl) ?_
    exact hL9 _ _ δ σ hE hwp H locs ls hP hO hD hS (lv_sub hl [2, 1, 0] rfl)
set_option maxHeartbeats 4000000 in
set_option maxRecDepth 100000 in
theorem xk_S_blinded_9 {p : Program} {l : Launch} {e : Env} {s : State} {m : MethodId} {args : Array Value} {below : List Frame} {meth : Method} {c : Code} {Γ : GA} {δ0 : XSh} {K : Int32 → XSh → XSt → Prop} {i0 : Nat} (hst : l.stackTraces = false) (Xc : CY p s m args meth c cX0_blinded 4 (some .int) RX0 Γ δ0 (tableOf [(0, 52, 53, 21)])) (h0 : (0, i0) ∈ δ0.1) : ∀ n (x2 : Int32) (x3 : Int32) (δ : XSh) (σ : XSt), Ext δ0 δ → xw_S_blinded_9 K i0 n x2 x3 δ σ → TX p l e ({ frames := 22, cells := 3, slots := 21, locals := 477 } : Room) s m args below meth c 4 3 21 (VI below (fun r u => K r u.1 u.2 ∧ Ext δ0 u.1) (fun _ _ _ => False) 3 21 Γ δ0 s args) Γ δ0 δ σ 9 [(0, .ref i0), (2, .int x2), (3, .int x3)] [] := by
  intro n
  induction n with
  | zero => intro _ _ _ _ _ hwp; exact hwp.elim
  | succ n ih => intro x2 x3 δ σ hE hwp; exact xk_S_blinded_9_b hst Xc h0 ih x2 x3 δ σ hE hwp
def xw_S_blinded (K : Int32 → XSh → XSt → Prop) (i0 : Nat) (x1 : Int32) (δ : XSh) (σ : XSt) : Prop :=
  xw_S_raises (fun δ1 σ2 => ∃ n, xw_S_blinded_9 K i0 n 0 0 δ1 σ2) (fun q7 δ4 σ5 => xw_S_refused δ4 (fun r8 σ9 => K r8 δ4 σ9) i0 q7 σ5) i0 x1 δ σ
set_option maxHeartbeats 4000000 in
set_option maxRecDepth 100000 in
theorem xk_S_blinded_e {p : Program} {l : Launch} {e : Env} {s : State} {m : MethodId} {args : Array Value} {below : List Frame} {meth : Method} {c : Code} {Γ : GA} {δ0 : XSh} {K : Int32 → XSh → XSt → Prop} {i0 : Nat} (hst : l.stackTraces = false) (Xc : CY p s m args meth c cX0_blinded 4 (some .int) RX0 Γ δ0 (tableOf [(0, 52, 53, 21)])) (h0 : (0, i0) ∈ δ0.1) {x1 : Int32} : ∀ (δ : XSh) (σ : XSt), Ext δ0 δ → xw_S_blinded K i0 x1 δ σ → TX p l e ({ frames := 22, cells := 3, slots := 21, locals := 477 } : Room) s m args below meth c 4 0 0 (VI below (fun r u => K r u.1 u.2 ∧ Ext δ0 u.1) (fun _ _ _ => False) 3 21 Γ δ0 s args) Γ δ0 δ σ 0 [(0, .ref i0), (1, .int x1)] [] := by
  obtain ⟨⟨hx, hb, hml, hown, hts, hK, hr, hlk⟩, hZ, htb⟩ := id Xc
  have hA : ∀ q, s.heap.size ≤ q → AX δ0 s.heap.size q := fun q h => Or.inr h
  intro δ σ hE hwp H locs ls hP hO hD hS hl
  unfold xw_S_blinded at hwp
  refine lv_aload_n hx hb dX0_blinded_0 rfl (lv_at hl 0 rfl) ?_
  refine lv_iload_n hx hb dX0_blinded_1 rfl (lv_at hl 1 rfl) ?_
  refine y_gov (vx_runV (As := [.int x1]) (rest := []) ⟨hx, hb, hml, hown, hts⟩ (xt_S_raises hst (hE.m h0) hwp H.size) (cwV 1 hts (lw_V q1160 q1162 qs21 q75 q1163) rfl rfl rfl (by decide +kernel) ⟨(Nat.le_of_ble_eq_true rfl), (Nat.le_of_ble_eq_true rfl)⟩) (y_preV hK hO hD hA hZ hP hS 0 i0 (hE.m h0) rfl rfl) rfl rfl hl.1 rfl (lv_room (Nat.le_of_ble_eq_true rfl)) dX0_blinded_2 ⟨(Nat.le_of_ble_eq_true rfl), (Nat.le_of_ble_eq_true rfl)⟩) hD hA hS (fun E ce q7 u H locs hk hP hO hD hS k1 k2 k3 => ?_) (fun u H locs hk hP hO hD hS => ?_)
  · obtain ⟨δ4, σ5⟩ := u
    obtain ⟨⟨rfl, hq7⟩, hwp, hF6⟩ := hk
    dsimp only at hP hO hD hwp hF6 hq7
    replace hE := hE.tr hF6
    refine vx_catch (E := RX5) (name := RX5) hown [] ⟨0, 52, 53, 21⟩ [] (htb.trans rfl) (fun z hz => nomatch hz) rfl (by decide) (hts _ q222) ((hK.2.1 (.castable RX5 RX5) (by simp [nwL])).use rfl) k1 k2 k3 ?_
    refine W.eq (g2 := F0 m 53 ls [.ref q7]) rfl ?_
    refine lv_astore_n (lv' := [(2, .ref q7), (0, .ref i0), (1, .int x1)]) hx hb dX0_blinded_53 rfl hl (by decide) rfl (fun ls hl => ?_)
    refine lv_aload_n hx hb dX0_blinded_54 rfl (lv_at hl 1 rfl) ?_
    refine lv_aload_n hx hb dX0_blinded_55 rfl (lv_at hl 0 rfl) ?_
    refine x_goi (va_runV (As := [.ref q7]) (rest := []) ⟨hx, hb, hml, hown, hts⟩ (xt_S_refused (hE.m h0) hq7 hwp H.size) (cwV 1 hts (lw_V q397 q399 qs2 q75 q400) rfl rfl rfl (by decide +kernel) ⟨Nat.le_of_ble_eq_true rfl, Nat.le_of_ble_eq_true rfl⟩) (x_preV hK hO hD hP 0 i0 (hE.m h0) rfl rfl) rfl rfl hl.1 rfl (lv_room (Nat.le_of_ble_eq_true rfl)) dX0_blinded_56 ⟨(Nat.le_of_ble_eq_true rfl), (Nat.le_of_ble_eq_true rfl)⟩) hD hA hS (fun r8 u H locs hk hP hO hD hS => ?_)
    obtain ⟨u1, σ9⟩ := u
    obtain ⟨hwp, eu⟩ := hk
    have eu : δ4 = u1 := eu.symm
    subst eu
    dsimp only at hP hO hD hwp
    refine W.widen (k := 3) (n := 21) (Nat.le_of_ble_eq_true rfl) (Nat.le_of_ble_eq_true rfl) ?_
    refine vx_ret ?_
    exact x_iret hx hb hr hlk hP hO hD hS ⟨hwp, hE⟩ dX0_blinded_59
  · obtain ⟨δ1, σ2⟩ := u
    obtain ⟨hwp, hF3⟩ := hk
    dsimp only at hP hO hD hwp hF3
    replace hE := hE.tr hF3
    refine lv_iconst (v := 0) hx hb dX0_blinded_5 (by decide) ?_
    refine lv_istore_n (lv' := [(2, .int 0), (0, .ref i0), (1, .int x1)]) hx hb dX0_blinded_6 rfl hl (by decide) rfl (fun ls hl => ?_)
    refine lv_iconst (v := 0) hx hb dX0_blinded_7 (by decide) ?_
    refine lv_istore_n (lv' := [(3, .int 0), (2, .int 0), (0, .ref i0), (1, .int x1)]) hx hb dX0_blinded_8 rfl hl (by decide) rfl (fun ls hl => ?_)
    obtain ⟨n, hwp⟩ := hwp
    refine W.widen (k := 3) (n := 21) (Nat.le_of_ble_eq_true rfl) (Nat.le_of_ble_eq_true rfl) ?_
    exact xk_S_blinded_9 hst Xc h0 n _ _ δ1 σ2 hE hwp H locs ls hP hO hD hS (lv_sub hl [2, 1, 0] rfl)
set_option maxHeartbeats 4000000 in
set_option maxRecDepth 100000 in
theorem xt_S_blinded {l : Launch} (hst : l.stackTraces = false) {Γ : GA} {δ0 : XSh} {σ : XSt} {K : Int32 → XSh → XSt → Prop} {i0 : Nat} (h0 : (0, i0) ∈ δ0.1) {x1 : Int32} (hwp : xw_S_blinded K i0 x1 δ0 σ) : yI l yX0_blinded (wsW_ yX0_blinded cX0_blinded 4 (some .int) [(0, 52, 53, 21)]) ({ frames := 22, cells := 3, slots := 21, locals := 477 } : Room) 3 21 Γ δ0 [.ref i0, .int x1] σ (fun r u => K r u.1 u.2 ∧ Ext δ0 u.1) (fun _ _ _ => False) := by
  intro sz
  refine yW_of (by decide) [(0, .ref i0), (1, .int x1)] (fun _ h => h) (Nat.le_of_ble_eq_true rfl) ?_
  intro p e s m args below meth c hsz Xc
  subst hsz
  exact xk_S_blinded_e hst Xc h0 δ0 σ Ext.rf hwp
/-! S_felled -/
def xw_S_felled_101 (K : Int32 → XSh → XSt → Prop) (i0 : Nat) (z0 : Nat) (δ : XSh) (σ : XSt) : Prop :=
  xw_S_refused δ (fun r1 σ2 => K ((-1000 : Int32) + r1) δ σ2) i0 z0 σ
set_option maxHeartbeats 4000000 in
set_option maxRecDepth 100000 in
theorem xk_S_felled_101 {p : Program} {l : Launch} {e : Env} {s : State} {m : MethodId} {args : Array Value} {below : List Frame} {meth : Method} {c : Code} {Γ : GA} {δ0 : XSh} {K : Int32 → XSh → XSt → Prop} {i0 : Nat} (hst : l.stackTraces = false) (Xc : CY p s m args meth c cX0_felled 3 (some .int) RX0 Γ δ0 (tableOf [(0, 100, 101, 21)])) (h0 : (0, i0) ∈ δ0.1) : ∀ (z0 : Nat) (δ : XSh) (σ : XSt), Ext δ0 δ → (13, z0) ∈ δ.1 → xw_S_felled_101 K i0 z0 δ σ → TX p l e ({ frames := 26, cells := 3, slots := 18, locals := 563 } : Room) s m args below meth c 3 2 14 (VI below (fun r u => K r u.1 u.2 ∧ Ext δ0 u.1) (fun _ _ _ => False) 3 18 Γ δ0 s args) Γ δ0 δ σ 101 [(0, .ref i0)] [.ref z0] := by
  obtain ⟨⟨hx, hb, hml, hown, hts, hK, hr, hlk⟩, hZ, htb⟩ := id Xc
  have hA : ∀ q, s.heap.size ≤ q → AX δ0 s.heap.size q := fun q h => Or.inr h
  intro z0 δ σ hE hz0 hwp H locs ls hP hO hD hS hl
  unfold xw_S_felled_101 at hwp
  refine lv_astore_n (lv' := [(2, .ref z0), (0, .ref i0)]) hx hb dX0_felled_101 rfl hl (by decide) rfl (fun ls hl => ?_)
  refine lv_sipush (v := (-1000)) hx hb dX0_felled_102 (by decide) ?_
  refine lv_aload_n hx hb dX0_felled_105 rfl (lv_at hl 1 rfl) ?_
  refine lv_aload_n hx hb dX0_felled_106 rfl (lv_at hl 0 rfl) ?_
  refine x_goi (va_runV (As := [.ref z0]) (rest := [.int (-1000)]) ⟨hx, hb, hml, hown, hts⟩ (xt_S_refused (hE.m h0) hz0 hwp H.size) (cwV 1 hts (lw_V q397 q399 qs2 q75 q400) rfl rfl rfl (by decide +kernel) ⟨Nat.le_of_ble_eq_true rfl, Nat.le_of_ble_eq_true rfl⟩) (x_preV hK hO hD hP 0 i0 (hE.m h0) rfl rfl) rfl rfl hl.1 rfl (lv_room (Nat.le_of_ble_eq_true rfl)) dX0_felled_107 ⟨(Nat.le_of_ble_eq_true rfl), (Nat.le_of_ble_eq_true rfl)⟩) hD hA hS (fun r1 u H locs hk hP hO hD hS => ?_)
  obtain ⟨u1, σ2⟩ := u
  obtain ⟨hwp, eu⟩ := hk
  have eu : δ = u1 := eu.symm
  subst eu
  dsimp only at hP hO hD hwp
  refine lv_iadd hx hb dX0_felled_110 ?_
  refine W.widen (k := 3) (n := 18) (Nat.le_of_ble_eq_true rfl) (Nat.le_of_ble_eq_true rfl) ?_
  refine vx_ret ?_
  exact x_iret hx hb hr hlk hP hO hD hS ⟨hwp, hE⟩ dX0_felled_111
def xw_S_felled_21 (K : Int32 → XSh → XSt → Prop) (i0 : Nat) (x1 : Int32) (t0 : Int32) (δ : XSh) (σ : XSt) : Prop :=
  xw_S_need (fun δ1 σ2 => ∃ o4, σ2.2.2 0 i0 3 = some o4 ∧ (∃ o5, σ2.2.2 0 i0 4 = some o5 ∧ (xw_G_take δ1 (fun r6 σ7 => ∃ o9, σ7.2.2 0 i0 4 = some o9 ∧ (vp_in x1 8 ∧ ∃ o11, σ7.2.2 8 o9 x1.toNatClampNeg = some o11 ∧ (vp_in x1 8 ∧ ∃ o13, σ7.2.2 8 o9 x1.toNatClampNeg = some o13 ∧ (∀ q8 δ15 σ16, NewT 5 x1 (σ7.1 7 o11 1) (σ7.1 7 o13 2) 0 δ1 σ7 q8 δ15 σ16 → (vp_in x1 8 ∧ (∀ σ21, σ21 = tP σ16 8 r6 x1.toNatClampNeg (some q8) → (∃ o22, σ21.2.2 0 i0 3 = some o22 ∧ (vp_in x1 8 ∧ (∀ σ24, σ24 = tI σ21 9 o22 x1.toNatClampNeg 0 → (∃ o25, σ24.2.2 0 i0 3 = some o25 ∧ (xw_G_rights δ15 σ24 (fun r26 => ∃ o27, σ24.2.2 0 i0 4 = some o27 ∧ (xw_G_rights δ15 σ24 (fun r28 => K (r26 - r28) δ15 σ24) o27)) o25))))))))))) o4 o5 σ2))) (fun q32 δ29 σ30 => xw_S_felled_101 K i0 q32 δ29 σ30) t0 (-2) δ σ
set_option maxHeartbeats 4000000 in
set_option maxRecDepth 100000 in
theorem xk_S_felled_21 {p : Program} {l : Launch} {e : Env} {s : State} {m : MethodId} {args : Array Value} {below : List Frame} {meth : Method} {c : Code} {Γ : GA} {δ0 : XSh} {K : Int32 → XSh → XSt → Prop} {i0 : Nat} (hst : l.stackTraces = false) (Xc : CY p s m args meth c cX0_felled 3 (some .int) RX0 Γ δ0 (tableOf [(0, 100, 101, 21)])) (h0 : (0, i0) ∈ δ0.1) : ∀ (x1 : Int32) (t0 : Int32) (δ : XSh) (σ : XSt), Ext δ0 δ → xw_S_felled_21 K i0 x1 t0 δ σ → TX p l e ({ frames := 26, cells := 3, slots := 18, locals := 563 } : Room) s m args below meth c 3 1 7 (VI below (fun r u => K r u.1 u.2 ∧ Ext δ0 u.1) (fun _ _ _ => False) 3 18 Γ δ0 s args) Γ δ0 δ σ 21 [(0, .ref i0), (1, .int x1)] [.int t0] := by
  obtain ⟨⟨hx, hb, hml, hown, hts, hK, hr, hlk⟩, hZ, htb⟩ := id Xc
  have hA : ∀ q, s.heap.size ≤ q → AX δ0 s.heap.size q := fun q h => Or.inr h
  intro x1 t0 δ σ hE hwp H locs ls hP hO hD hS hl
  unfold xw_S_felled_21 at hwp
  refine lv_bipush (v := (-2)) hx hb dX0_felled_21 (by decide) ?_
  refine y_gov (vx_runS (As := [.int t0, .int (-2)]) (rest := []) ⟨hx, hb, hml, hown, hts⟩ (xt_S_need hst hwp H.size) (va_cwS 2 hts (lw_S q328 q329 q75 q330) rfl rfl rfl (by decide +kernel) ⟨(Nat.le_of_ble_eq_true rfl), (Nat.le_of_ble_eq_true rfl)⟩) (y_preS hK hO hD hA hZ hP hS) rfl rfl hl.1 rfl (lv_room (Nat.le_of_ble_eq_true rfl)) dX0_felled_23 ⟨(Nat.le_of_ble_eq_true rfl), (Nat.le_of_ble_eq_true rfl)⟩) hD hA hS (fun E ce q32 u H locs hk hP hO hD hS k1 k2 k3 => ?_) (fun u H locs hk hP hO hD hS => ?_)
  · obtain ⟨δ29, σ30⟩ := u
    obtain ⟨⟨rfl, hq32⟩, hwp, hF31⟩ := hk
    dsimp only at hP hO hD hwp hF31 hq32
    replace hE := hE.tr hF31
    refine vx_catch (E := RX5) (name := RX5) hown [] ⟨0, 100, 101, 21⟩ [] (htb.trans rfl) (fun z hz => nomatch hz) rfl (by decide) (hts _ q222) ((hK.2.1 (.castable RX5 RX5) (by simp [nwL])).use rfl) k1 k2 k3 ?_
    refine W.eq (g2 := F0 m 101 ls [.ref q32]) rfl ?_
    refine W.widen (k := 2) (n := 14) (Nat.le_of_ble_eq_true rfl) (Nat.le_of_ble_eq_true rfl) ?_
    exact xk_S_felled_101 hst Xc h0 _ δ29 σ30 hE hq32 hwp H locs ls hP hO hD hS (lv_sub hl [0] rfl)
  · obtain ⟨δ1, σ2⟩ := u
    obtain ⟨hwp, hF3⟩ := hk
    dsimp only at hP hO hD hwp hF3
    replace hE := hE.tr hF3
    refine lv_aload_n hx hb dX0_felled_26 rfl (lv_at hl 0 rfl) ?_
    obtain ⟨o4, eo4, hwp⟩ := hwp
    refine x_getr hx hb hts hown hK hP 0 i0 (hE.m h0) rfl rfl in_X0 3 (by decide) q199 rfl rfl eo4 dX0_felled_27 (fun ho4 co4 => ?_)
    refine lv_aload_n hx hb dX0_felled_30 rfl (lv_at hl 0 rfl) ?_
    obtain ⟨o5, eo5, hwp⟩ := hwp
    refine x_getr hx hb hts hown hK hP 0 i0 (hE.m h0) rfl rfl in_X0 4 (by decide) q200 rfl rfl eo5 dX0_felled_31 (fun ho5 co5 => ?_)
    refine x_gor (va_runV (As := [.ref o5]) (rest := []) ⟨hx, hb, hml, hown, hts⟩ (xt_G_take ho4 ho5 hwp H.size) (cwV 1 hts (lw_V q872 q873 q874 q77 q875) rfl rfl rfl (by decide +kernel) ⟨Nat.le_of_ble_eq_true rfl, Nat.le_of_ble_eq_true rfl⟩) (x_preV hK hO hD hP 6 o4 ho4 rfl rfl) rfl rfl hl.1 rfl (lv_room (Nat.le_of_ble_eq_true rfl)) dX0_felled_34 ⟨(Nat.le_of_ble_eq_true rfl), (Nat.le_of_ble_eq_true rfl)⟩) hD hA hS (fun r6 u H locs hk hP hO hD hS => ?_)
    obtain ⟨u1, σ7⟩ := u
    obtain ⟨⟨hwp, eu⟩, hr6⟩ := hk
    have eu : δ1 = u1 := eu.symm
    subst eu
    dsimp only at hP hO hD hwp hr6
    refine x_get hx hb hts hown hK hP 6 r6 hr6 rfl rfl in_X2 6 (by decide) q160 rfl (v := .ref (δ1.2.1 8 r6)) rfl dX0_felled_37 ?_
    refine lv_iload_n hx hb dX0_felled_40 rfl (lv_at hl 1 rfl) ?_
    refine va_new (D := Γ.1) (ci := 5) (fs := [.int 0, .int 0, .int 0, .int 0]) (C := RX11) (T := TX11) (N := 4) hx hb hts in_X11 tyX11 tyX11_ok hown (hts _ q521) (hts _ q803) (hts _ q97) hK.1 hP.1 (hD.va (fun _ => rfl)) hS hA rfl (fun j hj => by rcases (show j = 0 ∨ j = 1 ∨ j = 2 ∨ j = 3 by omega) with rfl | rfl | rfl | rfl <;> rfl) (Nat.le_of_ble_eq_true rfl) (Nat.le_of_ble_eq_true rfl) dX0_felled_41 (fun q8 H hR hRD hS => ?_)
    replace hR := rotP hR
    replace hRD := rotD hRD
    replace hP : XH Γ δ1 σ7 H := ⟨tailP (ex := [_]) hR, hP.2⟩
    refine lv_dup hx hb dX0_felled_44 rfl ?_
    refine lv_iload_n hx hb dX0_felled_45 rfl (lv_at hl 1 rfl) ?_
    refine lv_aload_n hx hb dX0_felled_46 rfl (lv_at hl 0 rfl) ?_
    obtain ⟨o9, eo9, hwp⟩ := hwp
    refine x_getr hx hb hts hown hK hP 0 i0 (hE.m h0) rfl rfl in_X0 4 (by decide) q200 rfl rfl eo9 dX0_felled_47 (fun ho9 co9 => ?_)
    refine x_get hx hb hts hown hK hP 6 o9 ho9 rfl rfl in_X2 6 (by decide) q160 rfl (v := .ref (δ1.2.1 8 o9)) rfl dX0_felled_50 ?_
    refine lv_iload_n hx hb dX0_felled_53 rfl (lv_at hl 1 rfl) ?_
    obtain ⟨hi10, o11, eo11, hwp⟩ := hwp
    refine x_aald hx hb hK hP 8 o9 ((hO.1 _ ho9).1) (Or.inl rfl) hi10 eo11 dX0_felled_54 (fun ho11 co11 => ?_)
    refine x_getT hx hb hts hown hK hO hP o11 ho11 (co11.1 rfl) 1 (by decide) q729 (fun _ h9 => h9) dX0_felled_55 ?_
    refine lv_aload_n hx hb dX0_felled_58 rfl (lv_at hl 0 rfl) ?_
    refine x_getr hx hb hts hown hK hP 0 i0 (hE.m h0) rfl rfl in_X0 4 (by decide) q200 rfl rfl eo9 dX0_felled_59 (fun ho9 co9 => ?_)
    refine x_get hx hb hts hown hK hP 6 o9 ho9 rfl rfl in_X2 6 (by decide) q160 rfl (v := .ref (δ1.2.1 8 o9)) rfl dX0_felled_62 ?_
    refine lv_iload_n hx hb dX0_felled_65 rfl (lv_at hl 1 rfl) ?_
    obtain ⟨hi12, o13, eo13, hwp⟩ := hwp
    refine x_aald hx hb hK hP 8 o9 ((hO.1 _ ho9).1) (Or.inl rfl) hi12 eo13 dX0_felled_66 (fun ho13 co13 => ?_)
    refine x_getT hx hb hts hown hK hO hP o13 ho13 (co13.1 rfl) 2 (by decide) q732 (fun _ h9 => h9) dX0_felled_67 ?_
    refine lv_iconst (v := 0) hx hb dX0_felled_70 (by decide) ?_
    have hp14 := ((hO.1 _ hr6).1)
    refine r_go (X := δ1.1.map (gX Γ δ1 σ7)) (va_runI (As := [.int x1, .int (σ7.1 7 o11 1), .int (σ7.1 7 o13 2), .int 0]) (rest := [.ref q8, .int x1, .ref (δ1.2.1 8 r6)]) ⟨hx, hb, hml, hown, hts⟩ (ct_T_5 H.size) (cwI 4 hts (lw_meth q713) rfl rfl rfl (hts _ q97) (hts _ q804) (hts _ q712) rfl (by decide +kernel) ⟨(Nat.le_of_ble_eq_true rfl), (Nat.le_of_ble_eq_true rfl)⟩) (r_pre hK hA hZ hR hRD hS) rfl rfl hl.1 rfl (lv_room (Nat.le_of_ble_eq_true rfl)) dX0_felled_71 ⟨(Nat.le_of_ble_eq_true rfl), (Nat.le_of_ble_eq_true rfl)⟩) hA hR hRD hS (fun ex H locs hk hR hRD hS => ?_)
    subst hk
    obtain ⟨δ15, σ16, hP, hO, hD, hN17⟩ := mkT (by decide) (by decide) hR hRD hP.2 hO
    rw [show δ1.2.1 8 r6 = δ15.2.1 8 r6 from ((hN17.1.1.1 _ hp14).2).symm]
    have hh18 := hN17.1.1.m hp14
    replace hE := hE.tr hN17.1.1
    replace hwp := hwp q8 δ15 σ16 hN17
    obtain ⟨hi20, hwp⟩ := hwp
    refine x_aast hx hb hK hO hD hP hS r6 hh18 q8 hN17.2.2.1 (by rw [hN17.2.2.2.1]; decide) hi20 dX0_felled_74 (fun H locs hP hS => ?_)
    obtain ⟨σ21, eσ21⟩ : ∃ z, z = tP σ16 8 r6 x1.toNatClampNeg (some q8) := ⟨_, rfl⟩
    replace hP : XH Γ δ15 σ21 H := by rw [eσ21]; exact hP
    replace hwp := hwp σ21 eσ21
    refine lv_aload_n hx hb dX0_felled_75 rfl (lv_at hl 0 rfl) ?_
    obtain ⟨o22, eo22, hwp⟩ := hwp
    refine x_getr hx hb hts hown hK hP 0 i0 (hE.m h0) rfl rfl in_X0 3 (by decide) q199 rfl rfl eo22 dX0_felled_76 (fun ho22 co22 => ?_)
    refine x_get hx hb hts hown hK hP 6 o22 ho22 rfl rfl in_X2 7 (by decide) q163 rfl (v := .ref (δ15.2.1 9 o22)) rfl dX0_felled_79 ?_
    refine lv_iload_n hx hb dX0_felled_82 rfl (lv_at hl 1 rfl) ?_
    refine lv_iconst (v := 0) hx hb dX0_felled_83 (by decide) ?_
    obtain ⟨hi23, hwp⟩ := hwp
    refine x_iast hx hb hK hD hP hS 9 o22 ((hO.1 _ ho22).2.1) (fun _ => rfl) hi23 dX0_felled_84 (fun H locs hP hS => ?_)
    obtain ⟨σ24, eσ24⟩ : ∃ z, z = tI σ21 9 o22 x1.toNatClampNeg 0 := ⟨_, rfl⟩
    replace hP : XH Γ δ15 σ24 H := by rw [eσ24]; exact hP
    replace hwp := hwp σ24 eσ24
    refine lv_aload_n hx hb dX0_felled_85 rfl (lv_at hl 0 rfl) ?_
    obtain ⟨o25, eo25, hwp⟩ := hwp
    refine x_getr hx hb hts hown hK hP 0 i0 (hE.m h0) rfl rfl in_X0 3 (by decide) q199 rfl rfl eo25 dX0_felled_86 (fun ho25 co25 => ?_)
    refine x_goi (va_runV (As := []) (rest := []) ⟨hx, hb, hml, hown, hts⟩ (xt_G_rights ho25 hwp H.size) (cwV 0 hts (lw_V q1151 q1152 q1153 q77 q1154) rfl rfl rfl (by decide +kernel) ⟨Nat.le_of_ble_eq_true rfl, Nat.le_of_ble_eq_true rfl⟩) (x_preV hK hO hD hP 6 o25 ho25 rfl rfl) rfl rfl hl.1 rfl (lv_room (Nat.le_of_ble_eq_true rfl)) dX0_felled_89 ⟨(Nat.le_of_ble_eq_true rfl), (Nat.le_of_ble_eq_true rfl)⟩) hD hA hS (fun r26 u H locs hk hP hO hD hS => ?_)
    obtain ⟨hwp, eu⟩ := hk
    subst eu
    dsimp only at hP hO hD
    refine lv_aload_n hx hb dX0_felled_92 rfl (lv_at hl 0 rfl) ?_
    obtain ⟨o27, eo27, hwp⟩ := hwp
    refine x_getr hx hb hts hown hK hP 0 i0 (hE.m h0) rfl rfl in_X0 4 (by decide) q200 rfl rfl eo27 dX0_felled_93 (fun ho27 co27 => ?_)
    refine x_goi (va_runV (As := []) (rest := [.int r26]) ⟨hx, hb, hml, hown, hts⟩ (xt_G_rights ho27 hwp H.size) (cwV 0 hts (lw_V q1151 q1152 q1153 q77 q1154) rfl rfl rfl (by decide +kernel) ⟨Nat.le_of_ble_eq_true rfl, Nat.le_of_ble_eq_true rfl⟩) (x_preV hK hO hD hP 6 o27 ho27 rfl rfl) rfl rfl hl.1 rfl (lv_room (Nat.le_of_ble_eq_true rfl)) dX0_felled_96 ⟨(Nat.le_of_ble_eq_true rfl), (Nat.le_of_ble_eq_true rfl)⟩) hD hA hS (fun r28 u H locs hk hP hO hD hS => ?_)
    obtain ⟨hwp, eu⟩ := hk
    subst eu
    dsimp only at hP hO hD
    refine lv_isub hx hb dX0_felled_99 ?_
    refine W.widen (k := 3) (n := 18) (Nat.le_of_ble_eq_true rfl) (Nat.le_of_ble_eq_true rfl) ?_
    refine vx_ret ?_
    exact x_iret hx hb hr hlk hP hO hD hS ⟨hwp, hE⟩ dX0_felled_100
def xw_S_felled (K : Int32 → XSh → XSt → Prop) (i0 : Nat) (x1 : Int32) (δ : XSh) (σ : XSt) : Prop :=
  xw_S_mustThing (fun δ1 σ2 => ∃ o4, σ2.2.2 0 i0 4 = some o4 ∧ (xw_G_isHouse δ1 σ2 (fun r5 => ((¬ (r5 = 0)) → (xw_S_felled_21 K i0 x1 0 δ1 σ2)) ∧ ((r5 = 0) → (xw_S_felled_21 K i0 x1 1 δ1 σ2))) o4 x1)) (fun q10 δ7 σ8 => xw_S_felled_101 K i0 q10 δ7 σ8) i0 x1 δ σ
set_option maxHeartbeats 4000000 in
set_option maxRecDepth 100000 in
theorem xk_S_felled_e {p : Program} {l : Launch} {e : Env} {s : State} {m : MethodId} {args : Array Value} {below : List Frame} {meth : Method} {c : Code} {Γ : GA} {δ0 : XSh} {K : Int32 → XSh → XSt → Prop} {i0 : Nat} (hst : l.stackTraces = false) (Xc : CY p s m args meth c cX0_felled 3 (some .int) RX0 Γ δ0 (tableOf [(0, 100, 101, 21)])) (h0 : (0, i0) ∈ δ0.1) {x1 : Int32} : ∀ (δ : XSh) (σ : XSt), Ext δ0 δ → xw_S_felled K i0 x1 δ σ → TX p l e ({ frames := 26, cells := 3, slots := 18, locals := 563 } : Room) s m args below meth c 3 0 0 (VI below (fun r u => K r u.1 u.2 ∧ Ext δ0 u.1) (fun _ _ _ => False) 3 18 Γ δ0 s args) Γ δ0 δ σ 0 [(0, .ref i0), (1, .int x1)] [] := by
  obtain ⟨⟨hx, hb, hml, hown, hts, hK, hr, hlk⟩, hZ, htb⟩ := id Xc
  have hA : ∀ q, s.heap.size ≤ q → AX δ0 s.heap.size q := fun q h => Or.inr h
  intro δ σ hE hwp H locs ls hP hO hD hS hl
  unfold xw_S_felled at hwp
  refine lv_aload_n hx hb dX0_felled_0 rfl (lv_at hl 0 rfl) ?_
  refine lv_iload_n hx hb dX0_felled_1 rfl (lv_at hl 1 rfl) ?_
  refine y_gov (vx_runV (As := [.int x1]) (rest := []) ⟨hx, hb, hml, hown, hts⟩ (xt_S_mustThing hst (hE.m h0) hwp H.size) (cwV 1 hts (lw_V q508 q510 qs3 q75 q511) rfl rfl rfl (by decide +kernel) ⟨(Nat.le_of_ble_eq_true rfl), (Nat.le_of_ble_eq_true rfl)⟩) (y_preV hK hO hD hA hZ hP hS 0 i0 (hE.m h0) rfl rfl) rfl rfl hl.1 rfl (lv_room (Nat.le_of_ble_eq_true rfl)) dX0_felled_2 ⟨(Nat.le_of_ble_eq_true rfl), (Nat.le_of_ble_eq_true rfl)⟩) hD hA hS (fun E ce q10 u H locs hk hP hO hD hS k1 k2 k3 => ?_) (fun u H locs hk hP hO hD hS => ?_)
  · obtain ⟨δ7, σ8⟩ := u
    obtain ⟨⟨rfl, hq10⟩, hwp, hF9⟩ := hk
    dsimp only at hP hO hD hwp hF9 hq10
    replace hE := hE.tr hF9
    refine vx_catch (E := RX5) (name := RX5) hown [] ⟨0, 100, 101, 21⟩ [] (htb.trans rfl) (fun z hz => nomatch hz) rfl (by decide) (hts _ q222) ((hK.2.1 (.castable RX5 RX5) (by simp [nwL])).use rfl) k1 k2 k3 ?_
    refine W.eq (g2 := F0 m 101 ls [.ref q10]) rfl ?_
    refine W.widen (k := 2) (n := 14) (Nat.le_of_ble_eq_true rfl) (Nat.le_of_ble_eq_true rfl) ?_
    exact xk_S_felled_101 hst Xc h0 _ δ7 σ8 hE hq10 hwp H locs ls hP hO hD hS (lv_sub hl [0] rfl)
  · obtain ⟨δ1, σ2⟩ := u
    obtain ⟨hwp, hF3⟩ := hk
    dsimp only at hP hO hD hwp hF3
    replace hE := hE.tr hF3
    refine lv_aload_n hx hb dX0_felled_5 rfl (lv_at hl 0 rfl) ?_
    obtain ⟨o4, eo4, hwp⟩ := hwp
    refine x_getr hx hb hts hown hK hP 0 i0 (hE.m h0) rfl rfl in_X0 4 (by decide) q200 rfl rfl eo4 dX0_felled_6 (fun ho4 co4 => ?_)
    refine lv_iload_n hx hb dX0_felled_9 rfl (lv_at hl 1 rfl) ?_
    refine x_goi (va_runV (As := [.int x1]) (rest := []) ⟨hx, hb, hml, hown, hts⟩ (xt_G_isHouse ho4 hwp H.size) (cwV 1 hts (lw_V q858 q542 q543 q77 q544) rfl rfl rfl (by decide +kernel) ⟨Nat.le_of_ble_eq_true rfl, Nat.le_of_ble_eq_true rfl⟩) (x_preV hK hO hD hP 6 o4 ho4 rfl rfl) rfl rfl hl.1 rfl (lv_room (Nat.le_of_ble_eq_true rfl)) dX0_felled_10 ⟨(Nat.le_of_ble_eq_true rfl), (Nat.le_of_ble_eq_true rfl)⟩) hD hA hS (fun r5 u H locs hk hP hO hD hS => ?_)
    obtain ⟨hwp, eu⟩ := hk
    subst eu
    dsimp only at hP hO hD
    refine lv_if_ne (tgt := 20) hx hb dX0_felled_13 (by decide) (fun c6 => ?_) (fun c6 => ?_)
    · replace hwp := hwp.1 c6
      refine lv_iconst (v := 0) hx hb dX0_felled_20 (by decide) ?_
      refine W.widen (k := 1) (n := 7) (Nat.le_of_ble_eq_true rfl) (Nat.le_of_ble_eq_true rfl) ?_
      exact xk_S_felled_21 hst Xc h0 _ _ δ1 σ2 hE hwp H locs ls hP hO hD hS (lv_sub hl [0, 1] rfl)
    · replace hwp := hwp.2 c6
      refine lv_iconst (v := 1) hx hb dX0_felled_16 (by decide) ?_
      refine lv_goto (tgt := 21) hx hb dX0_felled_17 (by decide) ?_
      refine W.widen (k := 1) (n := 7) (Nat.le_of_ble_eq_true rfl) (Nat.le_of_ble_eq_true rfl) ?_
      exact xk_S_felled_21 hst Xc h0 _ _ δ1 σ2 hE hwp H locs ls hP hO hD hS (lv_sub hl [0, 1] rfl)
set_option maxHeartbeats 4000000 in
set_option maxRecDepth 100000 in
theorem xt_S_felled {l : Launch} (hst : l.stackTraces = false) {Γ : GA} {δ0 : XSh} {σ : XSt} {K : Int32 → XSh → XSt → Prop} {i0 : Nat} (h0 : (0, i0) ∈ δ0.1) {x1 : Int32} (hwp : xw_S_felled K i0 x1 δ0 σ) : yI l yX0_felled (wsW_ yX0_felled cX0_felled 3 (some .int) [(0, 100, 101, 21)]) ({ frames := 26, cells := 3, slots := 18, locals := 563 } : Room) 3 18 Γ δ0 [.ref i0, .int x1] σ (fun r u => K r u.1 u.2 ∧ Ext δ0 u.1) (fun _ _ _ => False) := by
  intro sz
  refine yW_of (by decide) [(0, .ref i0), (1, .int x1)] (fun _ h => h) (Nat.le_of_ble_eq_true rfl) ?_
  intro p e s m args below meth c hsz Xc
  subst hsz
  exact xk_S_felled_e hst Xc h0 δ0 σ Ext.rf hwp
/-! S_back -/
def xw_S_back_9_b (K : Int32 → XSh → XSt → Prop) (i0 : Nat) (L9 : Int32 → Int32 → Int32 → XSh → XSt → Prop) (x1 : Int32) (x2 : Int32) (x3 : Int32) (δ : XSh) (σ : XSt) : Prop :=
  ((8 < x3) → (K (-1) δ σ)) ∧ ((¬ (8 < x3)) → (∃ o2, σ.2.2 0 i0 4 = some o2 ∧ (xw_G_seers δ σ (fun r3 => ((¬ (r3 = 0)) → (xw_Jn_numberOfTrailingZeros δ σ (fun r5 => ((¬ (r5 = x1)) → (L9 x1 r5 (x3 + 1) δ σ)) ∧ ((r5 = x1) → (K x3 δ σ))) r3)) ∧ ((r3 = 0) → (K (-1) δ σ))) o2 x2)))
def xw_S_back_9 (K : Int32 → XSh → XSt → Prop) (i0 : Nat) : Nat → Int32 → Int32 → Int32 → XSh → XSt → Prop
  | 0 => fun _ _ _ _ _ => False
  | n + 1 => fun x1 x2 x3 δ σ => xw_S_back_9_b K i0 (xw_S_back_9 K i0 n) x1 x2 x3 δ σ
set_option maxHeartbeats 4000000 in
set_option maxRecDepth 100000 in
theorem xk_S_back_9_b {p : Program} {l : Launch} {e : Env} {s : State} {m : MethodId} {args : Array Value} {below : List Frame} {meth : Method} {c : Code} {Γ : GA} {δ0 : XSh} {K : Int32 → XSh → XSt → Prop} {i0 : Nat} (hst : l.stackTraces = false) (Xc : CY p s m args meth c cX0_back 5 (some .int) RX0 Γ δ0 (tableOf [(0, 31, 53, 21), (32, 44, 53, 21), (45, 52, 53, 21)])) (h0 : (0, i0) ∈ δ0.1) {L9 : Int32 → Int32 → Int32 → XSh → XSt → Prop} (hL9 : ∀ (x1 : Int32) (x2 : Int32) (x3 : Int32) (δ : XSh) (σ : XSt), Ext δ0 δ → L9 x1 x2 x3 δ σ → TX p l e ({ frames := 23, cells := 2, slots := 14, locals := 500 } : Room) s m args below meth c 5 2 14 (VI below (fun r u => K r u.1 u.2 ∧ Ext δ0 u.1) (fun _ _ _ => False) 2 14 Γ δ0 s args) Γ δ0 δ σ 9 [(0, .ref i0), (1, .int x1), (2, .int x2), (3, .int x3)] []) : ∀ (x1 : Int32) (x2 : Int32) (x3 : Int32) (δ : XSh) (σ : XSt), Ext δ0 δ → xw_S_back_9_b K i0 L9 x1 x2 x3 δ σ → TX p l e ({ frames := 23, cells := 2, slots := 14, locals := 500 } : Room) s m args below meth c 5 2 14 (VI below (fun r u => K r u.1 u.2 ∧ Ext δ0 u.1) (fun _ _ _ => False) 2 14 Γ δ0 s args) Γ δ0 δ σ 9 [(0, .ref i0), (1, .int x1), (2, .int x2), (3, .int x3)] [] := by
  obtain ⟨⟨hx, hb, hml, hown, hts, hK, hr, hlk⟩, hZ, htb⟩ := id Xc
  have hA : ∀ q, s.heap.size ≤ q → AX δ0 s.heap.size q := fun q h => Or.inr h
  intro x1 x2 x3 δ σ hE hwp H locs ls hP hO hD hS hl
  unfold xw_S_back_9_b at hwp
  refine lv_iload_n hx hb dX0_back_9 rfl (lv_at hl 3 rfl) ?_
  refine lv_bipush (v := 8) hx hb dX0_back_10 (by decide) ?_
  refine lv_icmp_gt (tgt := 51) hx hb dX0_back_12 (by decide) (fun c1 => ?_) (fun c1 => ?_)
  · replace hwp := hwp.1 c1
    refine lv_iconst (v := (-1)) hx hb dX0_back_51 (by decide) ?_
    refine W.widen (k := 2) (n := 14) (Nat.le_of_ble_eq_true rfl) (Nat.le_of_ble_eq_true rfl) ?_
    refine vx_ret ?_
    exact x_iret hx hb hr hlk hP hO hD hS ⟨hwp, hE⟩ dX0_back_52
  · replace hwp := hwp.2 c1
    refine lv_aload_n hx hb dX0_back_15 rfl (lv_at hl 0 rfl) ?_
    obtain ⟨o2, eo2, hwp⟩ := hwp
    refine x_getr hx hb hts hown hK hP 0 i0 (hE.m h0) rfl rfl in_X0 4 (by decide) q200 rfl rfl eo2 dX0_back_16 (fun ho2 co2 => ?_)
    refine lv_iload_n hx hb dX0_back_19 rfl (lv_at hl 2 rfl) ?_
    refine x_goi (va_runV (As := [.int x2]) (rest := []) ⟨hx, hb, hml, hown, hts⟩ (xt_G_seers ho2 hwp H.size) (cwV 1 hts (lw_V q1059 q534 q535 q77 q536) rfl rfl rfl (by decide +kernel) ⟨Nat.le_of_ble_eq_true rfl, Nat.le_of_ble_eq_true rfl⟩) (x_preV hK hO hD hP 6 o2 ho2 rfl rfl) rfl rfl hl.1 rfl (lv_room (Nat.le_of_ble_eq_true rfl)) dX0_back_20 ⟨(Nat.le_of_ble_eq_true rfl), (Nat.le_of_ble_eq_true rfl)⟩) hD hA hS (fun r3 u H locs hk hP hO hD hS => ?_)
    obtain ⟨hwp, eu⟩ := hk
    subst eu
    dsimp only at hP hO hD
    refine lv_istore (lv' := [(4, .int r3), (0, .ref i0), (1, .int x1), (2, .int x2), (3, .int x3)]) hx hb dX0_back_23 hl (by decide) rfl (fun ls hl => ?_)
    refine lv_iload hx hb dX0_back_25 (lv_at hl 0 rfl) ?_
    refine lv_if_ne (tgt := 32) hx hb dX0_back_27 (by decide) (fun c4 => ?_) (fun c4 => ?_)
    · replace hwp := hwp.1 c4
      refine lv_iload hx hb dX0_back_32 (lv_at hl 0 rfl) ?_
      refine x_goi (va_runS (As := [.int r3]) (rest := []) ⟨hx, hb, hml, hown, hts⟩ (xt_Jn_numberOfTrailingZeros hwp H.size) (va_cwS 1 hts (lw_S q1077 q1078 q96 q1079) rfl rfl rfl (by decide +kernel) ⟨Nat.le_of_ble_eq_true rfl, Nat.le_of_ble_eq_true rfl⟩) (x_preS hK hO hD hP) rfl rfl hl.1 rfl (lv_room (Nat.le_of_ble_eq_true rfl)) dX0_back_34 ⟨(Nat.le_of_ble_eq_true rfl), (Nat.le_of_ble_eq_true rfl)⟩) hD hA hS (fun r5 u H locs hk hP hO hD hS => ?_)
      obtain ⟨hwp, eu⟩ := hk
      subst eu
      dsimp only at hP hO hD
      refine lv_istore_n (lv' := [(2, .int r5), (4, .int r3), (0, .ref i0), (1, .int x1), (3, .int x3)]) hx hb dX0_back_37 rfl hl (by decide) rfl (fun ls hl => ?_)
      refine lv_iload_n hx hb dX0_back_38 rfl (lv_at hl 0 rfl) ?_
      refine lv_iload_n hx hb dX0_back_39 rfl (lv_at hl 3 rfl) ?_
      refine lv_icmp_ne (tgt := 45) hx hb dX0_back_40 (by decide) (fun c6 => ?_) (fun c6 => ?_)
      · replace hwp := hwp.1 c6
        refine lv_iinc (v := x3 + 1) (lv' := [(3, .int (x3 + 1)), (2, .int r5), (4, .int r3), (0, .ref i0), (1, .int x1)]) hx hb dX0_back_45 hl (k := 4) rfl rfl (by decide) rfl (fun ls hl => ?_)
        refine lv_goto (tgt := 9) hx hb dX0_back_48 (by decide) ?_
        refine W.widen (k := 2) (n := 14) (Nat.le_of_ble_eq_true rfl) (Nat.le_of_ble_eq_true rfl) ?_
        exact hL9 _ _ _ δ σ hE hwp H locs ls hP hO hD hS (lv_sub hl [3, 4, 1, 0] rfl)
      · replace hwp := hwp.2 c6
        refine lv_iload_n hx hb dX0_back_43 rfl (lv_at hl 4 rfl) ?_
        refine W.widen (k := 2) (n := 14) (Nat.le_of_ble_eq_true rfl) (Nat.le_of_ble_eq_true rfl) ?_
        refine vx_ret ?_
        exact x_iret hx hb hr hlk hP hO hD hS ⟨hwp, hE⟩ dX0_back_44
    · replace hwp := hwp.2 c4
      refine lv_iconst (v := (-1)) hx hb dX0_back_30 (by decide) ?_
      refine W.widen (k := 2) (n := 14) (Nat.le_of_ble_eq_true rfl) (Nat.le_of_ble_eq_true rfl) ?_
      refine vx_ret ?_
      exact x_iret hx hb hr hlk hP hO hD hS ⟨hwp, hE⟩ dX0_back_31
set_option maxHeartbeats 4000000 in
set_option maxRecDepth 100000 in
theorem xk_S_back_9 {p : Program} {l : Launch} {e : Env} {s : State} {m : MethodId} {args : Array Value} {below : List Frame} {meth : Method} {c : Code} {Γ : GA} {δ0 : XSh} {K : Int32 → XSh → XSt → Prop} {i0 : Nat} (hst : l.stackTraces = false) (Xc : CY p s m args meth c cX0_back 5 (some .int) RX0 Γ δ0 (tableOf [(0, 31, 53, 21), (32, 44, 53, 21), (45, 52, 53, 21)])) (h0 : (0, i0) ∈ δ0.1) : ∀ n (x1 : Int32) (x2 : Int32) (x3 : Int32) (δ : XSh) (σ : XSt), Ext δ0 δ → xw_S_back_9 K i0 n x1 x2 x3 δ σ → TX p l e ({ frames := 23, cells := 2, slots := 14, locals := 500 } : Room) s m args below meth c 5 2 14 (VI below (fun r u => K r u.1 u.2 ∧ Ext δ0 u.1) (fun _ _ _ => False) 2 14 Γ δ0 s args) Γ δ0 δ σ 9 [(0, .ref i0), (1, .int x1), (2, .int x2), (3, .int x3)] [] := by
  intro n
  induction n with
  | zero => intro _ _ _ _ _ _ hwp; exact hwp.elim
  | succ n ih => intro x1 x2 x3 δ σ hE hwp; exact xk_S_back_9_b hst Xc h0 ih x1 x2 x3 δ σ hE hwp
def xw_S_back (K : Int32 → XSh → XSt → Prop) (i0 : Nat) (x1 : Int32) (δ : XSh) (σ : XSt) : Prop :=
  xw_S_mustHouse (fun δ1 σ2 => ∃ n, xw_S_back_9 K i0 n x1 x1 1 δ1 σ2) (fun q7 δ4 σ5 => xw_S_refused δ4 (fun r8 σ9 => K (r8 - 10) δ4 σ9) i0 q7 σ5) i0 x1 δ σ
set_option maxHeartbeats 4000000 in
set_option maxRecDepth 100000 in
theorem xk_S_back_e {p : Program} {l : Launch} {e : Env} {s : State} {m : MethodId} {args : Array Value} {below : List Frame} {meth : Method} {c : Code} {Γ : GA} {δ0 : XSh} {K : Int32 → XSh → XSt → Prop} {i0 : Nat} (hst : l.stackTraces = false) (Xc : CY p s m args meth c cX0_back 5 (some .int) RX0 Γ δ0 (tableOf [(0, 31, 53, 21), (32, 44, 53, 21), (45, 52, 53, 21)])) (h0 : (0, i0) ∈ δ0.1) {x1 : Int32} : ∀ (δ : XSh) (σ : XSt), Ext δ0 δ → xw_S_back K i0 x1 δ σ → TX p l e ({ frames := 23, cells := 2, slots := 14, locals := 500 } : Room) s m args below meth c 5 0 0 (VI below (fun r u => K r u.1 u.2 ∧ Ext δ0 u.1) (fun _ _ _ => False) 2 14 Γ δ0 s args) Γ δ0 δ σ 0 [(0, .ref i0), (1, .int x1)] [] := by
  obtain ⟨⟨hx, hb, hml, hown, hts, hK, hr, hlk⟩, hZ, htb⟩ := id Xc
  have hA : ∀ q, s.heap.size ≤ q → AX δ0 s.heap.size q := fun q h => Or.inr h
  intro δ σ hE hwp H locs ls hP hO hD hS hl
  unfold xw_S_back at hwp
  refine lv_aload_n hx hb dX0_back_0 rfl (lv_at hl 0 rfl) ?_
  refine lv_iload_n hx hb dX0_back_1 rfl (lv_at hl 1 rfl) ?_
  refine y_gov (vx_runV (As := [.int x1]) (rest := []) ⟨hx, hb, hml, hown, hts⟩ (xt_S_mustHouse hst (hE.m h0) hwp H.size) (cwV 1 hts (lw_V q863 q865 qs7 q75 q866) rfl rfl rfl (by decide +kernel) ⟨(Nat.le_of_ble_eq_true rfl), (Nat.le_of_ble_eq_true rfl)⟩) (y_preV hK hO hD hA hZ hP hS 0 i0 (hE.m h0) rfl rfl) rfl rfl hl.1 rfl (lv_room (Nat.le_of_ble_eq_true rfl)) dX0_back_2 ⟨(Nat.le_of_ble_eq_true rfl), (Nat.le_of_ble_eq_true rfl)⟩) hD hA hS (fun E ce q7 u H locs hk hP hO hD hS k1 k2 k3 => ?_) (fun u H locs hk hP hO hD hS => ?_)
  · obtain ⟨δ4, σ5⟩ := u
    obtain ⟨⟨rfl, hq7⟩, hwp, hF6⟩ := hk
    dsimp only at hP hO hD hwp hF6 hq7
    replace hE := hE.tr hF6
    refine vx_catch (E := RX5) (name := RX5) hown [] ⟨0, 31, 53, 21⟩ [⟨32, 44, 53, 21⟩, ⟨45, 52, 53, 21⟩] (htb.trans rfl) (fun z hz => nomatch hz) rfl (by decide) (hts _ q222) ((hK.2.1 (.castable RX5 RX5) (by simp [nwL])).use rfl) k1 k2 k3 ?_
    refine W.eq (g2 := F0 m 53 ls [.ref q7]) rfl ?_
    refine lv_astore_n (lv' := [(2, .ref q7), (0, .ref i0), (1, .int x1)]) hx hb dX0_back_53 rfl hl (by decide) rfl (fun ls hl => ?_)
    refine lv_aload_n hx hb dX0_back_54 rfl (lv_at hl 1 rfl) ?_
    refine lv_aload_n hx hb dX0_back_55 rfl (lv_at hl 0 rfl) ?_
    refine x_goi (va_runV (As := [.ref q7]) (rest := []) ⟨hx, hb, hml, hown, hts⟩ (xt_S_refused (hE.m h0) hq7 hwp H.size) (cwV 1 hts (lw_V q397 q399 qs2 q75 q400) rfl rfl rfl (by decide +kernel) ⟨Nat.le_of_ble_eq_true rfl, Nat.le_of_ble_eq_true rfl⟩) (x_preV hK hO hD hP 0 i0 (hE.m h0) rfl rfl) rfl rfl hl.1 rfl (lv_room (Nat.le_of_ble_eq_true rfl)) dX0_back_56 ⟨(Nat.le_of_ble_eq_true rfl), (Nat.le_of_ble_eq_true rfl)⟩) hD hA hS (fun r8 u H locs hk hP hO hD hS => ?_)
    obtain ⟨u1, σ9⟩ := u
    obtain ⟨hwp, eu⟩ := hk
    have eu : δ4 = u1 := eu.symm
    subst eu
    dsimp only at hP hO hD hwp
    refine lv_bipush (v := 10) hx hb dX0_back_59 (by decide) ?_
    refine lv_isub hx hb dX0_back_61 ?_
    refine W.widen (k := 2) (n := 14) (Nat.le_of_ble_eq_true rfl) (Nat.le_of_ble_eq_true rfl) ?_
    refine vx_ret ?_
    exact x_iret hx hb hr hlk hP hO hD hS ⟨hwp, hE⟩ dX0_back_62
  · obtain ⟨δ1, σ2⟩ := u
    obtain ⟨hwp, hF3⟩ := hk
    dsimp only at hP hO hD hwp hF3
    replace hE := hE.tr hF3
    refine lv_iload_n hx hb dX0_back_5 rfl (lv_at hl 1 rfl) ?_
    refine lv_istore_n (lv' := [(2, .int x1), (0, .ref i0), (1, .int x1)]) hx hb dX0_back_6 rfl hl (by decide) rfl (fun ls hl => ?_)
    refine lv_iconst (v := 1) hx hb dX0_back_7 (by decide) ?_
    refine lv_istore_n (lv' := [(3, .int 1), (2, .int x1), (0, .ref i0), (1, .int x1)]) hx hb dX0_back_8 rfl hl (by decide) rfl (fun ls hl => ?_)
    obtain ⟨n, hwp⟩ := hwp
    refine W.widen (k := 2) (n := 14) (Nat.le_of_ble_eq_true rfl) (Nat.le_of_ble_eq_true rfl) ?_
    exact xk_S_back_9 hst Xc h0 n _ _ _ δ1 σ2 hE hwp H locs ls hP hO hD hS (lv_sub hl [2, 3, 1, 0] rfl)
set_option maxHeartbeats 4000000 in
set_option maxRecDepth 100000 in
theorem xt_S_back {l : Launch} (hst : l.stackTraces = false) {Γ : GA} {δ0 : XSh} {σ : XSt} {K : Int32 → XSh → XSt → Prop} {i0 : Nat} (h0 : (0, i0) ∈ δ0.1) {x1 : Int32} (hwp : xw_S_back K i0 x1 δ0 σ) : yI l yX0_back (wsW_ yX0_back cX0_back 5 (some .int) [(0, 31, 53, 21), (32, 44, 53, 21), (45, 52, 53, 21)]) ({ frames := 23, cells := 2, slots := 14, locals := 500 } : Room) 2 14 Γ δ0 [.ref i0, .int x1] σ (fun r u => K r u.1 u.2 ∧ Ext δ0 u.1) (fun _ _ _ => False) := by
  intro sz
  refine yW_of (by decide) [(0, .ref i0), (1, .int x1)] (fun _ h => h) (Nat.le_of_ble_eq_true rfl) ?_
  intro p e s m args below meth c hsz Xc
  subst hsz
  exact xk_S_back_e hst Xc h0 δ0 σ Ext.rf hwp
/-! S_most -/
def xw_S_most_97 (K : Int32 → XSh → XSt → Prop) (i0 : Nat) (x1 : Int32) (t0 : Int32) (δ : XSh) (σ : XSt) : Prop :=
  xw_S_need (fun δ1 σ2 => K x1 δ1 σ2) (fun q7 δ4 σ5 => xw_S_refused δ4 (fun r8 σ9 => K r8 δ4 σ9) i0 q7 σ5) t0 (-5) δ σ
set_option maxHeartbeats 4000000 in
set_option maxRecDepth 100000 in
theorem xk_S_most_97 {p : Program} {l : Launch} {e : Env} {s : State} {m : MethodId} {args : Array Value} {below : List Frame} {meth : Method} {c : Code} {Γ : GA} {δ0 : XSh} {K : Int32 → XSh → XSt → Prop} {i0 : Nat} (hst : l.stackTraces = false) (Xc : CY p s m args meth c cX0_most 6 (some .int) RX0 Γ δ0 (tableOf [(0, 103, 104, 21)])) (h0 : (0, i0) ∈ δ0.1) : ∀ (x1 : Int32) (t0 : Int32) (δ : XSh) (σ : XSt), Ext δ0 δ → xw_S_most_97 K i0 x1 t0 δ σ → TX p l e ({ frames := 22, cells := 1, slots := 7, locals := 477 } : Room) s m args below meth c 6 0 0 (VI below (fun r u => K r u.1 u.2 ∧ Ext δ0 u.1) (fun _ _ _ => False) 1 7 Γ δ0 s args) Γ δ0 δ σ 97 [(0, .ref i0), (1, .int x1)] [.int t0] := by
  obtain ⟨⟨hx, hb, hml, hown, hts, hK, hr, hlk⟩, hZ, htb⟩ := id Xc
  have hA : ∀ q, s.heap.size ≤ q → AX δ0 s.heap.size q := fun q h => Or.inr h
  intro x1 t0 δ σ hE hwp H locs ls hP hO hD hS hl
  unfold xw_S_most_97 at hwp
  refine lv_bipush (v := (-5)) hx hb dX0_most_97 (by decide) ?_
  refine y_gov (vx_runS (As := [.int t0, .int (-5)]) (rest := []) ⟨hx, hb, hml, hown, hts⟩ (xt_S_need hst hwp H.size) (va_cwS 2 hts (lw_S q328 q329 q75 q330) rfl rfl rfl (by decide +kernel) ⟨(Nat.le_of_ble_eq_true rfl), (Nat.le_of_ble_eq_true rfl)⟩) (y_preS hK hO hD hA hZ hP hS) rfl rfl hl.1 rfl (lv_room (Nat.le_of_ble_eq_true rfl)) dX0_most_99 ⟨(Nat.le_of_ble_eq_true rfl), (Nat.le_of_ble_eq_true rfl)⟩) hD hA hS (fun E ce q7 u H locs hk hP hO hD hS k1 k2 k3 => ?_) (fun u H locs hk hP hO hD hS => ?_)
  · obtain ⟨δ4, σ5⟩ := u
    obtain ⟨⟨rfl, hq7⟩, hwp, hF6⟩ := hk
    dsimp only at hP hO hD hwp hF6 hq7
    replace hE := hE.tr hF6
    refine vx_catch (E := RX5) (name := RX5) hown [] ⟨0, 103, 104, 21⟩ [] (htb.trans rfl) (fun z hz => nomatch hz) rfl (by decide) (hts _ q222) ((hK.2.1 (.castable RX5 RX5) (by simp [nwL])).use rfl) k1 k2 k3 ?_
    refine W.eq (g2 := F0 m 104 ls [.ref q7]) rfl ?_
    refine lv_astore_n (lv' := [(1, .ref q7), (0, .ref i0)]) hx hb dX0_most_104 rfl hl (by decide) rfl (fun ls hl => ?_)
    refine lv_aload_n hx hb dX0_most_105 rfl (lv_at hl 1 rfl) ?_
    refine lv_aload_n hx hb dX0_most_106 rfl (lv_at hl 0 rfl) ?_
    refine x_goi (va_runV (As := [.ref q7]) (rest := []) ⟨hx, hb, hml, hown, hts⟩ (xt_S_refused (hE.m h0) hq7 hwp H.size) (cwV 1 hts (lw_V q397 q399 qs2 q75 q400) rfl rfl rfl (by decide +kernel) ⟨Nat.le_of_ble_eq_true rfl, Nat.le_of_ble_eq_true rfl⟩) (x_preV hK hO hD hP 0 i0 (hE.m h0) rfl rfl) rfl rfl hl.1 rfl (lv_room (Nat.le_of_ble_eq_true rfl)) dX0_most_107 ⟨(Nat.le_of_ble_eq_true rfl), (Nat.le_of_ble_eq_true rfl)⟩) hD hA hS (fun r8 u H locs hk hP hO hD hS => ?_)
    obtain ⟨u1, σ9⟩ := u
    obtain ⟨hwp, eu⟩ := hk
    have eu : δ4 = u1 := eu.symm
    subst eu
    dsimp only at hP hO hD hwp
    refine W.widen (k := 1) (n := 7) (Nat.le_of_ble_eq_true rfl) (Nat.le_of_ble_eq_true rfl) ?_
    refine vx_ret ?_
    exact x_iret hx hb hr hlk hP hO hD hS ⟨hwp, hE⟩ dX0_most_110
  · obtain ⟨δ1, σ2⟩ := u
    obtain ⟨hwp, hF3⟩ := hk
    dsimp only at hP hO hD hwp hF3
    replace hE := hE.tr hF3
    refine lv_iload_n hx hb dX0_most_102 rfl (lv_at hl 1 rfl) ?_
    refine W.widen (k := 1) (n := 7) (Nat.le_of_ble_eq_true rfl) (Nat.le_of_ble_eq_true rfl) ?_
    refine vx_ret ?_
    exact x_iret hx hb hr hlk hP hO hD hS ⟨hwp, hE⟩ dX0_most_103
def xw_S_most_23_b (K : Int32 → XSh → XSt → Prop) (i0 : Nat) (L6 : Int32 → Int32 → Int32 → XSh → XSt → Prop) (L23 : Int32 → Int32 → Int32 → Int32 → Int32 → XSh → XSt → Prop) (x1 : Int32) (x2 : Int32) (x3 : Int32) (x4 : Int32) (x5 : Int32) (δ : XSh) (σ : XSt) : Prop :=
  ∃ o1, σ.2.2 0 i0 4 = some o1 ∧ ((((σ.1 6 o1 0) ≤ x5) → (xw_G_isHouse δ σ (fun r3 => ((r3 = 0) → (L6 x1 x2 (x3 + 1) δ σ)) ∧ ((¬ (r3 = 0)) → (((x4 ≤ x2) → (L6 x1 x2 (x3 + 1) δ σ)) ∧ ((¬ (x4 ≤ x2)) → (L6 x3 x4 (x3 + 1) δ σ))))) o1 x3)) ∧ ((¬ ((σ.1 6 o1 0) ≤ x5)) → (xw_G_into δ σ (fun r6 => L23 x1 x2 x3 (x4 + ((r6 >>> (x3 &&& 31)) &&& 1)) (x5 + 1) δ σ) o1 x5)))
def xw_S_most_23 (K : Int32 → XSh → XSt → Prop) (i0 : Nat) (L6 : Int32 → Int32 → Int32 → XSh → XSt → Prop) : Nat → Int32 → Int32 → Int32 → Int32 → Int32 → XSh → XSt → Prop
  | 0 => fun _ _ _ _ _ _ _ => False
  | n + 1 => fun x1 x2 x3 x4 x5 δ σ => xw_S_most_23_b K i0 L6 (xw_S_most_23 K i0 L6 n) x1 x2 x3 x4 x5 δ σ
set_option maxHeartbeats 4000000 in
set_option maxRecDepth 100000 in
theorem xk_S_most_23_b {p : Program} {l : Launch} {e : Env} {s : State} {m : MethodId} {args : Array Value} {below : List Frame} {meth : Method} {c : Code} {Γ : GA} {δ0 : XSh} {K : Int32 → XSh → XSt → Prop} {i0 : Nat} (hst : l.stackTraces = false) (Xc : CY p s m args meth c cX0_most 6 (some .int) RX0 Γ δ0 (tableOf [(0, 103, 104, 21)])) (h0 : (0, i0) ∈ δ0.1) {L6 : Int32 → Int32 → Int32 → XSh → XSt → Prop} (hL6 : ∀ (x1 : Int32) (x2 : Int32) (x3 : Int32) (δ : XSh) (σ : XSt), Ext δ0 δ → L6 x1 x2 x3 δ σ → TX p l e ({ frames := 22, cells := 1, slots := 7, locals := 477 } : Room) s m args below meth c 6 0 0 (VI below (fun r u => K r u.1 u.2 ∧ Ext δ0 u.1) (fun _ _ _ => False) 1 7 Γ δ0 s args) Γ δ0 δ σ 6 [(0, .ref i0), (1, .int x1), (2, .int x2), (3, .int x3)] []) {L23 : Int32 → Int32 → Int32 → Int32 → Int32 → XSh → XSt → Prop} (hL23 : ∀ (x1 : Int32) (x2 : Int32) (x3 : Int32) (x4 : Int32) (x5 : Int32) (δ : XSh) (σ : XSt), Ext δ0 δ → L23 x1 x2 x3 x4 x5 δ σ → TX p l e ({ frames := 22, cells := 1, slots := 7, locals := 477 } : Room) s m args below meth c 6 0 0 (VI below (fun r u => K r u.1 u.2 ∧ Ext δ0 u.1) (fun _ _ _ => False) 1 7 Γ δ0 s args) Γ δ0 δ σ 23 [(0, .ref i0), (1, .int x1), (2, .int x2), (3, .int x3), (4, .int x4), (5, .int x5)] []) : ∀ (x1 : Int32) (x2 : Int32) (x3 : Int32) (x4 : Int32) (x5 : Int32) (δ : XSh) (σ : XSt), Ext δ0 δ → xw_S_most_23_b K i0 L6 L23 x1 x2 x3 x4 x5 δ σ → TX p l e ({ frames := 22, cells := 1, slots := 7, locals := 477 } : Room) s m args below meth c 6 0 0 (VI below (fun r u => K r u.1 u.2 ∧ Ext δ0 u.1) (fun _ _ _ => False) 1 7 Γ δ0 s args) Γ δ0 δ σ 23 [(0, .ref i0), (1, .int x1), (2, .int x2), (3, .int x3), (4, .int x4), (5, .int x5)] [] := by
  obtain ⟨⟨hx, hb, hml, hown, hts, hK, hr, hlk⟩, hZ, htb⟩ := id Xc
  have hA : ∀ q, s.heap.size ≤ q → AX δ0 s.heap.size q := fun q h => Or.inr h
  intro x1 x2 x3 x4 x5 δ σ hE hwp H locs ls hP hO hD hS hl
  unfold xw_S_most_23_b at hwp
  refine lv_iload hx hb dX0_most_23 (lv_at hl 5 rfl) ?_
  refine lv_aload_n hx hb dX0_most_25 rfl (lv_at hl 0 rfl) ?_
  obtain ⟨o1, eo1, hwp⟩ := hwp
  refine x_getr hx hb hts hown hK hP 0 i0 (hE.m h0) rfl rfl in_X0 4 (by decide) q200 rfl rfl eo1 dX0_most_26 (fun ho1 co1 => ?_)
  refine x_get hx hb hts hown hK hP 6 o1 ho1 rfl rfl in_X2 0 (by decide) q145 rfl (v := .int (σ.1 6 o1 0)) rfl dX0_most_29 ?_
  refine lv_icmp_ge (tgt := 59) hx hb dX0_most_32 (by decide) (fun c2 => ?_) (fun c2 => ?_)
  · replace hwp := hwp.1 c2
    refine lv_aload_n hx hb dX0_most_59 rfl (lv_at hl 0 rfl) ?_
    refine x_getr hx hb hts hown hK hP 0 i0 (hE.m h0) rfl rfl in_X0 4 (by decide) q200 rfl rfl eo1 dX0_most_60 (fun ho1 co1 => ?_)
    refine lv_iload_n hx hb dX0_most_63 rfl (lv_at hl 3 rfl) ?_
    refine x_goi (va_runV (As := [.int x3]) (rest := []) ⟨hx, hb, hml, hown, hts⟩ (xt_G_isHouse ho1 hwp H.size) (cwV 1 hts (lw_V q858 q542 q543 q77 q544) rfl rfl rfl (by decide +kernel) ⟨Nat.le_of_ble_eq_true rfl, Nat.le_of_ble_eq_true rfl⟩) (x_preV hK hO hD hP 6 o1 ho1 rfl rfl) rfl rfl hl.1 rfl (lv_room (Nat.le_of_ble_eq_true rfl)) dX0_most_64 ⟨(Nat.le_of_ble_eq_true rfl), (Nat.le_of_ble_eq_true rfl)⟩) hD hA hS (fun r3 u H locs hk hP hO hD hS => ?_)
    obtain ⟨hwp, eu⟩ := hk
    subst eu
    dsimp only at hP hO hD
    refine lv_if_eq (tgt := 81) hx hb dX0_most_67 (by decide) (fun c4 => ?_) (fun c4 => ?_)
    · replace hwp := hwp.1 c4
      refine lv_iinc (v := x3 + 1) (lv' := [(3, .int (x3 + 1)), (0, .ref i0), (1, .int x1), (2, .int x2), (4, .int x4), (5, .int x5)]) hx hb dX0_most_81 hl (k := 3) rfl rfl (by decide) rfl (fun ls hl => ?_)
      refine lv_goto (tgt := 6) hx hb dX0_most_84 (by decide) ?_
      refine W.widen (k := 0) (n := 0) (Nat.le_of_ble_eq_true rfl) (Nat.le_of_ble_eq_true rfl) ?_
      exact hL6 _ _ _ δ σ hE hwp H locs ls hP hO hD hS (lv_sub hl [1, 2, 3, 0] rfl)
    · replace hwp := hwp.2 c4
      refine lv_iload hx hb dX0_most_70 (lv_at hl 4 rfl) ?_
      refine lv_iload_n hx hb dX0_most_72 rfl (lv_at hl 2 rfl) ?_
      refine lv_icmp_le (tgt := 81) hx hb dX0_most_73 (by decide) (fun c5 => ?_) (fun c5 => ?_)
      · replace hwp := hwp.1 c5
        refine lv_iinc (v := x3 + 1) (lv' := [(3, .int (x3 + 1)), (0, .ref i0), (1, .int x1), (2, .int x2), (4, .int x4), (5, .int x5)]) hx hb dX0_most_81 hl (k := 3) rfl rfl (by decide) rfl (fun ls hl => ?_)
        refine lv_goto (tgt := 6) hx hb dX0_most_84 (by decide) ?_
        refine W.widen (k := 0) (n := 0) (Nat.le_of_ble_eq_true rfl) (Nat.le_of_ble_eq_true rfl) ?_
        exact hL6 _ _ _ δ σ hE hwp H locs ls hP hO hD hS (lv_sub hl [1, 2, 3, 0] rfl)
      · replace hwp := hwp.2 c5
        refine lv_iload_n hx hb dX0_most_76 rfl (lv_at hl 3 rfl) ?_
        refine lv_istore_n (lv' := [(1, .int x3), (0, .ref i0), (2, .int x2), (3, .int x3), (4, .int x4), (5, .int x5)]) hx hb dX0_most_77 rfl hl (by decide) rfl (fun ls hl => ?_)
        refine lv_iload hx hb dX0_most_78 (lv_at hl 4 rfl) ?_
        refine lv_istore_n (lv' := [(2, .int x4), (1, .int x3), (0, .ref i0), (3, .int x3), (4, .int x4), (5, .int x5)]) hx hb dX0_most_80 rfl hl (by decide) rfl (fun ls hl => ?_)
        refine lv_iinc (v := x3 + 1) (lv' := [(3, .int (x3 + 1)), (2, .int x4), (1, .int x3), (0, .ref i0), (4, .int x4), (5, .int x5)]) hx hb dX0_most_81 hl (k := 3) rfl rfl (by decide) rfl (fun ls hl => ?_)
        refine lv_goto (tgt := 6) hx hb dX0_most_84 (by decide) ?_
        refine W.widen (k := 0) (n := 0) (Nat.le_of_ble_eq_true rfl) (Nat.le_of_ble_eq_true rfl) ?_
        exact hL6 _ _ _ δ σ hE hwp H locs ls hP hO hD hS (lv_sub hl [3, 2, 1, 0] rfl)
  · replace hwp := hwp.2 c2
    refine lv_iload hx hb dX0_most_35 (lv_at hl 4 rfl) ?_
    refine lv_aload_n hx hb dX0_most_37 rfl (lv_at hl 0 rfl) ?_
    refine x_getr hx hb hts hown hK hP 0 i0 (hE.m h0) rfl rfl in_X0 4 (by decide) q200 rfl rfl eo1 dX0_most_38 (fun ho1 co1 => ?_)
    refine lv_iload hx hb dX0_most_41 (lv_at hl 5 rfl) ?_
    refine x_goi (va_runV (As := [.int x5]) (rest := [.int x4]) ⟨hx, hb, hml, hown, hts⟩ (xt_G_into ho1 hwp H.size) (cwV 1 hts (lw_V q1168 q538 q539 q77 q540) rfl rfl rfl (by decide +kernel) ⟨Nat.le_of_ble_eq_true rfl, Nat.le_of_ble_eq_true rfl⟩) (x_preV hK hO hD hP 6 o1 ho1 rfl rfl) rfl rfl hl.1 rfl (lv_room (Nat.le_of_ble_eq_true rfl)) dX0_most_43 ⟨(Nat.le_of_ble_eq_true rfl), (Nat.le_of_ble_eq_true rfl)⟩) hD hA hS (fun r6 u H locs hk hP hO hD hS => ?_)
    obtain ⟨hwp, eu⟩ := hk
    subst eu
    dsimp only at hP hO hD
    refine lv_iload_n hx hb dX0_most_46 rfl (lv_at hl 3 rfl) ?_
    refine lv_ishr hx hb dX0_most_47 ?_
    refine lv_iconst (v := 1) hx hb dX0_most_48 (by decide) ?_
    refine lv_iand hx hb dX0_most_49 ?_
    refine lv_iadd hx hb dX0_most_50 ?_
    refine lv_istore (lv' := [(4, .int (x4 + ((r6 >>> (x3 &&& 31)) &&& 1))), (0, .ref i0), (1, .int x1), (2, .int x2), (3, .int x3), (5, .int x5)]) hx hb dX0_most_51 hl (by decide) rfl (fun ls hl => ?_)
    refine lv_iinc (v := x5 + 1) (lv' := [(5, .int (x5 + 1)), (4, .int (x4 + ((r6 >>> (x3 &&& 31)) &&& 1))), (0, .ref i0), (1, .int x1), (2, .int x2), (3, .int x3)]) hx hb dX0_most_53 hl (k := 5) rfl rfl (by decide) rfl (fun ls hl => ?_)
    refine lv_goto (tgt := 23) hx hb dX0_most_56 (by decide) ?_
    refine W.widen (k := 0) (n := 0) (Nat.le_of_ble_eq_true rfl) (Nat.le_of_ble_eq_true rfl) ?_
    exact hL23 _ _ _ _ _ δ σ hE hwp H locs ls hP hO hD hS (lv_sub hl [2, 3, 4, 5, 1, 0] rfl)
set_option maxHeartbeats 4000000 in
set_option maxRecDepth 100000 in
theorem xk_S_most_23 {p : Program} {l : Launch} {e : Env} {s : State} {m : MethodId} {args : Array Value} {below : List Frame} {meth : Method} {c : Code} {Γ : GA} {δ0 : XSh} {K : Int32 → XSh → XSt → Prop} {i0 : Nat} (hst : l.stackTraces = false) (Xc : CY p s m args meth c cX0_most 6 (some .int) RX0 Γ δ0 (tableOf [(0, 103, 104, 21)])) (h0 : (0, i0) ∈ δ0.1) {L6 : Int32 → Int32 → Int32 → XSh → XSt → Prop} (hL6 : ∀ (x1 : Int32) (x2 : Int32) (x3 : Int32) (δ : XSh) (σ : XSt), Ext δ0 δ → L6 x1 x2 x3 δ σ → TX p l e ({ frames := 22, cells := 1, slots := 7, locals := 477 } : Room) s m args below meth c 6 0 0 (VI below (fun r u => K r u.1 u.2 ∧ Ext δ0 u.1) (fun _ _ _ => False) 1 7 Γ δ0 s args) Γ δ0 δ σ 6 [(0, .ref i0), (1, .int x1), (2, .int x2), (3, .int x3)] []) : ∀ n (x1 : Int32) (x2 : Int32) (x3 : Int32) (x4 : Int32) (x5 : Int32) (δ : XSh) (σ : XSt), Ext δ0 δ → xw_S_most_23 K i0 L6 n x1 x2 x3 x4 x5 δ σ → TX p l e ({ frames := 22, cells := 1, slots := 7, locals := 477 } : Room) s m args below meth c 6 0 0 (VI below (fun r u => K r u.1 u.2 ∧ Ext δ0 u.1) (fun _ _ _ => False) 1 7 Γ δ0 s args) Γ δ0 δ σ 23 [(0, .ref i0), (1, .int x1), (2, .int x2), (3, .int x3), (4, .int x4), (5, .int x5)] [] := by
  intro n
  induction n with
  | zero => intro _ _ _ _ _ _ _ _ hwp; exact hwp.elim
  | succ n ih => intro x1 x2 x3 x4 x5 δ σ hE hwp; exact xk_S_most_23_b hst Xc h0 hL6 ih x1 x2 x3 x4 x5 δ σ hE hwp
def xw_S_most_6_b (K : Int32 → XSh → XSt → Prop) (i0 : Nat) (L6 : Int32 → Int32 → Int32 → XSh → XSt → Prop) (x1 : Int32) (x2 : Int32) (x3 : Int32) (δ : XSh) (σ : XSt) : Prop :=
  ∃ o1, σ.2.2 0 i0 4 = some o1 ∧ ((((σ.1 6 o1 0) ≤ x3) → (((x1 = (-1)) → (xw_S_most_97 K i0 x1 0 δ σ)) ∧ ((¬ (x1 = (-1))) → (xw_S_most_97 K i0 x1 1 δ σ)))) ∧ ((¬ ((σ.1 6 o1 0) ≤ x3)) → (∃ n, xw_S_most_23 K i0 L6 n x1 x2 x3 0 0 δ σ)))
def xw_S_most_6 (K : Int32 → XSh → XSt → Prop) (i0 : Nat) : Nat → Int32 → Int32 → Int32 → XSh → XSt → Prop
  | 0 => fun _ _ _ _ _ => False
  | n + 1 => fun x1 x2 x3 δ σ => xw_S_most_6_b K i0 (xw_S_most_6 K i0 n) x1 x2 x3 δ σ
set_option maxHeartbeats 4000000 in
set_option maxRecDepth 100000 in
theorem xk_S_most_6_b {p : Program} {l : Launch} {e : Env} {s : State} {m : MethodId} {args : Array Value} {below : List Frame} {meth : Method} {c : Code} {Γ : GA} {δ0 : XSh} {K : Int32 → XSh → XSt → Prop} {i0 : Nat} (hst : l.stackTraces = false) (Xc : CY p s m args meth c cX0_most 6 (some .int) RX0 Γ δ0 (tableOf [(0, 103, 104, 21)])) (h0 : (0, i0) ∈ δ0.1) {L6 : Int32 → Int32 → Int32 → XSh → XSt → Prop} (hL6 : ∀ (x1 : Int32) (x2 : Int32) (x3 : Int32) (δ : XSh) (σ : XSt), Ext δ0 δ → L6 x1 x2 x3 δ σ → TX p l e ({ frames := 22, cells := 1, slots := 7, locals := 477 } : Room) s m args below meth c 6 0 0 (VI below (fun r u => K r u.1 u.2 ∧ Ext δ0 u.1) (fun _ _ _ => False) 1 7 Γ δ0 s args) Γ δ0 δ σ 6 [(0, .ref i0), (1, .int x1), (2, .int x2), (3, .int x3)] []) : ∀ (x1 : Int32) (x2 : Int32) (x3 : Int32) (δ : XSh) (σ : XSt), Ext δ0 δ → xw_S_most_6_b K i0 L6 x1 x2 x3 δ σ → TX p l e ({ frames := 22, cells := 1, slots := 7, locals := 477 } : Room) s m args below meth c 6 0 0 (VI below (fun r u => K r u.1 u.2 ∧ Ext δ0 u.1) (fun _ _ _ => False) 1 7 Γ δ0 s args) Γ δ0 δ σ 6 [(0, .ref i0), (1, .int x1), (2, .int x2), (3, .int x3)] [] := by
  obtain ⟨⟨hx, hb, hml, hown, hts, hK, hr, hlk⟩, hZ, htb⟩ := id Xc
  have hA : ∀ q, s.heap.size ≤ q → AX δ0 s.heap.size q := fun q h => Or.inr h
  intro x1 x2 x3 δ σ hE hwp H locs ls hP hO hD hS hl
  unfold xw_S_most_6_b at hwp
  refine lv_iload_n hx hb dX0_most_6 rfl (lv_at hl 3 rfl) ?_
  refine lv_aload_n hx hb dX0_most_7 rfl (lv_at hl 0 rfl) ?_
  obtain ⟨o1, eo1, hwp⟩ := hwp
  refine x_getr hx hb hts hown hK hP 0 i0 (hE.m h0) rfl rfl in_X0 4 (by decide) q200 rfl rfl eo1 dX0_most_8 (fun ho1 co1 => ?_)
  refine x_get hx hb hts hown hK hP 6 o1 ho1 rfl rfl in_X2 0 (by decide) q145 rfl (v := .int (σ.1 6 o1 0)) rfl dX0_most_11 ?_
  refine lv_icmp_ge (tgt := 87) hx hb dX0_most_14 (by decide) (fun c2 => ?_) (fun c2 => ?_)
  · replace hwp := hwp.1 c2
    refine lv_iload_n hx hb dX0_most_87 rfl (lv_at hl 1 rfl) ?_
    refine lv_iconst (v := (-1)) hx hb dX0_most_88 (by decide) ?_
    refine lv_icmp_eq (tgt := 96) hx hb dX0_most_89 (by decide) (fun c3 => ?_) (fun c3 => ?_)
    · replace hwp := hwp.1 c3
      refine lv_iconst (v := 0) hx hb dX0_most_96 (by decide) ?_
      refine W.widen (k := 0) (n := 0) (Nat.le_of_ble_eq_true rfl) (Nat.le_of_ble_eq_true rfl) ?_
      exact xk_S_most_97 hst Xc h0 _ _ δ σ hE hwp H locs ls hP hO hD hS (lv_sub hl [0, 1] rfl)
    · replace hwp := hwp.2 c3
      refine lv_iconst (v := 1) hx hb dX0_most_92 (by decide) ?_
      refine lv_goto (tgt := 97) hx hb dX0_most_93 (by decide) ?_
      refine W.widen (k := 0) (n := 0) (Nat.le_of_ble_eq_true rfl) (Nat.le_of_ble_eq_true rfl) ?_
      exact xk_S_most_97 hst Xc h0 _ _ δ σ hE hwp H locs ls hP hO hD hS (lv_sub hl [0, 1] rfl)
  · replace hwp := hwp.2 c2
    refine lv_iconst (v := 0) hx hb dX0_most_17 (by decide) ?_
    refine lv_istore (lv' := [(4, .int 0), (0, .ref i0), (1, .int x1), (2, .int x2), (3, .int x3)]) hx hb dX0_most_18 hl (by decide) rfl (fun ls hl => ?_)
    refine lv_iconst (v := 0) hx hb dX0_most_20 (by decide) ?_
    refine lv_istore (lv' := [(5, .int 0), (4, .int 0), (0, .ref i0), (1, .int x1), (2, .int x2), (3, .int x3)]) hx hb dX0_most_21 hl (by decide) rfl (fun ls hl => ?_)
    obtain ⟨n, hwp⟩ := hwp
    refine W.widen (k := 0) (n := 0) (Nat.le_of_ble_eq_true rfl) (Nat.le_of_ble_eq_true rfl) ?_
    exact xk_S_most_23 hst Xc h0 hL6 n _ _ _ _ _ δ σ hE hwp H locs ls hP hO hD hS (lv_sub hl [2, 3, 4, 5, 1, 0] rfl)
set_option maxHeartbeats 4000000 in
set_option maxRecDepth 100000 in
theorem xk_S_most_6 {p : Program} {l : Launch} {e : Env} {s : State} {m : MethodId} {args : Array Value} {below : List Frame} {meth : Method} {c : Code} {Γ : GA} {δ0 : XSh} {K : Int32 → XSh → XSt → Prop} {i0 : Nat} (hst : l.stackTraces = false) (Xc : CY p s m args meth c cX0_most 6 (some .int) RX0 Γ δ0 (tableOf [(0, 103, 104, 21)])) (h0 : (0, i0) ∈ δ0.1) : ∀ n (x1 : Int32) (x2 : Int32) (x3 : Int32) (δ : XSh) (σ : XSt), Ext δ0 δ → xw_S_most_6 K i0 n x1 x2 x3 δ σ → TX p l e ({ frames := 22, cells := 1, slots := 7, locals := 477 } : Room) s m args below meth c 6 0 0 (VI below (fun r u => K r u.1 u.2 ∧ Ext δ0 u.1) (fun _ _ _ => False) 1 7 Γ δ0 s args) Γ δ0 δ σ 6 [(0, .ref i0), (1, .int x1), (2, .int x2), (3, .int x3)] [] := by
  intro n
  induction n with
  | zero => intro _ _ _ _ _ _ hwp; exact hwp.elim
  | succ n ih => intro x1 x2 x3 δ σ hE hwp; exact xk_S_most_6_b hst Xc h0 ih x1 x2 x3 δ σ hE hwp
def xw_S_most (K : Int32 → XSh → XSt → Prop) (i0 : Nat) (δ : XSh) (σ : XSt) : Prop :=
  ∃ n, xw_S_most_6 K i0 n (-1) (-1) 0 δ σ
set_option maxHeartbeats 4000000 in
set_option maxRecDepth 100000 in
theorem xk_S_most_e {p : Program} {l : Launch} {e : Env} {s : State} {m : MethodId} {args : Array Value} {below : List Frame} {meth : Method} {c : Code} {Γ : GA} {δ0 : XSh} {K : Int32 → XSh → XSt → Prop} {i0 : Nat} (hst : l.stackTraces = false) (Xc : CY p s m args meth c cX0_most 6 (some .int) RX0 Γ δ0 (tableOf [(0, 103, 104, 21)])) (h0 : (0, i0) ∈ δ0.1) : ∀ (δ : XSh) (σ : XSt), Ext δ0 δ → xw_S_most K i0  δ σ → TX p l e ({ frames := 22, cells := 1, slots := 7, locals := 477 } : Room) s m args below meth c 6 0 0 (VI below (fun r u => K r u.1 u.2 ∧ Ext δ0 u.1) (fun _ _ _ => False) 1 7 Γ δ0 s args) Γ δ0 δ σ 0 [(0, .ref i0)] [] := by
  obtain ⟨⟨hx, hb, hml, hown, hts, hK, hr, hlk⟩, hZ, htb⟩ := id Xc
  have hA : ∀ q, s.heap.size ≤ q → AX δ0 s.heap.size q := fun q h => Or.inr h
  intro δ σ hE hwp H locs ls hP hO hD hS hl
  unfold xw_S_most at hwp
  refine lv_iconst (v := (-1)) hx hb dX0_most_0 (by decide) ?_
  refine lv_istore_n (lv' := [(1, .int (-1)), (0, .ref i0)]) hx hb dX0_most_1 rfl hl (by decide) rfl (fun ls hl => ?_)
  refine lv_iconst (v := (-1)) hx hb dX0_most_2 (by decide) ?_
  refine lv_istore_n (lv' := [(2, .int (-1)), (1, .int (-1)), (0, .ref i0)]) hx hb dX0_most_3 rfl hl (by decide) rfl (fun ls hl => ?_)
  refine lv_iconst (v := 0) hx hb dX0_most_4 (by decide) ?_
  refine lv_istore_n (lv' := [(3, .int 0), (2, .int (-1)), (1, .int (-1)), (0, .ref i0)]) hx hb dX0_most_5 rfl hl (by decide) rfl (fun ls hl => ?_)
  obtain ⟨n, hwp⟩ := hwp
  refine W.widen (k := 0) (n := 0) (Nat.le_of_ble_eq_true rfl) (Nat.le_of_ble_eq_true rfl) ?_
  exact xk_S_most_6 hst Xc h0 n _ _ _ δ σ hE hwp H locs ls hP hO hD hS (lv_sub hl [3, 2, 1, 0] rfl)
set_option maxHeartbeats 4000000 in
set_option maxRecDepth 100000 in
theorem xt_S_most {l : Launch} (hst : l.stackTraces = false) {Γ : GA} {δ0 : XSh} {σ : XSt} {K : Int32 → XSh → XSt → Prop} {i0 : Nat} (h0 : (0, i0) ∈ δ0.1) (hwp : xw_S_most K i0  δ0 σ) : yI l yX0_most (wsW_ yX0_most cX0_most 6 (some .int) [(0, 103, 104, 21)]) ({ frames := 22, cells := 1, slots := 7, locals := 477 } : Room) 1 7 Γ δ0 [.ref i0] σ (fun r u => K r u.1 u.2 ∧ Ext δ0 u.1) (fun _ _ _ => False) := by
  intro sz
  refine yW_of (by decide) [(0, .ref i0)] (fun _ h => h) (Nat.le_of_ble_eq_true rfl) ?_
  intro p e s m args below meth c hsz Xc
  subst hsz
  exact xk_S_most_e hst Xc h0 δ0 σ Ext.rf hwp
/-! S_list -/
def xw_S_list_179 (K : Int32 → XSh → XSt → Prop) (i0 : Nat) (z0 : Nat) (δ : XSh) (σ : XSt) : Prop :=
  xw_S_refused δ (fun r1 σ2 => K (r1 - 10) δ σ2) i0 z0 σ
set_option maxHeartbeats 4000000 in
set_option maxRecDepth 100000 in
theorem xk_S_list_179 {p : Program} {l : Launch} {e : Env} {s : State} {m : MethodId} {args : Array Value} {below : List Frame} {meth : Method} {c : Code} {Γ : GA} {δ0 : XSh} {K : Int32 → XSh → XSt → Prop} {i0 : Nat} (hst : l.stackTraces = false) (Xc : CY p s m args meth c cX0_list 8 (some .int) RX0 Γ δ0 (tableOf [(0, 79, 179, 21), (80, 178, 179, 21)])) (h0 : (0, i0) ∈ δ0.1) : ∀ (z0 : Nat) (δ : XSh) (σ : XSt), Ext δ0 δ → (13, z0) ∈ δ.1 → xw_S_list_179 K i0 z0 δ σ → TX p l e ({ frames := 24, cells := 9, slots := 1841, locals := 10322 } : Room) s m args below meth c 8 9 1841 (VI below (fun r u => K r u.1 u.2 ∧ Ext δ0 u.1) (fun _ _ _ => False) 9 1841 Γ δ0 s args) Γ δ0 δ σ 179 [(0, .ref i0)] [.ref z0] := by
  obtain ⟨⟨hx, hb, hml, hown, hts, hK, hr, hlk⟩, hZ, htb⟩ := id Xc
  have hA : ∀ q, s.heap.size ≤ q → AX δ0 s.heap.size q := fun q h => Or.inr h
  intro z0 δ σ hE hz0 hwp H locs ls hP hO hD hS hl
  unfold xw_S_list_179 at hwp
  refine lv_astore_n (lv' := [(3, .ref z0), (0, .ref i0)]) hx hb dX0_list_179 rfl hl (by decide) rfl (fun ls hl => ?_)
  refine lv_aload_n hx hb dX0_list_180 rfl (lv_at hl 1 rfl) ?_
  refine lv_aload_n hx hb dX0_list_181 rfl (lv_at hl 0 rfl) ?_
  refine x_goi (va_runV (As := [.ref z0]) (rest := []) ⟨hx, hb, hml, hown, hts⟩ (xt_S_refused (hE.m h0) hz0 hwp H.size) (cwV 1 hts (lw_V q397 q399 qs2 q75 q400) rfl rfl rfl (by decide +kernel) ⟨Nat.le_of_ble_eq_true rfl, Nat.le_of_ble_eq_true rfl⟩) (x_preV hK hO hD hP 0 i0 (hE.m h0) rfl rfl) rfl rfl hl.1 rfl (lv_room (Nat.le_of_ble_eq_true rfl)) dX0_list_182 ⟨(Nat.le_of_ble_eq_true rfl), (Nat.le_of_ble_eq_true rfl)⟩) hD hA hS (fun r1 u H locs hk hP hO hD hS => ?_)
  obtain ⟨u1, σ2⟩ := u
  obtain ⟨hwp, eu⟩ := hk
  have eu : δ = u1 := eu.symm
  subst eu
  dsimp only at hP hO hD hwp
  refine lv_bipush (v := 10) hx hb dX0_list_185 (by decide) ?_
  refine lv_isub hx hb dX0_list_187 ?_
  refine W.widen (k := 9) (n := 1841) (Nat.le_of_ble_eq_true rfl) (Nat.le_of_ble_eq_true rfl) ?_
  refine vx_ret ?_
  exact x_iret hx hb hr hlk hP hO hD hS ⟨hwp, hE⟩ dX0_list_188
def xw_S_list_149 (K : Int32 → XSh → XSt → Prop) (i0 : Nat) (L89 : Int32 → Nat → Int32 → Int32 → Int32 → XSh → XSt → Prop) (x2 : Int32) (y3 : Nat) (x5 : Int32) (x6 : Int32) (x7 : Int32) (t0 : Int32) (δ : XSh) (σ : XSt) : Prop :=
  xw_Jn_bitCount δ σ (fun r1 => L89 x2 y3 t0 (x5 + r1) (x6 + 1) δ σ) x7
set_option maxHeartbeats 4000000 in
set_option maxRecDepth 100000 in
theorem xk_S_list_149 {p : Program} {l : Launch} {e : Env} {s : State} {m : MethodId} {args : Array Value} {below : List Frame} {meth : Method} {c : Code} {Γ : GA} {δ0 : XSh} {K : Int32 → XSh → XSt → Prop} {i0 : Nat} (hst : l.stackTraces = false) (Xc : CY p s m args meth c cX0_list 8 (some .int) RX0 Γ δ0 (tableOf [(0, 79, 179, 21), (80, 178, 179, 21)])) (h0 : (0, i0) ∈ δ0.1) {L89 : Int32 → Nat → Int32 → Int32 → Int32 → XSh → XSt → Prop} (hL89 : ∀ (x2 : Int32) (y3 : Nat) (x4 : Int32) (x5 : Int32) (x6 : Int32) (δ : XSh) (σ : XSt), Ext δ0 δ → (7, y3) ∈ δ.1 → 12 ≤ δ.2.2.1 y3 → L89 x2 y3 x4 x5 x6 δ σ → TX p l e ({ frames := 24, cells := 9, slots := 1841, locals := 10322 } : Room) s m args below meth c 8 9 1841 (VI below (fun r u => K r u.1 u.2 ∧ Ext δ0 u.1) (fun _ _ _ => False) 9 1841 Γ δ0 s args) Γ δ0 δ σ 89 [(0, .ref i0), (2, .int x2), (3, .ref y3), (4, .int x4), (5, .int x5), (6, .int x6)] []) : ∀ (x2 : Int32) (y3 : Nat) (x5 : Int32) (x6 : Int32) (x7 : Int32) (t0 : Int32) (δ : XSh) (σ : XSt), Ext δ0 δ → (7, y3) ∈ δ.1 → 12 ≤ δ.2.2.1 y3 → xw_S_list_149 K i0 L89 x2 y3 x5 x6 x7 t0 δ σ → TX p l e ({ frames := 24, cells := 9, slots := 1841, locals := 10322 } : Room) s m args below meth c 8 9 1841 (VI below (fun r u => K r u.1 u.2 ∧ Ext δ0 u.1) (fun _ _ _ => False) 9 1841 Γ δ0 s args) Γ δ0 δ σ 149 [(0, .ref i0), (2, .int x2), (3, .ref y3), (5, .int x5), (6, .int x6), (7, .int x7)] [.int t0] := by
  obtain ⟨⟨hx, hb, hml, hown, hts, hK, hr, hlk⟩, hZ, htb⟩ := id Xc
  have hA : ∀ q, s.heap.size ≤ q → AX δ0 s.heap.size q := fun q h => Or.inr h
  intro x2 y3 x5 x6 x7 t0 δ σ hE hy3 cy3 hwp H locs ls hP hO hD hS hl
  unfold xw_S_list_149 at hwp
  refine lv_istore (lv' := [(4, .int t0), (0, .ref i0), (2, .int x2), (3, .ref y3), (5, .int x5), (6, .int x6), (7, .int x7)]) hx hb dX0_list_149 hl (by decide) rfl (fun ls hl => ?_)
  refine lv_iload hx hb dX0_list_151 (lv_at hl 4 rfl) ?_
  refine lv_iload hx hb dX0_list_153 (lv_at hl 6 rfl) ?_
  refine x_goi (va_runS (As := [.int x7]) (rest := [.int x5]) ⟨hx, hb, hml, hown, hts⟩ (xt_Jn_bitCount hwp H.size) (va_cwS 1 hts (lw_S q1111 q644 q96 q645) rfl rfl rfl (by decide +kernel) ⟨Nat.le_of_ble_eq_true rfl, Nat.le_of_ble_eq_true rfl⟩) (x_preS hK hO hD hP) rfl rfl hl.1 rfl (lv_room (Nat.le_of_ble_eq_true rfl)) dX0_list_155 ⟨(Nat.le_of_ble_eq_true rfl), (Nat.le_of_ble_eq_true rfl)⟩) hD hA hS (fun r1 u H locs hk hP hO hD hS => ?_)
  obtain ⟨hwp, eu⟩ := hk
  subst eu
  dsimp only at hP hO hD
  refine lv_iadd hx hb dX0_list_158 ?_
  refine lv_istore (lv' := [(5, .int (x5 + r1)), (4, .int t0), (0, .ref i0), (2, .int x2), (3, .ref y3), (6, .int x6), (7, .int x7)]) hx hb dX0_list_159 hl (by decide) rfl (fun ls hl => ?_)
  refine lv_iinc (v := x6 + 1) (lv' := [(6, .int (x6 + 1)), (5, .int (x5 + r1)), (4, .int t0), (0, .ref i0), (2, .int x2), (3, .ref y3), (7, .int x7)]) hx hb dX0_list_161 hl (k := 5) rfl rfl (by decide) rfl (fun ls hl => ?_)
  refine lv_goto (tgt := 89) hx hb dX0_list_164 (by decide) ?_
  refine W.widen (k := 9) (n := 1841) (Nat.le_of_ble_eq_true rfl) (Nat.le_of_ble_eq_true rfl) ?_
  exact hL89 _ _ _ _ _ δ σ hE hy3 cy3 hwp H locs ls hP hO hD hS (lv_sub hl [3, 4, 5, 2, 1, 0] rfl)
def xw_S_list_147 (K : Int32 → XSh → XSt → Prop) (i0 : Nat) (L89 : Int32 → Nat → Int32 → Int32 → Int32 → XSh → XSt → Prop) (x2 : Int32) (y3 : Nat) (x4 : Int32) (x5 : Int32) (x6 : Int32) (x7 : Int32) (δ : XSh) (σ : XSt) : Prop :=
  xw_S_list_149 K i0 L89 x2 y3 x5 x6 x7 x4 δ σ
set_option maxHeartbeats 4000000 in
set_option maxRecDepth 100000 in
theorem xk_S_list_147 {p : Program} {l : Launch} {e : Env} {s : State} {m : MethodId} {args : Array Value} {below : List Frame} {meth : Method} {c : Code} {Γ : GA} {δ0 : XSh} {K : Int32 → XSh → XSt → Prop} {i0 : Nat} (hst : l.stackTraces = false) (Xc : CY p s m args meth c cX0_list 8 (some .int) RX0 Γ δ0 (tableOf [(0, 79, 179, 21), (80, 178, 179, 21)])) (h0 : (0, i0) ∈ δ0.1) {L89 : Int32 → Nat → Int32 → Int32 → Int32 → XSh → XSt → Prop} (hL89 : ∀ (x2 : Int32) (y3 : Nat) (x4 : Int32) (x5 : Int32) (x6 : Int32) (δ : XSh) (σ : XSt), Ext δ0 δ → (7, y3) ∈ δ.1 → 12 ≤ δ.2.2.1 y3 → L89 x2 y3 x4 x5 x6 δ σ → TX p l e ({ frames := 24, cells := 9, slots := 1841, locals := 10322 } : Room) s m args below meth c 8 9 1841 (VI below (fun r u => K r u.1 u.2 ∧ Ext δ0 u.1) (fun _ _ _ => False) 9 1841 Γ δ0 s args) Γ δ0 δ σ 89 [(0, .ref i0), (2, .int x2), (3, .ref y3), (4, .int x4), (5, .int x5), (6, .int x6)] []) : ∀ (x2 : Int32) (y3 : Nat) (x4 : Int32) (x5 : Int32) (x6 : Int32) (x7 : Int32) (δ : XSh) (σ : XSt), Ext δ0 δ → (7, y3) ∈ δ.1 → 12 ≤ δ.2.2.1 y3 → xw_S_list_147 K i0 L89 x2 y3 x4 x5 x6 x7 δ σ → TX p l e ({ frames := 24, cells := 9, slots := 1841, locals := 10322 } : Room) s m args below meth c 8 9 1841 (VI below (fun r u => K r u.1 u.2 ∧ Ext δ0 u.1) (fun _ _ _ => False) 9 1841 Γ δ0 s args) Γ δ0 δ σ 147 [(0, .ref i0), (2, .int x2), (3, .ref y3), (4, .int x4), (5, .int x5), (6, .int x6), (7, .int x7)] [] := by
  obtain ⟨⟨hx, hb, hml, hown, hts, hK, hr, hlk⟩, hZ, htb⟩ := id Xc
  have hA : ∀ q, s.heap.size ≤ q → AX δ0 s.heap.size q := fun q h => Or.inr h
  intro x2 y3 x4 x5 x6 x7 δ σ hE hy3 cy3 hwp H locs ls hP hO hD hS hl
  unfold xw_S_list_147 at hwp
  refine lv_iload hx hb dX0_list_147 (lv_at hl 3 rfl) ?_
  refine W.widen (k := 9) (n := 1841) (Nat.le_of_ble_eq_true rfl) (Nat.le_of_ble_eq_true rfl) ?_
  exact xk_S_list_149 hst Xc h0 hL89 _ _ _ _ _ _ δ σ hE hy3 cy3 hwp H locs ls hP hO hD hS (lv_sub hl [0, 1, 2, 4, 5, 6] rfl)
def xw_S_list_89_b (K : Int32 → XSh → XSt → Prop) (i0 : Nat) (L89 : Int32 → Nat → Int32 → Int32 → Int32 → XSh → XSt → Prop) (x2 : Int32) (y3 : Nat) (x4 : Int32) (x5 : Int32) (x6 : Int32) (δ : XSh) (σ : XSt) : Prop :=
  ∃ o1, σ.2.2 0 i0 4 = some o1 ∧ ((((σ.1 6 o1 0) ≤ x6) → (((¬ (x2 = 0)) → (K x5 δ σ)) ∧ ((x2 = 0) → (K x4 δ σ)))) ∧ ((¬ ((σ.1 6 o1 0) ≤ x6)) → (xv_R_asInt δ σ (fun r4 => xw_G_into δ σ (fun r5 => ∀ r6, r6 = (r4 ^^^ r5) &&& (((1 : Int32) <<< ((σ.1 6 o1 0) &&& 31)) - 1) → (((¬ (x4 = (-1))) → (xw_S_list_147 K i0 L89 x2 y3 x4 x5 x6 r6 δ σ)) ∧ ((x4 = (-1)) → (((r6 = 0) → (xw_S_list_147 K i0 L89 x2 y3 x4 x5 x6 r6 δ σ)) ∧ ((¬ (r6 = 0)) → (xw_S_list_149 K i0 L89 x2 y3 x5 x6 r6 x6 δ σ)))))) o1 x6) y3 x6)))
def xw_S_list_89 (K : Int32 → XSh → XSt → Prop) (i0 : Nat) : Nat → Int32 → Nat → Int32 → Int32 → Int32 → XSh → XSt → Prop
  | 0 => fun _ _ _ _ _ _ _ => False
  | n + 1 => fun x2 y3 x4 x5 x6 δ σ => xw_S_list_89_b K i0 (xw_S_list_89 K i0 n) x2 y3 x4 x5 x6 δ σ
set_option maxHeartbeats 4000000 in
set_option maxRecDepth 100000 in
theorem xk_S_list_89_b {p : Program} {l : Launch} {e : Env} {s : State} {m : MethodId} {args : Array Value} {below : List Frame} {meth : Method} {c : Code} {Γ : GA} {δ0 : XSh} {K : Int32 → XSh → XSt → Prop} {i0 : Nat} (hst : l.stackTraces = false) (Xc : CY p s m args meth c cX0_list 8 (some .int) RX0 Γ δ0 (tableOf [(0, 79, 179, 21), (80, 178, 179, 21)])) (h0 : (0, i0) ∈ δ0.1) {L89 : Int32 → Nat → Int32 → Int32 → Int32 → XSh → XSt → Prop} (hL89 : ∀ (x2 : Int32) (y3 : Nat) (x4 : Int32) (x5 : Int32) (x6 : Int32) (δ : XSh) (σ : XSt), Ext δ0 δ → (7, y3) ∈ δ.1 → 12 ≤ δ.2.2.1 y3 → L89 x2 y3 x4 x5 x6 δ σ → TX p l e ({ frames := 24, cells := 9, slots := 1841, locals := 10322 } : Room) s m args below meth c 8 9 1841 (VI below (fun r u => K r u.1 u.2 ∧ Ext δ0 u.1) (fun _ _ _ => False) 9 1841 Γ δ0 s args) Γ δ0 δ σ 89 [(0, .ref i0), (2, .int x2), (3, .ref y3), (4, .int x4), (5, .int x5), (6, .int x6)] []) : ∀ (x2 : Int32) (y3 : Nat) (x4 : Int32) (x5 : Int32) (x6 : Int32) (δ : XSh) (σ : XSt), Ext δ0 δ → (7, y3) ∈ δ.1 → 12 ≤ δ.2.2.1 y3 → xw_S_list_89_b K i0 L89 x2 y3 x4 x5 x6 δ σ → TX p l e ({ frames := 24, cells := 9, slots := 1841, locals := 10322 } : Room) s m args below meth c 8 9 1841 (VI below (fun r u => K r u.1 u.2 ∧ Ext δ0 u.1) (fun _ _ _ => False) 9 1841 Γ δ0 s args) Γ δ0 δ σ 89 [(0, .ref i0), (2, .int x2), (3, .ref y3), (4, .int x4), (5, .int x5), (6, .int x6)] [] := by
  obtain ⟨⟨hx, hb, hml, hown, hts, hK, hr, hlk⟩, hZ, htb⟩ := id Xc
  have hA : ∀ q, s.heap.size ≤ q → AX δ0 s.heap.size q := fun q h => Or.inr h
  intro x2 y3 x4 x5 x6 δ σ hE hy3 cy3 hwp H locs ls hP hO hD hS hl
  unfold xw_S_list_89_b at hwp
  refine lv_iload hx hb dX0_list_89 (lv_at hl 5 rfl) ?_
  refine lv_aload_n hx hb dX0_list_91 rfl (lv_at hl 0 rfl) ?_
  obtain ⟨o1, eo1, hwp⟩ := hwp
  refine x_getr hx hb hts hown hK hP 0 i0 (hE.m h0) rfl rfl in_X0 4 (by decide) q200 rfl rfl eo1 dX0_list_92 (fun ho1 co1 => ?_)
  refine x_get hx hb hts hown hK hP 6 o1 ho1 rfl rfl in_X2 0 (by decide) q145 rfl (v := .int (σ.1 6 o1 0)) rfl dX0_list_95 ?_
  refine lv_icmp_ge (tgt := 167) hx hb dX0_list_98 (by decide) (fun c2 => ?_) (fun c2 => ?_)
  · replace hwp := hwp.1 c2
    refine lv_iload_n hx hb dX0_list_167 rfl (lv_at hl 1 rfl) ?_
    refine lv_if_ne (tgt := 176) hx hb dX0_list_168 (by decide) (fun c3 => ?_) (fun c3 => ?_)
    · replace hwp := hwp.1 c3
      refine lv_iload hx hb dX0_list_176 (lv_at hl 4 rfl) ?_
      refine W.widen (k := 9) (n := 1841) (Nat.le_of_ble_eq_true rfl) (Nat.le_of_ble_eq_true rfl) ?_
      refine vx_ret ?_
      exact x_iret hx hb hr hlk hP hO hD hS ⟨hwp, hE⟩ dX0_list_178
    · replace hwp := hwp.2 c3
      refine lv_iload hx hb dX0_list_171 (lv_at hl 3 rfl) ?_
      refine lv_goto (tgt := 178) hx hb dX0_list_173 (by decide) ?_
      refine W.widen (k := 9) (n := 1841) (Nat.le_of_ble_eq_true rfl) (Nat.le_of_ble_eq_true rfl) ?_
      refine vx_ret ?_
      exact x_iret hx hb hr hlk hP hO hD hS ⟨hwp, hE⟩ dX0_list_178
  · replace hwp := hwp.2 c2
    refine lv_aload_n hx hb dX0_list_101 rfl (lv_at hl 2 rfl) ?_
    refine lv_iload hx hb dX0_list_102 (lv_at hl 5 rfl) ?_
    refine x_goi (xr_R_asInt (As := [.int x6]) (rest := []) ⟨hx, hb, hml, hown, hts⟩ hK hD hO hP hy3 cy3 hwp q1197 ⟨(Nat.le_of_ble_eq_true rfl), (Nat.le_of_ble_eq_true rfl)⟩ rfl hl.1 rfl (Nat.le_of_ble_eq_true rfl) dX0_list_104 ⟨(Nat.le_of_ble_eq_true rfl), (Nat.le_of_ble_eq_true rfl)⟩) hD hA hS (fun r4 u H locs hk hP hO hD hS => ?_)
    obtain ⟨hwp, eu⟩ := hk
    subst eu
    dsimp only at hP hO hD
    refine lv_aload_n hx hb dX0_list_107 rfl (lv_at hl 0 rfl) ?_
    refine x_getr hx hb hts hown hK hP 0 i0 (hE.m h0) rfl rfl in_X0 4 (by decide) q200 rfl rfl eo1 dX0_list_108 (fun ho1 co1 => ?_)
    refine lv_iload hx hb dX0_list_111 (lv_at hl 5 rfl) ?_
    refine x_goi (va_runV (As := [.int x6]) (rest := [.int r4]) ⟨hx, hb, hml, hown, hts⟩ (xt_G_into ho1 hwp H.size) (cwV 1 hts (lw_V q1168 q538 q539 q77 q540) rfl rfl rfl (by decide +kernel) ⟨Nat.le_of_ble_eq_true rfl, Nat.le_of_ble_eq_true rfl⟩) (x_preV hK hO hD hP 6 o1 ho1 rfl rfl) rfl rfl hl.1 rfl (lv_room (Nat.le_of_ble_eq_true rfl)) dX0_list_113 ⟨(Nat.le_of_ble_eq_true rfl), (Nat.le_of_ble_eq_true rfl)⟩) hD hA hS (fun r5 u H locs hk hP hO hD hS => ?_)
    obtain ⟨hwp, eu⟩ := hk
    subst eu
    dsimp only at hP hO hD
    refine lv_ixor hx hb dX0_list_116 ?_
    refine lv_iconst (v := 1) hx hb dX0_list_117 (by decide) ?_
    refine lv_aload_n hx hb dX0_list_118 rfl (lv_at hl 0 rfl) ?_
    refine x_getr hx hb hts hown hK hP 0 i0 (hE.m h0) rfl rfl in_X0 4 (by decide) q200 rfl rfl eo1 dX0_list_119 (fun ho1 co1 => ?_)
    refine x_get hx hb hts hown hK hP 6 o1 ho1 rfl rfl in_X2 0 (by decide) q145 rfl (v := .int (σ.1 6 o1 0)) rfl dX0_list_122 ?_
    refine lv_ishl hx hb dX0_list_125 ?_
    refine lv_iconst (v := 1) hx hb dX0_list_126 (by decide) ?_
    refine lv_isub hx hb dX0_list_127 ?_
    refine lv_iand hx hb dX0_list_128 ?_
    refine lv_topi (fun r6 er6 => ?_)
    replace hwp := hwp r6 er6
    refine lv_istore (lv' := [(7, .int r6), (0, .ref i0), (2, .int x2), (3, .ref y3), (4, .int x4), (5, .int x5), (6, .int x6)]) hx hb dX0_list_129 hl (by decide) rfl (fun ls hl => ?_)
    refine lv_iload hx hb dX0_list_131 (lv_at hl 4 rfl) ?_
    refine lv_iconst (v := (-1)) hx hb dX0_list_133 (by decide) ?_
    refine lv_icmp_ne (tgt := 147) hx hb dX0_list_134 (by decide) (fun c7 => ?_) (fun c7 => ?_)
    · replace hwp := hwp.1 c7
      refine W.widen (k := 9) (n := 1841) (Nat.le_of_ble_eq_true rfl) (Nat.le_of_ble_eq_true rfl) ?_
      exact xk_S_list_147 hst Xc h0 hL89 _ _ _ _ _ _ δ σ hE hy3 cy3 hwp H locs ls hP hO hD hS (lv_sub hl [1, 2, 3, 4, 5, 6, 0] rfl)
    · replace hwp := hwp.2 c7
      refine lv_iload hx hb dX0_list_137 (lv_at hl 0 rfl) ?_
      refine lv_if_eq (tgt := 147) hx hb dX0_list_139 (by decide) (fun c8 => ?_) (fun c8 => ?_)
      · replace hwp := hwp.1 c8
        refine W.widen (k := 9) (n := 1841) (Nat.le_of_ble_eq_true rfl) (Nat.le_of_ble_eq_true rfl) ?_
        exact xk_S_list_147 hst Xc h0 hL89 _ _ _ _ _ _ δ σ hE hy3 cy3 hwp H locs ls hP hO hD hS (lv_sub hl [1, 2, 3, 4, 5, 6, 0] rfl)
      · replace hwp := hwp.2 c8
        refine lv_iload hx hb dX0_list_142 (lv_at hl 6 rfl) ?_
        refine lv_goto (tgt := 149) hx hb dX0_list_144 (by decide) ?_
        refine W.widen (k := 9) (n := 1841) (Nat.le_of_ble_eq_true rfl) (Nat.le_of_ble_eq_true rfl) ?_
        exact xk_S_list_149 hst Xc h0 hL89 _ _ _ _ _ _ δ σ hE hy3 cy3 hwp H locs ls hP hO hD hS (lv_sub hl [1, 2, 3, 5, 6, 0] rfl)
set_option maxHeartbeats 4000000 in
set_option maxRecDepth 100000 in
theorem xk_S_list_89 {p : Program} {l : Launch} {e : Env} {s : State} {m : MethodId} {args : Array Value} {below : List Frame} {meth : Method} {c : Code} {Γ : GA} {δ0 : XSh} {K : Int32 → XSh → XSt → Prop} {i0 : Nat} (hst : l.stackTraces = false) (Xc : CY p s m args meth c cX0_list 8 (some .int) RX0 Γ δ0 (tableOf [(0, 79, 179, 21), (80, 178, 179, 21)])) (h0 : (0, i0) ∈ δ0.1) : ∀ n (x2 : Int32) (y3 : Nat) (x4 : Int32) (x5 : Int32) (x6 : Int32) (δ : XSh) (σ : XSt), Ext δ0 δ → (7, y3) ∈ δ.1 → 12 ≤ δ.2.2.1 y3 → xw_S_list_89 K i0 n x2 y3 x4 x5 x6 δ σ → TX p l e ({ frames := 24, cells := 9, slots := 1841, locals := 10322 } : Room) s m args below meth c 8 9 1841 (VI below (fun r u => K r u.1 u.2 ∧ Ext δ0 u.1) (fun _ _ _ => False) 9 1841 Γ δ0 s args) Γ δ0 δ σ 89 [(0, .ref i0), (2, .int x2), (3, .ref y3), (4, .int x4), (5, .int x5), (6, .int x6)] [] := by
  intro n
  induction n with
  | zero => intro _ _ _ _ _ _ _ _ _ _ hwp; exact hwp.elim
  | succ n ih => intro x2 y3 x4 x5 x6 δ σ hE hy3 cy3 hwp; exact xk_S_list_89_b hst Xc h0 ih x2 y3 x4 x5 x6 δ σ hE hy3 cy3 hwp
def xw_S_list_64 (K : Int32 → XSh → XSt → Prop) (i0 : Nat) (y3 : Nat) (t0 : Int32) (δ : XSh) (σ : XSt) : Prop :=
  xw_S_fitsIn δ (fun r1 σ2 => ((r1 = 0) → (K (t0 + 0) δ σ2)) ∧ ((¬ (r1 = 0)) → (K (t0 + 2) δ σ2))) i0 y3 0 σ
set_option maxHeartbeats 4000000 in
set_option maxRecDepth 100000 in
theorem xk_S_list_64 {p : Program} {l : Launch} {e : Env} {s : State} {m : MethodId} {args : Array Value} {below : List Frame} {meth : Method} {c : Code} {Γ : GA} {δ0 : XSh} {K : Int32 → XSh → XSt → Prop} {i0 : Nat} (hst : l.stackTraces = false) (Xc : CY p s m args meth c cX0_list 8 (some .int) RX0 Γ δ0 (tableOf [(0, 79, 179, 21), (80, 178, 179, 21)])) (h0 : (0, i0) ∈ δ0.1) : ∀ (y3 : Nat) (t0 : Int32) (δ : XSh) (σ : XSt), Ext δ0 δ → (7, y3) ∈ δ.1 → 12 ≤ δ.2.2.1 y3 → xw_S_list_64 K i0 y3 t0 δ σ → TX p l e ({ frames := 24, cells := 9, slots := 1841, locals := 10322 } : Room) s m args below meth c 8 9 1841 (VI below (fun r u => K r u.1 u.2 ∧ Ext δ0 u.1) (fun _ _ _ => False) 9 1841 Γ δ0 s args) Γ δ0 δ σ 64 [(0, .ref i0), (3, .ref y3)] [.int t0] := by
  obtain ⟨⟨hx, hb, hml, hown, hts, hK, hr, hlk⟩, hZ, htb⟩ := id Xc
  have hA : ∀ q, s.heap.size ≤ q → AX δ0 s.heap.size q := fun q h => Or.inr h
  intro y3 t0 δ σ hE hy3 cy3 hwp H locs ls hP hO hD hS hl
  unfold xw_S_list_64 at hwp
  refine lv_aload_n hx hb dX0_list_64 rfl (lv_at hl 0 rfl) ?_
  refine lv_aload_n hx hb dX0_list_65 rfl (lv_at hl 1 rfl) ?_
  refine lv_iconst (v := 0) hx hb dX0_list_66 (by decide) ?_
  refine x_goi (va_runV (As := [.ref y3, .int 0]) (rest := [.int t0]) ⟨hx, hb, hml, hown, hts⟩ (xt_S_fitsIn (hE.m h0) hy3 cy3 hwp H.size) (cwV 2 hts (lw_V q1190 q1192 qs22 q75 q1193) rfl rfl rfl (by decide +kernel) ⟨Nat.le_of_ble_eq_true rfl, Nat.le_of_ble_eq_true rfl⟩) (x_preV hK hO hD hP 0 i0 (hE.m h0) rfl rfl) rfl rfl hl.1 rfl (lv_room (Nat.le_of_ble_eq_true rfl)) dX0_list_67 ⟨(Nat.le_of_ble_eq_true rfl), (Nat.le_of_ble_eq_true rfl)⟩) hD hA hS (fun r1 u H locs hk hP hO hD hS => ?_)
  obtain ⟨u1, σ2⟩ := u
  obtain ⟨hwp, eu⟩ := hk
  have eu : δ = u1 := eu.symm
  subst eu
  dsimp only at hP hO hD hwp
  refine lv_if_eq (tgt := 77) hx hb dX0_list_70 (by decide) (fun c3 => ?_) (fun c3 => ?_)
  · replace hwp := hwp.1 c3
    refine lv_iconst (v := 0) hx hb dX0_list_77 (by decide) ?_
    refine lv_iadd hx hb dX0_list_78 ?_
    refine W.widen (k := 9) (n := 1841) (Nat.le_of_ble_eq_true rfl) (Nat.le_of_ble_eq_true rfl) ?_
    refine vx_ret ?_
    exact x_iret hx hb hr hlk hP hO hD hS ⟨hwp, hE⟩ dX0_list_79
  · replace hwp := hwp.2 c3
    refine lv_iconst (v := 2) hx hb dX0_list_73 (by decide) ?_
    refine lv_goto (tgt := 78) hx hb dX0_list_74 (by decide) ?_
    refine lv_iadd hx hb dX0_list_78 ?_
    refine W.widen (k := 9) (n := 1841) (Nat.le_of_ble_eq_true rfl) (Nat.le_of_ble_eq_true rfl) ?_
    refine vx_ret ?_
    exact x_iret hx hb hr hlk hP hO hD hS ⟨hwp, hE⟩ dX0_list_79
def xw_S_list_40 (K : Int32 → XSh → XSt → Prop) (i0 : Nat) (x2 : Int32) (y3 : Nat) (t0 : Int32) (δ : XSh) (σ : XSt) : Prop :=
  xw_S_need (fun δ1 σ2 => ((¬ (x2 = 2)) → (∃ n, xw_S_list_89 K i0 n x2 y3 (-1) 0 0 δ1 σ2)) ∧ ((x2 = 2) → (xw_S_fitsIn δ1 (fun r7 σ8 => ((r7 = 0) → (xw_S_list_64 K i0 y3 0 δ1 σ8)) ∧ ((¬ (r7 = 0)) → (xw_S_list_64 K i0 y3 1 δ1 σ8))) i0 y3 1 σ2))) (fun q13 δ10 σ11 => xw_S_list_179 K i0 q13 δ10 σ11) t0 (-5) δ σ
set_option maxHeartbeats 4000000 in
set_option maxRecDepth 100000 in
theorem xk_S_list_40 {p : Program} {l : Launch} {e : Env} {s : State} {m : MethodId} {args : Array Value} {below : List Frame} {meth : Method} {c : Code} {Γ : GA} {δ0 : XSh} {K : Int32 → XSh → XSt → Prop} {i0 : Nat} (hst : l.stackTraces = false) (Xc : CY p s m args meth c cX0_list 8 (some .int) RX0 Γ δ0 (tableOf [(0, 79, 179, 21), (80, 178, 179, 21)])) (h0 : (0, i0) ∈ δ0.1) : ∀ (x2 : Int32) (y3 : Nat) (t0 : Int32) (δ : XSh) (σ : XSt), Ext δ0 δ → (7, y3) ∈ δ.1 → 12 ≤ δ.2.2.1 y3 → xw_S_list_40 K i0 x2 y3 t0 δ σ → TX p l e ({ frames := 24, cells := 9, slots := 1841, locals := 10322 } : Room) s m args below meth c 8 8 1834 (VI below (fun r u => K r u.1 u.2 ∧ Ext δ0 u.1) (fun _ _ _ => False) 9 1841 Γ δ0 s args) Γ δ0 δ σ 40 [(0, .ref i0), (2, .int x2), (3, .ref y3)] [.int t0] := by
  obtain ⟨⟨hx, hb, hml, hown, hts, hK, hr, hlk⟩, hZ, htb⟩ := id Xc
  have hA : ∀ q, s.heap.size ≤ q → AX δ0 s.heap.size q := fun q h => Or.inr h
  intro x2 y3 t0 δ σ hE hy3 cy3 hwp H locs ls hP hO hD hS hl
  unfold xw_S_list_40 at hwp
  refine lv_bipush (v := (-5)) hx hb dX0_list_40 (by decide) ?_
  refine y_gov (vx_runS (As := [.int t0, .int (-5)]) (rest := []) ⟨hx, hb, hml, hown, hts⟩ (xt_S_need hst hwp H.size) (va_cwS 2 hts (lw_S q328 q329 q75 q330) rfl rfl rfl (by decide +kernel) ⟨(Nat.le_of_ble_eq_true rfl), (Nat.le_of_ble_eq_true rfl)⟩) (y_preS hK hO hD hA hZ hP hS) rfl rfl hl.1 rfl (lv_room (Nat.le_of_ble_eq_true rfl)) dX0_list_42 ⟨(Nat.le_of_ble_eq_true rfl), (Nat.le_of_ble_eq_true rfl)⟩) hD hA hS (fun E ce q13 u H locs hk hP hO hD hS k1 k2 k3 => ?_) (fun u H locs hk hP hO hD hS => ?_)
  · obtain ⟨δ10, σ11⟩ := u
    obtain ⟨⟨rfl, hq13⟩, hwp, hF12⟩ := hk
    dsimp only at hP hO hD hwp hF12 hq13
    have hh14 := hF12.m hy3
    have cc15 := Ext.cl hF12 hy3 cy3
    replace hE := hE.tr hF12
    refine vx_catch (E := RX5) (name := RX5) hown [] ⟨0, 79, 179, 21⟩ [⟨80, 178, 179, 21⟩] (htb.trans rfl) (fun z hz => nomatch hz) rfl (by decide) (hts _ q222) ((hK.2.1 (.castable RX5 RX5) (by simp [nwL])).use rfl) k1 k2 k3 ?_
    refine W.eq (g2 := F0 m 179 ls [.ref q13]) rfl ?_
    refine W.widen (k := 9) (n := 1841) (Nat.le_of_ble_eq_true rfl) (Nat.le_of_ble_eq_true rfl) ?_
    exact xk_S_list_179 hst Xc h0 _ δ10 σ11 hE hq13 hwp H locs ls hP hO hD hS (lv_sub hl [0] rfl)
  · obtain ⟨δ1, σ2⟩ := u
    obtain ⟨hwp, hF3⟩ := hk
    dsimp only at hP hO hD hwp hF3
    have hh4 := hF3.m hy3
    have cc5 := Ext.cl hF3 hy3 cy3
    replace hE := hE.tr hF3
    refine lv_iload_n hx hb dX0_list_45 rfl (lv_at hl 1 rfl) ?_
    refine lv_iconst (v := 2) hx hb dX0_list_46 (by decide) ?_
    refine lv_icmp_ne (tgt := 80) hx hb dX0_list_47 (by decide) (fun c6 => ?_) (fun c6 => ?_)
    · replace hwp := hwp.1 c6
      refine lv_iconst (v := (-1)) hx hb dX0_list_80 (by decide) ?_
      refine lv_istore (lv' := [(4, .int (-1)), (0, .ref i0), (2, .int x2), (3, .ref y3)]) hx hb dX0_list_81 hl (by decide) rfl (fun ls hl => ?_)
      refine lv_iconst (v := 0) hx hb dX0_list_83 (by decide) ?_
      refine lv_istore (lv' := [(5, .int 0), (4, .int (-1)), (0, .ref i0), (2, .int x2), (3, .ref y3)]) hx hb dX0_list_84 hl (by decide) rfl (fun ls hl => ?_)
      refine lv_iconst (v := 0) hx hb dX0_list_86 (by decide) ?_
      refine lv_istore (lv' := [(6, .int 0), (5, .int 0), (4, .int (-1)), (0, .ref i0), (2, .int x2), (3, .ref y3)]) hx hb dX0_list_87 hl (by decide) rfl (fun ls hl => ?_)
      obtain ⟨n, hwp⟩ := hwp
      refine W.widen (k := 9) (n := 1841) (Nat.le_of_ble_eq_true rfl) (Nat.le_of_ble_eq_true rfl) ?_
      exact xk_S_list_89 hst Xc h0 n _ _ _ _ _ δ1 σ2 hE hh4 cc5 hwp H locs ls hP hO hD hS (lv_sub hl [3, 4, 5, 2, 1, 0] rfl)
    · replace hwp := hwp.2 c6
      refine lv_aload_n hx hb dX0_list_50 rfl (lv_at hl 0 rfl) ?_
      refine lv_aload_n hx hb dX0_list_51 rfl (lv_at hl 2 rfl) ?_
      refine lv_iconst (v := 1) hx hb dX0_list_52 (by decide) ?_
      refine x_goi (va_runV (As := [.ref y3, .int 1]) (rest := []) ⟨hx, hb, hml, hown, hts⟩ (xt_S_fitsIn (hE.m h0) hh4 cc5 hwp H.size) (cwV 2 hts (lw_V q1190 q1192 qs22 q75 q1193) rfl rfl rfl (by decide +kernel) ⟨Nat.le_of_ble_eq_true rfl, Nat.le_of_ble_eq_true rfl⟩) (x_preV hK hO hD hP 0 i0 (hE.m h0) rfl rfl) rfl rfl hl.1 rfl (lv_room (Nat.le_of_ble_eq_true rfl)) dX0_list_53 ⟨(Nat.le_of_ble_eq_true rfl), (Nat.le_of_ble_eq_true rfl)⟩) hD hA hS (fun r7 u H locs hk hP hO hD hS => ?_)
      obtain ⟨u1, σ8⟩ := u
      obtain ⟨hwp, eu⟩ := hk
      have eu : δ1 = u1 := eu.symm
      subst eu
      dsimp only at hP hO hD hwp
      refine lv_if_eq (tgt := 63) hx hb dX0_list_56 (by decide) (fun c9 => ?_) (fun c9 => ?_)
      · replace hwp := hwp.1 c9
        refine lv_iconst (v := 0) hx hb dX0_list_63 (by decide) ?_
        refine W.widen (k := 9) (n := 1841) (Nat.le_of_ble_eq_true rfl) (Nat.le_of_ble_eq_true rfl) ?_
        exact xk_S_list_64 hst Xc h0 _ _ δ1 σ8 hE hh4 cc5 hwp H locs ls hP hO hD hS (lv_sub hl [0, 2] rfl)
      · replace hwp := hwp.2 c9
        refine lv_iconst (v := 1) hx hb dX0_list_59 (by decide) ?_
        refine lv_goto (tgt := 64) hx hb dX0_list_60 (by decide) ?_
        refine W.widen (k := 9) (n := 1841) (Nat.le_of_ble_eq_true rfl) (Nat.le_of_ble_eq_true rfl) ?_
        exact xk_S_list_64 hst Xc h0 _ _ δ1 σ8 hE hh4 cc5 hwp H locs ls hP hO hD hS (lv_sub hl [0, 2] rfl)
def xw_S_list_39 (K : Int32 → XSh → XSt → Prop) (i0 : Nat) (x2 : Int32) (y3 : Nat) (δ : XSh) (σ : XSt) : Prop :=
  xw_S_list_40 K i0 x2 y3 0 δ σ
set_option maxHeartbeats 4000000 in
set_option maxRecDepth 100000 in
theorem xk_S_list_39 {p : Program} {l : Launch} {e : Env} {s : State} {m : MethodId} {args : Array Value} {below : List Frame} {meth : Method} {c : Code} {Γ : GA} {δ0 : XSh} {K : Int32 → XSh → XSt → Prop} {i0 : Nat} (hst : l.stackTraces = false) (Xc : CY p s m args meth c cX0_list 8 (some .int) RX0 Γ δ0 (tableOf [(0, 79, 179, 21), (80, 178, 179, 21)])) (h0 : (0, i0) ∈ δ0.1) : ∀ (x2 : Int32) (y3 : Nat) (δ : XSh) (σ : XSt), Ext δ0 δ → (7, y3) ∈ δ.1 → 12 ≤ δ.2.2.1 y3 → xw_S_list_39 K i0 x2 y3 δ σ → TX p l e ({ frames := 24, cells := 9, slots := 1841, locals := 10322 } : Room) s m args below meth c 8 8 1834 (VI below (fun r u => K r u.1 u.2 ∧ Ext δ0 u.1) (fun _ _ _ => False) 9 1841 Γ δ0 s args) Γ δ0 δ σ 39 [(0, .ref i0), (2, .int x2), (3, .ref y3)] [] := by
  obtain ⟨⟨hx, hb, hml, hown, hts, hK, hr, hlk⟩, hZ, htb⟩ := id Xc
  have hA : ∀ q, s.heap.size ≤ q → AX δ0 s.heap.size q := fun q h => Or.inr h
  intro x2 y3 δ σ hE hy3 cy3 hwp H locs ls hP hO hD hS hl
  unfold xw_S_list_39 at hwp
  refine lv_iconst (v := 0) hx hb dX0_list_39 (by decide) ?_
  refine W.widen (k := 8) (n := 1834) (Nat.le_of_ble_eq_true rfl) (Nat.le_of_ble_eq_true rfl) ?_
  exact xk_S_list_40 hst Xc h0 _ _ _ δ σ hE hy3 cy3 hwp H locs ls hP hO hD hS (lv_sub hl [0, 1, 2] rfl)
def xw_S_list (K : Int32 → XSh → XSt → Prop) (i0 : Nat) (x1 : Int32) (x2 : Int32) (δ : XSh) (σ : XSt) : Prop :=
  xw_S_shelf (fun r1 δ2 σ3 => xw_Sh_row (fun r5 δ6 σ7 => xv_R_length δ6 σ7 (fun r9 => ∃ o10, σ7.2.2 0 i0 4 = some o10 ∧ (((r9 < (σ7.1 6 o10 0)) → (xw_S_list_39 K i0 x2 r5 δ6 σ7)) ∧ ((¬ (r9 < (σ7.1 6 o10 0))) → (xw_S_in δ6 σ7 (fun r12 => ((r12 = 0) → (xw_S_list_39 K i0 x2 r5 δ6 σ7)) ∧ ((¬ (r12 = 0)) → (xw_S_list_40 K i0 x2 r5 1 δ6 σ7))) x2.toInt64 0 2)))) r5) (fun q17 δ14 σ15 => xw_S_list_179 K i0 q17 δ14 σ15) r1 δ2 σ3) (fun q21 δ18 σ19 => xw_S_list_179 K i0 q21 δ18 σ19) i0 x1 δ σ
set_option maxHeartbeats 4000000 in
set_option maxRecDepth 100000 in
theorem xk_S_list_e {p : Program} {l : Launch} {e : Env} {s : State} {m : MethodId} {args : Array Value} {below : List Frame} {meth : Method} {c : Code} {Γ : GA} {δ0 : XSh} {K : Int32 → XSh → XSt → Prop} {i0 : Nat} (hst : l.stackTraces = false) (Xc : CY p s m args meth c cX0_list 8 (some .int) RX0 Γ δ0 (tableOf [(0, 79, 179, 21), (80, 178, 179, 21)])) (h0 : (0, i0) ∈ δ0.1) {x1 : Int32} {x2 : Int32} : ∀ (δ : XSh) (σ : XSt), Ext δ0 δ → xw_S_list K i0 x1 x2 δ σ → TX p l e ({ frames := 24, cells := 9, slots := 1841, locals := 10322 } : Room) s m args below meth c 8 0 0 (VI below (fun r u => K r u.1 u.2 ∧ Ext δ0 u.1) (fun _ _ _ => False) 9 1841 Γ δ0 s args) Γ δ0 δ σ 0 [(0, .ref i0), (1, .int x1), (2, .int x2)] [] := by
  obtain ⟨⟨hx, hb, hml, hown, hts, hK, hr, hlk⟩, hZ, htb⟩ := id Xc
  have hA : ∀ q, s.heap.size ≤ q → AX δ0 s.heap.size q := fun q h => Or.inr h
  intro δ σ hE hwp H locs ls hP hO hD hS hl
  unfold xw_S_list at hwp
  refine lv_aload_n hx hb dX0_list_0 rfl (lv_at hl 0 rfl) ?_
  refine lv_iload_n hx hb dX0_list_1 rfl (lv_at hl 1 rfl) ?_
  refine y_gor (vx_runVX (As := [.int x1]) (rest := []) ⟨hx, hb, hml, hown, hts⟩ (xt_S_shelf hst (hE.m h0) hwp H.size) (vx_cwVW 1 hts (lw_VW q223 q225 qs0 q75 q226) rfl rfl rfl (by decide +kernel) ⟨(Nat.le_of_ble_eq_true rfl), (Nat.le_of_ble_eq_true rfl)⟩) (y_preV hK hO hD hA hZ hP hS 0 i0 (hE.m h0) rfl rfl) rfl rfl hl.1 rfl (lv_room (Nat.le_of_ble_eq_true rfl)) dX0_list_2 ⟨(Nat.le_of_ble_eq_true rfl), (Nat.le_of_ble_eq_true rfl)⟩) hD hA hS (fun E ce q21 u H locs hk hP hO hD hS k1 k2 k3 => ?_) (fun r1 u H locs hk hP hO hD hS => ?_)
  · obtain ⟨δ18, σ19⟩ := u
    obtain ⟨⟨rfl, hq21⟩, hwp, hF20⟩ := hk
    dsimp only at hP hO hD hwp hF20 hq21
    replace hE := hE.tr hF20
    refine vx_catch (E := RX5) (name := RX5) hown [] ⟨0, 79, 179, 21⟩ [⟨80, 178, 179, 21⟩] (htb.trans rfl) (fun z hz => nomatch hz) rfl (by decide) (hts _ q222) ((hK.2.1 (.castable RX5 RX5) (by simp [nwL])).use rfl) k1 k2 k3 ?_
    refine W.eq (g2 := F0 m 179 ls [.ref q21]) rfl ?_
    refine W.widen (k := 9) (n := 1841) (Nat.le_of_ble_eq_true rfl) (Nat.le_of_ble_eq_true rfl) ?_
    exact xk_S_list_179 hst Xc h0 _ δ18 σ19 hE hq21 hwp H locs ls hP hO hD hS (lv_sub hl [0] rfl)
  · obtain ⟨δ2, σ3⟩ := u
    obtain ⟨⟨hwp, hF4⟩, hr1, cr1⟩ := hk
    dsimp only at hP hO hD hwp hF4 hr1 cr1
    replace hE := hE.tr hF4
    refine y_gor (vx_runVX (As := []) (rest := []) ⟨hx, hb, hml, hown, hts⟩ (xt_Sh_row hst hr1 hwp H.size) (vx_cwVW 0 hts (lw_VW q405 q406 q407 q78 q408) rfl rfl rfl (by decide +kernel) ⟨(Nat.le_of_ble_eq_true rfl), (Nat.le_of_ble_eq_true rfl)⟩) (y_preV hK hO hD hA hZ hP hS 5 r1 hr1 rfl rfl) rfl rfl hl.1 rfl (lv_room (Nat.le_of_ble_eq_true rfl)) dX0_list_5 ⟨(Nat.le_of_ble_eq_true rfl), (Nat.le_of_ble_eq_true rfl)⟩) hD hA hS (fun E ce q17 u H locs hk hP hO hD hS k1 k2 k3 => ?_) (fun r5 u H locs hk hP hO hD hS => ?_)
    · obtain ⟨δ14, σ15⟩ := u
      obtain ⟨⟨rfl, hq17⟩, hwp, hF16⟩ := hk
      dsimp only at hP hO hD hwp hF16 hq17
      replace hE := hE.tr hF16
      refine vx_catch (E := RX5) (name := RX5) hown [] ⟨0, 79, 179, 21⟩ [⟨80, 178, 179, 21⟩] (htb.trans rfl) (fun z hz => nomatch hz) rfl (by decide) (hts _ q222) ((hK.2.1 (.castable RX5 RX5) (by simp [nwL])).use rfl) k1 k2 k3 ?_
      refine W.eq (g2 := F0 m 179 ls [.ref q17]) rfl ?_
      refine W.widen (k := 9) (n := 1841) (Nat.le_of_ble_eq_true rfl) (Nat.le_of_ble_eq_true rfl) ?_
      exact xk_S_list_179 hst Xc h0 _ δ14 σ15 hE hq17 hwp H locs ls hP hO hD hS (lv_sub hl [0] rfl)
    · obtain ⟨δ6, σ7⟩ := u
      obtain ⟨⟨hwp, hF8⟩, hr5, cr5⟩ := hk
      dsimp only at hP hO hD hwp hF8 hr5 cr5
      replace hE := hE.tr hF8
      refine lv_astore_n (lv' := [(3, .ref r5), (0, .ref i0), (1, .int x1), (2, .int x2)]) hx hb dX0_list_8 rfl hl (by decide) rfl (fun ls hl => ?_)
      refine lv_aload_n hx hb dX0_list_9 rfl (lv_at hl 0 rfl) ?_
      refine x_goi (xr_R_length (As := []) (rest := []) ⟨hx, hb, hml, hown, hts⟩ hK hD hO hP hr5 cr5 hwp q1189 ⟨(Nat.le_of_ble_eq_true rfl), (Nat.le_of_ble_eq_true rfl)⟩ rfl hl.1 rfl (Nat.le_of_ble_eq_true rfl) dX0_list_10 ⟨(Nat.le_of_ble_eq_true rfl), (Nat.le_of_ble_eq_true rfl)⟩) hD hA hS (fun r9 u H locs hk hP hO hD hS => ?_)
      obtain ⟨hwp, eu⟩ := hk
      subst eu
      dsimp only at hP hO hD
      refine lv_aload_n hx hb dX0_list_13 rfl (lv_at hl 1 rfl) ?_
      obtain ⟨o10, eo10, hwp⟩ := hwp
      refine x_getr hx hb hts hown hK hP 0 i0 (hE.m h0) rfl rfl in_X0 4 (by decide) q200 rfl rfl eo10 dX0_list_14 (fun ho10 co10 => ?_)
      refine x_get hx hb hts hown hK hP 6 o10 ho10 rfl rfl in_X2 0 (by decide) q145 rfl (v := .int (σ7.1 6 o10 0)) rfl dX0_list_17 ?_
      refine lv_icmp_lt (tgt := 39) hx hb dX0_list_20 (by decide) (fun c11 => ?_) (fun c11 => ?_)
      · replace hwp := hwp.1 c11
        refine W.widen (k := 8) (n := 1834) (Nat.le_of_ble_eq_true rfl) (Nat.le_of_ble_eq_true rfl) ?_
        exact xk_S_list_39 hst Xc h0 _ _ δ6 σ7 hE hr5 cr5 hwp H locs ls hP hO hD hS (lv_sub hl [1, 3, 0] rfl)
      · replace hwp := hwp.2 c11
        refine lv_iload_n hx hb dX0_list_23 rfl (lv_at hl 3 rfl) ?_
        refine lv_i2l (v := x2.toInt64) hx hb dX0_list_24 rfl ?_
        refine lv_lconst (v := 0) hx hb dX0_list_25 (by decide) ?_
        refine lv_ldc2 hx hb hown (hts _ q1093) dX0_list_26 ?_
        refine x_goi (va_runS (As := [.long x2.toInt64, .long 0, .long 2]) (rest := []) ⟨hx, hb, hml, hown, hts⟩ (xt_S_in hwp H.size) (va_cwS 3 hts (lw_S q332 q333 q75 q334) rfl rfl rfl (by decide +kernel) ⟨Nat.le_of_ble_eq_true rfl, Nat.le_of_ble_eq_true rfl⟩) (x_preS hK hO hD hP) rfl rfl hl.1 rfl (lv_room (Nat.le_of_ble_eq_true rfl)) dX0_list_29 ⟨(Nat.le_of_ble_eq_true rfl), (Nat.le_of_ble_eq_true rfl)⟩) hD hA hS (fun r12 u H locs hk hP hO hD hS => ?_)
        obtain ⟨hwp, eu⟩ := hk
        subst eu
        dsimp only at hP hO hD
        refine lv_if_eq (tgt := 39) hx hb dX0_list_32 (by decide) (fun c13 => ?_) (fun c13 => ?_)
        · replace hwp := hwp.1 c13
          refine W.widen (k := 8) (n := 1834) (Nat.le_of_ble_eq_true rfl) (Nat.le_of_ble_eq_true rfl) ?_
          exact xk_S_list_39 hst Xc h0 _ _ δ6 σ7 hE hr5 cr5 hwp H locs ls hP hO hD hS (lv_sub hl [1, 3, 0] rfl)
        · replace hwp := hwp.2 c13
          refine lv_iconst (v := 1) hx hb dX0_list_35 (by decide) ?_
          refine lv_goto (tgt := 40) hx hb dX0_list_36 (by decide) ?_
          refine W.widen (k := 8) (n := 1834) (Nat.le_of_ble_eq_true rfl) (Nat.le_of_ble_eq_true rfl) ?_
          exact xk_S_list_40 hst Xc h0 _ _ _ δ6 σ7 hE hr5 cr5 hwp H locs ls hP hO hD hS (lv_sub hl [1, 3, 0] rfl)
set_option maxHeartbeats 4000000 in
set_option maxRecDepth 100000 in
theorem xt_S_list {l : Launch} (hst : l.stackTraces = false) {Γ : GA} {δ0 : XSh} {σ : XSt} {K : Int32 → XSh → XSt → Prop} {i0 : Nat} (h0 : (0, i0) ∈ δ0.1) {x1 : Int32} {x2 : Int32} (hwp : xw_S_list K i0 x1 x2 δ0 σ) : yI l yX0_list (wsW_ yX0_list cX0_list 8 (some .int) [(0, 79, 179, 21), (80, 178, 179, 21)]) ({ frames := 24, cells := 9, slots := 1841, locals := 10322 } : Room) 9 1841 Γ δ0 [.ref i0, .int x1, .int x2] σ (fun r u => K r u.1 u.2 ∧ Ext δ0 u.1) (fun _ _ _ => False) := by
  intro sz
  refine yW_of (by decide) [(0, .ref i0), (1, .int x1), (2, .int x2)] (fun _ h => h) (Nat.le_of_ble_eq_true rfl) ?_
  intro p e s m args below meth c hsz Xc
  subst hsz
  exact xk_S_list_e hst Xc h0 δ0 σ Ext.rf hwp
/-! S_night -/
def xw_S_night_28_b (K : Int32 → XSh → XSt → Prop) (i0 : Nat) (L28 : Int32 → Int32 → Int32 → XSh → XSt → Prop) (x1 : Int32) (x2 : Int32) (x3 : Int32) (δ : XSh) (σ : XSt) : Prop :=
  ∃ o1, σ.2.2 0 i0 4 = some o1 ∧ ((((σ.1 6 o1 0) ≤ x3) → (K x2 δ σ)) ∧ ((¬ ((σ.1 6 o1 0) ≤ x3)) → (xw_G_isHouse δ σ (fun r3 => ((r3 = 0) → (L28 x1 x2 (x3 + 1) δ σ)) ∧ ((¬ (r3 = 0)) → (∃ o5, σ.2.2 0 i0 3 = some o5 ∧ (xw_G_take δ (fun r6 σ7 => ∀ σ8, σ8 = tI σ7 6 r6 3 ((σ7.1 6 r6 3) ^^^ ((1 : Int32) <<< (x3 &&& 31))) → (∃ o9, σ8.2.2 0 i0 3 = some o9 ∧ (xw_G_right δ σ8 (fun r10 => ((¬ (r10 = x1)) → (L28 x1 (x2 ||| 0) (x3 + 1) δ σ8)) ∧ ((r10 = x1) → (L28 x1 (x2 ||| ((1 : Int32) <<< (x3 &&& 31))) (x3 + 1) δ σ8))) o9))) o5 o1 σ)))) o1 x3)))
def xw_S_night_28 (K : Int32 → XSh → XSt → Prop) (i0 : Nat) : Nat → Int32 → Int32 → Int32 → XSh → XSt → Prop
  | 0 => fun _ _ _ _ _ => False
  | n + 1 => fun x1 x2 x3 δ σ => xw_S_night_28_b K i0 (xw_S_night_28 K i0 n) x1 x2 x3 δ σ
set_option maxHeartbeats 4000000 in
set_option maxRecDepth 100000 in
theorem xk_S_night_28_b {p : Program} {l : Launch} {e : Env} {s : State} {m : MethodId} {args : Array Value} {below : List Frame} {meth : Method} {c : Code} {Γ : GA} {δ0 : XSh} {K : Int32 → XSh → XSt → Prop} {i0 : Nat} (hst : l.stackTraces = false) (Xc : CY p s m args meth c cX0_night 4 (some .int) RX0 Γ δ0 (tableOf [(0, 100, 101, 21)])) (h0 : (0, i0) ∈ δ0.1) {L28 : Int32 → Int32 → Int32 → XSh → XSt → Prop} (hL28 : ∀ (x1 : Int32) (x2 : Int32) (x3 : Int32) (δ : XSh) (σ : XSt), Ext δ0 δ → L28 x1 x2 x3 δ σ → TX p l e ({ frames := 25, cells := 1, slots := 7, locals := 543 } : Room) s m args below meth c 4 1 7 (VI below (fun r u => K r u.1 u.2 ∧ Ext δ0 u.1) (fun _ _ _ => False) 1 7 Γ δ0 s args) Γ δ0 δ σ 28 [(0, .ref i0), (1, .int x1), (2, .int x2), (3, .int x3)] []) : ∀ (x1 : Int32) (x2 : Int32) (x3 : Int32) (δ : XSh) (σ : XSt), Ext δ0 δ → xw_S_night_28_b K i0 L28 x1 x2 x3 δ σ → TX p l e ({ frames := 25, cells := 1, slots := 7, locals := 543 } : Room) s m args below meth c 4 1 7 (VI below (fun r u => K r u.1 u.2 ∧ Ext δ0 u.1) (fun _ _ _ => False) 1 7 Γ δ0 s args) Γ δ0 δ σ 28 [(0, .ref i0), (1, .int x1), (2, .int x2), (3, .int x3)] [] := by
  obtain ⟨⟨hx, hb, hml, hown, hts, hK, hr, hlk⟩, hZ, htb⟩ := id Xc
  have hA : ∀ q, s.heap.size ≤ q → AX δ0 s.heap.size q := fun q h => Or.inr h
  intro x1 x2 x3 δ σ hE hwp H locs ls hP hO hD hS hl
  unfold xw_S_night_28_b at hwp
  refine lv_iload_n hx hb dX0_night_28 rfl (lv_at hl 3 rfl) ?_
  refine lv_aload_n hx hb dX0_night_29 rfl (lv_at hl 0 rfl) ?_
  obtain ⟨o1, eo1, hwp⟩ := hwp
  refine x_getr hx hb hts hown hK hP 0 i0 (hE.m h0) rfl rfl in_X0 4 (by decide) q200 rfl rfl eo1 dX0_night_30 (fun ho1 co1 => ?_)
  refine x_get hx hb hts hown hK hP 6 o1 ho1 rfl rfl in_X2 0 (by decide) q145 rfl (v := .int (σ.1 6 o1 0)) rfl dX0_night_33 ?_
  refine lv_icmp_ge (tgt := 99) hx hb dX0_night_36 (by decide) (fun c2 => ?_) (fun c2 => ?_)
  · replace hwp := hwp.1 c2
    refine lv_iload_n hx hb dX0_night_99 rfl (lv_at hl 2 rfl) ?_
    refine W.widen (k := 1) (n := 7) (Nat.le_of_ble_eq_true rfl) (Nat.le_of_ble_eq_true rfl) ?_
    refine vx_ret ?_
    exact x_iret hx hb hr hlk hP hO hD hS ⟨hwp, hE⟩ dX0_night_100
  · replace hwp := hwp.2 c2
    refine lv_aload_n hx hb dX0_night_39 rfl (lv_at hl 0 rfl) ?_
    refine x_getr hx hb hts hown hK hP 0 i0 (hE.m h0) rfl rfl in_X0 4 (by decide) q200 rfl rfl eo1 dX0_night_40 (fun ho1 co1 => ?_)
    refine lv_iload_n hx hb dX0_night_43 rfl (lv_at hl 3 rfl) ?_
    refine x_goi (va_runV (As := [.int x3]) (rest := []) ⟨hx, hb, hml, hown, hts⟩ (xt_G_isHouse ho1 hwp H.size) (cwV 1 hts (lw_V q858 q542 q543 q77 q544) rfl rfl rfl (by decide +kernel) ⟨Nat.le_of_ble_eq_true rfl, Nat.le_of_ble_eq_true rfl⟩) (x_preV hK hO hD hP 6 o1 ho1 rfl rfl) rfl rfl hl.1 rfl (lv_room (Nat.le_of_ble_eq_true rfl)) dX0_night_44 ⟨(Nat.le_of_ble_eq_true rfl), (Nat.le_of_ble_eq_true rfl)⟩) hD hA hS (fun r3 u H locs hk hP hO hD hS => ?_)
    obtain ⟨hwp, eu⟩ := hk
    subst eu
    dsimp only at hP hO hD
    refine lv_if_eq (tgt := 93) hx hb dX0_night_47 (by decide) (fun c4 => ?_) (fun c4 => ?_)
    · replace hwp := hwp.1 c4
      refine lv_iinc (v := x3 + 1) (lv' := [(3, .int (x3 + 1)), (0, .ref i0), (1, .int x1), (2, .int x2)]) hx hb dX0_night_93 hl (k := 3) rfl rfl (by decide) rfl (fun ls hl => ?_)
      refine lv_goto (tgt := 28) hx hb dX0_night_96 (by decide) ?_
      refine W.widen (k := 1) (n := 7) (Nat.le_of_ble_eq_true rfl) (Nat.le_of_ble_eq_true rfl) ?_
      exact hL28 _ _ _ δ σ hE hwp H locs ls hP hO hD hS (lv_sub hl [1, 2, 3, 0] rfl)
    · replace hwp := hwp.2 c4
      refine lv_aload_n hx hb dX0_night_50 rfl (lv_at hl 0 rfl) ?_
      obtain ⟨o5, eo5, hwp⟩ := hwp
      refine x_getr hx hb hts hown hK hP 0 i0 (hE.m h0) rfl rfl in_X0 3 (by decide) q199 rfl rfl eo5 dX0_night_51 (fun ho5 co5 => ?_)
      refine lv_aload_n hx hb dX0_night_54 rfl (lv_at hl 0 rfl) ?_
      refine x_getr hx hb hts hown hK hP 0 i0 (hE.m h0) rfl rfl in_X0 4 (by decide) q200 rfl rfl eo1 dX0_night_55 (fun ho1 co1 => ?_)
      refine x_gor (va_runV (As := [.ref o1]) (rest := []) ⟨hx, hb, hml, hown, hts⟩ (xt_G_take ho5 ho1 hwp H.size) (cwV 1 hts (lw_V q872 q873 q874 q77 q875) rfl rfl rfl (by decide +kernel) ⟨Nat.le_of_ble_eq_true rfl, Nat.le_of_ble_eq_true rfl⟩) (x_preV hK hO hD hP 6 o5 ho5 rfl rfl) rfl rfl hl.1 rfl (lv_room (Nat.le_of_ble_eq_true rfl)) dX0_night_58 ⟨(Nat.le_of_ble_eq_true rfl), (Nat.le_of_ble_eq_true rfl)⟩) hD hA hS (fun r6 u H locs hk hP hO hD hS => ?_)
      obtain ⟨u1, σ7⟩ := u
      obtain ⟨⟨hwp, eu⟩, hr6⟩ := hk
      have eu : δ = u1 := eu.symm
      subst eu
      dsimp only at hP hO hD hwp hr6
      refine lv_dup hx hb dX0_night_61 rfl ?_
      refine x_get hx hb hts hown hK hP 6 r6 hr6 rfl rfl in_X2 3 (by decide) q154 rfl (v := .int (σ7.1 6 r6 3)) rfl dX0_night_62 ?_
      refine lv_iconst (v := 1) hx hb dX0_night_65 (by decide) ?_
      refine lv_iload_n hx hb dX0_night_66 rfl (lv_at hl 3 rfl) ?_
      refine lv_ishl hx hb dX0_night_67 ?_
      refine lv_ixor hx hb dX0_night_68 ?_
      refine x_puti hx hb hts hown hK hD hP hS 6 r6 hr6 rfl rfl in_X2 tyX2 tyX2_ok nmX2 3 (by decide) q154 rfl rfl rfl rfl (Nat.le_of_ble_eq_true rfl) rfl dX0_night_69 (fun H locs hP hS => ?_)
      obtain ⟨σ8, eσ8⟩ : ∃ z, z = tI σ7 6 r6 3 ((σ7.1 6 r6 3) ^^^ ((1 : Int32) <<< (x3 &&& 31))) := ⟨_, rfl⟩
      replace hP : XH Γ δ σ8 H := by rw [eσ8]; exact hP
      replace hwp := hwp σ8 eσ8
      refine lv_iload_n hx hb dX0_night_72 rfl (lv_at hl 2 rfl) ?_
      refine lv_aload_n hx hb dX0_night_73 rfl (lv_at hl 0 rfl) ?_
      obtain ⟨o9, eo9, hwp⟩ := hwp
      refine x_getr hx hb hts hown hK hP 0 i0 (hE.m h0) rfl rfl in_X0 3 (by decide) q199 rfl rfl eo9 dX0_night_74 (fun ho9 co9 => ?_)
      refine x_goi (va_runV (As := []) (rest := [.int x2]) ⟨hx, hb, hml, hown, hts⟩ (xt_G_right ho9 hwp H.size) (cwV 0 hts (lw_V q1064 q1065 q1066 q77 q1067) rfl rfl rfl (by decide +kernel) ⟨Nat.le_of_ble_eq_true rfl, Nat.le_of_ble_eq_true rfl⟩) (x_preV hK hO hD hP 6 o9 ho9 rfl rfl) rfl rfl hl.1 rfl (lv_room (Nat.le_of_ble_eq_true rfl)) dX0_night_77 ⟨(Nat.le_of_ble_eq_true rfl), (Nat.le_of_ble_eq_true rfl)⟩) hD hA hS (fun r10 u H locs hk hP hO hD hS => ?_)
      obtain ⟨hwp, eu⟩ := hk
      subst eu
      dsimp only at hP hO hD
      refine lv_iload_n hx hb dX0_night_80 rfl (lv_at hl 1 rfl) ?_
      refine lv_icmp_ne (tgt := 90) hx hb dX0_night_81 (by decide) (fun c11 => ?_) (fun c11 => ?_)
      · replace hwp := hwp.1 c11
        refine lv_iconst (v := 0) hx hb dX0_night_90 (by decide) ?_
        refine lv_ior hx hb dX0_night_91 ?_
        refine lv_istore_n (lv' := [(2, .int (x2 ||| 0)), (0, .ref i0), (1, .int x1), (3, .int x3)]) hx hb dX0_night_92 rfl hl (by decide) rfl (fun ls hl => ?_)
        refine lv_iinc (v := x3 + 1) (lv' := [(3, .int (x3 + 1)), (2, .int (x2 ||| 0)), (0, .ref i0), (1, .int x1)]) hx hb dX0_night_93 hl (k := 3) rfl rfl (by decide) rfl (fun ls hl => ?_)
        refine lv_goto (tgt := 28) hx hb dX0_night_96 (by decide) ?_
        refine W.widen (k := 1) (n := 7) (Nat.le_of_ble_eq_true rfl) (Nat.le_of_ble_eq_true rfl) ?_
        exact hL28 _ _ _ δ σ8 hE hwp H locs ls hP hO hD hS (lv_sub hl [2, 3, 1, 0] rfl)
      · replace hwp := hwp.2 c11
        refine lv_iconst (v := 1) hx hb dX0_night_84 (by decide) ?_
        refine lv_iload_n hx hb dX0_night_85 rfl (lv_at hl 3 rfl) ?_
        refine lv_ishl hx hb dX0_night_86 ?_
        refine lv_goto (tgt := 91) hx hb dX0_night_87 (by decide) ?_
        refine lv_ior hx hb dX0_night_91 ?_
        refine lv_istore_n (lv' := [(2, .int (x2 ||| ((1 : Int32) <<< (x3 &&& 31)))), (0, .ref i0), (1, .int x1), (3, .int x3)]) hx hb dX0_night_92 rfl hl (by decide) rfl (fun ls hl => ?_)
        refine lv_iinc (v := x3 + 1) (lv' := [(3, .int (x3 + 1)), (2, .int (x2 ||| ((1 : Int32) <<< (x3 &&& 31)))), (0, .ref i0), (1, .int x1)]) hx hb dX0_night_93 hl (k := 3) rfl rfl (by decide) rfl (fun ls hl => ?_)
        refine lv_goto (tgt := 28) hx hb dX0_night_96 (by decide) ?_
        refine W.widen (k := 1) (n := 7) (Nat.le_of_ble_eq_true rfl) (Nat.le_of_ble_eq_true rfl) ?_
        exact hL28 _ _ _ δ σ8 hE hwp H locs ls hP hO hD hS (lv_sub hl [2, 3, 1, 0] rfl)
set_option maxHeartbeats 4000000 in
set_option maxRecDepth 100000 in
theorem xk_S_night_28 {p : Program} {l : Launch} {e : Env} {s : State} {m : MethodId} {args : Array Value} {below : List Frame} {meth : Method} {c : Code} {Γ : GA} {δ0 : XSh} {K : Int32 → XSh → XSt → Prop} {i0 : Nat} (hst : l.stackTraces = false) (Xc : CY p s m args meth c cX0_night 4 (some .int) RX0 Γ δ0 (tableOf [(0, 100, 101, 21)])) (h0 : (0, i0) ∈ δ0.1) : ∀ n (x1 : Int32) (x2 : Int32) (x3 : Int32) (δ : XSh) (σ : XSt), Ext δ0 δ → xw_S_night_28 K i0 n x1 x2 x3 δ σ → TX p l e ({ frames := 25, cells := 1, slots := 7, locals := 543 } : Room) s m args below meth c 4 1 7 (VI below (fun r u => K r u.1 u.2 ∧ Ext δ0 u.1) (fun _ _ _ => False) 1 7 Γ δ0 s args) Γ δ0 δ σ 28 [(0, .ref i0), (1, .int x1), (2, .int x2), (3, .int x3)] [] := by
  intro n
  induction n with
  | zero => intro _ _ _ _ _ _ hwp; exact hwp.elim
  | succ n ih => intro x1 x2 x3 δ σ hE hwp; exact xk_S_night_28_b hst Xc h0 ih x1 x2 x3 δ σ hE hwp
def xw_S_night_19 (K : Int32 → XSh → XSt → Prop) (i0 : Nat) (x1 : Int32) (t0 : Int32) (δ : XSh) (σ : XSt) : Prop :=
  xw_S_need (fun δ1 σ2 => ∃ n, xw_S_night_28 K i0 n x1 0 0 δ1 σ2) (fun q7 δ4 σ5 => xw_S_refused δ4 (fun r8 σ9 => K r8 δ4 σ9) i0 q7 σ5) t0 (-6) δ σ
set_option maxHeartbeats 4000000 in
set_option maxRecDepth 100000 in
theorem xk_S_night_19 {p : Program} {l : Launch} {e : Env} {s : State} {m : MethodId} {args : Array Value} {below : List Frame} {meth : Method} {c : Code} {Γ : GA} {δ0 : XSh} {K : Int32 → XSh → XSt → Prop} {i0 : Nat} (hst : l.stackTraces = false) (Xc : CY p s m args meth c cX0_night 4 (some .int) RX0 Γ δ0 (tableOf [(0, 100, 101, 21)])) (h0 : (0, i0) ∈ δ0.1) : ∀ (x1 : Int32) (t0 : Int32) (δ : XSh) (σ : XSt), Ext δ0 δ → xw_S_night_19 K i0 x1 t0 δ σ → TX p l e ({ frames := 25, cells := 1, slots := 7, locals := 543 } : Room) s m args below meth c 4 0 0 (VI below (fun r u => K r u.1 u.2 ∧ Ext δ0 u.1) (fun _ _ _ => False) 1 7 Γ δ0 s args) Γ δ0 δ σ 19 [(0, .ref i0), (1, .int x1)] [.int t0] := by
  obtain ⟨⟨hx, hb, hml, hown, hts, hK, hr, hlk⟩, hZ, htb⟩ := id Xc
  have hA : ∀ q, s.heap.size ≤ q → AX δ0 s.heap.size q := fun q h => Or.inr h
  intro x1 t0 δ σ hE hwp H locs ls hP hO hD hS hl
  unfold xw_S_night_19 at hwp
  refine lv_bipush (v := (-6)) hx hb dX0_night_19 (by decide) ?_
  refine y_gov (vx_runS (As := [.int t0, .int (-6)]) (rest := []) ⟨hx, hb, hml, hown, hts⟩ (xt_S_need hst hwp H.size) (va_cwS 2 hts (lw_S q328 q329 q75 q330) rfl rfl rfl (by decide +kernel) ⟨(Nat.le_of_ble_eq_true rfl), (Nat.le_of_ble_eq_true rfl)⟩) (y_preS hK hO hD hA hZ hP hS) rfl rfl hl.1 rfl (lv_room (Nat.le_of_ble_eq_true rfl)) dX0_night_21 ⟨(Nat.le_of_ble_eq_true rfl), (Nat.le_of_ble_eq_true rfl)⟩) hD hA hS (fun E ce q7 u H locs hk hP hO hD hS k1 k2 k3 => ?_) (fun u H locs hk hP hO hD hS => ?_)
  · obtain ⟨δ4, σ5⟩ := u
    obtain ⟨⟨rfl, hq7⟩, hwp, hF6⟩ := hk
    dsimp only at hP hO hD hwp hF6 hq7
    replace hE := hE.tr hF6
    refine vx_catch (E := RX5) (name := RX5) hown [] ⟨0, 100, 101, 21⟩ [] (htb.trans rfl) (fun z hz => nomatch hz) rfl (by decide) (hts _ q222) ((hK.2.1 (.castable RX5 RX5) (by simp [nwL])).use rfl) k1 k2 k3 ?_
    refine W.eq (g2 := F0 m 101 ls [.ref q7]) rfl ?_
    refine lv_astore_n (lv' := [(2, .ref q7), (0, .ref i0), (1, .int x1)]) hx hb dX0_night_101 rfl hl (by decide) rfl (fun ls hl => ?_)
    refine lv_aload_n hx hb dX0_night_102 rfl (lv_at hl 1 rfl) ?_
    refine lv_aload_n hx hb dX0_night_103 rfl (lv_at hl 0 rfl) ?_
    refine x_goi (va_runV (As := [.ref q7]) (rest := []) ⟨hx, hb, hml, hown, hts⟩ (xt_S_refused (hE.m h0) hq7 hwp H.size) (cwV 1 hts (lw_V q397 q399 qs2 q75 q400) rfl rfl rfl (by decide +kernel) ⟨Nat.le_of_ble_eq_true rfl, Nat.le_of_ble_eq_true rfl⟩) (x_preV hK hO hD hP 0 i0 (hE.m h0) rfl rfl) rfl rfl hl.1 rfl (lv_room (Nat.le_of_ble_eq_true rfl)) dX0_night_104 ⟨(Nat.le_of_ble_eq_true rfl), (Nat.le_of_ble_eq_true rfl)⟩) hD hA hS (fun r8 u H locs hk hP hO hD hS => ?_)
    obtain ⟨u1, σ9⟩ := u
    obtain ⟨hwp, eu⟩ := hk
    have eu : δ4 = u1 := eu.symm
    subst eu
    dsimp only at hP hO hD hwp
    refine W.widen (k := 1) (n := 7) (Nat.le_of_ble_eq_true rfl) (Nat.le_of_ble_eq_true rfl) ?_
    refine vx_ret ?_
    exact x_iret hx hb hr hlk hP hO hD hS ⟨hwp, hE⟩ dX0_night_107
  · obtain ⟨δ1, σ2⟩ := u
    obtain ⟨hwp, hF3⟩ := hk
    dsimp only at hP hO hD hwp hF3
    replace hE := hE.tr hF3
    refine lv_iconst (v := 0) hx hb dX0_night_24 (by decide) ?_
    refine lv_istore_n (lv' := [(2, .int 0), (0, .ref i0), (1, .int x1)]) hx hb dX0_night_25 rfl hl (by decide) rfl (fun ls hl => ?_)
    refine lv_iconst (v := 0) hx hb dX0_night_26 (by decide) ?_
    refine lv_istore_n (lv' := [(3, .int 0), (2, .int 0), (0, .ref i0), (1, .int x1)]) hx hb dX0_night_27 rfl hl (by decide) rfl (fun ls hl => ?_)
    obtain ⟨n, hwp⟩ := hwp
    refine W.widen (k := 1) (n := 7) (Nat.le_of_ble_eq_true rfl) (Nat.le_of_ble_eq_true rfl) ?_
    exact xk_S_night_28 hst Xc h0 n _ _ _ δ1 σ2 hE hwp H locs ls hP hO hD hS (lv_sub hl [2, 3, 1, 0] rfl)
def xw_S_night (K : Int32 → XSh → XSt → Prop) (i0 : Nat) (x1 : Int32) (δ : XSh) (σ : XSt) : Prop :=
  ∃ o1, σ.2.2 0 i0 4 = some o1 ∧ (xw_G_houses δ σ (fun r2 => ((¬ ((x1 &&& (r2 ^^^ (-1))) = 0)) → (xw_S_night_19 K i0 x1 0 δ σ)) ∧ (((x1 &&& (r2 ^^^ (-1))) = 0) → (xw_S_night_19 K i0 x1 1 δ σ))) o1)
set_option maxHeartbeats 4000000 in
set_option maxRecDepth 100000 in
theorem xk_S_night_e {p : Program} {l : Launch} {e : Env} {s : State} {m : MethodId} {args : Array Value} {below : List Frame} {meth : Method} {c : Code} {Γ : GA} {δ0 : XSh} {K : Int32 → XSh → XSt → Prop} {i0 : Nat} (hst : l.stackTraces = false) (Xc : CY p s m args meth c cX0_night 4 (some .int) RX0 Γ δ0 (tableOf [(0, 100, 101, 21)])) (h0 : (0, i0) ∈ δ0.1) {x1 : Int32} : ∀ (δ : XSh) (σ : XSt), Ext δ0 δ → xw_S_night K i0 x1 δ σ → TX p l e ({ frames := 25, cells := 1, slots := 7, locals := 543 } : Room) s m args below meth c 4 0 0 (VI below (fun r u => K r u.1 u.2 ∧ Ext δ0 u.1) (fun _ _ _ => False) 1 7 Γ δ0 s args) Γ δ0 δ σ 0 [(0, .ref i0), (1, .int x1)] [] := by
  obtain ⟨⟨hx, hb, hml, hown, hts, hK, hr, hlk⟩, hZ, htb⟩ := id Xc
  have hA : ∀ q, s.heap.size ≤ q → AX δ0 s.heap.size q := fun q h => Or.inr h
  intro δ σ hE hwp H locs ls hP hO hD hS hl
  unfold xw_S_night at hwp
  refine lv_iload_n hx hb dX0_night_0 rfl (lv_at hl 1 rfl) ?_
  refine lv_aload_n hx hb dX0_night_1 rfl (lv_at hl 0 rfl) ?_
  obtain ⟨o1, eo1, hwp⟩ := hwp
  refine x_getr hx hb hts hown hK hP 0 i0 (hE.m h0) rfl rfl in_X0 4 (by decide) q200 rfl rfl eo1 dX0_night_2 (fun ho1 co1 => ?_)
  refine x_goi (va_runV (As := []) (rest := [.int x1]) ⟨hx, hb, hml, hown, hts⟩ (xt_G_houses ho1 hwp H.size) (cwV 0 hts (lw_V q1073 q1074 q1075 q77 q1076) rfl rfl rfl (by decide +kernel) ⟨Nat.le_of_ble_eq_true rfl, Nat.le_of_ble_eq_true rfl⟩) (x_preV hK hO hD hP 6 o1 ho1 rfl rfl) rfl rfl hl.1 rfl (lv_room (Nat.le_of_ble_eq_true rfl)) dX0_night_5 ⟨(Nat.le_of_ble_eq_true rfl), (Nat.le_of_ble_eq_true rfl)⟩) hD hA hS (fun r2 u H locs hk hP hO hD hS => ?_)
  obtain ⟨hwp, eu⟩ := hk
  subst eu
  dsimp only at hP hO hD
  refine lv_iconst (v := (-1)) hx hb dX0_night_8 (by decide) ?_
  refine lv_ixor hx hb dX0_night_9 ?_
  refine lv_iand hx hb dX0_night_10 ?_
  refine lv_if_ne (tgt := 18) hx hb dX0_night_11 (by decide) (fun c3 => ?_) (fun c3 => ?_)
  · replace hwp := hwp.1 c3
    refine lv_iconst (v := 0) hx hb dX0_night_18 (by decide) ?_
    refine W.widen (k := 0) (n := 0) (Nat.le_of_ble_eq_true rfl) (Nat.le_of_ble_eq_true rfl) ?_
    exact xk_S_night_19 hst Xc h0 _ _ δ σ hE hwp H locs ls hP hO hD hS (lv_sub hl [0, 1] rfl)
  · replace hwp := hwp.2 c3
    refine lv_iconst (v := 1) hx hb dX0_night_14 (by decide) ?_
    refine lv_goto (tgt := 19) hx hb dX0_night_15 (by decide) ?_
    refine W.widen (k := 0) (n := 0) (Nat.le_of_ble_eq_true rfl) (Nat.le_of_ble_eq_true rfl) ?_
    exact xk_S_night_19 hst Xc h0 _ _ δ σ hE hwp H locs ls hP hO hD hS (lv_sub hl [0, 1] rfl)
set_option maxHeartbeats 4000000 in
set_option maxRecDepth 100000 in
theorem xt_S_night {l : Launch} (hst : l.stackTraces = false) {Γ : GA} {δ0 : XSh} {σ : XSt} {K : Int32 → XSh → XSt → Prop} {i0 : Nat} (h0 : (0, i0) ∈ δ0.1) {x1 : Int32} (hwp : xw_S_night K i0 x1 δ0 σ) : yI l yX0_night (wsW_ yX0_night cX0_night 4 (some .int) [(0, 100, 101, 21)]) ({ frames := 25, cells := 1, slots := 7, locals := 543 } : Room) 1 7 Γ δ0 [.ref i0, .int x1] σ (fun r u => K r u.1 u.2 ∧ Ext δ0 u.1) (fun _ _ _ => False) := by
  intro sz
  refine yW_of (by decide) [(0, .ref i0), (1, .int x1)] (fun _ h => h) (Nat.le_of_ble_eq_true rfl) ?_
  intro p e s m args below meth c hsz Xc
  subst hsz
  exact xk_S_night_e hst Xc h0 δ0 σ Ext.rf hwp
/-! S_years -/
def xw_S_years_18_b (K : Int32 → XSh → XSt → Prop) (i0 : Nat) (L18 : Int32 → Int32 → Int32 → XSh → XSt → Prop) (x1 : Int32) (x2 : Int32) (x3 : Int32) (δ : XSh) (σ : XSt) : Prop :=
  ((x1 ≤ x3) → (K x2 δ σ)) ∧ ((¬ (x1 ≤ x3)) → (∃ o2, σ.2.2 0 i0 4 = some o2 ∧ (xw_G_year δ (fun r3 σ4 => L18 x1 (x2 + r3) (x3 + 1) δ σ4) o2 σ)))
def xw_S_years_18 (K : Int32 → XSh → XSt → Prop) (i0 : Nat) : Nat → Int32 → Int32 → Int32 → XSh → XSt → Prop
  | 0 => fun _ _ _ _ _ => False
  | n + 1 => fun x1 x2 x3 δ σ => xw_S_years_18_b K i0 (xw_S_years_18 K i0 n) x1 x2 x3 δ σ
set_option maxHeartbeats 4000000 in
set_option maxRecDepth 100000 in
theorem xk_S_years_18_b {p : Program} {l : Launch} {e : Env} {s : State} {m : MethodId} {args : Array Value} {below : List Frame} {meth : Method} {c : Code} {Γ : GA} {δ0 : XSh} {K : Int32 → XSh → XSt → Prop} {i0 : Nat} (hst : l.stackTraces = false) (Xc : CY p s m args meth c cX0_years 4 (some .int) RX0 Γ δ0 (tableOf [(0, 40, 41, 21)])) (h0 : (0, i0) ∈ δ0.1) {L18 : Int32 → Int32 → Int32 → XSh → XSt → Prop} (hL18 : ∀ (x1 : Int32) (x2 : Int32) (x3 : Int32) (δ : XSh) (σ : XSt), Ext δ0 δ → L18 x1 x2 x3 δ σ → TX p l e ({ frames := 27, cells := 1, slots := 7, locals := 584 } : Room) s m args below meth c 4 1 7 (VI below (fun r u => K r u.1 u.2 ∧ Ext δ0 u.1) (fun _ _ _ => False) 1 7 Γ δ0 s args) Γ δ0 δ σ 18 [(0, .ref i0), (1, .int x1), (2, .int x2), (3, .int x3)] []) : ∀ (x1 : Int32) (x2 : Int32) (x3 : Int32) (δ : XSh) (σ : XSt), Ext δ0 δ → xw_S_years_18_b K i0 L18 x1 x2 x3 δ σ → TX p l e ({ frames := 27, cells := 1, slots := 7, locals := 584 } : Room) s m args below meth c 4 1 7 (VI below (fun r u => K r u.1 u.2 ∧ Ext δ0 u.1) (fun _ _ _ => False) 1 7 Γ δ0 s args) Γ δ0 δ σ 18 [(0, .ref i0), (1, .int x1), (2, .int x2), (3, .int x3)] [] := by
  obtain ⟨⟨hx, hb, hml, hown, hts, hK, hr, hlk⟩, hZ, htb⟩ := id Xc
  have hA : ∀ q, s.heap.size ≤ q → AX δ0 s.heap.size q := fun q h => Or.inr h
  intro x1 x2 x3 δ σ hE hwp H locs ls hP hO hD hS hl
  unfold xw_S_years_18_b at hwp
  refine lv_iload_n hx hb dX0_years_18 rfl (lv_at hl 3 rfl) ?_
  refine lv_iload_n hx hb dX0_years_19 rfl (lv_at hl 1 rfl) ?_
  refine lv_icmp_ge (tgt := 39) hx hb dX0_years_20 (by decide) (fun c1 => ?_) (fun c1 => ?_)
  · replace hwp := hwp.1 c1
    refine lv_iload_n hx hb dX0_years_39 rfl (lv_at hl 2 rfl) ?_
    refine W.widen (k := 1) (n := 7) (Nat.le_of_ble_eq_true rfl) (Nat.le_of_ble_eq_true rfl) ?_
    refine vx_ret ?_
    exact x_iret hx hb hr hlk hP hO hD hS ⟨hwp, hE⟩ dX0_years_40
  · replace hwp := hwp.2 c1
    refine lv_iload_n hx hb dX0_years_23 rfl (lv_at hl 2 rfl) ?_
    refine lv_aload_n hx hb dX0_years_24 rfl (lv_at hl 0 rfl) ?_
    obtain ⟨o2, eo2, hwp⟩ := hwp
    refine x_getr hx hb hts hown hK hP 0 i0 (hE.m h0) rfl rfl in_X0 4 (by decide) q200 rfl rfl eo2 dX0_years_25 (fun ho2 co2 => ?_)
    refine x_goi (va_runV (As := []) (rest := [.int x2]) ⟨hx, hb, hml, hown, hts⟩ (xt_G_year ho2 hwp H.size) (cwV 0 hts (lw_V q1207 q1208 q1209 q77 q1210) rfl rfl rfl (by decide +kernel) ⟨Nat.le_of_ble_eq_true rfl, Nat.le_of_ble_eq_true rfl⟩) (x_preV hK hO hD hP 6 o2 ho2 rfl rfl) rfl rfl hl.1 rfl (lv_room (Nat.le_of_ble_eq_true rfl)) dX0_years_28 ⟨(Nat.le_of_ble_eq_true rfl), (Nat.le_of_ble_eq_true rfl)⟩) hD hA hS (fun r3 u H locs hk hP hO hD hS => ?_)
    obtain ⟨u1, σ4⟩ := u
    obtain ⟨hwp, eu⟩ := hk
    have eu : δ = u1 := eu.symm
    subst eu
    dsimp only at hP hO hD hwp
    refine lv_iadd hx hb dX0_years_31 ?_
    refine lv_istore_n (lv' := [(2, .int (x2 + r3)), (0, .ref i0), (1, .int x1), (3, .int x3)]) hx hb dX0_years_32 rfl hl (by decide) rfl (fun ls hl => ?_)
    refine lv_iinc (v := x3 + 1) (lv' := [(3, .int (x3 + 1)), (2, .int (x2 + r3)), (0, .ref i0), (1, .int x1)]) hx hb dX0_years_33 hl (k := 3) rfl rfl (by decide) rfl (fun ls hl => ?_)
    refine lv_goto (tgt := 18) hx hb dX0_years_36 (by decide) ?_
    refine W.widen (k := 1) (n := 7) (Nat.le_of_ble_eq_true rfl) (Nat.le_of_ble_eq_true rfl) ?_
    exact hL18 _ _ _ δ σ4 hE hwp H locs ls hP hO hD hS (lv_sub hl [2, 3, 1, 0] rfl)
set_option maxHeartbeats 4000000 in
set_option maxRecDepth 100000 in
theorem xk_S_years_18 {p : Program} {l : Launch} {e : Env} {s : State} {m : MethodId} {args : Array Value} {below : List Frame} {meth : Method} {c : Code} {Γ : GA} {δ0 : XSh} {K : Int32 → XSh → XSt → Prop} {i0 : Nat} (hst : l.stackTraces = false) (Xc : CY p s m args meth c cX0_years 4 (some .int) RX0 Γ δ0 (tableOf [(0, 40, 41, 21)])) (h0 : (0, i0) ∈ δ0.1) : ∀ n (x1 : Int32) (x2 : Int32) (x3 : Int32) (δ : XSh) (σ : XSt), Ext δ0 δ → xw_S_years_18 K i0 n x1 x2 x3 δ σ → TX p l e ({ frames := 27, cells := 1, slots := 7, locals := 584 } : Room) s m args below meth c 4 1 7 (VI below (fun r u => K r u.1 u.2 ∧ Ext δ0 u.1) (fun _ _ _ => False) 1 7 Γ δ0 s args) Γ δ0 δ σ 18 [(0, .ref i0), (1, .int x1), (2, .int x2), (3, .int x3)] [] := by
  intro n
  induction n with
  | zero => intro _ _ _ _ _ _ hwp; exact hwp.elim
  | succ n ih => intro x1 x2 x3 δ σ hE hwp; exact xk_S_years_18_b hst Xc h0 ih x1 x2 x3 δ σ hE hwp
def xw_S_years (K : Int32 → XSh → XSt → Prop) (i0 : Nat) (x1 : Int32) (δ : XSh) (σ : XSt) : Prop :=
  xw_S_in δ σ (fun r1 => xw_S_need (fun δ2 σ3 => ∃ n, xw_S_years_18 K i0 n x1 0 0 δ2 σ3) (fun q8 δ5 σ6 => xw_S_refused δ5 (fun r9 σ10 => K r9 δ5 σ10) i0 q8 σ6) r1 (-6) δ σ) x1.toInt64 1 30
set_option maxHeartbeats 4000000 in
set_option maxRecDepth 100000 in
theorem xk_S_years_e {p : Program} {l : Launch} {e : Env} {s : State} {m : MethodId} {args : Array Value} {below : List Frame} {meth : Method} {c : Code} {Γ : GA} {δ0 : XSh} {K : Int32 → XSh → XSt → Prop} {i0 : Nat} (hst : l.stackTraces = false) (Xc : CY p s m args meth c cX0_years 4 (some .int) RX0 Γ δ0 (tableOf [(0, 40, 41, 21)])) (h0 : (0, i0) ∈ δ0.1) {x1 : Int32} : ∀ (δ : XSh) (σ : XSt), Ext δ0 δ → xw_S_years K i0 x1 δ σ → TX p l e ({ frames := 27, cells := 1, slots := 7, locals := 584 } : Room) s m args below meth c 4 0 0 (VI below (fun r u => K r u.1 u.2 ∧ Ext δ0 u.1) (fun _ _ _ => False) 1 7 Γ δ0 s args) Γ δ0 δ σ 0 [(0, .ref i0), (1, .int x1)] [] := by
  obtain ⟨⟨hx, hb, hml, hown, hts, hK, hr, hlk⟩, hZ, htb⟩ := id Xc
  have hA : ∀ q, s.heap.size ≤ q → AX δ0 s.heap.size q := fun q h => Or.inr h
  intro δ σ hE hwp H locs ls hP hO hD hS hl
  unfold xw_S_years at hwp
  refine lv_iload_n hx hb dX0_years_0 rfl (lv_at hl 1 rfl) ?_
  refine lv_i2l (v := x1.toInt64) hx hb dX0_years_1 rfl ?_
  refine lv_lconst (v := 1) hx hb dX0_years_2 (by decide) ?_
  refine lv_ldc2 hx hb hown (hts _ q1206) dX0_years_3 ?_
  refine x_goi (va_runS (As := [.long x1.toInt64, .long 1, .long 30]) (rest := []) ⟨hx, hb, hml, hown, hts⟩ (xt_S_in hwp H.size) (va_cwS 3 hts (lw_S q332 q333 q75 q334) rfl rfl rfl (by decide +kernel) ⟨Nat.le_of_ble_eq_true rfl, Nat.le_of_ble_eq_true rfl⟩) (x_preS hK hO hD hP) rfl rfl hl.1 rfl (lv_room (Nat.le_of_ble_eq_true rfl)) dX0_years_6 ⟨(Nat.le_of_ble_eq_true rfl), (Nat.le_of_ble_eq_true rfl)⟩) hD hA hS (fun r1 u H locs hk hP hO hD hS => ?_)
  obtain ⟨hwp, eu⟩ := hk
  subst eu
  dsimp only at hP hO hD
  refine lv_bipush (v := (-6)) hx hb dX0_years_9 (by decide) ?_
  refine y_gov (vx_runS (As := [.int r1, .int (-6)]) (rest := []) ⟨hx, hb, hml, hown, hts⟩ (xt_S_need hst hwp H.size) (va_cwS 2 hts (lw_S q328 q329 q75 q330) rfl rfl rfl (by decide +kernel) ⟨(Nat.le_of_ble_eq_true rfl), (Nat.le_of_ble_eq_true rfl)⟩) (y_preS hK hO hD hA hZ hP hS) rfl rfl hl.1 rfl (lv_room (Nat.le_of_ble_eq_true rfl)) dX0_years_11 ⟨(Nat.le_of_ble_eq_true rfl), (Nat.le_of_ble_eq_true rfl)⟩) hD hA hS (fun E ce q8 u H locs hk hP hO hD hS k1 k2 k3 => ?_) (fun u H locs hk hP hO hD hS => ?_)
  · obtain ⟨δ5, σ6⟩ := u
    obtain ⟨⟨rfl, hq8⟩, hwp, hF7⟩ := hk
    dsimp only at hP hO hD hwp hF7 hq8
    replace hE := hE.tr hF7
    refine vx_catch (E := RX5) (name := RX5) hown [] ⟨0, 40, 41, 21⟩ [] (htb.trans rfl) (fun z hz => nomatch hz) rfl (by decide) (hts _ q222) ((hK.2.1 (.castable RX5 RX5) (by simp [nwL])).use rfl) k1 k2 k3 ?_
    refine W.eq (g2 := F0 m 41 ls [.ref q8]) rfl ?_
    refine lv_astore_n (lv' := [(2, .ref q8), (0, .ref i0), (1, .int x1)]) hx hb dX0_years_41 rfl hl (by decide) rfl (fun ls hl => ?_)
    refine lv_aload_n hx hb dX0_years_42 rfl (lv_at hl 1 rfl) ?_
    refine lv_aload_n hx hb dX0_years_43 rfl (lv_at hl 0 rfl) ?_
    refine x_goi (va_runV (As := [.ref q8]) (rest := []) ⟨hx, hb, hml, hown, hts⟩ (xt_S_refused (hE.m h0) hq8 hwp H.size) (cwV 1 hts (lw_V q397 q399 qs2 q75 q400) rfl rfl rfl (by decide +kernel) ⟨Nat.le_of_ble_eq_true rfl, Nat.le_of_ble_eq_true rfl⟩) (x_preV hK hO hD hP 0 i0 (hE.m h0) rfl rfl) rfl rfl hl.1 rfl (lv_room (Nat.le_of_ble_eq_true rfl)) dX0_years_44 ⟨(Nat.le_of_ble_eq_true rfl), (Nat.le_of_ble_eq_true rfl)⟩) hD hA hS (fun r9 u H locs hk hP hO hD hS => ?_)
    obtain ⟨u1, σ10⟩ := u
    obtain ⟨hwp, eu⟩ := hk
    have eu : δ5 = u1 := eu.symm
    subst eu
    dsimp only at hP hO hD hwp
    refine W.widen (k := 1) (n := 7) (Nat.le_of_ble_eq_true rfl) (Nat.le_of_ble_eq_true rfl) ?_
    refine vx_ret ?_
    exact x_iret hx hb hr hlk hP hO hD hS ⟨hwp, hE⟩ dX0_years_47
  · obtain ⟨δ2, σ3⟩ := u
    obtain ⟨hwp, hF4⟩ := hk
    dsimp only at hP hO hD hwp hF4
    replace hE := hE.tr hF4
    refine lv_iconst (v := 0) hx hb dX0_years_14 (by decide) ?_
    refine lv_istore_n (lv' := [(2, .int 0), (0, .ref i0), (1, .int x1)]) hx hb dX0_years_15 rfl hl (by decide) rfl (fun ls hl => ?_)
    refine lv_iconst (v := 0) hx hb dX0_years_16 (by decide) ?_
    refine lv_istore_n (lv' := [(3, .int 0), (2, .int 0), (0, .ref i0), (1, .int x1)]) hx hb dX0_years_17 rfl hl (by decide) rfl (fun ls hl => ?_)
    obtain ⟨n, hwp⟩ := hwp
    refine W.widen (k := 1) (n := 7) (Nat.le_of_ble_eq_true rfl) (Nat.le_of_ble_eq_true rfl) ?_
    exact xk_S_years_18 hst Xc h0 n _ _ _ δ2 σ3 hE hwp H locs ls hP hO hD hS (lv_sub hl [2, 3, 1, 0] rfl)
set_option maxHeartbeats 4000000 in
set_option maxRecDepth 100000 in
theorem xt_S_years {l : Launch} (hst : l.stackTraces = false) {Γ : GA} {δ0 : XSh} {σ : XSt} {K : Int32 → XSh → XSt → Prop} {i0 : Nat} (h0 : (0, i0) ∈ δ0.1) {x1 : Int32} (hwp : xw_S_years K i0 x1 δ0 σ) : yI l yX0_years (wsW_ yX0_years cX0_years 4 (some .int) [(0, 40, 41, 21)]) ({ frames := 27, cells := 1, slots := 7, locals := 584 } : Room) 1 7 Γ δ0 [.ref i0, .int x1] σ (fun r u => K r u.1 u.2 ∧ Ext δ0 u.1) (fun _ _ _ => False) := by
  intro sz
  refine yW_of (by decide) [(0, .ref i0), (1, .int x1)] (fun _ h => h) (Nat.le_of_ble_eq_true rfl) ?_
  intro p e s m args below meth c hsz Xc
  subst hsz
  exact xk_S_years_e hst Xc h0 δ0 σ Ext.rf hwp
/-! S_image -/
def xw_S_image (K : Int32 → XSh → XSt → Prop) (i0 : Nat) (δ : XSh) (σ : XSt) : Prop :=
  ∀ q1 δ2 σ3, NewG δ σ q1 δ2 σ3 → (∃ o5, σ3.2.2 0 i0 4 = some o5 ∧ (xw_G_take δ2 (fun r6 σ7 => ∀ σ8, σ8 = tP σ7 0 i0 5 (some r6) → (∃ o9, σ8.2.2 0 i0 4 = some o9 ∧ (K (σ8.1 6 o9 0) δ2 σ8))) q1 o5 σ3))
set_option maxHeartbeats 4000000 in
set_option maxRecDepth 100000 in
theorem xk_S_image_e {p : Program} {l : Launch} {e : Env} {s : State} {m : MethodId} {args : Array Value} {below : List Frame} {meth : Method} {c : Code} {Γ : GA} {δ0 : XSh} {K : Int32 → XSh → XSt → Prop} {i0 : Nat} (hst : l.stackTraces = false) (Xc : CY p s m args meth c cX0_image 1 (some .int) RX0 Γ δ0 (tableOf [])) (h0 : (0, i0) ∈ δ0.1) : ∀ (δ : XSh) (σ : XSt), Ext δ0 δ → xw_S_image K i0  δ σ → TX p l e ({ frames := 2, cells := 4, slots := 33, locals := 81 } : Room) s m args below meth c 1 0 0 (VI below (fun r u => K r u.1 u.2 ∧ Ext δ0 u.1) (fun _ _ _ => False) 4 33 Γ δ0 s args) Γ δ0 δ σ 0 [(0, .ref i0)] [] := by
  obtain ⟨⟨hx, hb, hml, hown, hts, hK, hr, hlk⟩, hZ, htb⟩ := id Xc
  have hA : ∀ q, s.heap.size ≤ q → AX δ0 s.heap.size q := fun q h => Or.inr h
  intro δ σ hE hwp H locs ls hP hO hD hS hl
  unfold xw_S_image at hwp
  refine lv_aload_n hx hb dX0_image_0 rfl (lv_at hl 0 rfl) ?_
  refine va_new (D := Γ.1) (ci := 3) (fs := [.int 0, .int 0, .int 0, .int 0, .int 0, .int 0, .null, .null, .null]) (C := RX2) (T := TX2) (N := 9) hx hb hts in_X2 tyX2 tyX2_ok hown (hts _ q135) (hts _ q136) (hts _ q77) hK.1 hP.1 (hD.va (fun _ => rfl)) hS hA rfl (fun j hj => by rcases (show j = 0 ∨ j = 1 ∨ j = 2 ∨ j = 3 ∨ j = 4 ∨ j = 5 ∨ j = 6 ∨ j = 7 ∨ j = 8 by omega) with rfl | rfl | rfl | rfl | rfl | rfl | rfl | rfl | rfl <;> rfl) (Nat.le_of_ble_eq_true rfl) (Nat.le_of_ble_eq_true rfl) dX0_image_1 (fun q1 H hR hRD hS => ?_)
  replace hR := rotP hR
  replace hRD := rotD hRD
  replace hP : XH Γ δ σ H := ⟨tailP (ex := [_]) hR, hP.2⟩
  refine lv_dup hx hb dX0_image_4 rfl ?_
  refine r_go (X := δ.1.map (gX Γ δ σ)) (va_runI (As := []) (rest := [.ref q1, .ref i0]) ⟨hx, hb, hml, hown, hts⟩ (ct_G H.size) (cwI 0 hts (lw_meth q139) rfl rfl rfl (hts _ q77) (hts _ q137) (hts _ q138) rfl (by decide +kernel) ⟨(Nat.le_of_ble_eq_true rfl), (Nat.le_of_ble_eq_true rfl)⟩) (r_pre hK hA hZ hR hRD hS) rfl rfl hl.1 rfl (lv_room (Nat.le_of_ble_eq_true rfl)) dX0_image_5 ⟨(Nat.le_of_ble_eq_true rfl), (Nat.le_of_ble_eq_true rfl)⟩) hA hR hRD hS (fun ex H locs hk hR hRD hS => ?_)
  obtain ⟨a7, a8, a9, rfl⟩ := hk
  obtain ⟨δ2, σ3, hP, hO, hD, hN4⟩ := mkG hR hRD hP.2 hO
  replace hE := hE.tr hN4.1.1
  replace hwp := hwp q1 δ2 σ3 hN4
  refine lv_aload_n hx hb dX0_image_8 rfl (lv_at hl 0 rfl) ?_
  obtain ⟨o5, eo5, hwp⟩ := hwp
  refine x_getr hx hb hts hown hK hP 0 i0 (hE.m h0) rfl rfl in_X0 4 (by decide) q200 rfl rfl eo5 dX0_image_9 (fun ho5 co5 => ?_)
  refine x_gor (va_runV (As := [.ref o5]) (rest := [.ref i0]) ⟨hx, hb, hml, hown, hts⟩ (xt_G_take hN4.2.2.1 ho5 hwp H.size) (cwV 1 hts (lw_V q872 q873 q874 q77 q875) rfl rfl rfl (by decide +kernel) ⟨Nat.le_of_ble_eq_true rfl, Nat.le_of_ble_eq_true rfl⟩) (x_preV hK hO hD hP 6 q1 hN4.2.2.1 rfl rfl) rfl rfl hl.1 rfl (lv_room (Nat.le_of_ble_eq_true rfl)) dX0_image_12 ⟨(Nat.le_of_ble_eq_true rfl), (Nat.le_of_ble_eq_true rfl)⟩) hD hA hS (fun r6 u H locs hk hP hO hD hS => ?_)
  obtain ⟨u1, σ7⟩ := u
  obtain ⟨⟨hwp, eu⟩, hr6⟩ := hk
  have eu : δ2 = u1 := eu.symm
  subst eu
  dsimp only at hP hO hD hwp hr6
  refine x_putr (v := (some r6)) hx hb hts hown hK hD hP hS 0 i0 (hE.m h0) rfl rfl in_X0 tyX0 tyX0_ok nmX0 5 (by decide) q201 rfl rfl rfl rfl (Nat.le_of_ble_eq_true rfl) rfl (fun t9 h9 => by cases h9; exact ⟨hr6, fun z => absurd z (by decide), fun z => absurd z.1 (by decide)⟩) dX0_image_15 (fun H locs hP hS => ?_)
  obtain ⟨σ8, eσ8⟩ : ∃ z, z = tP σ7 0 i0 5 (some r6) := ⟨_, rfl⟩
  replace hP : XH Γ δ2 σ8 H := by rw [eσ8]; exact hP
  replace hwp := hwp σ8 eσ8
  refine lv_aload_n hx hb dX0_image_18 rfl (lv_at hl 0 rfl) ?_
  obtain ⟨o9, eo9, hwp⟩ := hwp
  refine x_getr hx hb hts hown hK hP 0 i0 (hE.m h0) rfl rfl in_X0 4 (by decide) q200 rfl rfl eo9 dX0_image_19 (fun ho9 co9 => ?_)
  refine x_get hx hb hts hown hK hP 6 o9 ho9 rfl rfl in_X2 0 (by decide) q145 rfl (v := .int (σ8.1 6 o9 0)) rfl dX0_image_22 ?_
  refine W.widen (k := 4) (n := 33) (Nat.le_of_ble_eq_true rfl) (Nat.le_of_ble_eq_true rfl) ?_
  refine vx_ret ?_
  exact x_iret hx hb hr hlk hP hO hD hS ⟨hwp, hE⟩ dX0_image_25
set_option maxHeartbeats 4000000 in
set_option maxRecDepth 100000 in
theorem xt_S_image {l : Launch} (hst : l.stackTraces = false) {Γ : GA} {δ0 : XSh} {σ : XSt} {K : Int32 → XSh → XSt → Prop} {i0 : Nat} (h0 : (0, i0) ∈ δ0.1) (hwp : xw_S_image K i0  δ0 σ) : yI l yX0_image (ws_ yX0_image cX0_image 1 (some .int)) ({ frames := 2, cells := 4, slots := 33, locals := 81 } : Room) 4 33 Γ δ0 [.ref i0] σ (fun r u => K r u.1 u.2 ∧ Ext δ0 u.1) (fun _ _ _ => False) := by
  intro sz
  refine y_of (by decide) [(0, .ref i0)] (fun _ h => h) (Nat.le_of_ble_eq_true rfl) ?_
  intro p e s m args below meth c hsz Xc
  subst hsz
  exact xk_S_image_e hst Xc h0 δ0 σ Ext.rf hwp
/-! S_restore -/
def xw_S_restore_12 (K : Int32 → XSh → XSt → Prop) (i0 : Nat) (t0 : Int32) (δ : XSh) (σ : XSt) : Prop :=
  xw_S_need (fun δ1 σ2 => ∀ q4 δ5 σ6, NewG δ1 σ2 q4 δ5 σ6 → ((σ6.2.2 0 i0 5 = none → (False)) ∧ (∀ o8, σ6.2.2 0 i0 5 = some o8 → (xw_G_take δ5 (fun r9 σ10 => ∀ σ11, σ11 = tP σ10 0 i0 4 (some r9) → (xw_S_shelvesFollow δ5 (fun σ12 => ∃ o13, σ12.2.2 0 i0 4 = some o13 ∧ (K (σ12.1 6 o13 0) δ5 σ12)) i0 σ11)) q4 o8 σ6)))) (fun q17 δ14 σ15 => xw_S_refused δ14 (fun r18 σ19 => K r18 δ14 σ19) i0 q17 σ15) t0 (-6) δ σ
set_option maxHeartbeats 4000000 in
set_option maxRecDepth 100000 in
theorem xk_S_restore_12 {p : Program} {l : Launch} {e : Env} {s : State} {m : MethodId} {args : Array Value} {below : List Frame} {meth : Method} {c : Code} {Γ : GA} {δ0 : XSh} {K : Int32 → XSh → XSt → Prop} {i0 : Nat} (hst : l.stackTraces = false) (Xc : CY p s m args meth c cX0_restore 2 (some .int) RX0 Γ δ0 (tableOf [(0, 46, 47, 21)])) (h0 : (0, i0) ∈ δ0.1) : ∀ (t0 : Int32) (δ : XSh) (σ : XSt), Ext δ0 δ → xw_S_restore_12 K i0 t0 δ σ → TX p l e ({ frames := 5, cells := 5, slots := 40, locals := 150 } : Room) s m args below meth c 2 0 0 (VI below (fun r u => K r u.1 u.2 ∧ Ext δ0 u.1) (fun _ _ _ => False) 5 40 Γ δ0 s args) Γ δ0 δ σ 12 [(0, .ref i0)] [.int t0] := by
  obtain ⟨⟨hx, hb, hml, hown, hts, hK, hr, hlk⟩, hZ, htb⟩ := id Xc
  have hA : ∀ q, s.heap.size ≤ q → AX δ0 s.heap.size q := fun q h => Or.inr h
  intro t0 δ σ hE hwp H locs ls hP hO hD hS hl
  unfold xw_S_restore_12 at hwp
  refine lv_bipush (v := (-6)) hx hb dX0_restore_12 (by decide) ?_
  refine y_gov (vx_runS (As := [.int t0, .int (-6)]) (rest := []) ⟨hx, hb, hml, hown, hts⟩ (xt_S_need hst hwp H.size) (va_cwS 2 hts (lw_S q328 q329 q75 q330) rfl rfl rfl (by decide +kernel) ⟨(Nat.le_of_ble_eq_true rfl), (Nat.le_of_ble_eq_true rfl)⟩) (y_preS hK hO hD hA hZ hP hS) rfl rfl hl.1 rfl (lv_room (Nat.le_of_ble_eq_true rfl)) dX0_restore_14 ⟨(Nat.le_of_ble_eq_true rfl), (Nat.le_of_ble_eq_true rfl)⟩) hD hA hS (fun E ce q17 u H locs hk hP hO hD hS k1 k2 k3 => ?_) (fun u H locs hk hP hO hD hS => ?_)
  · obtain ⟨δ14, σ15⟩ := u
    obtain ⟨⟨rfl, hq17⟩, hwp, hF16⟩ := hk
    dsimp only at hP hO hD hwp hF16 hq17
    replace hE := hE.tr hF16
    refine vx_catch (E := RX5) (name := RX5) hown [] ⟨0, 46, 47, 21⟩ [] (htb.trans rfl) (fun z hz => nomatch hz) rfl (by decide) (hts _ q222) ((hK.2.1 (.castable RX5 RX5) (by simp [nwL])).use rfl) k1 k2 k3 ?_
    refine W.eq (g2 := F0 m 47 ls [.ref q17]) rfl ?_
    refine lv_astore_n (lv' := [(1, .ref q17), (0, .ref i0)]) hx hb dX0_restore_47 rfl hl (by decide) rfl (fun ls hl => ?_)
    refine lv_aload_n hx hb dX0_restore_48 rfl (lv_at hl 1 rfl) ?_
    refine lv_aload_n hx hb dX0_restore_49 rfl (lv_at hl 0 rfl) ?_
    refine x_goi (va_runV (As := [.ref q17]) (rest := []) ⟨hx, hb, hml, hown, hts⟩ (xt_S_refused (hE.m h0) hq17 hwp H.size) (cwV 1 hts (lw_V q397 q399 qs2 q75 q400) rfl rfl rfl (by decide +kernel) ⟨Nat.le_of_ble_eq_true rfl, Nat.le_of_ble_eq_true rfl⟩) (x_preV hK hO hD hP 0 i0 (hE.m h0) rfl rfl) rfl rfl hl.1 rfl (lv_room (Nat.le_of_ble_eq_true rfl)) dX0_restore_50 ⟨(Nat.le_of_ble_eq_true rfl), (Nat.le_of_ble_eq_true rfl)⟩) hD hA hS (fun r18 u H locs hk hP hO hD hS => ?_)
    obtain ⟨u1, σ19⟩ := u
    obtain ⟨hwp, eu⟩ := hk
    have eu : δ14 = u1 := eu.symm
    subst eu
    dsimp only at hP hO hD hwp
    refine W.widen (k := 5) (n := 40) (Nat.le_of_ble_eq_true rfl) (Nat.le_of_ble_eq_true rfl) ?_
    refine vx_ret ?_
    exact x_iret hx hb hr hlk hP hO hD hS ⟨hwp, hE⟩ dX0_restore_53
  · obtain ⟨δ1, σ2⟩ := u
    obtain ⟨hwp, hF3⟩ := hk
    dsimp only at hP hO hD hwp hF3
    replace hE := hE.tr hF3
    refine lv_aload_n hx hb dX0_restore_17 rfl (lv_at hl 0 rfl) ?_
    refine va_new (D := Γ.1) (ci := 3) (fs := [.int 0, .int 0, .int 0, .int 0, .int 0, .int 0, .null, .null, .null]) (C := RX2) (T := TX2) (N := 9) hx hb hts in_X2 tyX2 tyX2_ok hown (hts _ q135) (hts _ q136) (hts _ q77) hK.1 hP.1 (hD.va (fun _ => rfl)) hS hA rfl (fun j hj => by rcases (show j = 0 ∨ j = 1 ∨ j = 2 ∨ j = 3 ∨ j = 4 ∨ j = 5 ∨ j = 6 ∨ j = 7 ∨ j = 8 by omega) with rfl | rfl | rfl | rfl | rfl | rfl | rfl | rfl | rfl <;> rfl) (Nat.le_of_ble_eq_true rfl) (Nat.le_of_ble_eq_true rfl) dX0_restore_18 (fun q4 H hR hRD hS => ?_)
    replace hR := rotP hR
    replace hRD := rotD hRD
    replace hP : XH Γ δ1 σ2 H := ⟨tailP (ex := [_]) hR, hP.2⟩
    refine lv_dup hx hb dX0_restore_21 rfl ?_
    refine r_go (X := δ1.1.map (gX Γ δ1 σ2)) (va_runI (As := []) (rest := [.ref q4, .ref i0]) ⟨hx, hb, hml, hown, hts⟩ (ct_G H.size) (cwI 0 hts (lw_meth q139) rfl rfl rfl (hts _ q77) (hts _ q137) (hts _ q138) rfl (by decide +kernel) ⟨(Nat.le_of_ble_eq_true rfl), (Nat.le_of_ble_eq_true rfl)⟩) (r_pre hK hA hZ hR hRD hS) rfl rfl hl.1 rfl (lv_room (Nat.le_of_ble_eq_true rfl)) dX0_restore_22 ⟨(Nat.le_of_ble_eq_true rfl), (Nat.le_of_ble_eq_true rfl)⟩) hA hR hRD hS (fun ex H locs hk hR hRD hS => ?_)
    obtain ⟨a7, a8, a9, rfl⟩ := hk
    obtain ⟨δ5, σ6, hP, hO, hD, hN7⟩ := mkG hR hRD hP.2 hO
    replace hE := hE.tr hN7.1.1
    replace hwp := hwp q4 δ5 σ6 hN7
    refine lv_aload_n hx hb dX0_restore_25 rfl (lv_at hl 0 rfl) ?_
    rcases o_cases (σ6.2.2 0 i0 5) with eo8 | ⟨o8, eo8⟩
    · replace hwp := hwp.1 eo8
      refine x_getN hx hb hts hown hK hP 0 i0 (hE.m h0) rfl rfl in_X0 5 (by decide) q201 rfl rfl eo8 dX0_restore_26 ?_
      exact hwp.elim
    · replace hwp := hwp.2 o8 eo8
      refine x_getr hx hb hts hown hK hP 0 i0 (hE.m h0) rfl rfl in_X0 5 (by decide) q201 rfl rfl eo8 dX0_restore_26 (fun ho8 co8 => ?_)
      refine x_gor (va_runV (As := [.ref o8]) (rest := [.ref i0]) ⟨hx, hb, hml, hown, hts⟩ (xt_G_take hN7.2.2.1 ho8 hwp H.size) (cwV 1 hts (lw_V q872 q873 q874 q77 q875) rfl rfl rfl (by decide +kernel) ⟨Nat.le_of_ble_eq_true rfl, Nat.le_of_ble_eq_true rfl⟩) (x_preV hK hO hD hP 6 q4 hN7.2.2.1 rfl rfl) rfl rfl hl.1 rfl (lv_room (Nat.le_of_ble_eq_true rfl)) dX0_restore_29 ⟨(Nat.le_of_ble_eq_true rfl), (Nat.le_of_ble_eq_true rfl)⟩) hD hA hS (fun r9 u H locs hk hP hO hD hS => ?_)
      obtain ⟨u1, σ10⟩ := u
      obtain ⟨⟨hwp, eu⟩, hr9⟩ := hk
      have eu : δ5 = u1 := eu.symm
      subst eu
      dsimp only at hP hO hD hwp hr9
      refine x_putr (v := (some r9)) hx hb hts hown hK hD hP hS 0 i0 (hE.m h0) rfl rfl in_X0 tyX0 tyX0_ok nmX0 4 (by decide) q200 rfl rfl rfl rfl (Nat.le_of_ble_eq_true rfl) rfl (fun t9 h9 => by cases h9; exact ⟨hr9, fun z => absurd z (by decide), fun z => absurd z.1 (by decide)⟩) dX0_restore_32 (fun H locs hP hS => ?_)
      obtain ⟨σ11, eσ11⟩ : ∃ z, z = tP σ10 0 i0 4 (some r9) := ⟨_, rfl⟩
      replace hP : XH Γ δ5 σ11 H := by rw [eσ11]; exact hP
      replace hwp := hwp σ11 eσ11
      refine lv_aload_n hx hb dX0_restore_35 rfl (lv_at hl 0 rfl) ?_
      refine x_gov (va_runV (As := []) (rest := []) ⟨hx, hb, hml, hown, hts⟩ (xt_S_shelvesFollow (hE.m h0) hwp H.size) (cwV 0 hts (lw_V q1330 q1332 qs23 q75 q1333) rfl rfl rfl (by decide +kernel) ⟨Nat.le_of_ble_eq_true rfl, Nat.le_of_ble_eq_true rfl⟩) (x_preV hK hO hD hP 0 i0 (hE.m h0) rfl rfl) rfl rfl hl.1 rfl (lv_room (Nat.le_of_ble_eq_true rfl)) dX0_restore_36 ⟨(Nat.le_of_ble_eq_true rfl), (Nat.le_of_ble_eq_true rfl)⟩) hD hA hS (fun u H locs hk hP hO hD hS => ?_)
      obtain ⟨u1, σ12⟩ := u
      obtain ⟨hwp, eu⟩ := hk
      have eu : δ5 = u1 := eu.symm
      subst eu
      dsimp only at hP hO hD hwp
      refine lv_aload_n hx hb dX0_restore_39 rfl (lv_at hl 0 rfl) ?_
      obtain ⟨o13, eo13, hwp⟩ := hwp
      refine x_getr hx hb hts hown hK hP 0 i0 (hE.m h0) rfl rfl in_X0 4 (by decide) q200 rfl rfl eo13 dX0_restore_40 (fun ho13 co13 => ?_)
      refine x_get hx hb hts hown hK hP 6 o13 ho13 rfl rfl in_X2 0 (by decide) q145 rfl (v := .int (σ12.1 6 o13 0)) rfl dX0_restore_43 ?_
      refine W.widen (k := 5) (n := 40) (Nat.le_of_ble_eq_true rfl) (Nat.le_of_ble_eq_true rfl) ?_
      refine vx_ret ?_
      exact x_iret hx hb hr hlk hP hO hD hS ⟨hwp, hE⟩ dX0_restore_46
def xw_S_restore (K : Int32 → XSh → XSt → Prop) (i0 : Nat) (δ : XSh) (σ : XSt) : Prop :=
  (σ.2.2 0 i0 5 = none → (xw_S_restore_12 K i0 0 δ σ)) ∧ (∀ o1, σ.2.2 0 i0 5 = some o1 → (xw_S_restore_12 K i0 1 δ σ))
set_option maxHeartbeats 4000000 in
set_option maxRecDepth 100000 in
theorem xk_S_restore_e {p : Program} {l : Launch} {e : Env} {s : State} {m : MethodId} {args : Array Value} {below : List Frame} {meth : Method} {c : Code} {Γ : GA} {δ0 : XSh} {K : Int32 → XSh → XSt → Prop} {i0 : Nat} (hst : l.stackTraces = false) (Xc : CY p s m args meth c cX0_restore 2 (some .int) RX0 Γ δ0 (tableOf [(0, 46, 47, 21)])) (h0 : (0, i0) ∈ δ0.1) : ∀ (δ : XSh) (σ : XSt), Ext δ0 δ → xw_S_restore K i0  δ σ → TX p l e ({ frames := 5, cells := 5, slots := 40, locals := 150 } : Room) s m args below meth c 2 0 0 (VI below (fun r u => K r u.1 u.2 ∧ Ext δ0 u.1) (fun _ _ _ => False) 5 40 Γ δ0 s args) Γ δ0 δ σ 0 [(0, .ref i0)] [] := by
  obtain ⟨⟨hx, hb, hml, hown, hts, hK, hr, hlk⟩, hZ, htb⟩ := id Xc
  have hA : ∀ q, s.heap.size ≤ q → AX δ0 s.heap.size q := fun q h => Or.inr h
  intro δ σ hE hwp H locs ls hP hO hD hS hl
  unfold xw_S_restore at hwp
  refine lv_aload_n hx hb dX0_restore_0 rfl (lv_at hl 0 rfl) ?_
  rcases o_cases (σ.2.2 0 i0 5) with eo1 | ⟨o1, eo1⟩
  · replace hwp := hwp.1 eo1
    refine x_getN hx hb hts hown hK hP 0 i0 (hE.m h0) rfl rfl in_X0 5 (by decide) q201 rfl rfl eo1 dX0_restore_1 ?_
    refine lv_ifnullN (tgt := 11) hx hb dX0_restore_4 (by decide) ?_
    refine lv_iconst (v := 0) hx hb dX0_restore_11 (by decide) ?_
    refine W.widen (k := 0) (n := 0) (Nat.le_of_ble_eq_true rfl) (Nat.le_of_ble_eq_true rfl) ?_
    exact xk_S_restore_12 hst Xc h0 _ δ σ hE hwp H locs ls hP hO hD hS (lv_sub hl [0] rfl)
  · replace hwp := hwp.2 o1 eo1
    refine x_getr hx hb hts hown hK hP 0 i0 (hE.m h0) rfl rfl in_X0 5 (by decide) q201 rfl rfl eo1 dX0_restore_1 (fun ho1 co1 => ?_)
    refine lv_ifnull hx hb dX0_restore_4 ?_
    refine lv_iconst (v := 1) hx hb dX0_restore_7 (by decide) ?_
    refine lv_goto (tgt := 12) hx hb dX0_restore_8 (by decide) ?_
    refine W.widen (k := 0) (n := 0) (Nat.le_of_ble_eq_true rfl) (Nat.le_of_ble_eq_true rfl) ?_
    exact xk_S_restore_12 hst Xc h0 _ δ σ hE hwp H locs ls hP hO hD hS (lv_sub hl [0] rfl)
set_option maxHeartbeats 4000000 in
set_option maxRecDepth 100000 in
theorem xt_S_restore {l : Launch} (hst : l.stackTraces = false) {Γ : GA} {δ0 : XSh} {σ : XSt} {K : Int32 → XSh → XSt → Prop} {i0 : Nat} (h0 : (0, i0) ∈ δ0.1) (hwp : xw_S_restore K i0  δ0 σ) : yI l yX0_restore (wsW_ yX0_restore cX0_restore 2 (some .int) [(0, 46, 47, 21)]) ({ frames := 5, cells := 5, slots := 40, locals := 150 } : Room) 5 40 Γ δ0 [.ref i0] σ (fun r u => K r u.1 u.2 ∧ Ext δ0 u.1) (fun _ _ _ => False) := by
  intro sz
  refine yW_of (by decide) [(0, .ref i0)] (fun _ h => h) (Nat.le_of_ble_eq_true rfl) ?_
  intro p e s m args below meth c hsz Xc
  subst hsz
  exact xk_S_restore_e hst Xc h0 δ0 σ Ext.rf hwp
