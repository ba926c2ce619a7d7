/-! S_copy -/
def xw_S_copy_149 (K : Int32 → XSh → XSt → Prop) (i0 : Nat) (z0 : Nat) (δ : XSh) (σ : XSt) : Prop :=
  xw_S_refused δ (fun r1 σ2 => K r1 δ σ2) i0 z0 σ
set_option maxHeartbeats 4000000 in
set_option maxRecDepth 100000 in
theorem xk_S_copy_149 {p : Program} {l : Launch} {e : Env} {s : State} {m : MethodId} {args : Array Value} {below : List Frame} {meth : Method} {c : Code} {Γ : GA} {δ0 : XSh} {K : Int32 → XSh → XSt → Prop} {i0 : Nat} (hst : l.stackTraces = false) (Xc : CY p s m args meth c cX0_copy 11 (some .int) RX0 Γ δ0 (tableOf [(114, 132, 135, 164), (0, 148, 149, 21)])) (h0 : (0, i0) ∈ δ0.1) : ∀ (z0 : Nat) (δ : XSh) (σ : XSt), Ext δ0 δ → (13, z0) ∈ δ.1 → xw_S_copy_149 K i0 z0 δ σ → TX p l e ({ frames := 10, cells := 31, slots := 6440, locals := 10322 } : Room) s m args below meth c 11 31 6440 (VI below (fun r u => K r u.1 u.2 ∧ Ext δ0 u.1) (fun _ _ _ => False) 31 6440 Γ δ0 s args) Γ δ0 δ σ 149 [(0, .ref i0)] [.ref z0] := by
  obtain ⟨⟨hx, hb, hml, hown, hts, hK, hr, hlk⟩, hZ, htb⟩ := id Xc
  have hA : ∀ q, s.heap.size ≤ q → AX δ0 s.heap.size q := fun q h => Or.inr h
  intro z0 δ σ hE hz0 hwp H locs ls hP hO hD hS hl
  unfold xw_S_copy_149 at hwp
  refine lv_astore (lv' := [(6, .ref z0), (0, .ref i0)]) hx hb dX0_copy_149 hl (by decide) rfl (fun ls hl => ?_)
  refine lv_aload_n hx hb dX0_copy_151 rfl (lv_at hl 1 rfl) ?_
  refine lv_aload hx hb dX0_copy_152 (lv_at hl 0 rfl) ?_
  refine x_goi (va_runV (As := [.ref z0]) (rest := []) ⟨hx, hb, hml, hown, hts⟩ (xt_S_refused (hE.m h0) hz0 hwp H.size) (cwV 1 hts (lw_V q397 q399 qs2 q75 q400) rfl rfl rfl (by decide +kernel) ⟨Nat.le_of_ble_eq_true rfl, Nat.le_of_ble_eq_true rfl⟩) (x_preV hK hO hD hP 0 i0 (hE.m h0) rfl rfl) rfl rfl hl.1 rfl (lv_room (Nat.le_of_ble_eq_true rfl)) dX0_copy_154 ⟨(Nat.le_of_ble_eq_true rfl), (Nat.le_of_ble_eq_true rfl)⟩) hD hA hS (fun r1 u H locs hk hP hO hD hS => ?_)
  obtain ⟨u1, σ2⟩ := u
  obtain ⟨hwp, eu⟩ := hk
  have eu : δ = u1 := eu.symm
  subst eu
  dsimp only at hP hO hD hwp
  refine W.widen (k := 31) (n := 6440) (Nat.le_of_ble_eq_true rfl) (Nat.le_of_ble_eq_true rfl) ?_
  refine vx_ret ?_
  exact x_iret hx hb hr hlk hP hO hD hS ⟨hwp, hE⟩ dX0_copy_157
def xw_S_copy_109 (K : Int32 → XSh → XSt → Prop) (i0 : Nat) (x3 : Int32) (x4 : Int32) (x5 : Int32) (y8 : Nat) (y9 : Nat) (t0 : Int32) (δ : XSh) (σ : XSt) : Prop :=
  xw_S_need (fun δ1 σ2 => xv_R_held δ1 σ2 (xv_R_held δ1 σ2 (δ1.2.2.1 y9 = δ1.2.2.1 y8 ∧ ((Cpy x3 x4 x5 (δ1.2.2.2 y8) (δ1.2.2.2 y9)) → fitR δ1 σ2 y8 x3 x5 ∧ (∀ σ12, σ12 = cpyR δ1 σ2 y8 y9 x3 x4 x5 → (K 1 δ1 σ12))) ∧ ((¬ Cpy x3 x4 x5 (δ1.2.2.2 y8) (δ1.2.2.2 y9)) → δ1.2.2.2 y8 < 2147483648 ∧ δ1.2.2.2 y9 < 2147483648 ∧ (∀ q : Nat, (∀ q13 δ14 σ15, NewRe (-5) δ1 σ2 q13 δ14 σ15 → (xw_S_copy_149 K i0 q13 δ14 σ15))))) y9) y8) (fun q24 δ21 σ22 => xw_S_copy_149 K i0 q24 δ21 σ22) t0 (-4) δ σ
set_option maxHeartbeats 4000000 in
set_option maxRecDepth 100000 in
theorem xk_S_copy_109 {p : Program} {l : Launch} {e : Env} {s : State} {m : MethodId} {args : Array Value} {below : List Frame} {meth : Method} {c : Code} {Γ : GA} {δ0 : XSh} {K : Int32 → XSh → XSt → Prop} {i0 : Nat} (hst : l.stackTraces = false) (Xc : CY p s m args meth c cX0_copy 11 (some .int) RX0 Γ δ0 (tableOf [(114, 132, 135, 164), (0, 148, 149, 21)])) (h0 : (0, i0) ∈ δ0.1) : ∀ (x3 : Int32) (x4 : Int32) (x5 : Int32) (y8 : Nat) (y9 : Nat) (t0 : Int32) (δ : XSh) (σ : XSt), Ext δ0 δ → (7, y8) ∈ δ.1 → 12 ≤ δ.2.2.1 y8 → (7, y9) ∈ δ.1 → 12 ≤ δ.2.2.1 y9 → xw_S_copy_109 K i0 x3 x4 x5 y8 y9 t0 δ σ → TX p l e ({ frames := 10, cells := 31, slots := 6440, locals := 10322 } : Room) s m args below meth c 11 26 5516 (VI below (fun r u => K r u.1 u.2 ∧ Ext δ0 u.1) (fun _ _ _ => False) 31 6440 Γ δ0 s args) Γ δ0 δ σ 109 [(0, .ref i0), (3, .int x3), (4, .int x4), (5, .int x5), (8, .ref y8), (9, .ref y9)] [.int t0] := by
  obtain ⟨⟨hx, hb, hml, hown, hts, hK, hr, hlk⟩, hZ, htb⟩ := id Xc
  have hA : ∀ q, s.heap.size ≤ q → AX δ0 s.heap.size q := fun q h => Or.inr h
  intro x3 x4 x5 y8 y9 t0 δ σ hE hy8 cy8 hy9 cy9 hwp H locs ls hP hO hD hS hl
  unfold xw_S_copy_109 at hwp
  refine lv_bipush (v := (-4)) hx hb dX0_copy_109 (by decide) ?_
  refine y_gov (vx_runS (As := [.int t0, .int (-4)]) (rest := []) ⟨hx, hb, hml, hown, hts⟩ (xt_S_need hst hwp H.size) (va_cwS 2 hts (lw_S q328 q329 q75 q330) rfl rfl rfl (by decide +kernel) ⟨(Nat.le_of_ble_eq_true rfl), (Nat.le_of_ble_eq_true rfl)⟩) (y_preS hK hO hD hA hZ hP hS) rfl rfl hl.1 rfl (lv_room (Nat.le_of_ble_eq_true rfl)) dX0_copy_111 ⟨(Nat.le_of_ble_eq_true rfl), (Nat.le_of_ble_eq_true rfl)⟩) hD hA hS (fun E ce q24 u H locs hk hP hO hD hS k1 k2 k3 => ?_) (fun u H locs hk hP hO hD hS => ?_)
  · obtain ⟨δ21, σ22⟩ := u
    obtain ⟨⟨rfl, hq24⟩, hwp, hF23⟩ := hk
    dsimp only at hP hO hD hwp hF23 hq24
    have hh25 := hF23.m hy8
    have cc26 := Ext.cl hF23 hy8 cy8
    have hh27 := hF23.m hy9
    have cc28 := Ext.cl hF23 hy9 cy9
    replace hE := hE.tr hF23
    refine vx_catch (E := RX5) (name := RX5) hown [⟨114, 132, 135, 164⟩] ⟨0, 148, 149, 21⟩ [] (htb.trans rfl) (fun z hz => by simp only [List.mem_cons, List.not_mem_nil, or_false] at hz; rcases hz with rfl <;> first | exact Or.inl rfl) rfl (by decide) (hts _ q222) ((hK.2.1 (.castable RX5 RX5) (by simp [nwL])).use rfl) k1 k2 k3 ?_
    refine W.eq (g2 := F0 m 149 ls [.ref q24]) rfl ?_
    refine W.widen (k := 31) (n := 6440) (Nat.le_of_ble_eq_true rfl) (Nat.le_of_ble_eq_true rfl) ?_
    exact xk_S_copy_149 hst Xc h0 _ δ21 σ22 hE hq24 hwp H locs ls hP hO hD hS (lv_sub hl [0] rfl)
  · obtain ⟨δ1, σ2⟩ := u
    obtain ⟨hwp, hF3⟩ := hk
    dsimp only at hP hO hD hwp hF3
    have hh4 := hF3.m hy8
    have cc5 := Ext.cl hF3 hy8 cy8
    have hh6 := hF3.m hy9
    have cc7 := Ext.cl hF3 hy9 cy9
    replace hE := hE.tr hF3
    refine lv_aload hx hb dX0_copy_114 (lv_at hl 4 rfl) ?_
    refine x_gor (xr_R_held (As := []) (rest := []) ⟨hx, hb, hml, hown, hts⟩ hK hD hO hP hh4 cc5 hwp q467 ⟨(Nat.le_of_ble_eq_true rfl), (Nat.le_of_ble_eq_true rfl)⟩ rfl hl.1 rfl (Nat.le_of_ble_eq_true rfl) dX0_copy_116 ⟨(Nat.le_of_ble_eq_true rfl), (Nat.le_of_ble_eq_true rfl)⟩) hD hA hS (fun r9 u H locs hk hP hO hD hS => ?_)
    obtain ⟨⟨hwp, eu⟩, er9⟩ := hk
    subst eu
    subst er9
    dsimp only at hP hO hD
    refine lv_iload_n hx hb dX0_copy_119 rfl (lv_at hl 1 rfl) ?_
    refine lv_aload hx hb dX0_copy_120 (lv_at hl 5 rfl) ?_
    have hp9 := (own11 hO hh4 cc5)
    refine x_gor (xr_R_held (As := []) (rest := [.int x3, .ref (δ1.2.1 11 y8)]) ⟨hx, hb, hml, hown, hts⟩ hK hD hO hP hh6 cc7 hwp q467 ⟨(Nat.le_of_ble_eq_true rfl), (Nat.le_of_ble_eq_true rfl)⟩ rfl hl.1 rfl (Nat.le_of_ble_eq_true rfl) dX0_copy_122 ⟨(Nat.le_of_ble_eq_true rfl), (Nat.le_of_ble_eq_true rfl)⟩) hD hA hS (fun r9 u H locs hk hP hO hD hS => ?_)
    obtain ⟨⟨hwp, eu⟩, er9⟩ := hk
    subst eu
    subst er9
    dsimp only at hP hO hD
    refine lv_iload hx hb dX0_copy_125 (lv_at hl 2 rfl) ?_
    refine lv_iload hx hb dX0_copy_127 (lv_at hl 3 rfl) ?_
    obtain ⟨he9, hwp⟩ := hwp
    by_cases c11 : Cpy x3 x4 x5 (δ1.2.2.2 y8) (δ1.2.2.2 y9)
    · obtain ⟨hf9, hwp⟩ := hwp.1 c11
      refine x_copyR hx hb (hml.trans hl.1.symm) hown (hts _ q482) (hts _ q484) (hts _ q483) (hts _ q94) hK hO hD hP hS hp9 cc5 (own11 hO hh6 cc7) he9 hf9 c11 (Nat.le_of_ble_eq_true rfl) (Nat.le_of_ble_eq_true rfl) dX0_copy_129 (fun H locs hP hS => ?_)
      obtain ⟨σ12, eσ12⟩ : ∃ z, z = cpyR δ1 σ2 y8 y9 x3 x4 x5 := ⟨_, rfl⟩
      replace hP : XH Γ δ1 σ12 H := by rw [eσ12]; exact hP
      replace hwp := hwp σ12 eσ12
      refine lv_goto (tgt := 147) hx hb dX0_copy_132 (by decide) ?_
      refine lv_iconst (v := 1) hx hb dX0_copy_147 (by decide) ?_
      refine W.widen (k := 31) (n := 6440) (Nat.le_of_ble_eq_true rfl) (Nat.le_of_ble_eq_true rfl) ?_
      refine vx_ret ?_
      exact x_iret hx hb hr hlk hP hO hD hS ⟨hwp, hE⟩ dX0_copy_148
    · obtain ⟨hn8, hn9, hwp⟩ := hwp.2 c11
      refine x_copyBad hx hb (hml.trans hl.1.symm) hst hown (hts _ q482) (hts _ q484) (hts _ q483) (hts _ q94) hts hK hZ hO hP hS hlk hp9 cc5 (own11 hO hh6 cc7) cc7 he9 hn8 hn9 c11 ⟨(Nat.le_of_ble_eq_true rfl), (Nat.le_of_ble_eq_true rfl), (Nat.le_of_ble_eq_true rfl), (Nat.le_of_ble_eq_true rfl)⟩ dX0_copy_129 (fun H q ce hP hS k1 k2 k3 => ?_)
      replace hwp := hwp q
      refine vx_catch (E := "java/lang/ArrayIndexOutOfBoundsException") (name := "java/lang/IndexOutOfBoundsException") hown [] ⟨114, 132, 135, 164⟩ [⟨0, 148, 149, 21⟩] (htb.trans rfl) (fun z hz => nomatch hz) rfl (by decide) (hts _ q446) ((hK.2.1 (.castable "java/lang/ArrayIndexOutOfBoundsException" "java/lang/IndexOutOfBoundsException") (by simp [nwL])).use rfl) k1 k2 k3 ?_
      refine W.eq (g2 := F0 m 135 ls [.ref q]) rfl ?_
      refine lv_astore (lv' := [(10, .ref q), (0, .ref i0), (3, .int x3), (4, .int x4), (5, .int x5), (8, .ref y8), (9, .ref y9)]) hx hb dX0_copy_135 hl (by decide) rfl (fun ls hl => ?_)
      refine va_new (D := Γ.1) (ci := 17) (fs := [.null, .null, .null, .null, .null, .int 0, .int 0]) (C := RX5) (T := TX5) (N := 7) hx hb hts in_X5 tyX5 tyX5_ok hown (hts _ q222) (hts _ q305) (hts _ q86) hK.1 hP.1 (hD.va (fun _ => rfl)) hS hA rfl (fun j hj => by rcases (show j = 0 ∨ j = 1 ∨ j = 2 ∨ j = 3 ∨ j = 4 ∨ j = 5 ∨ j = 6 by omega) with rfl | rfl | rfl | rfl | rfl | rfl | rfl <;> rfl) (Nat.le_of_ble_eq_true rfl) (Nat.le_of_ble_eq_true rfl) dX0_copy_137 (fun q13 H hR hRD hS => ?_)
      replace hR := rotP hR
      replace hRD := rotD hRD
      replace hP : XH Γ δ1 σ2 H := ⟨tailP (ex := [_]) hR, hP.2⟩
      refine lv_dup hx hb dX0_copy_140 rfl ?_
      refine lv_bipush (v := (-5)) hx hb dX0_copy_141 (by decide) ?_
      refine r_go (X := δ1.1.map (gX Γ δ1 σ2)) (va_runI (As := [.int (-5)]) (rest := [.ref q13]) ⟨hx, hb, hml, hown, hts⟩ (ct_Re H.size) (cwI 1 hts (lw_meth q315) rfl rfl rfl (hts _ q86) (hts _ q313) (hts _ q314) rfl (by decide +kernel) ⟨(Nat.le_of_ble_eq_true rfl), (Nat.le_of_ble_eq_true rfl)⟩) (r_pre hK hA hZ hR hRD hS) rfl rfl hl.1 rfl (lv_room (Nat.le_of_ble_eq_true rfl)) dX0_copy_143 ⟨(Nat.le_of_ble_eq_true rfl), (Nat.le_of_ble_eq_true rfl)⟩) hA hR hRD hS (fun ex H locs hk hR hRD hS => ?_)
      subst hk
      obtain ⟨δ14, σ15, hP, hO, hD, hN16⟩ := mkRe hR hRD hP.2 hO
      have hh17 := hN16.1.1.m hh4
      have cc18 := Ext.cl hN16.1.1 hh4 cc5
      have hh19 := hN16.1.1.m hh6
      have cc20 := Ext.cl hN16.1.1 hh6 cc7
      replace hE := hE.tr hN16.1.1
      replace hwp := hwp q13 δ14 σ15 hN16
      obtain ⟨ce, k1, k2, k3⟩ := x_cell hK hP 13 q13 hN16.2.2.1 rfl (q := (RX5, TX5, 7)) rfl
      refine vx_athrow hx hb dX0_copy_146 ?_
      refine vx_catch (E := RX5) (name := RX5) hown [⟨114, 132, 135, 164⟩] ⟨0, 148, 149, 21⟩ [] (htb.trans rfl) (fun z hz => by simp only [List.mem_cons, List.not_mem_nil, or_false] at hz; rcases hz with rfl <;> first | exact Or.inl rfl) rfl (by decide) (hts _ q222) ((hK.2.1 (.castable RX5 RX5) (by simp [nwL])).use rfl) k1 k2 k3 ?_
      refine W.eq (g2 := F0 m 149 ls [.ref q13]) rfl ?_
      refine W.widen (k := 31) (n := 6440) (Nat.le_of_ble_eq_true rfl) (Nat.le_of_ble_eq_true rfl) ?_
      exact xk_S_copy_149 hst Xc h0 _ δ14 σ15 hE hN16.2.2.1 hwp H locs ls hP hO hD hS (lv_sub hl [1] rfl)
def xw_S_copy_85 (K : Int32 → XSh → XSt → Prop) (i0 : Nat) (x3 : Int32) (x4 : Int32) (x5 : Int32) (y6 : Nat) (y7 : Nat) (δ : XSh) (σ : XSt) : Prop :=
  xw_Sh_row (fun r1 δ2 σ3 => xw_Sh_row (fun r9 δ10 σ11 => ((x5 < 0) → (xw_S_copy_109 K i0 x3 x4 x5 r1 r9 0 δ10 σ11)) ∧ ((¬ (x5 < 0)) → (xw_S_copy_109 K i0 x3 x4 x5 r1 r9 1 δ10 σ11))) (fun q23 δ20 σ21 => xw_S_copy_149 K i0 q23 δ20 σ21) y7 δ2 σ3) (fun q33 δ30 σ31 => xw_S_copy_149 K i0 q33 δ30 σ31) y6 δ σ
set_option maxHeartbeats 4000000 in
set_option maxRecDepth 100000 in
theorem xk_S_copy_85 {p : Program} {l : Launch} {e : Env} {s : State} {m : MethodId} {args : Array Value} {below : List Frame} {meth : Method} {c : Code} {Γ : GA} {δ0 : XSh} {K : Int32 → XSh → XSt → Prop} {i0 : Nat} (hst : l.stackTraces = false) (Xc : CY p s m args meth c cX0_copy 11 (some .int) RX0 Γ δ0 (tableOf [(114, 132, 135, 164), (0, 148, 149, 21)])) (h0 : (0, i0) ∈ δ0.1) : ∀ (x3 : Int32) (x4 : Int32) (x5 : Int32) (y6 : Nat) (y7 : Nat) (δ : XSh) (σ : XSt), Ext δ0 δ → (5, y6) ∈ δ.1 → (5, y7) ∈ δ.1 → xw_S_copy_85 K i0 x3 x4 x5 y6 y7 δ σ → TX p l e ({ frames := 10, cells := 31, slots := 6440, locals := 10322 } : Room) s m args below meth c 11 18 3682 (VI below (fun r u => K r u.1 u.2 ∧ Ext δ0 u.1) (fun _ _ _ => False) 31 6440 Γ δ0 s args) Γ δ0 δ σ 85 [(0, .ref i0), (3, .int x3), (4, .int x4), (5, .int x5), (6, .ref y6), (7, .ref y7)] [] := by
  obtain ⟨⟨hx, hb, hml, hown, hts, hK, hr, hlk⟩, hZ, htb⟩ := id Xc
  have hA : ∀ q, s.heap.size ≤ q → AX δ0 s.heap.size q := fun q h => Or.inr h
  intro x3 x4 x5 y6 y7 δ σ hE hy6 hy7 hwp H locs ls hP hO hD hS hl
  unfold xw_S_copy_85 at hwp
  refine lv_aload hx hb dX0_copy_85 (lv_at hl 4 rfl) ?_
  refine y_gor (vx_runVX (As := []) (rest := []) ⟨hx, hb, hml, hown, hts⟩ (xt_Sh_row hst hy6 hwp H.size) (vx_cwVW 0 hts (lw_VW q405 q406 q407 q78 q408) rfl rfl rfl (by decide +kernel) ⟨(Nat.le_of_ble_eq_true rfl), (Nat.le_of_ble_eq_true rfl)⟩) (y_preV hK hO hD hA hZ hP hS 5 y6 hy6 rfl rfl) rfl rfl hl.1 rfl (lv_room (Nat.le_of_ble_eq_true rfl)) dX0_copy_87 ⟨(Nat.le_of_ble_eq_true rfl), (Nat.le_of_ble_eq_true rfl)⟩) hD hA hS (fun E ce q33 u H locs hk hP hO hD hS k1 k2 k3 => ?_) (fun r1 u H locs hk hP hO hD hS => ?_)
  · obtain ⟨δ30, σ31⟩ := u
    obtain ⟨⟨rfl, hq33⟩, hwp, hF32⟩ := hk
    dsimp only at hP hO hD hwp hF32 hq33
    have hh34 := hF32.m hy6
    have hh36 := hF32.m hy7
    replace hE := hE.tr hF32
    refine vx_catch (E := RX5) (name := RX5) hown [⟨114, 132, 135, 164⟩] ⟨0, 148, 149, 21⟩ [] (htb.trans rfl) (fun z hz => by simp only [List.mem_cons, List.not_mem_nil, or_false] at hz; rcases hz with rfl <;> first | exact Or.inl rfl) rfl (by decide) (hts _ q222) ((hK.2.1 (.castable RX5 RX5) (by simp [nwL])).use rfl) k1 k2 k3 ?_
    refine W.eq (g2 := F0 m 149 ls [.ref q33]) rfl ?_
    refine W.widen (k := 31) (n := 6440) (Nat.le_of_ble_eq_true rfl) (Nat.le_of_ble_eq_true rfl) ?_
    exact xk_S_copy_149 hst Xc h0 _ δ30 σ31 hE hq33 hwp H locs ls hP hO hD hS (lv_sub hl [0] rfl)
  · obtain ⟨δ2, σ3⟩ := u
    obtain ⟨⟨hwp, hF4⟩, hr1, cr1⟩ := hk
    dsimp only at hP hO hD hwp hF4 hr1 cr1
    have hh5 := hF4.m hy6
    have hh7 := hF4.m hy7
    replace hE := hE.tr hF4
    refine lv_astore (lv' := [(8, .ref r1), (0, .ref i0), (3, .int x3), (4, .int x4), (5, .int x5), (6, .ref y6), (7, .ref y7)]) hx hb dX0_copy_90 hl (by decide) rfl (fun ls hl => ?_)
    refine lv_aload hx hb dX0_copy_92 (lv_at hl 6 rfl) ?_
    refine y_gor (vx_runVX (As := []) (rest := []) ⟨hx, hb, hml, hown, hts⟩ (xt_Sh_row hst hh7 hwp H.size) (vx_cwVW 0 hts (lw_VW q405 q406 q407 q78 q408) rfl rfl rfl (by decide +kernel) ⟨(Nat.le_of_ble_eq_true rfl), (Nat.le_of_ble_eq_true rfl)⟩) (y_preV hK hO hD hA hZ hP hS 5 y7 hh7 rfl rfl) rfl rfl hl.1 rfl (lv_room (Nat.le_of_ble_eq_true rfl)) dX0_copy_94 ⟨(Nat.le_of_ble_eq_true rfl), (Nat.le_of_ble_eq_true rfl)⟩) hD hA hS (fun E ce q23 u H locs hk hP hO hD hS k1 k2 k3 => ?_) (fun r9 u H locs hk hP hO hD hS => ?_)
    · obtain ⟨δ20, σ21⟩ := u
      obtain ⟨⟨rfl, hq23⟩, hwp, hF22⟩ := hk
      dsimp only at hP hO hD hwp hF22 hq23
      have hh24 := hF22.m hr1
      have cc25 := Ext.cl hF22 hr1 cr1
      have hh26 := hF22.m hh5
      have hh28 := hF22.m hh7
      replace hE := hE.tr hF22
      refine vx_catch (E := RX5) (name := RX5) hown [⟨114, 132, 135, 164⟩] ⟨0, 148, 149, 21⟩ [] (htb.trans rfl) (fun z hz => by simp only [List.mem_cons, List.not_mem_nil, or_false] at hz; rcases hz with rfl <;> first | exact Or.inl rfl) rfl (by decide) (hts _ q222) ((hK.2.1 (.castable RX5 RX5) (by simp [nwL])).use rfl) k1 k2 k3 ?_
      refine W.eq (g2 := F0 m 149 ls [.ref q23]) rfl ?_
      refine W.widen (k := 31) (n := 6440) (Nat.le_of_ble_eq_true rfl) (Nat.le_of_ble_eq_true rfl) ?_
      exact xk_S_copy_149 hst Xc h0 _ δ20 σ21 hE hq23 hwp H locs ls hP hO hD hS (lv_sub hl [1] rfl)
    · obtain ⟨δ10, σ11⟩ := u
      obtain ⟨⟨hwp, hF12⟩, hr9, cr9⟩ := hk
      dsimp only at hP hO hD hwp hF12 hr9 cr9
      have hh13 := hF12.m hr1
      have cc14 := Ext.cl hF12 hr1 cr1
      have hh15 := hF12.m hh5
      have hh17 := hF12.m hh7
      replace hE := hE.tr hF12
      refine lv_astore (lv' := [(9, .ref r9), (8, .ref r1), (0, .ref i0), (3, .int x3), (4, .int x4), (5, .int x5), (6, .ref y6), (7, .ref y7)]) hx hb dX0_copy_97 hl (by decide) rfl (fun ls hl => ?_)
      refine lv_iload hx hb dX0_copy_99 (lv_at hl 5 rfl) ?_
      refine lv_if_lt (tgt := 108) hx hb dX0_copy_101 (by decide) (fun c19 => ?_) (fun c19 => ?_)
      · replace hwp := hwp.1 c19
        refine lv_iconst (v := 0) hx hb dX0_copy_108 (by decide) ?_
        refine W.widen (k := 26) (n := 5516) (Nat.le_of_ble_eq_true rfl) (Nat.le_of_ble_eq_true rfl) ?_
        exact xk_S_copy_109 hst Xc h0 _ _ _ _ _ _ δ10 σ11 hE hh13 cc14 hr9 cr9 hwp H locs ls hP hO hD hS (lv_sub hl [2, 3, 4, 5, 1, 0] rfl)
      · replace hwp := hwp.2 c19
        refine lv_iconst (v := 1) hx hb dX0_copy_104 (by decide) ?_
        refine lv_goto (tgt := 109) hx hb dX0_copy_105 (by decide) ?_
        refine W.widen (k := 26) (n := 5516) (Nat.le_of_ble_eq_true rfl) (Nat.le_of_ble_eq_true rfl) ?_
        exact xk_S_copy_109 hst Xc h0 _ _ _ _ _ _ δ10 σ11 hE hh13 cc14 hr9 cr9 hwp H locs ls hP hO hD hS (lv_sub hl [2, 3, 4, 5, 1, 0] rfl)
def xw_S_copy_80 (K : Int32 → XSh → XSt → Prop) (i0 : Nat) (x3 : Int32) (x4 : Int32) (x5 : Int32) (y6 : Nat) (y7 : Nat) (t0 : Int32) (δ : XSh) (σ : XSt) : Prop :=
  xw_S_need (fun δ1 σ2 => xw_S_copy_85 K i0 x3 x4 x5 y6 y7 δ1 σ2) (fun q11 δ8 σ9 => xw_S_copy_149 K i0 q11 δ8 σ9) t0 (-2) δ σ
set_option maxHeartbeats 4000000 in
set_option maxRecDepth 100000 in
theorem xk_S_copy_80 {p : Program} {l : Launch} {e : Env} {s : State} {m : MethodId} {args : Array Value} {below : List Frame} {meth : Method} {c : Code} {Γ : GA} {δ0 : XSh} {K : Int32 → XSh → XSt → Prop} {i0 : Nat} (hst : l.stackTraces = false) (Xc : CY p s m args meth c cX0_copy 11 (some .int) RX0 Γ δ0 (tableOf [(114, 132, 135, 164), (0, 148, 149, 21)])) (h0 : (0, i0) ∈ δ0.1) : ∀ (x3 : Int32) (x4 : Int32) (x5 : Int32) (y6 : Nat) (y7 : Nat) (t0 : Int32) (δ : XSh) (σ : XSt), Ext δ0 δ → (5, y6) ∈ δ.1 → (5, y7) ∈ δ.1 → xw_S_copy_80 K i0 x3 x4 x5 y6 y7 t0 δ σ → TX p l e ({ frames := 10, cells := 31, slots := 6440, locals := 10322 } : Room) s m args below meth c 11 17 3675 (VI below (fun r u => K r u.1 u.2 ∧ Ext δ0 u.1) (fun _ _ _ => False) 31 6440 Γ δ0 s args) Γ δ0 δ σ 80 [(0, .ref i0), (3, .int x3), (4, .int x4), (5, .int x5), (6, .ref y6), (7, .ref y7)] [.int t0] := by
  obtain ⟨⟨hx, hb, hml, hown, hts, hK, hr, hlk⟩, hZ, htb⟩ := id Xc
  have hA : ∀ q, s.heap.size ≤ q → AX δ0 s.heap.size q := fun q h => Or.inr h
  intro x3 x4 x5 y6 y7 t0 δ σ hE hy6 hy7 hwp H locs ls hP hO hD hS hl
  unfold xw_S_copy_80 at hwp
  refine lv_bipush (v := (-2)) hx hb dX0_copy_80 (by decide) ?_
  refine y_gov (vx_runS (As := [.int t0, .int (-2)]) (rest := []) ⟨hx, hb, hml, hown, hts⟩ (xt_S_need hst hwp H.size) (va_cwS 2 hts (lw_S q328 q329 q75 q330) rfl rfl rfl (by decide +kernel) ⟨(Nat.le_of_ble_eq_true rfl), (Nat.le_of_ble_eq_true rfl)⟩) (y_preS hK hO hD hA hZ hP hS) rfl rfl hl.1 rfl (lv_room (Nat.le_of_ble_eq_true rfl)) dX0_copy_82 ⟨(Nat.le_of_ble_eq_true rfl), (Nat.le_of_ble_eq_true rfl)⟩) hD hA hS (fun E ce q11 u H locs hk hP hO hD hS k1 k2 k3 => ?_) (fun u H locs hk hP hO hD hS => ?_)
  · obtain ⟨δ8, σ9⟩ := u
    obtain ⟨⟨rfl, hq11⟩, hwp, hF10⟩ := hk
    dsimp only at hP hO hD hwp hF10 hq11
    have hh12 := hF10.m hy6
    have hh14 := hF10.m hy7
    replace hE := hE.tr hF10
    refine vx_catch (E := RX5) (name := RX5) hown [⟨114, 132, 135, 164⟩] ⟨0, 148, 149, 21⟩ [] (htb.trans rfl) (fun z hz => by simp only [List.mem_cons, List.not_mem_nil, or_false] at hz; rcases hz with rfl <;> first | exact Or.inl rfl) rfl (by decide) (hts _ q222) ((hK.2.1 (.castable RX5 RX5) (by simp [nwL])).use rfl) k1 k2 k3 ?_
    refine W.eq (g2 := F0 m 149 ls [.ref q11]) rfl ?_
    refine W.widen (k := 31) (n := 6440) (Nat.le_of_ble_eq_true rfl) (Nat.le_of_ble_eq_true rfl) ?_
    exact xk_S_copy_149 hst Xc h0 _ δ8 σ9 hE hq11 hwp H locs ls hP hO hD hS (lv_sub hl [0] rfl)
  · obtain ⟨δ1, σ2⟩ := u
    obtain ⟨hwp, hF3⟩ := hk
    dsimp only at hP hO hD hwp hF3
    have hh4 := hF3.m hy6
    have hh6 := hF3.m hy7
    replace hE := hE.tr hF3
    refine W.widen (k := 18) (n := 3682) (Nat.le_of_ble_eq_true rfl) (Nat.le_of_ble_eq_true rfl) ?_
    exact xk_S_copy_85 hst Xc h0 _ _ _ _ _ δ1 σ2 hE hh4 hh6 hwp H locs ls hP hO hD hS (lv_sub hl [0, 1, 2, 3, 4, 5] rfl)
def xw_S_copy_35 (K : Int32 → XSh → XSt → Prop) (i0 : Nat) (x3 : Int32) (x4 : Int32) (x5 : Int32) (y6 : Nat) (y7 : Nat) (t0 : Int32) (δ : XSh) (σ : XSt) : Prop :=
  xw_S_need (fun δ1 σ2 => (σ2.2.2 5 y6 0 = none → (xw_S_copy_85 K i0 x3 x4 x5 y6 y7 δ1 σ2)) ∧ (∀ o8, σ2.2.2 5 y6 0 = some o8 → ((σ2.2.2 5 y7 0 = none → (xw_S_copy_85 K i0 x3 x4 x5 y6 y7 δ1 σ2)) ∧ (∀ o9, σ2.2.2 5 y7 0 = some o9 → (xw_Sh_row (fun r10 δ11 σ12 => xv_R_sort δ11 σ12 (fun r18 => xw_Sh_row (fun r19 δ20 σ21 => xv_R_sort δ20 σ21 (fun r27 => ((¬ (r18 = r27)) → (xw_S_copy_80 K i0 x3 x4 x5 y6 y7 0 δ20 σ21)) ∧ ((r18 = r27) → (xw_S_copy_80 K i0 x3 x4 x5 y6 y7 1 δ20 σ21))) r19) (fun q32 δ29 σ30 => xw_S_copy_149 K i0 q32 δ29 σ30) y7 δ11 σ12) r10) (fun q40 δ37 σ38 => xw_S_copy_149 K i0 q40 δ37 σ38) y6 δ1 σ2))))) (fun q48 δ45 σ46 => xw_S_copy_149 K i0 q48 δ45 σ46) t0 (-2) δ σ
set_option maxHeartbeats 4000000 in
set_option maxRecDepth 100000 in
theorem xk_S_copy_35 {p : Program} {l : Launch} {e : Env} {s : State} {m : MethodId} {args : Array Value} {below : List Frame} {meth : Method} {c : Code} {Γ : GA} {δ0 : XSh} {K : Int32 → XSh → XSt → Prop} {i0 : Nat} (hst : l.stackTraces = false) (Xc : CY p s m args meth c cX0_copy 11 (some .int) RX0 Γ δ0 (tableOf [(114, 132, 135, 164), (0, 148, 149, 21)])) (h0 : (0, i0) ∈ δ0.1) : ∀ (x3 : Int32) (x4 : Int32) (x5 : Int32) (y6 : Nat) (y7 : Nat) (t0 : Int32) (δ : XSh) (σ : XSt), Ext δ0 δ → (5, y6) ∈ δ.1 → (5, y7) ∈ δ.1 → xw_S_copy_35 K i0 x3 x4 x5 y6 y7 t0 δ σ → TX p l e ({ frames := 10, cells := 31, slots := 6440, locals := 10322 } : Room) s m args below meth c 11 8 1834 (VI below (fun r u => K r u.1 u.2 ∧ Ext δ0 u.1) (fun _ _ _ => False) 31 6440 Γ δ0 s args) Γ δ0 δ σ 35 [(0, .ref i0), (3, .int x3), (4, .int x4), (5, .int x5), (6, .ref y6), (7, .ref y7)] [.int t0] := by
  obtain ⟨⟨hx, hb, hml, hown, hts, hK, hr, hlk⟩, hZ, htb⟩ := id Xc
  have hA : ∀ q, s.heap.size ≤ q → AX δ0 s.heap.size q := fun q h => Or.inr h
  intro x3 x4 x5 y6 y7 t0 δ σ hE hy6 hy7 hwp H locs ls hP hO hD hS hl
  unfold xw_S_copy_35 at hwp
  refine lv_bipush (v := (-2)) hx hb dX0_copy_35 (by decide) ?_
  refine y_gov (vx_runS (As := [.int t0, .int (-2)]) (rest := []) ⟨hx, hb, hml, hown, hts⟩ (xt_S_need hst hwp H.size) (va_cwS 2 hts (lw_S q328 q329 q75 q330) rfl rfl rfl (by decide +kernel) ⟨(Nat.le_of_ble_eq_true rfl), (Nat.le_of_ble_eq_true rfl)⟩) (y_preS hK hO hD hA hZ hP hS) rfl rfl hl.1 rfl (lv_room (Nat.le_of_ble_eq_true rfl)) dX0_copy_37 ⟨(Nat.le_of_ble_eq_true rfl), (Nat.le_of_ble_eq_true rfl)⟩) hD hA hS (fun E ce q48 u H locs hk hP hO hD hS k1 k2 k3 => ?_) (fun u H locs hk hP hO hD hS => ?_)
  · obtain ⟨δ45, σ46⟩ := u
    obtain ⟨⟨rfl, hq48⟩, hwp, hF47⟩ := hk
    dsimp only at hP hO hD hwp hF47 hq48
    have hh49 := hF47.m hy6
    have hh51 := hF47.m hy7
    replace hE := hE.tr hF47
    refine vx_catch (E := RX5) (name := RX5) hown [⟨114, 132, 135, 164⟩] ⟨0, 148, 149, 21⟩ [] (htb.trans rfl) (fun z hz => by simp only [List.mem_cons, List.not_mem_nil, or_false] at hz; rcases hz with rfl <;> first | exact Or.inl rfl) rfl (by decide) (hts _ q222) ((hK.2.1 (.castable RX5 RX5) (by simp [nwL])).use rfl) k1 k2 k3 ?_
    refine W.eq (g2 := F0 m 149 ls [.ref q48]) rfl ?_
    refine W.widen (k := 31) (n := 6440) (Nat.le_of_ble_eq_true rfl) (Nat.le_of_ble_eq_true rfl) ?_
    exact xk_S_copy_149 hst Xc h0 _ δ45 σ46 hE hq48 hwp H locs ls hP hO hD hS (lv_sub hl [0] rfl)
  · obtain ⟨δ1, σ2⟩ := u
    obtain ⟨hwp, hF3⟩ := hk
    dsimp only at hP hO hD hwp hF3
    have hh4 := hF3.m hy6
    have hh6 := hF3.m hy7
    replace hE := hE.tr hF3
    refine lv_aload hx hb dX0_copy_40 (lv_at hl 4 rfl) ?_
    rcases o_cases (σ2.2.2 5 y6 0) with eo8 | ⟨o8, eo8⟩
    · replace hwp := hwp.1 eo8
      refine x_getN hx hb hts hown hK hP 5 y6 hh4 rfl rfl in_X3 0 (by decide) q192 rfl rfl eo8 dX0_copy_42 ?_
      refine lv_ifnullN (tgt := 85) hx hb dX0_copy_45 (by decide) ?_
      refine W.widen (k := 18) (n := 3682) (Nat.le_of_ble_eq_true rfl) (Nat.le_of_ble_eq_true rfl) ?_
      exact xk_S_copy_85 hst Xc h0 _ _ _ _ _ δ1 σ2 hE hh4 hh6 hwp H locs ls hP hO hD hS (lv_sub hl [0, 1, 2, 3, 4, 5] rfl)
    · replace hwp := hwp.2 o8 eo8
      refine x_getr hx hb hts hown hK hP 5 y6 hh4 rfl rfl in_X3 0 (by decide) q192 rfl rfl eo8 dX0_copy_42 (fun ho8 co8 => ?_)
      refine lv_ifnull hx hb dX0_copy_45 ?_
      refine lv_aload hx hb dX0_copy_48 (lv_at hl 5 rfl) ?_
      rcases o_cases (σ2.2.2 5 y7 0) with eo9 | ⟨o9, eo9⟩
      · replace hwp := hwp.1 eo9
        refine x_getN hx hb hts hown hK hP 5 y7 hh6 rfl rfl in_X3 0 (by decide) q192 rfl rfl eo9 dX0_copy_50 ?_
        refine lv_ifnullN (tgt := 85) hx hb dX0_copy_53 (by decide) ?_
        refine W.widen (k := 18) (n := 3682) (Nat.le_of_ble_eq_true rfl) (Nat.le_of_ble_eq_true rfl) ?_
        exact xk_S_copy_85 hst Xc h0 _ _ _ _ _ δ1 σ2 hE hh4 hh6 hwp H locs ls hP hO hD hS (lv_sub hl [0, 1, 2, 3, 4, 5] rfl)
      · replace hwp := hwp.2 o9 eo9
        refine x_getr hx hb hts hown hK hP 5 y7 hh6 rfl rfl in_X3 0 (by decide) q192 rfl rfl eo9 dX0_copy_50 (fun ho9 co9 => ?_)
        refine lv_ifnull hx hb dX0_copy_53 ?_
        refine lv_aload hx hb dX0_copy_56 (lv_at hl 4 rfl) ?_
        refine y_gor (vx_runVX (As := []) (rest := []) ⟨hx, hb, hml, hown, hts⟩ (xt_Sh_row hst hh4 hwp H.size) (vx_cwVW 0 hts (lw_VW q405 q406 q407 q78 q408) rfl rfl rfl (by decide +kernel) ⟨(Nat.le_of_ble_eq_true rfl), (Nat.le_of_ble_eq_true rfl)⟩) (y_preV hK hO hD hA hZ hP hS 5 y6 hh4 rfl rfl) rfl rfl hl.1 rfl (lv_room (Nat.le_of_ble_eq_true rfl)) dX0_copy_58 ⟨(Nat.le_of_ble_eq_true rfl), (Nat.le_of_ble_eq_true rfl)⟩) hD hA hS (fun E ce q40 u H locs hk hP hO hD hS k1 k2 k3 => ?_) (fun r10 u H locs hk hP hO hD hS => ?_)
        · obtain ⟨δ37, σ38⟩ := u
          obtain ⟨⟨rfl, hq40⟩, hwp, hF39⟩ := hk
          dsimp only at hP hO hD hwp hF39 hq40
          have hh41 := hF39.m hh4
          have hh43 := hF39.m hh6
          replace hE := hE.tr hF39
          refine vx_catch (E := RX5) (name := RX5) hown [⟨114, 132, 135, 164⟩] ⟨0, 148, 149, 21⟩ [] (htb.trans rfl) (fun z hz => by simp only [List.mem_cons, List.not_mem_nil, or_false] at hz; rcases hz with rfl <;> first | exact Or.inl rfl) rfl (by decide) (hts _ q222) ((hK.2.1 (.castable RX5 RX5) (by simp [nwL])).use rfl) k1 k2 k3 ?_
          refine W.eq (g2 := F0 m 149 ls [.ref q40]) rfl ?_
          refine W.widen (k := 31) (n := 6440) (Nat.le_of_ble_eq_true rfl) (Nat.le_of_ble_eq_true rfl) ?_
          exact xk_S_copy_149 hst Xc h0 _ δ37 σ38 hE hq40 hwp H locs ls hP hO hD hS (lv_sub hl [0] rfl)
        · obtain ⟨δ11, σ12⟩ := u
          obtain ⟨⟨hwp, hF13⟩, hr10, cr10⟩ := hk
          dsimp only at hP hO hD hwp hF13 hr10 cr10
          have hh14 := hF13.m hh4
          have hh16 := hF13.m hh6
          replace hE := hE.tr hF13
          refine x_goi (xr_R_sort (As := []) (rest := []) ⟨hx, hb, hml, hown, hts⟩ hK hD hO hP hr10 cr10 hwp q452 ⟨(Nat.le_of_ble_eq_true rfl), (Nat.le_of_ble_eq_true rfl)⟩ rfl hl.1 rfl (Nat.le_of_ble_eq_true rfl) dX0_copy_61 ⟨(Nat.le_of_ble_eq_true rfl), (Nat.le_of_ble_eq_true rfl)⟩) hD hA hS (fun r18 u H locs hk hP hO hD hS => ?_)
          obtain ⟨hwp, eu⟩ := hk
          subst eu
          dsimp only at hP hO hD
          refine lv_aload hx hb dX0_copy_64 (lv_at hl 5 rfl) ?_
          refine y_gor (vx_runVX (As := []) (rest := [.int r18]) ⟨hx, hb, hml, hown, hts⟩ (xt_Sh_row hst hh16 hwp H.size) (vx_cwVW 0 hts (lw_VW q405 q406 q407 q78 q408) rfl rfl rfl (by decide +kernel) ⟨(Nat.le_of_ble_eq_true rfl), (Nat.le_of_ble_eq_true rfl)⟩) (y_preV hK hO hD hA hZ hP hS 5 y7 hh16 rfl rfl) rfl rfl hl.1 rfl (lv_room (Nat.le_of_ble_eq_true rfl)) dX0_copy_66 ⟨(Nat.le_of_ble_eq_true rfl), (Nat.le_of_ble_eq_true rfl)⟩) hD hA hS (fun E ce q32 u H locs hk hP hO hD hS k1 k2 k3 => ?_) (fun r19 u H locs hk hP hO hD hS => ?_)
          · obtain ⟨δ29, σ30⟩ := u
            obtain ⟨⟨rfl, hq32⟩, hwp, hF31⟩ := hk
            dsimp only at hP hO hD hwp hF31 hq32
            have hh33 := hF31.m hh14
            have hh35 := hF31.m hh16
            replace hE := hE.tr hF31
            refine vx_catch (E := RX5) (name := RX5) hown [⟨114, 132, 135, 164⟩] ⟨0, 148, 149, 21⟩ [] (htb.trans rfl) (fun z hz => by simp only [List.mem_cons, List.not_mem_nil, or_false] at hz; rcases hz with rfl <;> first | exact Or.inl rfl) rfl (by decide) (hts _ q222) ((hK.2.1 (.castable RX5 RX5) (by simp [nwL])).use rfl) k1 k2 k3 ?_
            refine W.eq (g2 := F0 m 149 ls [.ref q32]) rfl ?_
            refine W.widen (k := 31) (n := 6440) (Nat.le_of_ble_eq_true rfl) (Nat.le_of_ble_eq_true rfl) ?_
            exact xk_S_copy_149 hst Xc h0 _ δ29 σ30 hE hq32 hwp H locs ls hP hO hD hS (lv_sub hl [0] rfl)
          · obtain ⟨δ20, σ21⟩ := u
            obtain ⟨⟨hwp, hF22⟩, hr19, cr19⟩ := hk
            dsimp only at hP hO hD hwp hF22 hr19 cr19
            have hh23 := hF22.m hh14
            have hh25 := hF22.m hh16
            replace hE := hE.tr hF22
            refine x_goi (xr_R_sort (As := []) (rest := [.int r18]) ⟨hx, hb, hml, hown, hts⟩ hK hD hO hP hr19 cr19 hwp q452 ⟨(Nat.le_of_ble_eq_true rfl), (Nat.le_of_ble_eq_true rfl)⟩ rfl hl.1 rfl (Nat.le_of_ble_eq_true rfl) dX0_copy_69 ⟨(Nat.le_of_ble_eq_true rfl), (Nat.le_of_ble_eq_true rfl)⟩) hD hA hS (fun r27 u H locs hk hP hO hD hS => ?_)
            obtain ⟨hwp, eu⟩ := hk
            subst eu
            dsimp only at hP hO hD
            refine lv_icmp_ne (tgt := 79) hx hb dX0_copy_72 (by decide) (fun c28 => ?_) (fun c28 => ?_)
            · replace hwp := hwp.1 c28
              refine lv_iconst (v := 0) hx hb dX0_copy_79 (by decide) ?_
              refine W.widen (k := 17) (n := 3675) (Nat.le_of_ble_eq_true rfl) (Nat.le_of_ble_eq_true rfl) ?_
              exact xk_S_copy_80 hst Xc h0 _ _ _ _ _ _ δ20 σ21 hE hh23 hh25 hwp H locs ls hP hO hD hS (lv_sub hl [0, 1, 2, 3, 4, 5] rfl)
            · replace hwp := hwp.2 c28
              refine lv_iconst (v := 1) hx hb dX0_copy_75 (by decide) ?_
              refine lv_goto (tgt := 80) hx hb dX0_copy_76 (by decide) ?_
              refine W.widen (k := 17) (n := 3675) (Nat.le_of_ble_eq_true rfl) (Nat.le_of_ble_eq_true rfl) ?_
              exact xk_S_copy_80 hst Xc h0 _ _ _ _ _ _ δ20 σ21 hE hh23 hh25 hwp H locs ls hP hO hD hS (lv_sub hl [0, 1, 2, 3, 4, 5] rfl)
def xw_S_copy_34 (K : Int32 → XSh → XSt → Prop) (i0 : Nat) (x3 : Int32) (x4 : Int32) (x5 : Int32) (y6 : Nat) (y7 : Nat) (δ : XSh) (σ : XSt) : Prop :=
  xw_S_copy_35 K i0 x3 x4 x5 y6 y7 0 δ σ
set_option maxHeartbeats 4000000 in
set_option maxRecDepth 100000 in
theorem xk_S_copy_34 {p : Program} {l : Launch} {e : Env} {s : State} {m : MethodId} {args : Array Value} {below : List Frame} {meth : Method} {c : Code} {Γ : GA} {δ0 : XSh} {K : Int32 → XSh → XSt → Prop} {i0 : Nat} (hst : l.stackTraces = false) (Xc : CY p s m args meth c cX0_copy 11 (some .int) RX0 Γ δ0 (tableOf [(114, 132, 135, 164), (0, 148, 149, 21)])) (h0 : (0, i0) ∈ δ0.1) : ∀ (x3 : Int32) (x4 : Int32) (x5 : Int32) (y6 : Nat) (y7 : Nat) (δ : XSh) (σ : XSt), Ext δ0 δ → (5, y6) ∈ δ.1 → (5, y7) ∈ δ.1 → xw_S_copy_34 K i0 x3 x4 x5 y6 y7 δ σ → TX p l e ({ frames := 10, cells := 31, slots := 6440, locals := 10322 } : Room) s m args below meth c 11 8 1834 (VI below (fun r u => K r u.1 u.2 ∧ Ext δ0 u.1) (fun _ _ _ => False) 31 6440 Γ δ0 s args) Γ δ0 δ σ 34 [(0, .ref i0), (3, .int x3), (4, .int x4), (5, .int x5), (6, .ref y6), (7, .ref y7)] [] := by
  obtain ⟨⟨hx, hb, hml, hown, hts, hK, hr, hlk⟩, hZ, htb⟩ := id Xc
  have hA : ∀ q, s.heap.size ≤ q → AX δ0 s.heap.size q := fun q h => Or.inr h
  intro x3 x4 x5 y6 y7 δ σ hE hy6 hy7 hwp H locs ls hP hO hD hS hl
  unfold xw_S_copy_34 at hwp
  refine lv_iconst (v := 0) hx hb dX0_copy_34 (by decide) ?_
  refine W.widen (k := 8) (n := 1834) (Nat.le_of_ble_eq_true rfl) (Nat.le_of_ble_eq_true rfl) ?_
  exact xk_S_copy_35 hst Xc h0 _ _ _ _ _ _ δ σ hE hy6 hy7 hwp H locs ls hP hO hD hS (lv_sub hl [0, 1, 2, 3, 4, 5] rfl)
def xw_S_copy (K : Int32 → XSh → XSt → Prop) (i0 : Nat) (x1 : Int32) (x2 : Int32) (x3 : Int32) (x4 : Int32) (x5 : Int32) (δ : XSh) (σ : XSt) : Prop :=
  xw_S_shelf (fun r1 δ2 σ3 => xw_S_shelf (fun r5 δ6 σ7 => xw_Sh_holdsThing δ6 σ7 (fun r11 => ((¬ (r11 = 0)) → (xw_S_copy_34 K i0 x3 x4 x5 r1 r5 δ6 σ7)) ∧ ((r11 = 0) → (xw_Sh_holdsThing δ6 σ7 (fun r13 => ((¬ (r13 = 0)) → (xw_S_copy_34 K i0 x3 x4 x5 r1 r5 δ6 σ7)) ∧ ((r13 = 0) → (xw_S_copy_35 K i0 x3 x4 x5 r1 r5 1 δ6 σ7))) r5))) r1) (fun q18 δ15 σ16 => xw_S_copy_149 K i0 q18 δ15 σ16) i0 x2 δ2 σ3) (fun q24 δ21 σ22 => xw_S_copy_149 K i0 q24 δ21 σ22) i0 x1 δ σ
set_option maxHeartbeats 4000000 in
set_option maxRecDepth 100000 in
theorem xk_S_copy_e {p : Program} {l : Launch} {e : Env} {s : State} {m : MethodId} {args : Array Value} {below : List Frame} {meth : Method} {c : Code} {Γ : GA} {δ0 : XSh} {K : Int32 → XSh → XSt → Prop} {i0 : Nat} (hst : l.stackTraces = false) (Xc : CY p s m args meth c cX0_copy 11 (some .int) RX0 Γ δ0 (tableOf [(114, 132, 135, 164), (0, 148, 149, 21)])) (h0 : (0, i0) ∈ δ0.1) {x1 : Int32} {x2 : Int32} {x3 : Int32} {x4 : Int32} {x5 : Int32} : ∀ (δ : XSh) (σ : XSt), Ext δ0 δ → xw_S_copy K i0 x1 x2 x3 x4 x5 δ σ → TX p l e ({ frames := 10, cells := 31, slots := 6440, locals := 10322 } : Room) s m args below meth c 11 0 0 (VI below (fun r u => K r u.1 u.2 ∧ Ext δ0 u.1) (fun _ _ _ => False) 31 6440 Γ δ0 s args) Γ δ0 δ σ 0 [(0, .ref i0), (1, .int x1), (2, .int x2), (3, .int x3), (4, .int x4), (5, .int x5)] [] := by
  obtain ⟨⟨hx, hb, hml, hown, hts, hK, hr, hlk⟩, hZ, htb⟩ := id Xc
  have hA : ∀ q, s.heap.size ≤ q → AX δ0 s.heap.size q := fun q h => Or.inr h
  intro δ σ hE hwp H locs ls hP hO hD hS hl
  unfold xw_S_copy at hwp
  refine lv_aload_n hx hb dX0_copy_0 rfl (lv_at hl 0 rfl) ?_
  refine lv_iload_n hx hb dX0_copy_1 rfl (lv_at hl 1 rfl) ?_
  refine y_gor (vx_runVX (As := [.int x1]) (rest := []) ⟨hx, hb, hml, hown, hts⟩ (xt_S_shelf hst (hE.m h0) hwp H.size) (vx_cwVW 1 hts (lw_VW q223 q225 qs0 q75 q226) rfl rfl rfl (by decide +kernel) ⟨(Nat.le_of_ble_eq_true rfl), (Nat.le_of_ble_eq_true rfl)⟩) (y_preV hK hO hD hA hZ hP hS 0 i0 (hE.m h0) rfl rfl) rfl rfl hl.1 rfl (lv_room (Nat.le_of_ble_eq_true rfl)) dX0_copy_2 ⟨(Nat.le_of_ble_eq_true rfl), (Nat.le_of_ble_eq_true rfl)⟩) hD hA hS (fun E ce q24 u H locs hk hP hO hD hS k1 k2 k3 => ?_) (fun r1 u H locs hk hP hO hD hS => ?_)
  · obtain ⟨δ21, σ22⟩ := u
    obtain ⟨⟨rfl, hq24⟩, hwp, hF23⟩ := hk
    dsimp only at hP hO hD hwp hF23 hq24
    replace hE := hE.tr hF23
    refine vx_catch (E := RX5) (name := RX5) hown [⟨114, 132, 135, 164⟩] ⟨0, 148, 149, 21⟩ [] (htb.trans rfl) (fun z hz => by simp only [List.mem_cons, List.not_mem_nil, or_false] at hz; rcases hz with rfl <;> first | exact Or.inl rfl) rfl (by decide) (hts _ q222) ((hK.2.1 (.castable RX5 RX5) (by simp [nwL])).use rfl) k1 k2 k3 ?_
    refine W.eq (g2 := F0 m 149 ls [.ref q24]) rfl ?_
    refine W.widen (k := 31) (n := 6440) (Nat.le_of_ble_eq_true rfl) (Nat.le_of_ble_eq_true rfl) ?_
    exact xk_S_copy_149 hst Xc h0 _ δ21 σ22 hE hq24 hwp H locs ls hP hO hD hS (lv_sub hl [0] rfl)
  · obtain ⟨δ2, σ3⟩ := u
    obtain ⟨⟨hwp, hF4⟩, hr1, cr1⟩ := hk
    dsimp only at hP hO hD hwp hF4 hr1 cr1
    replace hE := hE.tr hF4
    refine lv_astore (lv' := [(6, .ref r1), (0, .ref i0), (1, .int x1), (2, .int x2), (3, .int x3), (4, .int x4), (5, .int x5)]) hx hb dX0_copy_5 hl (by decide) rfl (fun ls hl => ?_)
    refine lv_aload_n hx hb dX0_copy_7 rfl (lv_at hl 1 rfl) ?_
    refine lv_iload_n hx hb dX0_copy_8 rfl (lv_at hl 3 rfl) ?_
    refine y_gor (vx_runVX (As := [.int x2]) (rest := []) ⟨hx, hb, hml, hown, hts⟩ (xt_S_shelf hst (hE.m h0) hwp H.size) (vx_cwVW 1 hts (lw_VW q223 q225 qs0 q75 q226) rfl rfl rfl (by decide +kernel) ⟨(Nat.le_of_ble_eq_true rfl), (Nat.le_of_ble_eq_true rfl)⟩) (y_preV hK hO hD hA hZ hP hS 0 i0 (hE.m h0) rfl rfl) rfl rfl hl.1 rfl (lv_room (Nat.le_of_ble_eq_true rfl)) dX0_copy_9 ⟨(Nat.le_of_ble_eq_true rfl), (Nat.le_of_ble_eq_true rfl)⟩) hD hA hS (fun E ce q18 u H locs hk hP hO hD hS k1 k2 k3 => ?_) (fun r5 u H locs hk hP hO hD hS => ?_)
    · obtain ⟨δ15, σ16⟩ := u
      obtain ⟨⟨rfl, hq18⟩, hwp, hF17⟩ := hk
      dsimp only at hP hO hD hwp hF17 hq18
      have hh19 := hF17.m hr1
      replace hE := hE.tr hF17
      refine vx_catch (E := RX5) (name := RX5) hown [⟨114, 132, 135, 164⟩] ⟨0, 148, 149, 21⟩ [] (htb.trans rfl) (fun z hz => by simp only [List.mem_cons, List.not_mem_nil, or_false] at hz; rcases hz with rfl <;> first | exact Or.inl rfl) rfl (by decide) (hts _ q222) ((hK.2.1 (.castable RX5 RX5) (by simp [nwL])).use rfl) k1 k2 k3 ?_
      refine W.eq (g2 := F0 m 149 ls [.ref q18]) rfl ?_
      refine W.widen (k := 31) (n := 6440) (Nat.le_of_ble_eq_true rfl) (Nat.le_of_ble_eq_true rfl) ?_
      exact xk_S_copy_149 hst Xc h0 _ δ15 σ16 hE hq18 hwp H locs ls hP hO hD hS (lv_sub hl [1] rfl)
    · obtain ⟨δ6, σ7⟩ := u
      obtain ⟨⟨hwp, hF8⟩, hr5, cr5⟩ := hk
      dsimp only at hP hO hD hwp hF8 hr5 cr5
      have hh9 := hF8.m hr1
      replace hE := hE.tr hF8
      refine lv_astore (lv' := [(7, .ref r5), (6, .ref r1), (0, .ref i0), (1, .int x1), (2, .int x2), (3, .int x3), (4, .int x4), (5, .int x5)]) hx hb dX0_copy_12 hl (by decide) rfl (fun ls hl => ?_)
      refine lv_aload hx hb dX0_copy_14 (lv_at hl 1 rfl) ?_
      refine x_goi (va_runV (As := []) (rest := []) ⟨hx, hb, hml, hown, hts⟩ (xt_Sh_holdsThing hh9 hwp H.size) (cwV 0 hts (lw_V q447 q448 q449 q78 q450) rfl rfl rfl (by decide +kernel) ⟨Nat.le_of_ble_eq_true rfl, Nat.le_of_ble_eq_true rfl⟩) (x_preV hK hO hD hP 5 r1 hh9 rfl rfl) rfl rfl hl.1 rfl (lv_room (Nat.le_of_ble_eq_true rfl)) dX0_copy_16 ⟨(Nat.le_of_ble_eq_true rfl), (Nat.le_of_ble_eq_true rfl)⟩) hD hA hS (fun r11 u H locs hk hP hO hD hS => ?_)
      obtain ⟨hwp, eu⟩ := hk
      subst eu
      dsimp only at hP hO hD
      refine lv_if_ne (tgt := 34) hx hb dX0_copy_19 (by decide) (fun c12 => ?_) (fun c12 => ?_)
      · replace hwp := hwp.1 c12
        refine W.widen (k := 8) (n := 1834) (Nat.le_of_ble_eq_true rfl) (Nat.le_of_ble_eq_true rfl) ?_
        exact xk_S_copy_34 hst Xc h0 _ _ _ _ _ δ6 σ7 hE hh9 hr5 hwp H locs ls hP hO hD hS (lv_sub hl [2, 5, 6, 7, 1, 0] rfl)
      · replace hwp := hwp.2 c12
        refine lv_aload hx hb dX0_copy_22 (lv_at hl 0 rfl) ?_
        refine x_goi (va_runV (As := []) (rest := []) ⟨hx, hb, hml, hown, hts⟩ (xt_Sh_holdsThing hr5 hwp H.size) (cwV 0 hts (lw_V q447 q448 q449 q78 q450) rfl rfl rfl (by decide +kernel) ⟨Nat.le_of_ble_eq_true rfl, Nat.le_of_ble_eq_true rfl⟩) (x_preV hK hO hD hP 5 r5 hr5 rfl rfl) rfl rfl hl.1 rfl (lv_room (Nat.le_of_ble_eq_true rfl)) dX0_copy_24 ⟨(Nat.le_of_ble_eq_true rfl), (Nat.le_of_ble_eq_true rfl)⟩) hD hA hS (fun r13 u H locs hk hP hO hD hS => ?_)
        obtain ⟨hwp, eu⟩ := hk
        subst eu
        dsimp only at hP hO hD
        refine lv_if_ne (tgt := 34) hx hb dX0_copy_27 (by decide) (fun c14 => ?_) (fun c14 => ?_)
        · replace hwp := hwp.1 c14
          refine W.widen (k := 8) (n := 1834) (Nat.le_of_ble_eq_true rfl) (Nat.le_of_ble_eq_true rfl) ?_
          exact xk_S_copy_34 hst Xc h0 _ _ _ _ _ δ6 σ7 hE hh9 hr5 hwp H locs ls hP hO hD hS (lv_sub hl [2, 5, 6, 7, 1, 0] rfl)
        · replace hwp := hwp.2 c14
          refine lv_iconst (v := 1) hx hb dX0_copy_30 (by decide) ?_
          refine lv_goto (tgt := 35) hx hb dX0_copy_31 (by decide) ?_
          refine W.widen (k := 8) (n := 1834) (Nat.le_of_ble_eq_true rfl) (Nat.le_of_ble_eq_true rfl) ?_
          exact xk_S_copy_35 hst Xc h0 _ _ _ _ _ _ δ6 σ7 hE hh9 hr5 hwp H locs ls hP hO hD hS (lv_sub hl [2, 5, 6, 7, 1, 0] rfl)
set_option maxHeartbeats 4000000 in
set_option maxRecDepth 100000 in
theorem xt_S_copy {l : Launch} (hst : l.stackTraces = false) {Γ : GA} {δ0 : XSh} {σ : XSt} {K : Int32 → XSh → XSt → Prop} {i0 : Nat} (h0 : (0, i0) ∈ δ0.1) {x1 : Int32} {x2 : Int32} {x3 : Int32} {x4 : Int32} {x5 : Int32} (hwp : xw_S_copy K i0 x1 x2 x3 x4 x5 δ0 σ) : yI l yX0_copy (wsW_ yX0_copy cX0_copy 11 (some .int) [(114, 132, 135, 164), (0, 148, 149, 21)]) ({ frames := 10, cells := 31, slots := 6440, locals := 10322 } : Room) 31 6440 Γ δ0 [.ref i0, .int x1, .int x2, .int x3, .int x4, .int x5] σ (fun r u => K r u.1 u.2 ∧ Ext δ0 u.1) (fun _ _ _ => False) := by
  intro sz
  refine yW_of (by decide) [(0, .ref i0), (1, .int x1), (2, .int x2), (3, .int x3), (4, .int x4), (5, .int x5)] (fun _ h => h) (Nat.le_of_ble_eq_true rfl) ?_
  intro p e s m args below meth c hsz Xc
  subst hsz
  exact xk_S_copy_e hst Xc h0 δ0 σ Ext.rf hwp
