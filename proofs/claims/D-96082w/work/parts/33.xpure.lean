/-! Sh_holdsThing -/
def xw_Sh_holdsThing (δ : XSh) (σ : XSt) (K : Int32 → Prop) (i0 : Nat) : Prop :=
  (σ.2.2 5 i0 0 = none → (K 0)) ∧ (∀ o1, σ.2.2 5 i0 0 = some o1 → (((δ.2.2.1 o1 ∈ [5, 6, 7, 8, 9, 10, 11]) → (K 1)) ∧ ((¬ δ.2.2.1 o1 ∈ [5, 6, 7, 8, 9, 10, 11]) → (K 0))))
set_option maxHeartbeats 4000000 in
set_option maxRecDepth 100000 in
theorem xt_Sh_holdsThing {l : Launch} {Γ : GA} {δ : XSh} {σ : XSt} {K : Int32 → Prop} {i0 : Nat} (h0 : (5, i0) ∈ δ.1) (hwp : xw_Sh_holdsThing δ σ K i0 ) : xI l yX3_holdsThing cX3_holdsThing 1 (some .boolean) ({ frames := 0, cells := 0, slots := 0, locals := 0 } : Room) 0 0 Γ δ [.ref i0] σ (fun r u => K r ∧ u = (δ, σ)) := by
  intro sz
  refine x_of (by decide) [(0, .ref i0)] (fun _ h => h) (Nat.le_of_ble_eq_true rfl) ?_
  intro p e s m args below meth c hsz X H locs ls hP hO hD hS hl
  subst hsz
  obtain ⟨hx, hb, hml, hown, hts, hK, hr, hlk⟩ := id X
  have hA : ∀ q, s.heap.size ≤ q → AX δ s.heap.size q := fun q h => Or.inr h
  unfold xw_Sh_holdsThing at hwp
  refine lv_aload_n hx hb dX3_holdsThing_0 rfl (lv_at hl 0 rfl) ?_
  rcases o_cases (σ.2.2 5 i0 0) with eo1 | ⟨o1, eo1⟩
  · replace hwp := hwp.1 eo1
    refine x_getN hx hb hts hown hK hP 5 i0 h0 rfl rfl in_X3 0 (by decide) q191 rfl rfl eo1 dX3_holdsThing_1 ?_
    refine lv_instN hx hb dX3_holdsThing_4 ?_
    exact x_zret (v := 0) hx hb hr hlk hP hO hD hS (Or.inl rfl) ⟨hwp, rfl⟩ dX3_holdsThing_7
  · replace hwp := hwp.2 o1 eo1
    refine x_getr hx hb hts hown hK hP 5 i0 h0 rfl rfl in_X3 0 (by decide) q191 rfl rfl eo1 dX3_holdsThing_1 (fun ho1 co1 => ?_)
    by_cases c2 : δ.2.2.1 o1 ∈ [5, 6, 7, 8, 9, 10, 11]
    · replace hwp := hwp.1 c2
      refine x_inst1 hx hb hown hK hO hP cs_Thing (hts _ q451) o1 ho1 c2 dX3_holdsThing_4 ?_
      exact x_zret (v := 1) hx hb hr hlk hP hO hD hS (Or.inr rfl) ⟨hwp, rfl⟩ dX3_holdsThing_7
    · replace hwp := hwp.2 c2
      refine x_inst0 hx hb hown hK hO hP cs_Thing (hts _ q451) o1 ho1 c2 dX3_holdsThing_4 ?_
      exact x_zret (v := 0) hx hb hr hlk hP hO hD hS (Or.inl rfl) ⟨hwp, rfl⟩ dX3_holdsThing_7
/-! S_beyond -/
def xw_S_beyond (δ : XSh) (K : Int32 → XSt → Prop) (i0 : Nat) (σ : XSt) : Prop :=
  vp_in 5 8 ∧ (vp_in 5 8 ∧ (∀ σ3, σ3 = tI σ 2 i0 (5 : Int32).toNatClampNeg ((σ.1 2 i0 (5 : Int32).toNatClampNeg) + 1) → (K (-5) σ3)))
set_option maxHeartbeats 4000000 in
set_option maxRecDepth 100000 in
theorem xt_S_beyond {l : Launch} {Γ : GA} {δ : XSh} {σ : XSt} {K : Int32 → XSt → Prop} {i0 : Nat} (h0 : (0, i0) ∈ δ.1) (hwp : xw_S_beyond δ K i0  σ) : xI l yX0_beyond cX0_beyond 1 (some .int) ({ frames := 0, cells := 0, slots := 0, locals := 0 } : Room) 0 0 Γ δ [.ref i0] σ (fun r u => K r u.2 ∧ u.1 = δ) := by
  intro sz
  refine x_of (by decide) [(0, .ref i0)] (fun _ h => h) (Nat.le_of_ble_eq_true rfl) ?_
  intro p e s m args below meth c hsz X H locs ls hP hO hD hS hl
  subst hsz
  obtain ⟨hx, hb, hml, hown, hts, hK, hr, hlk⟩ := id X
  have hA : ∀ q, s.heap.size ≤ q → AX δ s.heap.size q := fun q h => Or.inr h
  unfold xw_S_beyond at hwp
  refine lv_aload_n hx hb dX0_beyond_0 rfl (lv_at hl 0 rfl) ?_
  refine x_get hx hb hts hown hK hP 0 i0 h0 rfl rfl in_X0 1 (by decide) q197 rfl (v := .ref (δ.2.1 2 i0)) rfl dX0_beyond_1 ?_
  refine lv_iconst (v := 5) hx hb dX0_beyond_4 (by decide) ?_
  refine lv_dup2_11 hx hb dX0_beyond_5 rfl rfl ?_
  obtain ⟨hi1, hwp⟩ := hwp
  refine x_iald hx hb hK hP 2 i0 ((hO.2.2.1 _ h0).2.1) rfl hi1 dX0_beyond_6 ?_
  refine lv_iconst (v := 1) hx hb dX0_beyond_7 (by decide) ?_
  refine lv_iadd hx hb dX0_beyond_8 ?_
  obtain ⟨hi2, hwp⟩ := hwp
  refine x_iast hx hb hK hD hP hS 2 i0 ((hO.2.2.1 _ h0).2.1) (fun _ => rfl) hi2 dX0_beyond_9 (fun H locs hP hS => ?_)
  obtain ⟨σ3, eσ3⟩ : ∃ z, z = tI σ 2 i0 (5 : Int32).toNatClampNeg ((σ.1 2 i0 (5 : Int32).toNatClampNeg) + 1) := ⟨_, rfl⟩
  replace hP : XH Γ δ σ3 H := by rw [eσ3]; exact hP
  replace hwp := hwp σ3 eσ3
  refine lv_bipush (v := (-5)) hx hb dX0_beyond_10 (by decide) ?_
  exact x_iret hx hb hr hlk hP hO hD hS ⟨hwp, rfl⟩ dX0_beyond_12
/-! S_refused -/
def xw_S_refused (δ : XSh) (K : Int32 → XSt → Prop) (i0 : Nat) (i1 : Nat) (σ : XSt) : Prop :=
  vp_in (-(σ.1 13 i1 6)) 8 ∧ (vp_in (-(σ.1 13 i1 6)) 8 ∧ (∀ σ3, σ3 = tI σ 2 i0 (-(σ.1 13 i1 6)).toNatClampNeg ((σ.1 2 i0 (-(σ.1 13 i1 6)).toNatClampNeg) + 1) → (K (σ3.1 13 i1 6) σ3)))
set_option maxHeartbeats 4000000 in
set_option maxRecDepth 100000 in
theorem xt_S_refused {l : Launch} {Γ : GA} {δ : XSh} {σ : XSt} {K : Int32 → XSt → Prop} {i0 : Nat} {i1 : Nat} (h0 : (0, i0) ∈ δ.1) (h1 : (13, i1) ∈ δ.1) (hwp : xw_S_refused δ K i0 i1  σ) : xI l yX0_refused cX0_refused 2 (some .int) ({ frames := 0, cells := 0, slots := 0, locals := 0 } : Room) 0 0 Γ δ [.ref i0, .ref i1] σ (fun r u => K r u.2 ∧ u.1 = δ) := by
  intro sz
  refine x_of (by decide) [(0, .ref i0), (1, .ref i1)] (fun _ h => h) (Nat.le_of_ble_eq_true rfl) ?_
  intro p e s m args below meth c hsz X H locs ls hP hO hD hS hl
  subst hsz
  obtain ⟨hx, hb, hml, hown, hts, hK, hr, hlk⟩ := id X
  have hA : ∀ q, s.heap.size ≤ q → AX δ s.heap.size q := fun q h => Or.inr h
  unfold xw_S_refused at hwp
  refine lv_aload_n hx hb dX0_refused_0 rfl (lv_at hl 0 rfl) ?_
  refine x_get hx hb hts hown hK hP 0 i0 h0 rfl rfl in_X0 1 (by decide) q197 rfl (v := .ref (δ.2.1 2 i0)) rfl dX0_refused_1 ?_
  refine lv_aload_n hx hb dX0_refused_4 rfl (lv_at hl 1 rfl) ?_
  refine x_get hx hb hts hown hK hP 13 i1 h1 rfl rfl in_X5 6 (by decide) q323 rfl (v := .int (σ.1 13 i1 6)) rfl dX0_refused_5 ?_
  refine lv_ineg hx hb dX0_refused_8 ?_
  refine lv_dup2_11 hx hb dX0_refused_9 rfl rfl ?_
  obtain ⟨hi1, hwp⟩ := hwp
  refine x_iald hx hb hK hP 2 i0 ((hO.2.2.1 _ h0).2.1) rfl hi1 dX0_refused_10 ?_
  refine lv_iconst (v := 1) hx hb dX0_refused_11 (by decide) ?_
  refine lv_iadd hx hb dX0_refused_12 ?_
  obtain ⟨hi2, hwp⟩ := hwp
  refine x_iast hx hb hK hD hP hS 2 i0 ((hO.2.2.1 _ h0).2.1) (fun _ => rfl) hi2 dX0_refused_13 (fun H locs hP hS => ?_)
  obtain ⟨σ3, eσ3⟩ : ∃ z, z = tI σ 2 i0 (-(σ.1 13 i1 6)).toNatClampNeg ((σ.1 2 i0 (-(σ.1 13 i1 6)).toNatClampNeg) + 1) := ⟨_, rfl⟩
  replace hP : XH Γ δ σ3 H := by rw [eσ3]; exact hP
  replace hwp := hwp σ3 eσ3
  refine lv_aload_n hx hb dX0_refused_14 rfl (lv_at hl 1 rfl) ?_
  refine x_get hx hb hts hown hK hP 13 i1 h1 rfl rfl in_X5 6 (by decide) q323 rfl (v := .int (σ3.1 13 i1 6)) rfl dX0_refused_15 ?_
  exact x_iret hx hb hr hlk hP hO hD hS ⟨hwp, rfl⟩ dX0_refused_18
/-! S_holds -/
def xw_S_holds (δ : XSh) (σ : XSt) (K : Int32 → Prop) (i0 : Nat) (x1 : Int32) : Prop :=
  ((x1 < 0) → (K (-1))) ∧ ((¬ (x1 < 0)) → (((8 ≤ x1) → (K (-1))) ∧ ((¬ (8 ≤ x1)) → (vp_in x1 8 ∧ ∃ o4, σ.2.2 1 i0 x1.toNatClampNeg = some o4 ∧ ((σ.2.2 5 o4 0 = none → (K (-1))) ∧ (∀ o5, σ.2.2 5 o4 0 = some o5 → (vp_in x1 8 ∧ ∃ o7, σ.2.2 1 i0 x1.toNatClampNeg = some o7 ∧ ((σ.2.2 5 o7 0 = none → ((((0 : Int32) = 0) → (False)) ∧ ((¬ ((0 : Int32) = 0)) → (False)))) ∧ (∀ o8, σ.2.2 5 o7 0 = some o8 → (((δ.2.2.1 o8 ∈ [5, 6, 7, 8, 9, 10, 11]) → ((((1 : Int32) = 0) → (δ.2.2.1 o8 ∈ [12, 13, 14, 15] ∧ (xv_R_sort δ σ (fun r13 => K ((100 : Int32) + r13)) o8))) ∧ ((¬ ((1 : Int32) = 0)) → (K (σ.1 7 o8 0))))) ∧ ((¬ δ.2.2.1 o8 ∈ [5, 6, 7, 8, 9, 10, 11]) → ((((0 : Int32) = 0) → (xv_R_sort δ σ (fun r16 => K ((100 : Int32) + r16)) o8)) ∧ ((¬ ((0 : Int32) = 0)) → (δ.2.2.1 o8 ∈ [5, 6, 7, 8, 9, 10, 11] ∧ (K (σ.1 7 o8 0))))))))))))))))
set_option maxHeartbeats 4000000 in
set_option maxRecDepth 100000 in
theorem xt_S_holds {l : Launch} {Γ : GA} {δ : XSh} {σ : XSt} {K : Int32 → Prop} {i0 : Nat} (h0 : (0, i0) ∈ δ.1) {x1 : Int32} (hwp : xw_S_holds δ σ K i0 x1) : xI l yX0_holds cX0_holds 3 (some .int) ({ frames := 1, cells := 0, slots := 0, locals := 20 } : Room) 0 0 Γ δ [.ref i0, .int x1] σ (fun r u => K r ∧ u = (δ, σ)) := by
  intro sz
  refine x_of (by decide) [(0, .ref i0), (1, .int x1)] (fun _ h => h) (Nat.le_of_ble_eq_true rfl) ?_
  intro p e s m args below meth c hsz X H locs ls hP hO hD hS hl
  subst hsz
  obtain ⟨hx, hb, hml, hown, hts, hK, hr, hlk⟩ := id X
  have hA : ∀ q, s.heap.size ≤ q → AX δ s.heap.size q := fun q h => Or.inr h
  unfold xw_S_holds at hwp
  refine lv_iload_n hx hb dX0_holds_0 rfl (lv_at hl 1 rfl) ?_
  refine lv_if_lt (tgt := 22) hx hb dX0_holds_1 (by decide) (fun c1 => ?_) (fun c1 => ?_)
  · replace hwp := hwp.1 c1
    refine lv_iconst (v := (-1)) hx hb dX0_holds_22 (by decide) ?_
    exact x_iret hx hb hr hlk hP hO hD hS ⟨hwp, rfl⟩ dX0_holds_23
  · replace hwp := hwp.2 c1
    refine lv_iload_n hx hb dX0_holds_4 rfl (lv_at hl 1 rfl) ?_
    refine lv_bipush (v := 8) hx hb dX0_holds_5 (by decide) ?_
    refine lv_icmp_ge (tgt := 22) hx hb dX0_holds_7 (by decide) (fun c2 => ?_) (fun c2 => ?_)
    · replace hwp := hwp.1 c2
      refine lv_iconst (v := (-1)) hx hb dX0_holds_22 (by decide) ?_
      exact x_iret hx hb hr hlk hP hO hD hS ⟨hwp, rfl⟩ dX0_holds_23
    · replace hwp := hwp.2 c2
      refine lv_aload_n hx hb dX0_holds_10 rfl (lv_at hl 0 rfl) ?_
      refine x_get hx hb hts hown hK hP 0 i0 h0 rfl rfl in_X0 0 (by decide) q196 rfl (v := .ref (δ.2.1 1 i0)) rfl dX0_holds_11 ?_
      refine lv_iload_n hx hb dX0_holds_14 rfl (lv_at hl 1 rfl) ?_
      obtain ⟨hi3, o4, eo4, hwp⟩ := hwp
      refine x_aald hx hb hK hP 1 i0 ((hO.2.2.1 _ h0).1) (Or.inr rfl) hi3 eo4 dX0_holds_15 (fun ho4 co4 => ?_)
      rcases o_cases (σ.2.2 5 o4 0) with eo5 | ⟨o5, eo5⟩
      · replace hwp := hwp.1 eo5
        refine x_getN hx hb hts hown hK hP 5 o4 ho4 rfl rfl in_X3 0 (by decide) q192 rfl rfl eo5 dX0_holds_16 ?_
        refine lv_ifnonnullN hx hb dX0_holds_19 ?_
        refine lv_iconst (v := (-1)) hx hb dX0_holds_22 (by decide) ?_
        exact x_iret hx hb hr hlk hP hO hD hS ⟨hwp, rfl⟩ dX0_holds_23
      · replace hwp := hwp.2 o5 eo5
        refine x_getr hx hb hts hown hK hP 5 o4 ho4 rfl rfl in_X3 0 (by decide) q192 rfl rfl eo5 dX0_holds_16 (fun ho5 co5 => ?_)
        refine lv_ifnonnull (tgt := 24) hx hb dX0_holds_19 (by decide) ?_
        refine lv_aload_n hx hb dX0_holds_24 rfl (lv_at hl 0 rfl) ?_
        refine x_get hx hb hts hown hK hP 0 i0 h0 rfl rfl in_X0 0 (by decide) q196 rfl (v := .ref (δ.2.1 1 i0)) rfl dX0_holds_25 ?_
        refine lv_iload_n hx hb dX0_holds_28 rfl (lv_at hl 1 rfl) ?_
        obtain ⟨hi6, o7, eo7, hwp⟩ := hwp
        refine x_aald hx hb hK hP 1 i0 ((hO.2.2.1 _ h0).1) (Or.inr rfl) hi6 eo7 dX0_holds_29 (fun ho7 co7 => ?_)
        rcases o_cases (σ.2.2 5 o7 0) with eo8 | ⟨o8, eo8⟩
        · replace hwp := hwp.1 eo8
          refine x_getN hx hb hts hown hK hP 5 o7 ho7 rfl rfl in_X3 0 (by decide) q192 rfl rfl eo8 dX0_holds_30 ?_
          refine lv_astore_nN (lv' := [(2, .null), (0, .ref i0), (1, .int x1)]) hx hb dX0_holds_33 rfl hl (by decide) rfl (fun ls hl => ?_)
          refine lv_aload_nN hx hb dX0_holds_34 rfl (lv_at hl 0 rfl) ?_
          refine lv_instN hx hb dX0_holds_35 ?_
          refine lv_if_eq (tgt := 51) hx hb dX0_holds_38 (by decide) (fun c9 => ?_) (fun c9 => ?_)
          · replace hwp := hwp.1 c9
            refine lv_bipush (v := 100) hx hb dX0_holds_51 (by decide) ?_
            refine lv_aload_nN hx hb dX0_holds_53 rfl (lv_at hl 0 rfl) ?_
            refine lv_castN hx hb dX0_holds_54 ?_
            exact hwp.elim
          · replace hwp := hwp.2 c9
            refine lv_aload_nN hx hb dX0_holds_41 rfl (lv_at hl 0 rfl) ?_
            refine lv_castN hx hb dX0_holds_42 ?_
            exact hwp.elim
        · replace hwp := hwp.2 o8 eo8
          refine x_getr hx hb hts hown hK hP 5 o7 ho7 rfl rfl in_X3 0 (by decide) q192 rfl rfl eo8 dX0_holds_30 (fun ho8 co8 => ?_)
          refine lv_astore_n (lv' := [(2, .ref o8), (0, .ref i0), (1, .int x1)]) hx hb dX0_holds_33 rfl hl (by decide) rfl (fun ls hl => ?_)
          refine lv_aload_n hx hb dX0_holds_34 rfl (lv_at hl 0 rfl) ?_
          by_cases c10 : δ.2.2.1 o8 ∈ [5, 6, 7, 8, 9, 10, 11]
          · replace hwp := hwp.1 c10
            refine x_inst1 hx hb hown hK hO hP cs_Thing (hts _ q521) o8 ho8 c10 dX0_holds_35 ?_
            refine lv_if_eq (tgt := 51) hx hb dX0_holds_38 (by decide) (fun c11 => ?_) (fun c11 => ?_)
            · replace hwp := hwp.1 c11
              refine lv_bipush (v := 100) hx hb dX0_holds_51 (by decide) ?_
              refine lv_aload_n hx hb dX0_holds_53 rfl (lv_at hl 0 rfl) ?_
              obtain ⟨c12, hwp⟩ := hwp
              refine x_castOK hx hb hown hK hO hP cs_Row (hts _ q522) o8 ho8 c12 dX0_holds_54 ?_
              refine x_goi (xr_R_sort (As := []) (rest := [.int 100]) ⟨hx, hb, hml, hown, hts⟩ hK hD hO hP ho8 (ge_in c12) hwp q452 ⟨(Nat.le_of_ble_eq_true rfl), (Nat.le_of_ble_eq_true rfl)⟩ rfl hl.1 rfl (Nat.le_of_ble_eq_true rfl) dX0_holds_57 ⟨(Nat.le_of_ble_eq_true rfl), (Nat.le_of_ble_eq_true rfl)⟩) hD hA hS (fun r13 u H locs hk hP hO hD hS => ?_)
              obtain ⟨hwp, eu⟩ := hk
              subst eu
              dsimp only at hP hO hD
              refine lv_iadd hx hb dX0_holds_60 ?_
              exact x_iret hx hb hr hlk hP hO hD hS ⟨hwp, rfl⟩ dX0_holds_61
            · replace hwp := hwp.2 c11
              refine lv_aload_n hx hb dX0_holds_41 rfl (lv_at hl 0 rfl) ?_
              refine x_castOK hx hb hown hK hO hP cs_Thing (hts _ q521) o8 ho8 c10 dX0_holds_42 ?_
              refine x_getT hx hb hts hown hK hO hP o8 ho8 (lt_in c10) 0 (by decide) q726 (fun _ h9 => h9) dX0_holds_45 ?_
              refine lv_goto (tgt := 61) hx hb dX0_holds_48 (by decide) ?_
              exact x_iret hx hb hr hlk hP hO hD hS ⟨hwp, rfl⟩ dX0_holds_61
          · replace hwp := hwp.2 c10
            refine x_inst0 hx hb hown hK hO hP cs_Thing (hts _ q521) o8 ho8 c10 dX0_holds_35 ?_
            refine lv_if_eq (tgt := 51) hx hb dX0_holds_38 (by decide) (fun c14 => ?_) (fun c14 => ?_)
            · replace hwp := hwp.1 c14
              refine lv_bipush (v := 100) hx hb dX0_holds_51 (by decide) ?_
              refine lv_aload_n hx hb dX0_holds_53 rfl (lv_at hl 0 rfl) ?_
              have c15 : δ.2.2.1 o8 ∈ [12, 13, 14, 15] := out_in (hO.2.1 _ ho8) c10
              refine x_castOK hx hb hown hK hO hP cs_Row (hts _ q522) o8 ho8 c15 dX0_holds_54 ?_
              refine x_goi (xr_R_sort (As := []) (rest := [.int 100]) ⟨hx, hb, hml, hown, hts⟩ hK hD hO hP ho8 (ge_in c15) hwp q452 ⟨(Nat.le_of_ble_eq_true rfl), (Nat.le_of_ble_eq_true rfl)⟩ rfl hl.1 rfl (Nat.le_of_ble_eq_true rfl) dX0_holds_57 ⟨(Nat.le_of_ble_eq_true rfl), (Nat.le_of_ble_eq_true rfl)⟩) hD hA hS (fun r16 u H locs hk hP hO hD hS => ?_)
              obtain ⟨hwp, eu⟩ := hk
              subst eu
              dsimp only at hP hO hD
              refine lv_iadd hx hb dX0_holds_60 ?_
              exact x_iret hx hb hr hlk hP hO hD hS ⟨hwp, rfl⟩ dX0_holds_61
            · replace hwp := hwp.2 c14
              refine lv_aload_n hx hb dX0_holds_41 rfl (lv_at hl 0 rfl) ?_
              obtain ⟨c17, hwp⟩ := hwp
              refine x_castOK hx hb hown hK hO hP cs_Thing (hts _ q521) o8 ho8 c17 dX0_holds_42 ?_
              refine x_getT hx hb hts hown hK hO hP o8 ho8 (lt_in c17) 0 (by decide) q726 (fun _ h9 => h9) dX0_holds_45 ?_
              refine lv_goto (tgt := 61) hx hb dX0_holds_48 (by decide) ?_
              exact x_iret hx hb hr hlk hP hO hD hS ⟨hwp, rfl⟩ dX0_holds_61
/-! S_thingOf -/
def xw_S_thingOf (δ : XSh) (K : Int32 → XSt → Prop) (i0 : Nat) (x1 : Int32) (x2 : Int32) (σ : XSt) : Prop :=
  ∃ o1, σ.2.2 0 i0 4 = some o1 ∧ (xw_G_isThing δ σ (fun r2 => ((¬ (r2 = 0)) → (vp_in x1 8 ∧ ∃ o5, σ.2.2 8 o1 x1.toNatClampNeg = some o5 ∧ (((x2 < 0 ∨ 6 < x2) → (xw_S_beyond δ (fun r7 σ8 => K r7 σ8) i0 σ)) ∧ (x2 = 0 → (xv_T_kind δ σ (fun r9 => K r9 σ) o5)) ∧ (x2 = 1 → (K (σ.1 7 o5 1) σ)) ∧ (x2 = 2 → (K (σ.1 7 o5 2) σ)) ∧ (x2 = 3 → (vp_in x1 8 ∧ (K (σ.1 9 o1 x1.toNatClampNeg) σ))) ∧ (x2 = 4 → (K (σ.1 7 o5 3) σ)) ∧ (x2 = 5 → (xw_G_tall δ σ (fun r11 => K r11 σ) o1 x1)) ∧ (x2 = 6 → (K (((σ.1 6 o1 3) >>> (x1 &&& 31)) &&& 1) σ))))) ∧ ((r2 = 0) → (xw_S_beyond δ (fun r12 σ13 => K r12 σ13) i0 σ))) o1 x1)
set_option maxHeartbeats 4000000 in
set_option maxRecDepth 100000 in
theorem xt_S_thingOf {l : Launch} {Γ : GA} {δ : XSh} {σ : XSt} {K : Int32 → XSt → Prop} {i0 : Nat} (h0 : (0, i0) ∈ δ.1) {x1 : Int32} {x2 : Int32} (hwp : xw_S_thingOf δ K i0 x1 x2 σ) : xI l yX0_thingOf cX0_thingOf 4 (some .int) ({ frames := 4, cells := 0, slots := 0, locals := 87 } : Room) 0 0 Γ δ [.ref i0, .int x1, .int x2] σ (fun r u => K r u.2 ∧ u.1 = δ) := by
  intro sz
  refine x_of (by decide) [(0, .ref i0), (1, .int x1), (2, .int x2)] (fun _ h => h) (Nat.le_of_ble_eq_true rfl) ?_
  intro p e s m args below meth c hsz X H locs ls hP hO hD hS hl
  subst hsz
  obtain ⟨hx, hb, hml, hown, hts, hK, hr, hlk⟩ := id X
  have hA : ∀ q, s.heap.size ≤ q → AX δ s.heap.size q := fun q h => Or.inr h
  unfold xw_S_thingOf at hwp
  refine lv_aload_n hx hb dX0_thingOf_0 rfl (lv_at hl 0 rfl) ?_
  obtain ⟨o1, eo1, hwp⟩ := hwp
  refine x_getr hx hb hts hown hK hP 0 i0 h0 rfl rfl in_X0 4 (by decide) q200 rfl rfl eo1 dX0_thingOf_1 (fun ho1 co1 => ?_)
  refine lv_iload_n hx hb dX0_thingOf_4 rfl (lv_at hl 1 rfl) ?_
  refine x_goi (va_runV (As := [.int x1]) (rest := []) ⟨hx, hb, hml, hown, hts⟩ (xt_G_isThing ho1 hwp H.size) (cwV 1 hts (lw_V q512 q513 q514 q77 q515) rfl rfl rfl (by decide +kernel) ⟨Nat.le_of_ble_eq_true rfl, Nat.le_of_ble_eq_true rfl⟩) (x_preV hK hO hD hP 6 o1 ho1 rfl rfl) rfl rfl hl.1 rfl (lv_room (Nat.le_of_ble_eq_true rfl)) dX0_thingOf_5 ⟨(Nat.le_of_ble_eq_true rfl), (Nat.le_of_ble_eq_true rfl)⟩) hD hA hS (fun r2 u H locs hk hP hO hD hS => ?_)
  obtain ⟨hwp, eu⟩ := hk
  subst eu
  dsimp only at hP hO hD
  refine lv_if_ne (tgt := 16) hx hb dX0_thingOf_8 (by decide) (fun c3 => ?_) (fun c3 => ?_)
  · replace hwp := hwp.1 c3
    refine lv_aload_n hx hb dX0_thingOf_16 rfl (lv_at hl 0 rfl) ?_
    refine x_getr hx hb hts hown hK hP 0 i0 h0 rfl rfl in_X0 4 (by decide) q200 rfl rfl eo1 dX0_thingOf_17 (fun ho1 co1 => ?_)
    refine x_get hx hb hts hown hK hP 6 o1 ho1 rfl rfl in_X2 6 (by decide) q160 rfl (v := .ref (δ.2.1 8 o1)) rfl dX0_thingOf_20 ?_
    refine lv_iload_n hx hb dX0_thingOf_23 rfl (lv_at hl 1 rfl) ?_
    obtain ⟨hi4, o5, eo5, hwp⟩ := hwp
    refine x_aald hx hb hK hP 8 o1 ((hO.1 _ ho1).1) (Or.inl rfl) hi4 eo5 dX0_thingOf_24 (fun ho5 co5 => ?_)
    refine lv_astore_n (lv' := [(3, .ref o5), (0, .ref i0), (1, .int x1), (2, .int x2)]) hx hb dX0_thingOf_25 rfl hl (by decide) rfl (fun ls hl => ?_)
    refine lv_iload_n hx hb dX0_thingOf_26 rfl (lv_at hl 3 rfl) ?_
    by_cases c6 : (x2 < 0 ∨ 6 < x2)
    · replace hwp := hwp.1 c6
      refine lv_tableOut (tgt := 119) hx hb dX0_thingOf_27 (sw_out c6) (by decide) ?_
      refine lv_aload_n hx hb dX0_thingOf_119 rfl (lv_at hl 1 rfl) ?_
      refine x_goi (va_runV (As := []) (rest := []) ⟨hx, hb, hml, hown, hts⟩ (xt_S_beyond h0 hwp H.size) (cwV 0 hts (lw_V q814 q816 qs5 q75 q817) rfl rfl rfl (by decide +kernel) ⟨Nat.le_of_ble_eq_true rfl, Nat.le_of_ble_eq_true rfl⟩) (x_preV hK hO hD hP 0 i0 h0 rfl rfl) rfl rfl hl.1 rfl (lv_room (Nat.le_of_ble_eq_true rfl)) dX0_thingOf_120 ⟨(Nat.le_of_ble_eq_true rfl), (Nat.le_of_ble_eq_true rfl)⟩) hD hA hS (fun r7 u H locs hk hP hO hD hS => ?_)
      obtain ⟨u1, σ8⟩ := u
      obtain ⟨hwp, eu⟩ := hk
      have eu : δ = u1 := eu.symm
      subst eu
      dsimp only at hP hO hD hwp
      exact x_iret hx hb hr hlk hP hO hD hS ⟨hwp, rfl⟩ dX0_thingOf_123
    · obtain ⟨j, hj, ej⟩ := sw_of (n := 6) (by decide) c6
      match j, hj, ej with
      | 0, _, ej =>
        have ej : x2 = 0 := ej
        replace hwp := hwp.2.1 ej
        refine lv_tableIn (off := 41) (tgt := 68) hx hb dX0_thingOf_27 (by rw [ej]; decide) (by rw [ej]; decide) (by rw [ej]; rfl) (by decide) ?_
        refine lv_aload_n hx hb dX0_thingOf_68 rfl (lv_at hl 0 rfl) ?_
        refine x_goi (xr_T_kind (As := []) (rest := []) ⟨hx, hb, hml, hown, hts⟩ hK hD hO hP ho5 (co5.1 rfl) hwp q818 ⟨Nat.le_of_ble_eq_true rfl, Nat.le_of_ble_eq_true rfl⟩ rfl hl.1 rfl (Nat.le_of_ble_eq_true rfl) dX0_thingOf_69 ⟨(Nat.le_of_ble_eq_true rfl), (Nat.le_of_ble_eq_true rfl)⟩) hD hA hS (fun r9 u H locs hk hP hO hD hS => ?_)
        obtain ⟨hwp, eu⟩ := hk
        subst eu
        dsimp only at hP hO hD
        exact x_iret hx hb hr hlk hP hO hD hS ⟨hwp, rfl⟩ dX0_thingOf_72
      | 1, _, ej =>
        have ej : x2 = 1 := ej
        replace hwp := hwp.2.2.1 ej
        refine lv_tableIn (off := 46) (tgt := 73) hx hb dX0_thingOf_27 (by rw [ej]; decide) (by rw [ej]; decide) (by rw [ej]; rfl) (by decide) ?_
        refine lv_aload_n hx hb dX0_thingOf_73 rfl (lv_at hl 0 rfl) ?_
        refine x_getT hx hb hts hown hK hO hP o5 ho5 (co5.1 rfl) 1 (by decide) q729 (fun _ h9 => h9) dX0_thingOf_74 ?_
        exact x_iret hx hb hr hlk hP hO hD hS ⟨hwp, rfl⟩ dX0_thingOf_77
      | 2, _, ej =>
        have ej : x2 = 2 := ej
        replace hwp := hwp.2.2.2.1 ej
        refine lv_tableIn (off := 51) (tgt := 78) hx hb dX0_thingOf_27 (by rw [ej]; decide) (by rw [ej]; decide) (by rw [ej]; rfl) (by decide) ?_
        refine lv_aload_n hx hb dX0_thingOf_78 rfl (lv_at hl 0 rfl) ?_
        refine x_getT hx hb hts hown hK hO hP o5 ho5 (co5.1 rfl) 2 (by decide) q732 (fun _ h9 => h9) dX0_thingOf_79 ?_
        exact x_iret hx hb hr hlk hP hO hD hS ⟨hwp, rfl⟩ dX0_thingOf_82
      | 3, _, ej =>
        have ej : x2 = 3 := ej
        replace hwp := hwp.2.2.2.2.1 ej
        refine lv_tableIn (off := 56) (tgt := 83) hx hb dX0_thingOf_27 (by rw [ej]; decide) (by rw [ej]; decide) (by rw [ej]; rfl) (by decide) ?_
        refine lv_aload_n hx hb dX0_thingOf_83 rfl (lv_at hl 1 rfl) ?_
        refine x_getr hx hb hts hown hK hP 0 i0 h0 rfl rfl in_X0 4 (by decide) q200 rfl rfl eo1 dX0_thingOf_84 (fun ho1 co1 => ?_)
        refine x_get hx hb hts hown hK hP 6 o1 ho1 rfl rfl in_X2 7 (by decide) q163 rfl (v := .ref (δ.2.1 9 o1)) rfl dX0_thingOf_87 ?_
        refine lv_iload_n hx hb dX0_thingOf_90 rfl (lv_at hl 2 rfl) ?_
        obtain ⟨hi10, hwp⟩ := hwp
        refine x_iald hx hb hK hP 9 o1 ((hO.1 _ ho1).2.1) rfl hi10 dX0_thingOf_91 ?_
        exact x_iret hx hb hr hlk hP hO hD hS ⟨hwp, rfl⟩ dX0_thingOf_92
      | 4, _, ej =>
        have ej : x2 = 4 := ej
        replace hwp := hwp.2.2.2.2.2.1 ej
        refine lv_tableIn (off := 66) (tgt := 93) hx hb dX0_thingOf_27 (by rw [ej]; decide) (by rw [ej]; decide) (by rw [ej]; rfl) (by decide) ?_
        refine lv_aload_n hx hb dX0_thingOf_93 rfl (lv_at hl 0 rfl) ?_
        refine x_getT hx hb hts hown hK hO hP o5 ho5 (co5.1 rfl) 3 (by decide) q743 (fun _ h9 => h9) dX0_thingOf_94 ?_
        exact x_iret hx hb hr hlk hP hO hD hS ⟨hwp, rfl⟩ dX0_thingOf_97
      | 5, _, ej =>
        have ej : x2 = 5 := ej
        replace hwp := hwp.2.2.2.2.2.2.1 ej
        refine lv_tableIn (off := 71) (tgt := 98) hx hb dX0_thingOf_27 (by rw [ej]; decide) (by rw [ej]; decide) (by rw [ej]; rfl) (by decide) ?_
        refine lv_aload_n hx hb dX0_thingOf_98 rfl (lv_at hl 1 rfl) ?_
        refine x_getr hx hb hts hown hK hP 0 i0 h0 rfl rfl in_X0 4 (by decide) q200 rfl rfl eo1 dX0_thingOf_99 (fun ho1 co1 => ?_)
        refine lv_iload_n hx hb dX0_thingOf_102 rfl (lv_at hl 2 rfl) ?_
        refine x_goi (va_runV (As := [.int x1]) (rest := []) ⟨hx, hb, hml, hown, hts⟩ (xt_G_tall ho1 hwp H.size) (cwV 1 hts (lw_V q841 q608 q609 q77 q610) rfl rfl rfl (by decide +kernel) ⟨Nat.le_of_ble_eq_true rfl, Nat.le_of_ble_eq_true rfl⟩) (x_preV hK hO hD hP 6 o1 ho1 rfl rfl) rfl rfl hl.1 rfl (lv_room (Nat.le_of_ble_eq_true rfl)) dX0_thingOf_103 ⟨(Nat.le_of_ble_eq_true rfl), (Nat.le_of_ble_eq_true rfl)⟩) hD hA hS (fun r11 u H locs hk hP hO hD hS => ?_)
        obtain ⟨hwp, eu⟩ := hk
        subst eu
        dsimp only at hP hO hD
        exact x_iret hx hb hr hlk hP hO hD hS ⟨hwp, rfl⟩ dX0_thingOf_106
      | 6, _, ej =>
        have ej : x2 = 6 := ej
        replace hwp := hwp.2.2.2.2.2.2.2 ej
        refine lv_tableIn (off := 80) (tgt := 107) hx hb dX0_thingOf_27 (by rw [ej]; decide) (by rw [ej]; decide) (by rw [ej]; rfl) (by decide) ?_
        refine lv_aload_n hx hb dX0_thingOf_107 rfl (lv_at hl 1 rfl) ?_
        refine x_getr hx hb hts hown hK hP 0 i0 h0 rfl rfl in_X0 4 (by decide) q200 rfl rfl eo1 dX0_thingOf_108 (fun ho1 co1 => ?_)
        refine x_get hx hb hts hown hK hP 6 o1 ho1 rfl rfl in_X2 3 (by decide) q154 rfl (v := .int (σ.1 6 o1 3)) rfl dX0_thingOf_111 ?_
        refine lv_iload_n hx hb dX0_thingOf_114 rfl (lv_at hl 2 rfl) ?_
        refine lv_ishr hx hb dX0_thingOf_115 ?_
        refine lv_iconst (v := 1) hx hb dX0_thingOf_116 (by decide) ?_
        refine lv_iand hx hb dX0_thingOf_117 ?_
        exact x_iret hx hb hr hlk hP hO hD hS ⟨hwp, rfl⟩ dX0_thingOf_118
      | j + 7, hj, _ => exact absurd hj (by omega)
  · replace hwp := hwp.2 c3
    refine lv_aload_n hx hb dX0_thingOf_11 rfl (lv_at hl 0 rfl) ?_
    refine x_goi (va_runV (As := []) (rest := []) ⟨hx, hb, hml, hown, hts⟩ (xt_S_beyond h0 hwp H.size) (cwV 0 hts (lw_V q814 q816 qs5 q75 q817) rfl rfl rfl (by decide +kernel) ⟨Nat.le_of_ble_eq_true rfl, Nat.le_of_ble_eq_true rfl⟩) (x_preV hK hO hD hP 0 i0 h0 rfl rfl) rfl rfl hl.1 rfl (lv_room (Nat.le_of_ble_eq_true rfl)) dX0_thingOf_12 ⟨(Nat.le_of_ble_eq_true rfl), (Nat.le_of_ble_eq_true rfl)⟩) hD hA hS (fun r12 u H locs hk hP hO hD hS => ?_)
    obtain ⟨u1, σ13⟩ := u
    obtain ⟨hwp, eu⟩ := hk
    have eu : δ = u1 := eu.symm
    subst eu
    dsimp only at hP hO hD hwp
    exact x_iret hx hb hr hlk hP hO hD hS ⟨hwp, rfl⟩ dX0_thingOf_15
/-! S_fault -/
def xw_S_fault (δ : XSh) (σ : XSt) (K : Int32 → Prop) (i0 : Nat) : Prop :=
  K (σ.1 0 i0 6)
set_option maxHeartbeats 4000000 in
set_option maxRecDepth 100000 in
theorem xt_S_fault {l : Launch} {Γ : GA} {δ : XSh} {σ : XSt} {K : Int32 → Prop} {i0 : Nat} (h0 : (0, i0) ∈ δ.1) (hwp : xw_S_fault δ σ K i0 ) : xI l yX0_fault cX0_fault 1 (some .int) ({ frames := 0, cells := 0, slots := 0, locals := 0 } : Room) 0 0 Γ δ [.ref i0] σ (fun r u => K r ∧ u = (δ, σ)) := by
  intro sz
  refine x_of (by decide) [(0, .ref i0)] (fun _ h => h) (Nat.le_of_ble_eq_true rfl) ?_
  intro p e s m args below meth c hsz X H locs ls hP hO hD hS hl
  subst hsz
  obtain ⟨hx, hb, hml, hown, hts, hK, hr, hlk⟩ := id X
  have hA : ∀ q, s.heap.size ≤ q → AX δ s.heap.size q := fun q h => Or.inr h
  unfold xw_S_fault at hwp
  refine lv_aload_n hx hb dX0_fault_0 rfl (lv_at hl 0 rfl) ?_
  refine x_get hx hb hts hown hK hP 0 i0 h0 rfl rfl in_X0 6 (by decide) q202 rfl (v := .int (σ.1 0 i0 6)) rfl dX0_fault_1 ?_
  exact x_iret hx hb hr hlk hP hO hD hS ⟨hwp, rfl⟩ dX0_fault_4
/-! S_right -/
def xw_S_right (δ : XSh) (σ : XSt) (K : Int32 → Prop) (i0 : Nat) : Prop :=
  ∃ o1, σ.2.2 0 i0 4 = some o1 ∧ (xw_G_right δ σ (fun r2 => K r2) o1)
set_option maxHeartbeats 4000000 in
set_option maxRecDepth 100000 in
theorem xt_S_right {l : Launch} {Γ : GA} {δ : XSh} {σ : XSt} {K : Int32 → Prop} {i0 : Nat} (h0 : (0, i0) ∈ δ.1) (hwp : xw_S_right δ σ K i0 ) : xI l yX0_right cX0_right 1 (some .int) ({ frames := 25, cells := 0, slots := 0, locals := 543 } : Room) 0 0 Γ δ [.ref i0] σ (fun r u => K r ∧ u = (δ, σ)) := by
  intro sz
  refine x_of (by decide) [(0, .ref i0)] (fun _ h => h) (Nat.le_of_ble_eq_true rfl) ?_
  intro p e s m args below meth c hsz X H locs ls hP hO hD hS hl
  subst hsz
  obtain ⟨hx, hb, hml, hown, hts, hK, hr, hlk⟩ := id X
  have hA : ∀ q, s.heap.size ≤ q → AX δ s.heap.size q := fun q h => Or.inr h
  unfold xw_S_right at hwp
  refine lv_aload_n hx hb dX0_right_0 rfl (lv_at hl 0 rfl) ?_
  obtain ⟨o1, eo1, hwp⟩ := hwp
  refine x_getr hx hb hts hown hK hP 0 i0 h0 rfl rfl in_X0 4 (by decide) q200 rfl rfl eo1 dX0_right_1 (fun ho1 co1 => ?_)
  refine x_goi (va_runV (As := []) (rest := []) ⟨hx, hb, hml, hown, hts⟩ (xt_G_right ho1 hwp H.size) (cwV 0 hts (lw_V q1064 q1065 q1066 q77 q1067) rfl rfl rfl (by decide +kernel) ⟨Nat.le_of_ble_eq_true rfl, Nat.le_of_ble_eq_true rfl⟩) (x_preV hK hO hD hP 6 o1 ho1 rfl rfl) rfl rfl hl.1 rfl (lv_room (Nat.le_of_ble_eq_true rfl)) dX0_right_4 ⟨(Nat.le_of_ble_eq_true rfl), (Nat.le_of_ble_eq_true rfl)⟩) hD hA hS (fun r2 u H locs hk hP hO hD hS => ?_)
  obtain ⟨hwp, eu⟩ := hk
  subst eu
  dsimp only at hP hO hD
  exact x_iret hx hb hr hlk hP hO hD hS ⟨hwp, rfl⟩ dX0_right_7
/-! S_first -/
def xw_S_first (δ : XSh) (σ : XSt) (K : Int32 → Prop) (i0 : Nat) : Prop :=
  ∃ o1, σ.2.2 0 i0 4 = some o1 ∧ (xw_G_houses δ σ (fun r2 => xw_G_right δ σ (fun r3 => ((¬ ((r2 &&& (r3 ^^^ (-1))) = 0)) → (xw_Jn_numberOfTrailingZeros δ σ (fun r5 => K r5) (r2 &&& (r3 ^^^ (-1))))) ∧ (((r2 &&& (r3 ^^^ (-1))) = 0) → (K (-1)))) o1) o1)
set_option maxHeartbeats 4000000 in
set_option maxRecDepth 100000 in
theorem xt_S_first {l : Launch} {Γ : GA} {δ : XSh} {σ : XSt} {K : Int32 → Prop} {i0 : Nat} (h0 : (0, i0) ∈ δ.1) (hwp : xw_S_first δ σ K i0 ) : xI l yX0_first cX0_first 2 (some .int) ({ frames := 25, cells := 0, slots := 0, locals := 543 } : Room) 0 0 Γ δ [.ref i0] σ (fun r u => K r ∧ u = (δ, σ)) := by
  intro sz
  refine x_of (by decide) [(0, .ref i0)] (fun _ h => h) (Nat.le_of_ble_eq_true rfl) ?_
  intro p e s m args below meth c hsz X H locs ls hP hO hD hS hl
  subst hsz
  obtain ⟨hx, hb, hml, hown, hts, hK, hr, hlk⟩ := id X
  have hA : ∀ q, s.heap.size ≤ q → AX δ s.heap.size q := fun q h => Or.inr h
  unfold xw_S_first at hwp
  refine lv_aload_n hx hb dX0_first_0 rfl (lv_at hl 0 rfl) ?_
  obtain ⟨o1, eo1, hwp⟩ := hwp
  refine x_getr hx hb hts hown hK hP 0 i0 h0 rfl rfl in_X0 4 (by decide) q200 rfl rfl eo1 dX0_first_1 (fun ho1 co1 => ?_)
  refine x_goi (va_runV (As := []) (rest := []) ⟨hx, hb, hml, hown, hts⟩ (xt_G_houses ho1 hwp H.size) (cwV 0 hts (lw_V q1073 q1074 q1075 q77 q1076) rfl rfl rfl (by decide +kernel) ⟨Nat.le_of_ble_eq_true rfl, Nat.le_of_ble_eq_true rfl⟩) (x_preV hK hO hD hP 6 o1 ho1 rfl rfl) rfl rfl hl.1 rfl (lv_room (Nat.le_of_ble_eq_true rfl)) dX0_first_4 ⟨(Nat.le_of_ble_eq_true rfl), (Nat.le_of_ble_eq_true rfl)⟩) hD hA hS (fun r2 u H locs hk hP hO hD hS => ?_)
  obtain ⟨hwp, eu⟩ := hk
  subst eu
  dsimp only at hP hO hD
  refine lv_aload_n hx hb dX0_first_7 rfl (lv_at hl 0 rfl) ?_
  refine x_getr hx hb hts hown hK hP 0 i0 h0 rfl rfl in_X0 4 (by decide) q200 rfl rfl eo1 dX0_first_8 (fun ho1 co1 => ?_)
  refine x_goi (va_runV (As := []) (rest := [.int r2]) ⟨hx, hb, hml, hown, hts⟩ (xt_G_right ho1 hwp H.size) (cwV 0 hts (lw_V q1064 q1065 q1066 q77 q1067) rfl rfl rfl (by decide +kernel) ⟨Nat.le_of_ble_eq_true rfl, Nat.le_of_ble_eq_true rfl⟩) (x_preV hK hO hD hP 6 o1 ho1 rfl rfl) rfl rfl hl.1 rfl (lv_room (Nat.le_of_ble_eq_true rfl)) dX0_first_11 ⟨(Nat.le_of_ble_eq_true rfl), (Nat.le_of_ble_eq_true rfl)⟩) hD hA hS (fun r3 u H locs hk hP hO hD hS => ?_)
  obtain ⟨hwp, eu⟩ := hk
  subst eu
  dsimp only at hP hO hD
  refine lv_iconst (v := (-1)) hx hb dX0_first_14 (by decide) ?_
  refine lv_ixor hx hb dX0_first_15 ?_
  refine lv_iand hx hb dX0_first_16 ?_
  refine lv_istore_n (lv' := [(1, .int (r2 &&& (r3 ^^^ (-1)))), (0, .ref i0)]) hx hb dX0_first_17 rfl hl (by decide) rfl (fun ls hl => ?_)
  refine lv_iload_n hx hb dX0_first_18 rfl (lv_at hl 0 rfl) ?_
  refine lv_if_ne (tgt := 26) hx hb dX0_first_19 (by decide) (fun c4 => ?_) (fun c4 => ?_)
  · replace hwp := hwp.1 c4
    refine lv_iload_n hx hb dX0_first_26 rfl (lv_at hl 0 rfl) ?_
    refine x_goi (va_runS (As := [.int (r2 &&& (r3 ^^^ (-1)))]) (rest := []) ⟨hx, hb, hml, hown, hts⟩ (xt_Jn_numberOfTrailingZeros hwp H.size) (va_cwS 1 hts (lw_S q1077 q1078 q96 q1079) rfl rfl rfl (by decide +kernel) ⟨Nat.le_of_ble_eq_true rfl, Nat.le_of_ble_eq_true rfl⟩) (x_preS hK hO hD hP) rfl rfl hl.1 rfl (lv_room (Nat.le_of_ble_eq_true rfl)) dX0_first_27 ⟨(Nat.le_of_ble_eq_true rfl), (Nat.le_of_ble_eq_true rfl)⟩) hD hA hS (fun r5 u H locs hk hP hO hD hS => ?_)
    obtain ⟨hwp, eu⟩ := hk
    subst eu
    dsimp only at hP hO hD
    exact x_iret hx hb hr hlk hP hO hD hS ⟨hwp, rfl⟩ dX0_first_30
  · replace hwp := hwp.2 c4
    refine lv_iconst (v := (-1)) hx hb dX0_first_22 (by decide) ?_
    refine lv_goto (tgt := 30) hx hb dX0_first_23 (by decide) ?_
    exact x_iret hx hb hr hlk hP hO hD hS ⟨hwp, rfl⟩ dX0_first_30
/-! S_opens -/
def xw_S_opens_21_b (δ : XSh) (K : Int32 → XSt → Prop) (i0 : Nat) (L21 : Int32 → Int32 → XSt → Prop) (x1 : Int32) (x2 : Int32) (σ : XSt) : Prop :=
  ∃ o1, σ.2.2 0 i0 4 = some o1 ∧ ((((σ.1 6 o1 0) ≤ x2) → (∀ σ3, σ3 = tI σ 6 o1 3 0 → (K x1 σ3))) ∧ ((¬ ((σ.1 6 o1 0) ≤ x2)) → (vp_in x2 8 ∧ (∀ σ5, σ5 = tI σ 10 o1 x2.toNatClampNeg 0 → (L21 x1 (x2 + 1) σ5)))))
def xw_S_opens_21 (δ : XSh) (K : Int32 → XSt → Prop) (i0 : Nat) : Nat → Int32 → Int32 → XSt → Prop
  | 0 => fun _ _ _ => False
  | n + 1 => fun x1 x2 σ => xw_S_opens_21_b δ K i0 (xw_S_opens_21 δ K i0 n) x1 x2 σ
set_option maxHeartbeats 4000000 in
set_option maxRecDepth 100000 in
theorem xk_S_opens_21_b {p : Program} {l : Launch} {e : Env} {s : State} {m : MethodId} {args : Array Value} {below : List Frame} {meth : Method} {c : Code} {Γ : GA} {δ : XSh} {K : Int32 → XSt → Prop} {i0 : Nat} (X : CX p s m args meth c cX0_opens 3 (some .int) RX0 Γ) (h0 : (0, i0) ∈ δ.1) {L21 : Int32 → Int32 → XSt → Prop} (hL21 : ∀ (x1 : Int32) (x2 : Int32) (σ : XSt), L21 x1 x2 σ → TX p l e ({ frames := 2, cells := 0, slots := 0, locals := 42 } : Room) s m args below meth c 3 0 0 (YI below (fun r u => K r u.2 ∧ u.1 = δ) 0 0 Γ δ s args) Γ δ δ σ 21 [(0, .ref i0), (1, .int x1), (2, .int x2)] []) : ∀ (x1 : Int32) (x2 : Int32) (σ : XSt), xw_S_opens_21_b δ K i0 L21 x1 x2 σ → TX p l e ({ frames := 2, cells := 0, slots := 0, locals := 42 } : Room) s m args below meth c 3 0 0 (YI below (fun r u => K r u.2 ∧ u.1 = δ) 0 0 Γ δ s args) Γ δ δ σ 21 [(0, .ref i0), (1, .int x1), (2, .int x2)] [] := by
  obtain ⟨hx, hb, hml, hown, hts, hK, hr, hlk⟩ := id X
  have hA : ∀ q, s.heap.size ≤ q → AX δ s.heap.size q := fun q h => Or.inr h
  intro x1 x2 σ hwp H locs ls hP hO hD hS hl
  unfold xw_S_opens_21_b at hwp
  refine lv_iload_n hx hb dX0_opens_21 rfl (lv_at hl 2 rfl) ?_
  refine lv_aload_n hx hb dX0_opens_22 rfl (lv_at hl 0 rfl) ?_
  obtain ⟨o1, eo1, hwp⟩ := hwp
  refine x_getr hx hb hts hown hK hP 0 i0 h0 rfl rfl in_X0 4 (by decide) q200 rfl rfl eo1 dX0_opens_23 (fun ho1 co1 => ?_)
  refine x_get hx hb hts hown hK hP 6 o1 ho1 rfl rfl in_X2 0 (by decide) q145 rfl (v := .int (σ.1 6 o1 0)) rfl dX0_opens_26 ?_
  refine lv_icmp_ge (tgt := 48) hx hb dX0_opens_29 (by decide) (fun c2 => ?_) (fun c2 => ?_)
  · replace hwp := hwp.1 c2
    refine lv_aload_n hx hb dX0_opens_48 rfl (lv_at hl 0 rfl) ?_
    refine x_getr hx hb hts hown hK hP 0 i0 h0 rfl rfl in_X0 4 (by decide) q200 rfl rfl eo1 dX0_opens_49 (fun ho1 co1 => ?_)
    refine lv_iconst (v := 0) hx hb dX0_opens_52 (by decide) ?_
    refine x_puti hx hb hts hown hK hD hP hS 6 o1 ho1 rfl rfl in_X2 tyX2 tyX2_ok nmX2 3 (by decide) q154 rfl rfl rfl rfl (Nat.le_of_ble_eq_true rfl) rfl dX0_opens_53 (fun H locs hP hS => ?_)
    obtain ⟨σ3, eσ3⟩ : ∃ z, z = tI σ 6 o1 3 0 := ⟨_, rfl⟩
    replace hP : XH Γ δ σ3 H := by rw [eσ3]; exact hP
    replace hwp := hwp σ3 eσ3
    refine lv_iload_n hx hb dX0_opens_56 rfl (lv_at hl 1 rfl) ?_
    exact x_iret hx hb hr hlk hP hO hD hS ⟨hwp, rfl⟩ dX0_opens_57
  · replace hwp := hwp.2 c2
    refine lv_aload_n hx hb dX0_opens_32 rfl (lv_at hl 0 rfl) ?_
    refine x_getr hx hb hts hown hK hP 0 i0 h0 rfl rfl in_X0 4 (by decide) q200 rfl rfl eo1 dX0_opens_33 (fun ho1 co1 => ?_)
    refine x_get hx hb hts hown hK hP 6 o1 ho1 rfl rfl in_X2 8 (by decide) q166 rfl (v := .ref (δ.2.1 10 o1)) rfl dX0_opens_36 ?_
    refine lv_iload_n hx hb dX0_opens_39 rfl (lv_at hl 2 rfl) ?_
    refine lv_iconst (v := 0) hx hb dX0_opens_40 (by decide) ?_
    obtain ⟨hi4, hwp⟩ := hwp
    refine x_iast hx hb hK hD hP hS 10 o1 ((hO.1 _ ho1).2.2) (fun _ => rfl) hi4 dX0_opens_41 (fun H locs hP hS => ?_)
    obtain ⟨σ5, eσ5⟩ : ∃ z, z = tI σ 10 o1 x2.toNatClampNeg 0 := ⟨_, rfl⟩
    replace hP : XH Γ δ σ5 H := by rw [eσ5]; exact hP
    replace hwp := hwp σ5 eσ5
    refine lv_iinc (v := x2 + 1) (lv' := [(2, .int (x2 + 1)), (0, .ref i0), (1, .int x1)]) hx hb dX0_opens_42 hl (k := 2) rfl rfl (by decide) rfl (fun ls hl => ?_)
    refine lv_goto (tgt := 21) hx hb dX0_opens_45 (by decide) ?_
    exact hL21 _ _ σ5 hwp H locs ls hP hO hD hS (lv_sub hl [1, 2, 0] rfl)
set_option maxHeartbeats 4000000 in
set_option maxRecDepth 100000 in
theorem xk_S_opens_21 {p : Program} {l : Launch} {e : Env} {s : State} {m : MethodId} {args : Array Value} {below : List Frame} {meth : Method} {c : Code} {Γ : GA} {δ : XSh} {K : Int32 → XSt → Prop} {i0 : Nat} (X : CX p s m args meth c cX0_opens 3 (some .int) RX0 Γ) (h0 : (0, i0) ∈ δ.1) : ∀ n (x1 : Int32) (x2 : Int32) (σ : XSt), xw_S_opens_21 δ K i0 n x1 x2 σ → TX p l e ({ frames := 2, cells := 0, slots := 0, locals := 42 } : Room) s m args below meth c 3 0 0 (YI below (fun r u => K r u.2 ∧ u.1 = δ) 0 0 Γ δ s args) Γ δ δ σ 21 [(0, .ref i0), (1, .int x1), (2, .int x2)] [] := by
  intro n
  induction n with
  | zero => intro _ _ _ hwp; exact hwp.elim
  | succ n ih => intro x1 x2 σ hwp; exact xk_S_opens_21_b X h0 ih x1 x2 σ hwp
def xw_S_opens (δ : XSh) (K : Int32 → XSt → Prop) (i0 : Nat) (σ : XSt) : Prop :=
  ∃ o1, σ.2.2 0 i0 4 = some o1 ∧ (xw_G_shutters δ σ (fun r2 => xw_Jn_bitCount δ σ (fun r3 => ∃ n, xw_S_opens_21 δ K i0 n (r2 + r3) 0 σ) (σ.1 6 o1 3)) o1)
set_option maxHeartbeats 4000000 in
set_option maxRecDepth 100000 in
theorem xt_S_opens {l : Launch} {Γ : GA} {δ : XSh} {σ : XSt} {K : Int32 → XSt → Prop} {i0 : Nat} (h0 : (0, i0) ∈ δ.1) (hwp : xw_S_opens δ K i0  σ) : xI l yX0_opens cX0_opens 3 (some .int) ({ frames := 2, cells := 0, slots := 0, locals := 42 } : Room) 0 0 Γ δ [.ref i0] σ (fun r u => K r u.2 ∧ u.1 = δ) := by
  intro sz
  refine x_of (by decide) [(0, .ref i0)] (fun _ h => h) (Nat.le_of_ble_eq_true rfl) ?_
  intro p e s m args below meth c hsz X H locs ls hP hO hD hS hl
  subst hsz
  obtain ⟨hx, hb, hml, hown, hts, hK, hr, hlk⟩ := id X
  have hA : ∀ q, s.heap.size ≤ q → AX δ s.heap.size q := fun q h => Or.inr h
  unfold xw_S_opens at hwp
  refine lv_aload_n hx hb dX0_opens_0 rfl (lv_at hl 0 rfl) ?_
  obtain ⟨o1, eo1, hwp⟩ := hwp
  refine x_getr hx hb hts hown hK hP 0 i0 h0 rfl rfl in_X0 4 (by decide) q200 rfl rfl eo1 dX0_opens_1 (fun ho1 co1 => ?_)
  refine x_goi (va_runV (As := []) (rest := []) ⟨hx, hb, hml, hown, hts⟩ (xt_G_shutters ho1 hwp H.size) (cwV 0 hts (lw_V q1126 q1127 q1128 q77 q1129) rfl rfl rfl (by decide +kernel) ⟨Nat.le_of_ble_eq_true rfl, Nat.le_of_ble_eq_true rfl⟩) (x_preV hK hO hD hP 6 o1 ho1 rfl rfl) rfl rfl hl.1 rfl (lv_room (Nat.le_of_ble_eq_true rfl)) dX0_opens_4 ⟨(Nat.le_of_ble_eq_true rfl), (Nat.le_of_ble_eq_true rfl)⟩) hD hA hS (fun r2 u H locs hk hP hO hD hS => ?_)
  obtain ⟨hwp, eu⟩ := hk
  subst eu
  dsimp only at hP hO hD
  refine lv_aload_n hx hb dX0_opens_7 rfl (lv_at hl 0 rfl) ?_
  refine x_getr hx hb hts hown hK hP 0 i0 h0 rfl rfl in_X0 4 (by decide) q200 rfl rfl eo1 dX0_opens_8 (fun ho1 co1 => ?_)
  refine x_get hx hb hts hown hK hP 6 o1 ho1 rfl rfl in_X2 3 (by decide) q154 rfl (v := .int (σ.1 6 o1 3)) rfl dX0_opens_11 ?_
  refine x_goi (va_runS (As := [.int (σ.1 6 o1 3)]) (rest := [.int r2]) ⟨hx, hb, hml, hown, hts⟩ (xt_Jn_bitCount hwp H.size) (va_cwS 1 hts (lw_S q1111 q644 q96 q645) rfl rfl rfl (by decide +kernel) ⟨Nat.le_of_ble_eq_true rfl, Nat.le_of_ble_eq_true rfl⟩) (x_preS hK hO hD hP) rfl rfl hl.1 rfl (lv_room (Nat.le_of_ble_eq_true rfl)) dX0_opens_14 ⟨(Nat.le_of_ble_eq_true rfl), (Nat.le_of_ble_eq_true rfl)⟩) hD hA hS (fun r3 u H locs hk hP hO hD hS => ?_)
  obtain ⟨hwp, eu⟩ := hk
  subst eu
  dsimp only at hP hO hD
  refine lv_iadd hx hb dX0_opens_17 ?_
  refine lv_istore_n (lv' := [(1, .int (r2 + r3)), (0, .ref i0)]) hx hb dX0_opens_18 rfl hl (by decide) rfl (fun ls hl => ?_)
  refine lv_iconst (v := 0) hx hb dX0_opens_19 (by decide) ?_
  refine lv_istore_n (lv' := [(2, .int 0), (1, .int (r2 + r3)), (0, .ref i0)]) hx hb dX0_opens_20 rfl hl (by decide) rfl (fun ls hl => ?_)
  obtain ⟨n, hwp⟩ := hwp
  exact xk_S_opens_21 X h0 n _ _ σ hwp H locs ls hP hO hD hS (lv_sub hl [2, 1, 0] rfl)
/-! S_pairs -/
def xw_S_pairs_27_b (δ : XSh) (σ : XSt) (K : Int32 → Prop) (i0 : Nat) (L4 : Int32 → Int32 → Prop) (L27 : Int32 → Int32 → Int32 → Int32 → Prop) (x1 : Int32) (x2 : Int32) (x3 : Int32) (x4 : Int32) : Prop :=
  ((x2 ≤ x4) → (L4 x1 (x2 + 1))) ∧ ((¬ (x2 ≤ x4)) → (((((x3 >>> (x4 &&& 31)) &&& 1) = 0) → (L27 (x1 + 0) x2 x3 (x4 + 1))) ∧ ((¬ (((x3 >>> (x4 &&& 31)) &&& 1) = 0)) → (∃ o3, σ.2.2 0 i0 4 = some o3 ∧ (xw_G_into δ σ (fun r4 => ((((r4 >>> (x2 &&& 31)) &&& 1) = 0) → (L27 (x1 + 0) x2 x3 (x4 + 1))) ∧ ((¬ (((r4 >>> (x2 &&& 31)) &&& 1) = 0)) → (L27 (x1 + 1) x2 x3 (x4 + 1)))) o3 x4)))))
def xw_S_pairs_27 (δ : XSh) (σ : XSt) (K : Int32 → Prop) (i0 : Nat) (L4 : Int32 → Int32 → Prop) : Nat → Int32 → Int32 → Int32 → Int32 → Prop
  | 0 => fun _ _ _ _ => False
  | n + 1 => fun x1 x2 x3 x4 => xw_S_pairs_27_b δ σ K i0 L4 (xw_S_pairs_27 δ σ K i0 L4 n) x1 x2 x3 x4
set_option maxHeartbeats 4000000 in
set_option maxRecDepth 100000 in
theorem xk_S_pairs_27_b {p : Program} {l : Launch} {e : Env} {s : State} {m : MethodId} {args : Array Value} {below : List Frame} {meth : Method} {c : Code} {Γ : GA} {δ : XSh} {σ : XSt} {K : Int32 → Prop} {i0 : Nat} (X : CX p s m args meth c cX0_pairs 5 (some .int) RX0 Γ) (h0 : (0, i0) ∈ δ.1) {L4 : Int32 → Int32 → Prop} (hL4 : ∀ (x1 : Int32) (x2 : Int32), L4 x1 x2 → TX p l e ({ frames := 22, cells := 0, slots := 0, locals := 477 } : Room) s m args below meth c 5 0 0 (YI below (fun r u => K r ∧ u = (δ, σ)) 0 0 Γ δ s args) Γ δ δ σ 4 [(0, .ref i0), (1, .int x1), (2, .int x2)] []) {L27 : Int32 → Int32 → Int32 → Int32 → Prop} (hL27 : ∀ (x1 : Int32) (x2 : Int32) (x3 : Int32) (x4 : Int32), L27 x1 x2 x3 x4 → TX p l e ({ frames := 22, cells := 0, slots := 0, locals := 477 } : Room) s m args below meth c 5 0 0 (YI below (fun r u => K r ∧ u = (δ, σ)) 0 0 Γ δ s args) Γ δ δ σ 27 [(0, .ref i0), (1, .int x1), (2, .int x2), (3, .int x3), (4, .int x4)] []) : ∀ (x1 : Int32) (x2 : Int32) (x3 : Int32) (x4 : Int32), xw_S_pairs_27_b δ σ K i0 L4 L27 x1 x2 x3 x4 → TX p l e ({ frames := 22, cells := 0, slots := 0, locals := 477 } : Room) s m args below meth c 5 0 0 (YI below (fun r u => K r ∧ u = (δ, σ)) 0 0 Γ δ s args) Γ δ δ σ 27 [(0, .ref i0), (1, .int x1), (2, .int x2), (3, .int x3), (4, .int x4)] [] := by
  obtain ⟨hx, hb, hml, hown, hts, hK, hr, hlk⟩ := id X
  have hA : ∀ q, s.heap.size ≤ q → AX δ s.heap.size q := fun q h => Or.inr h
  intro x1 x2 x3 x4 hwp H locs ls hP hO hD hS hl
  unfold xw_S_pairs_27_b at hwp
  refine lv_iload hx hb dX0_pairs_27 (lv_at hl 4 rfl) ?_
  refine lv_iload_n hx hb dX0_pairs_29 rfl (lv_at hl 2 rfl) ?_
  refine lv_icmp_ge (tgt := 72) hx hb dX0_pairs_30 (by decide) (fun c1 => ?_) (fun c1 => ?_)
  · replace hwp := hwp.1 c1
    refine lv_iinc (v := x2 + 1) (lv' := [(2, .int (x2 + 1)), (0, .ref i0), (1, .int x1), (3, .int x3), (4, .int x4)]) hx hb dX0_pairs_72 hl (k := 2) rfl rfl (by decide) rfl (fun ls hl => ?_)
    refine lv_goto (tgt := 4) hx hb dX0_pairs_75 (by decide) ?_
    exact hL4 _ _ hwp H locs ls hP hO hD hS (lv_sub hl [1, 2, 0] rfl)
  · replace hwp := hwp.2 c1
    refine lv_iload_n hx hb dX0_pairs_33 rfl (lv_at hl 1 rfl) ?_
    refine lv_iload_n hx hb dX0_pairs_34 rfl (lv_at hl 3 rfl) ?_
    refine lv_iload hx hb dX0_pairs_35 (lv_at hl 4 rfl) ?_
    refine lv_ishr hx hb dX0_pairs_37 ?_
    refine lv_iconst (v := 1) hx hb dX0_pairs_38 (by decide) ?_
    refine lv_iand hx hb dX0_pairs_39 ?_
    refine lv_if_eq (tgt := 63) hx hb dX0_pairs_40 (by decide) (fun c2 => ?_) (fun c2 => ?_)
    · replace hwp := hwp.1 c2
      refine lv_iconst (v := 0) hx hb dX0_pairs_63 (by decide) ?_
      refine lv_iadd hx hb dX0_pairs_64 ?_
      refine lv_istore_n (lv' := [(1, .int (x1 + 0)), (0, .ref i0), (2, .int x2), (3, .int x3), (4, .int x4)]) hx hb dX0_pairs_65 rfl hl (by decide) rfl (fun ls hl => ?_)
      refine lv_iinc (v := x4 + 1) (lv' := [(4, .int (x4 + 1)), (1, .int (x1 + 0)), (0, .ref i0), (2, .int x2), (3, .int x3)]) hx hb dX0_pairs_66 hl (k := 4) rfl rfl (by decide) rfl (fun ls hl => ?_)
      refine lv_goto (tgt := 27) hx hb dX0_pairs_69 (by decide) ?_
      exact hL27 _ _ _ _ hwp H locs ls hP hO hD hS (lv_sub hl [2, 1, 3, 4, 0] rfl)
    · replace hwp := hwp.2 c2
      refine lv_aload_n hx hb dX0_pairs_43 rfl (lv_at hl 0 rfl) ?_
      obtain ⟨o3, eo3, hwp⟩ := hwp
      refine x_getr hx hb hts hown hK hP 0 i0 h0 rfl rfl in_X0 4 (by decide) q200 rfl rfl eo3 dX0_pairs_44 (fun ho3 co3 => ?_)
      refine lv_iload hx hb dX0_pairs_47 (lv_at hl 4 rfl) ?_
      refine x_goi (va_runV (As := [.int x4]) (rest := [.int x1]) ⟨hx, hb, hml, hown, hts⟩ (xt_G_into ho3 hwp H.size) (cwV 1 hts (lw_V q1168 q538 q539 q77 q540) rfl rfl rfl (by decide +kernel) ⟨Nat.le_of_ble_eq_true rfl, Nat.le_of_ble_eq_true rfl⟩) (x_preV hK hO hD hP 6 o3 ho3 rfl rfl) rfl rfl hl.1 rfl (lv_room (Nat.le_of_ble_eq_true rfl)) dX0_pairs_49 ⟨(Nat.le_of_ble_eq_true rfl), (Nat.le_of_ble_eq_true rfl)⟩) hD hA hS (fun r4 u H locs hk hP hO hD hS => ?_)
      obtain ⟨hwp, eu⟩ := hk
      subst eu
      dsimp only at hP hO hD
      refine lv_iload_n hx hb dX0_pairs_52 rfl (lv_at hl 2 rfl) ?_
      refine lv_ishr hx hb dX0_pairs_53 ?_
      refine lv_iconst (v := 1) hx hb dX0_pairs_54 (by decide) ?_
      refine lv_iand hx hb dX0_pairs_55 ?_
      refine lv_if_eq (tgt := 63) hx hb dX0_pairs_56 (by decide) (fun c5 => ?_) (fun c5 => ?_)
      · replace hwp := hwp.1 c5
        refine lv_iconst (v := 0) hx hb dX0_pairs_63 (by decide) ?_
        refine lv_iadd hx hb dX0_pairs_64 ?_
        refine lv_istore_n (lv' := [(1, .int (x1 + 0)), (0, .ref i0), (2, .int x2), (3, .int x3), (4, .int x4)]) hx hb dX0_pairs_65 rfl hl (by decide) rfl (fun ls hl => ?_)
        refine lv_iinc (v := x4 + 1) (lv' := [(4, .int (x4 + 1)), (1, .int (x1 + 0)), (0, .ref i0), (2, .int x2), (3, .int x3)]) hx hb dX0_pairs_66 hl (k := 4) rfl rfl (by decide) rfl (fun ls hl => ?_)
        refine lv_goto (tgt := 27) hx hb dX0_pairs_69 (by decide) ?_
        exact hL27 _ _ _ _ hwp H locs ls hP hO hD hS (lv_sub hl [2, 1, 3, 4, 0] rfl)
      · replace hwp := hwp.2 c5
        refine lv_iconst (v := 1) hx hb dX0_pairs_59 (by decide) ?_
        refine lv_goto (tgt := 64) hx hb dX0_pairs_60 (by decide) ?_
        refine lv_iadd hx hb dX0_pairs_64 ?_
        refine lv_istore_n (lv' := [(1, .int (x1 + 1)), (0, .ref i0), (2, .int x2), (3, .int x3), (4, .int x4)]) hx hb dX0_pairs_65 rfl hl (by decide) rfl (fun ls hl => ?_)
        refine lv_iinc (v := x4 + 1) (lv' := [(4, .int (x4 + 1)), (1, .int (x1 + 1)), (0, .ref i0), (2, .int x2), (3, .int x3)]) hx hb dX0_pairs_66 hl (k := 4) rfl rfl (by decide) rfl (fun ls hl => ?_)
        refine lv_goto (tgt := 27) hx hb dX0_pairs_69 (by decide) ?_
        exact hL27 _ _ _ _ hwp H locs ls hP hO hD hS (lv_sub hl [2, 1, 3, 4, 0] rfl)
set_option maxHeartbeats 4000000 in
set_option maxRecDepth 100000 in
theorem xk_S_pairs_27 {p : Program} {l : Launch} {e : Env} {s : State} {m : MethodId} {args : Array Value} {below : List Frame} {meth : Method} {c : Code} {Γ : GA} {δ : XSh} {σ : XSt} {K : Int32 → Prop} {i0 : Nat} (X : CX p s m args meth c cX0_pairs 5 (some .int) RX0 Γ) (h0 : (0, i0) ∈ δ.1) {L4 : Int32 → Int32 → Prop} (hL4 : ∀ (x1 : Int32) (x2 : Int32), L4 x1 x2 → TX p l e ({ frames := 22, cells := 0, slots := 0, locals := 477 } : Room) s m args below meth c 5 0 0 (YI below (fun r u => K r ∧ u = (δ, σ)) 0 0 Γ δ s args) Γ δ δ σ 4 [(0, .ref i0), (1, .int x1), (2, .int x2)] []) : ∀ n (x1 : Int32) (x2 : Int32) (x3 : Int32) (x4 : Int32), xw_S_pairs_27 δ σ K i0 L4 n x1 x2 x3 x4 → TX p l e ({ frames := 22, cells := 0, slots := 0, locals := 477 } : Room) s m args below meth c 5 0 0 (YI below (fun r u => K r ∧ u = (δ, σ)) 0 0 Γ δ s args) Γ δ δ σ 27 [(0, .ref i0), (1, .int x1), (2, .int x2), (3, .int x3), (4, .int x4)] [] := by
  intro n
  induction n with
  | zero => intro _ _ _ _ hwp; exact hwp.elim
  | succ n ih => intro x1 x2 x3 x4 hwp; exact xk_S_pairs_27_b X h0 hL4 ih x1 x2 x3 x4 hwp
def xw_S_pairs_4_b (δ : XSh) (σ : XSt) (K : Int32 → Prop) (i0 : Nat) (L4 : Int32 → Int32 → Prop) (x1 : Int32) (x2 : Int32) : Prop :=
  ∃ o1, σ.2.2 0 i0 4 = some o1 ∧ ((((σ.1 6 o1 0) ≤ x2) → (K x1)) ∧ ((¬ ((σ.1 6 o1 0) ≤ x2)) → (xw_G_into δ σ (fun r3 => ∃ n, xw_S_pairs_27 δ σ K i0 L4 n x1 x2 r3 0) o1 x2)))
def xw_S_pairs_4 (δ : XSh) (σ : XSt) (K : Int32 → Prop) (i0 : Nat) : Nat → Int32 → Int32 → Prop
  | 0 => fun _ _ => False
  | n + 1 => fun x1 x2 => xw_S_pairs_4_b δ σ K i0 (xw_S_pairs_4 δ σ K i0 n) x1 x2
set_option maxHeartbeats 4000000 in
set_option maxRecDepth 100000 in
theorem xk_S_pairs_4_b {p : Program} {l : Launch} {e : Env} {s : State} {m : MethodId} {args : Array Value} {below : List Frame} {meth : Method} {c : Code} {Γ : GA} {δ : XSh} {σ : XSt} {K : Int32 → Prop} {i0 : Nat} (X : CX p s m args meth c cX0_pairs 5 (some .int) RX0 Γ) (h0 : (0, i0) ∈ δ.1) {L4 : Int32 → Int32 → Prop} (hL4 : ∀ (x1 : Int32) (x2 : Int32), L4 x1 x2 → TX p l e ({ frames := 22, cells := 0, slots := 0, locals := 477 } : Room) s m args below meth c 5 0 0 (YI below (fun r u => K r ∧ u = (δ, σ)) 0 0 Γ δ s args) Γ δ δ σ 4 [(0, .ref i0), (1, .int x1), (2, .int x2)] []) : ∀ (x1 : Int32) (x2 : Int32), xw_S_pairs_4_b δ σ K i0 L4 x1 x2 → TX p l e ({ frames := 22, cells := 0, slots := 0, locals := 477 } : Room) s m args below meth c 5 0 0 (YI below (fun r u => K r ∧ u = (δ, σ)) 0 0 Γ δ s args) Γ δ δ σ 4 [(0, .ref i0), (1, .int x1), (2, .int x2)] [] := by
  obtain ⟨hx, hb, hml, hown, hts, hK, hr, hlk⟩ := id X
  have hA : ∀ q, s.heap.size ≤ q → AX δ s.heap.size q := fun q h => Or.inr h
  intro x1 x2 hwp H locs ls hP hO hD hS hl
  unfold xw_S_pairs_4_b at hwp
  refine lv_iload_n hx hb dX0_pairs_4 rfl (lv_at hl 2 rfl) ?_
  refine lv_aload_n hx hb dX0_pairs_5 rfl (lv_at hl 0 rfl) ?_
  obtain ⟨o1, eo1, hwp⟩ := hwp
  refine x_getr hx hb hts hown hK hP 0 i0 h0 rfl rfl in_X0 4 (by decide) q200 rfl rfl eo1 dX0_pairs_6 (fun ho1 co1 => ?_)
  refine x_get hx hb hts hown hK hP 6 o1 ho1 rfl rfl in_X2 0 (by decide) q145 rfl (v := .int (σ.1 6 o1 0)) rfl dX0_pairs_9 ?_
  refine lv_icmp_ge (tgt := 78) hx hb dX0_pairs_12 (by decide) (fun c2 => ?_) (fun c2 => ?_)
  · replace hwp := hwp.1 c2
    refine lv_iload_n hx hb dX0_pairs_78 rfl (lv_at hl 1 rfl) ?_
    exact x_iret hx hb hr hlk hP hO hD hS ⟨hwp, rfl⟩ dX0_pairs_79
  · replace hwp := hwp.2 c2
    refine lv_aload_n hx hb dX0_pairs_15 rfl (lv_at hl 0 rfl) ?_
    refine x_getr hx hb hts hown hK hP 0 i0 h0 rfl rfl in_X0 4 (by decide) q200 rfl rfl eo1 dX0_pairs_16 (fun ho1 co1 => ?_)
    refine lv_iload_n hx hb dX0_pairs_19 rfl (lv_at hl 2 rfl) ?_
    refine x_goi (va_runV (As := [.int x2]) (rest := []) ⟨hx, hb, hml, hown, hts⟩ (xt_G_into ho1 hwp H.size) (cwV 1 hts (lw_V q1168 q538 q539 q77 q540) rfl rfl rfl (by decide +kernel) ⟨Nat.le_of_ble_eq_true rfl, Nat.le_of_ble_eq_true rfl⟩) (x_preV hK hO hD hP 6 o1 ho1 rfl rfl) rfl rfl hl.1 rfl (lv_room (Nat.le_of_ble_eq_true rfl)) dX0_pairs_20 ⟨(Nat.le_of_ble_eq_true rfl), (Nat.le_of_ble_eq_true rfl)⟩) hD hA hS (fun r3 u H locs hk hP hO hD hS => ?_)
    obtain ⟨hwp, eu⟩ := hk
    subst eu
    dsimp only at hP hO hD
    refine lv_istore_n (lv' := [(3, .int r3), (0, .ref i0), (1, .int x1), (2, .int x2)]) hx hb dX0_pairs_23 rfl hl (by decide) rfl (fun ls hl => ?_)
    refine lv_iconst (v := 0) hx hb dX0_pairs_24 (by decide) ?_
    refine lv_istore (lv' := [(4, .int 0), (3, .int r3), (0, .ref i0), (1, .int x1), (2, .int x2)]) hx hb dX0_pairs_25 hl (by decide) rfl (fun ls hl => ?_)
    obtain ⟨n, hwp⟩ := hwp
    exact xk_S_pairs_27 X h0 hL4 n _ _ _ _ hwp H locs ls hP hO hD hS (lv_sub hl [2, 3, 4, 1, 0] rfl)
set_option maxHeartbeats 4000000 in
set_option maxRecDepth 100000 in
theorem xk_S_pairs_4 {p : Program} {l : Launch} {e : Env} {s : State} {m : MethodId} {args : Array Value} {below : List Frame} {meth : Method} {c : Code} {Γ : GA} {δ : XSh} {σ : XSt} {K : Int32 → Prop} {i0 : Nat} (X : CX p s m args meth c cX0_pairs 5 (some .int) RX0 Γ) (h0 : (0, i0) ∈ δ.1) : ∀ n (x1 : Int32) (x2 : Int32), xw_S_pairs_4 δ σ K i0 n x1 x2 → TX p l e ({ frames := 22, cells := 0, slots := 0, locals := 477 } : Room) s m args below meth c 5 0 0 (YI below (fun r u => K r ∧ u = (δ, σ)) 0 0 Γ δ s args) Γ δ δ σ 4 [(0, .ref i0), (1, .int x1), (2, .int x2)] [] := by
  intro n
  induction n with
  | zero => intro _ _ hwp; exact hwp.elim
  | succ n ih => intro x1 x2 hwp; exact xk_S_pairs_4_b X h0 ih x1 x2 hwp
def xw_S_pairs (δ : XSh) (σ : XSt) (K : Int32 → Prop) (i0 : Nat) : Prop :=
  ∃ n, xw_S_pairs_4 δ σ K i0 n 0 0
set_option maxHeartbeats 4000000 in
set_option maxRecDepth 100000 in
theorem xt_S_pairs {l : Launch} {Γ : GA} {δ : XSh} {σ : XSt} {K : Int32 → Prop} {i0 : Nat} (h0 : (0, i0) ∈ δ.1) (hwp : xw_S_pairs δ σ K i0 ) : xI l yX0_pairs cX0_pairs 5 (some .int) ({ frames := 22, cells := 0, slots := 0, locals := 477 } : Room) 0 0 Γ δ [.ref i0] σ (fun r u => K r ∧ u = (δ, σ)) := by
  intro sz
  refine x_of (by decide) [(0, .ref i0)] (fun _ h => h) (Nat.le_of_ble_eq_true rfl) ?_
  intro p e s m args below meth c hsz X H locs ls hP hO hD hS hl
  subst hsz
  obtain ⟨hx, hb, hml, hown, hts, hK, hr, hlk⟩ := id X
  have hA : ∀ q, s.heap.size ≤ q → AX δ s.heap.size q := fun q h => Or.inr h
  unfold xw_S_pairs at hwp
  refine lv_iconst (v := 0) hx hb dX0_pairs_0 (by decide) ?_
  refine lv_istore_n (lv' := [(1, .int 0), (0, .ref i0)]) hx hb dX0_pairs_1 rfl hl (by decide) rfl (fun ls hl => ?_)
  refine lv_iconst (v := 0) hx hb dX0_pairs_2 (by decide) ?_
  refine lv_istore_n (lv' := [(2, .int 0), (1, .int 0), (0, .ref i0)]) hx hb dX0_pairs_3 rfl hl (by decide) rfl (fun ls hl => ?_)
  obtain ⟨n, hwp⟩ := hwp
  exact xk_S_pairs_4 X h0 n _ _ hwp H locs ls hP hO hD hS (lv_sub hl [2, 1, 0] rfl)
/-! S_seed -/
def xw_S_seed (δ : XSh) (K : Int32 → XSt → Prop) (i0 : Nat) (x1 : Int32) (σ : XSt) : Prop :=
  ∃ o1, σ.2.2 0 i0 4 = some o1 ∧ (∀ σ2, σ2 = tI σ 6 o1 5 x1 → (K (σ.1 6 o1 5) σ2))
set_option maxHeartbeats 4000000 in
set_option maxRecDepth 100000 in
theorem xt_S_seed {l : Launch} {Γ : GA} {δ : XSh} {σ : XSt} {K : Int32 → XSt → Prop} {i0 : Nat} (h0 : (0, i0) ∈ δ.1) {x1 : Int32} (hwp : xw_S_seed δ K i0 x1 σ) : xI l yX0_seed cX0_seed 3 (some .int) ({ frames := 0, cells := 0, slots := 0, locals := 0 } : Room) 0 0 Γ δ [.ref i0, .int x1] σ (fun r u => K r u.2 ∧ u.1 = δ) := by
  intro sz
  refine x_of (by decide) [(0, .ref i0), (1, .int x1)] (fun _ h => h) (Nat.le_of_ble_eq_true rfl) ?_
  intro p e s m args below meth c hsz X H locs ls hP hO hD hS hl
  subst hsz
  obtain ⟨hx, hb, hml, hown, hts, hK, hr, hlk⟩ := id X
  have hA : ∀ q, s.heap.size ≤ q → AX δ s.heap.size q := fun q h => Or.inr h
  unfold xw_S_seed at hwp
  refine lv_aload_n hx hb dX0_seed_0 rfl (lv_at hl 0 rfl) ?_
  obtain ⟨o1, eo1, hwp⟩ := hwp
  refine x_getr hx hb hts hown hK hP 0 i0 h0 rfl rfl in_X0 4 (by decide) q200 rfl rfl eo1 dX0_seed_1 (fun ho1 co1 => ?_)
  refine x_get hx hb hts hown hK hP 6 o1 ho1 rfl rfl in_X2 5 (by decide) q158 rfl (v := .int (σ.1 6 o1 5)) rfl dX0_seed_4 ?_
  refine lv_istore_n (lv' := [(2, .int (σ.1 6 o1 5)), (0, .ref i0), (1, .int x1)]) hx hb dX0_seed_7 rfl hl (by decide) rfl (fun ls hl => ?_)
  refine lv_aload_n hx hb dX0_seed_8 rfl (lv_at hl 1 rfl) ?_
  refine x_getr hx hb hts hown hK hP 0 i0 h0 rfl rfl in_X0 4 (by decide) q200 rfl rfl eo1 dX0_seed_9 (fun ho1 co1 => ?_)
  refine lv_iload_n hx hb dX0_seed_12 rfl (lv_at hl 2 rfl) ?_
  refine x_puti hx hb hts hown hK hD hP hS 6 o1 ho1 rfl rfl in_X2 tyX2 tyX2_ok nmX2 5 (by decide) q158 rfl rfl rfl rfl (Nat.le_of_ble_eq_true rfl) rfl dX0_seed_13 (fun H locs hP hS => ?_)
  obtain ⟨σ2, eσ2⟩ : ∃ z, z = tI σ 6 o1 5 x1 := ⟨_, rfl⟩
  replace hP : XH Γ δ σ2 H := by rw [eσ2]; exact hP
  replace hwp := hwp σ2 eσ2
  refine lv_iload_n hx hb dX0_seed_16 rfl (lv_at hl 0 rfl) ?_
  exact x_iret hx hb hr hlk hP hO hD hS ⟨hwp, rfl⟩ dX0_seed_17
/-! S_act -/
def xw_S_act (δ : XSh) (K : Int32 → XSt → Prop) (i0 : Nat) (x1 : Int32) (x2 : Int32) (x3 : Int32) (σ : XSt) : Prop :=
  ∀ σ1, σ1 = tI σ 3 i0 1 0 → (∃ o2, σ1.2.2 0 i0 4 = some o2 ∧ (xw_G_isThing δ σ1 (fun r3 => ((¬ (r3 = 0)) → (vp_in x1 8 ∧ ∃ o6, σ1.2.2 8 o2 x1.toNatClampNeg = some o6 ∧ (((x2 < 0 ∨ 2 < x2) → (K 0 σ1)) ∧ (x2 = 0 → (xv_T_standing δ (fun r8 σ9 => K r8 σ9) o6 i0 x3 σ1)) ∧ (x2 = 1 → (xv_T_looking δ (fun r10 σ11 => K r10 σ11) o6 i0 x3 σ1)) ∧ (x2 = 2 → (xv_T_hiding δ (fun r12 σ13 => K r12 σ13) o6 i0 x3 σ1))))) ∧ ((r3 = 0) → (K 0 σ1))) o2 x1))
set_option maxHeartbeats 4000000 in
set_option maxRecDepth 100000 in
theorem xt_S_act {l : Launch} {Γ : GA} {δ : XSh} {σ : XSt} {K : Int32 → XSt → Prop} {i0 : Nat} (h0 : (0, i0) ∈ δ.1) {x1 : Int32} {x2 : Int32} {x3 : Int32} (hwp : xw_S_act δ K i0 x1 x2 x3 σ) : xI l yX0_act cX0_act 5 (some .int) ({ frames := 9, cells := 0, slots := 0, locals := 198 } : Room) 0 0 Γ δ [.ref i0, .int x1, .int x2, .int x3] σ (fun r u => K r u.2 ∧ u.1 = δ) := by
  intro sz
  refine x_of (by decide) [(0, .ref i0), (1, .int x1), (2, .int x2), (3, .int x3)] (fun _ h => h) (Nat.le_of_ble_eq_true rfl) ?_
  intro p e s m args below meth c hsz X H locs ls hP hO hD hS hl
  subst hsz
  obtain ⟨hx, hb, hml, hown, hts, hK, hr, hlk⟩ := id X
  have hA : ∀ q, s.heap.size ≤ q → AX δ s.heap.size q := fun q h => Or.inr h
  unfold xw_S_act at hwp
  refine lv_aload_n hx hb dX0_act_0 rfl (lv_at hl 0 rfl) ?_
  refine x_get hx hb hts hown hK hP 0 i0 h0 rfl rfl in_X0 2 (by decide) q198 rfl (v := .ref (δ.2.1 3 i0)) rfl dX0_act_1 ?_
  refine lv_iconst (v := 0) hx hb dX0_act_4 (by decide) ?_
  refine x_puti hx hb hts hown hK hD hP hS 3 i0 ((hO.2.2.1 _ h0).2.2) rfl rfl in_X1 tyX1 tyX1_ok nmX1 1 (by decide) q128 rfl rfl rfl rfl (Nat.le_of_ble_eq_true rfl) rfl dX0_act_5 (fun H locs hP hS => ?_)
  obtain ⟨σ1, eσ1⟩ : ∃ z, z = tI σ 3 i0 1 0 := ⟨_, rfl⟩
  replace hP : XH Γ δ σ1 H := by rw [eσ1]; exact hP
  replace hwp := hwp σ1 eσ1
  refine lv_aload_n hx hb dX0_act_8 rfl (lv_at hl 0 rfl) ?_
  obtain ⟨o2, eo2, hwp⟩ := hwp
  refine x_getr hx hb hts hown hK hP 0 i0 h0 rfl rfl in_X0 4 (by decide) q200 rfl rfl eo2 dX0_act_9 (fun ho2 co2 => ?_)
  refine lv_iload_n hx hb dX0_act_12 rfl (lv_at hl 1 rfl) ?_
  refine x_goi (va_runV (As := [.int x1]) (rest := []) ⟨hx, hb, hml, hown, hts⟩ (xt_G_isThing ho2 hwp H.size) (cwV 1 hts (lw_V q512 q513 q514 q77 q515) rfl rfl rfl (by decide +kernel) ⟨Nat.le_of_ble_eq_true rfl, Nat.le_of_ble_eq_true rfl⟩) (x_preV hK hO hD hP 6 o2 ho2 rfl rfl) rfl rfl hl.1 rfl (lv_room (Nat.le_of_ble_eq_true rfl)) dX0_act_13 ⟨(Nat.le_of_ble_eq_true rfl), (Nat.le_of_ble_eq_true rfl)⟩) hD hA hS (fun r3 u H locs hk hP hO hD hS => ?_)
  obtain ⟨hwp, eu⟩ := hk
  subst eu
  dsimp only at hP hO hD
  refine lv_if_ne (tgt := 21) hx hb dX0_act_16 (by decide) (fun c4 => ?_) (fun c4 => ?_)
  · replace hwp := hwp.1 c4
    refine lv_aload_n hx hb dX0_act_21 rfl (lv_at hl 0 rfl) ?_
    refine x_getr hx hb hts hown hK hP 0 i0 h0 rfl rfl in_X0 4 (by decide) q200 rfl rfl eo2 dX0_act_22 (fun ho2 co2 => ?_)
    refine x_get hx hb hts hown hK hP 6 o2 ho2 rfl rfl in_X2 6 (by decide) q160 rfl (v := .ref (δ.2.1 8 o2)) rfl dX0_act_25 ?_
    refine lv_iload_n hx hb dX0_act_28 rfl (lv_at hl 1 rfl) ?_
    obtain ⟨hi5, o6, eo6, hwp⟩ := hwp
    refine x_aald hx hb hK hP 8 o2 ((hO.1 _ ho2).1) (Or.inl rfl) hi5 eo6 dX0_act_29 (fun ho6 co6 => ?_)
    refine lv_astore (lv' := [(4, .ref o6), (0, .ref i0), (1, .int x1), (2, .int x2), (3, .int x3)]) hx hb dX0_act_30 hl (by decide) rfl (fun ls hl => ?_)
    refine lv_iload_n hx hb dX0_act_32 rfl (lv_at hl 3 rfl) ?_
    by_cases c7 : (x2 < 0 ∨ 2 < x2)
    · replace hwp := hwp.1 c7
      refine lv_tableOut (tgt := 93) hx hb dX0_act_33 (sw_out c7) (by decide) ?_
      refine lv_iconst (v := 0) hx hb dX0_act_93 (by decide) ?_
      exact x_iret hx hb hr hlk hP hO hD hS ⟨hwp, rfl⟩ dX0_act_94
    · obtain ⟨j, hj, ej⟩ := sw_of (n := 2) (by decide) c7
      match j, hj, ej with
      | 0, _, ej =>
        have ej : x2 = 0 := ej
        replace hwp := hwp.2.1 ej
        refine lv_tableIn (off := 27) (tgt := 60) hx hb dX0_act_33 (by rw [ej]; decide) (by rw [ej]; decide) (by rw [ej]; rfl) (by decide) ?_
        refine lv_aload hx hb dX0_act_60 (lv_at hl 0 rfl) ?_
        refine lv_iload_n hx hb dX0_act_62 rfl (lv_at hl 4 rfl) ?_
        refine lv_aload_n hx hb dX0_act_63 rfl (lv_at hl 1 rfl) ?_
        refine x_get hx hb hts hown hK hP 0 i0 h0 rfl rfl in_X0 2 (by decide) q198 rfl (v := .ref (δ.2.1 3 i0)) rfl dX0_act_64 ?_
        refine x_goi (xr_T_standing (As := [.int x3, .ref (δ.2.1 3 i0)]) (rest := []) ⟨hx, hb, hml, hown, hts⟩ hK hD hO hP ho6 (co6.1 rfl) ((hO.2.2.1 _ h0).2.2) hwp q1242 ⟨Nat.le_of_ble_eq_true rfl, Nat.le_of_ble_eq_true rfl⟩ rfl hl.1 rfl (Nat.le_of_ble_eq_true rfl) dX0_act_67 ⟨(Nat.le_of_ble_eq_true rfl), (Nat.le_of_ble_eq_true rfl)⟩) hD hA hS (fun r8 u H locs hk hP hO hD hS => ?_)
        obtain ⟨u1, σ9⟩ := u
        obtain ⟨hwp, eu⟩ := hk
        have eu : δ = u1 := eu.symm
        subst eu
        dsimp only at hP hO hD hwp
        exact x_iret hx hb hr hlk hP hO hD hS ⟨hwp, rfl⟩ dX0_act_70
      | 1, _, ej =>
        have ej : x2 = 1 := ej
        replace hwp := hwp.2.2.1 ej
        refine lv_tableIn (off := 38) (tgt := 71) hx hb dX0_act_33 (by rw [ej]; decide) (by rw [ej]; decide) (by rw [ej]; rfl) (by decide) ?_
        refine lv_aload hx hb dX0_act_71 (lv_at hl 0 rfl) ?_
        refine lv_iload_n hx hb dX0_act_73 rfl (lv_at hl 4 rfl) ?_
        refine lv_aload_n hx hb dX0_act_74 rfl (lv_at hl 1 rfl) ?_
        refine x_get hx hb hts hown hK hP 0 i0 h0 rfl rfl in_X0 2 (by decide) q198 rfl (v := .ref (δ.2.1 3 i0)) rfl dX0_act_75 ?_
        refine x_goi (xr_T_looking (As := [.int x3, .ref (δ.2.1 3 i0)]) (rest := []) ⟨hx, hb, hml, hown, hts⟩ hK hD hO hP ho6 (co6.1 rfl) ((hO.2.2.1 _ h0).2.2) hwp q1271 ⟨Nat.le_of_ble_eq_true rfl, Nat.le_of_ble_eq_true rfl⟩ rfl hl.1 rfl (Nat.le_of_ble_eq_true rfl) dX0_act_78 ⟨(Nat.le_of_ble_eq_true rfl), (Nat.le_of_ble_eq_true rfl)⟩) hD hA hS (fun r10 u H locs hk hP hO hD hS => ?_)
        obtain ⟨u1, σ11⟩ := u
        obtain ⟨hwp, eu⟩ := hk
        have eu : δ = u1 := eu.symm
        subst eu
        dsimp only at hP hO hD hwp
        exact x_iret hx hb hr hlk hP hO hD hS ⟨hwp, rfl⟩ dX0_act_81
      | 2, _, ej =>
        have ej : x2 = 2 := ej
        replace hwp := hwp.2.2.2 ej
        refine lv_tableIn (off := 49) (tgt := 82) hx hb dX0_act_33 (by rw [ej]; decide) (by rw [ej]; decide) (by rw [ej]; rfl) (by decide) ?_
        refine lv_aload hx hb dX0_act_82 (lv_at hl 0 rfl) ?_
        refine lv_iload_n hx hb dX0_act_84 rfl (lv_at hl 4 rfl) ?_
        refine lv_aload_n hx hb dX0_act_85 rfl (lv_at hl 1 rfl) ?_
        refine x_get hx hb hts hown hK hP 0 i0 h0 rfl rfl in_X0 2 (by decide) q198 rfl (v := .ref (δ.2.1 3 i0)) rfl dX0_act_86 ?_
        refine x_goi (xr_T_hiding (As := [.int x3, .ref (δ.2.1 3 i0)]) (rest := []) ⟨hx, hb, hml, hown, hts⟩ hK hD hO hP ho6 (co6.1 rfl) ((hO.2.2.1 _ h0).2.2) hwp q1296 ⟨Nat.le_of_ble_eq_true rfl, Nat.le_of_ble_eq_true rfl⟩ rfl hl.1 rfl (Nat.le_of_ble_eq_true rfl) dX0_act_89 ⟨(Nat.le_of_ble_eq_true rfl), (Nat.le_of_ble_eq_true rfl)⟩) hD hA hS (fun r12 u H locs hk hP hO hD hS => ?_)
        obtain ⟨u1, σ13⟩ := u
        obtain ⟨hwp, eu⟩ := hk
        have eu : δ = u1 := eu.symm
        subst eu
        dsimp only at hP hO hD hwp
        exact x_iret hx hb hr hlk hP hO hD hS ⟨hwp, rfl⟩ dX0_act_92
      | j + 3, hj, _ => exact absurd hj (by omega)
  · replace hwp := hwp.2 c4
    refine lv_iconst (v := 0) hx hb dX0_act_19 (by decide) ?_
    exact x_iret hx hb hr hlk hP hO hD hS ⟨hwp, rfl⟩ dX0_act_20
/-! S_trace -/
def xw_S_trace (δ : XSh) (σ : XSt) (K : Int32 → Prop) (i0 : Nat) (x1 : Int32) : Prop :=
  ∀ r1, r1 = (if 20 < (σ.1 3 i0 1) then 20 else (σ.1 3 i0 1)) → (xw_S_in δ σ (fun r2 => ((r2 = 0) → (K (-1))) ∧ ((¬ (r2 = 0)) → (vp_in x1 20 ∧ (K (σ.1 4 i0 x1.toNatClampNeg))))) x1.toInt64 0 ((r1 - 1).toInt64))
set_option maxHeartbeats 4000000 in
set_option maxRecDepth 100000 in
theorem xt_S_trace {l : Launch} {Γ : GA} {δ : XSh} {σ : XSt} {K : Int32 → Prop} {i0 : Nat} (h0 : (0, i0) ∈ δ.1) {x1 : Int32} (hwp : xw_S_trace δ σ K i0 x1) : xI l yX0_trace cX0_trace 2 (some .int) ({ frames := 1, cells := 0, slots := 0, locals := 60 } : Room) 0 0 Γ δ [.ref i0, .int x1] σ (fun r u => K r ∧ u = (δ, σ)) := by
  intro sz
  refine x_of (by decide) [(0, .ref i0), (1, .int x1)] (fun _ h => h) (Nat.le_of_ble_eq_true rfl) ?_
  intro p e s m args below meth c hsz X H locs ls hP hO hD hS hl
  subst hsz
  obtain ⟨hx, hb, hml, hown, hts, hK, hr, hlk⟩ := id X
  have hA : ∀ q, s.heap.size ≤ q → AX δ s.heap.size q := fun q h => Or.inr h
  unfold xw_S_trace at hwp
  refine lv_iload_n hx hb dX0_trace_0 rfl (lv_at hl 1 rfl) ?_
  refine lv_i2l (v := x1.toInt64) hx hb dX0_trace_1 rfl ?_
  refine lv_lconst (v := 0) hx hb dX0_trace_2 (by decide) ?_
  refine lv_aload_n hx hb dX0_trace_3 rfl (lv_at hl 0 rfl) ?_
  refine x_get hx hb hts hown hK hP 0 i0 h0 rfl rfl in_X0 2 (by decide) q198 rfl (v := .ref (δ.2.1 3 i0)) rfl dX0_trace_4 ?_
  refine x_get hx hb hts hown hK hP 3 i0 ((hO.2.2.1 _ h0).2.2) rfl rfl in_X1 1 (by decide) q128 rfl (v := .int (σ.1 3 i0 1)) rfl dX0_trace_7 ?_
  refine lv_bipush (v := 20) hx hb dX0_trace_10 (by decide) ?_
  refine va_mmin hx hb (hml.trans hl.1.symm) hown (hts _ q1321) (hts _ q1230) (hts _ q95) (hts _ q1231) (Nat.le_of_ble_eq_true rfl) (Nat.le_of_ble_eq_true rfl) (Nat.le_of_ble_eq_true rfl) (Nat.le_of_ble_eq_true rfl) dX0_trace_12 ?_
  refine lv_topi (fun r1 er1 => ?_)
  replace hwp := hwp r1 er1
  refine lv_iconst (v := 1) hx hb dX0_trace_15 (by decide) ?_
  refine lv_isub hx hb dX0_trace_16 ?_
  refine lv_i2l (v := (r1 - 1).toInt64) hx hb dX0_trace_17 rfl ?_
  refine x_goi (va_runS (As := [.long x1.toInt64, .long 0, .long ((r1 - 1).toInt64)]) (rest := []) ⟨hx, hb, hml, hown, hts⟩ (xt_S_in hwp H.size) (va_cwS 3 hts (lw_S q332 q333 q75 q334) rfl rfl rfl (by decide +kernel) ⟨Nat.le_of_ble_eq_true rfl, Nat.le_of_ble_eq_true rfl⟩) (x_preS hK hO hD hP) rfl rfl hl.1 rfl (lv_room (Nat.le_of_ble_eq_true rfl)) dX0_trace_18 ⟨(Nat.le_of_ble_eq_true rfl), (Nat.le_of_ble_eq_true rfl)⟩) hD hA hS (fun r2 u H locs hk hP hO hD hS => ?_)
  obtain ⟨hwp, eu⟩ := hk
  subst eu
  dsimp only at hP hO hD
  refine lv_if_eq (tgt := 36) hx hb dX0_trace_21 (by decide) (fun c3 => ?_) (fun c3 => ?_)
  · replace hwp := hwp.1 c3
    refine lv_iconst (v := (-1)) hx hb dX0_trace_36 (by decide) ?_
    exact x_iret hx hb hr hlk hP hO hD hS ⟨hwp, rfl⟩ dX0_trace_37
  · replace hwp := hwp.2 c3
    refine lv_aload_n hx hb dX0_trace_24 rfl (lv_at hl 0 rfl) ?_
    refine x_get hx hb hts hown hK hP 0 i0 h0 rfl rfl in_X0 2 (by decide) q198 rfl (v := .ref (δ.2.1 3 i0)) rfl dX0_trace_25 ?_
    refine x_get hx hb hts hown hK hP 3 i0 ((hO.2.2.1 _ h0).2.2) rfl rfl in_X1 0 (by decide) q126 rfl (v := .ref (δ.2.1 4 i0)) rfl dX0_trace_28 ?_
    refine lv_iload_n hx hb dX0_trace_31 rfl (lv_at hl 1 rfl) ?_
    obtain ⟨hi4, hwp⟩ := hwp
    refine x_iald hx hb hK hP 4 i0 (hO.2.2.2.1 _ ((hO.2.2.1 _ h0).2.2)) rfl hi4 dX0_trace_32 ?_
    refine lv_goto (tgt := 37) hx hb dX0_trace_33 (by decide) ?_
    exact x_iret hx hb hr hlk hP hO hD hS ⟨hwp, rfl⟩ dX0_trace_37
/-! S_status -/
def xw_S_status (δ : XSh) (σ : XSt) (K : Int32 → Prop) (i0 : Nat) (x1 : Int32) : Prop :=
  ((x1 < 0 ∨ 8 < x1) → (xw_S_in δ σ (fun r2 => ((r2 = 0) → (K (-1))) ∧ ((¬ (r2 = 0)) → (vp_in (x1 - 10) 8 ∧ (K (σ.1 2 i0 (x1 - 10).toNatClampNeg))))) x1.toInt64 11 17)) ∧ (x1 = 0 → (∃ o5, σ.2.2 0 i0 4 = some o5 ∧ (K (σ.1 6 o5 0)))) ∧ (x1 = 1 → (∃ o6, σ.2.2 0 i0 4 = some o6 ∧ (xw_G_houses δ σ (fun r7 => K r7) o6))) ∧ (x1 = 2 → (∃ o8, σ.2.2 0 i0 4 = some o8 ∧ ((((σ.1 6 o8 1) = 0) → (K 0)) ∧ ((¬ ((σ.1 6 o8 1) = 0)) → (K 1))))) ∧ (x1 = 3 → (∃ o10, σ.2.2 0 i0 4 = some o10 ∧ (K (σ.1 6 o10 2)))) ∧ (x1 = 4 → (∃ o11, σ.2.2 0 i0 4 = some o11 ∧ (xw_G_shutters δ σ (fun r12 => K r12) o11))) ∧ (x1 = 5 → (∃ o13, σ.2.2 0 i0 4 = some o13 ∧ (xw_Jn_bitCount δ σ (fun r14 => K r14) (σ.1 6 o13 3)))) ∧ (x1 = 6 → (∃ o15, σ.2.2 0 i0 4 = some o15 ∧ (K (σ.1 6 o15 4)))) ∧ (x1 = 7 → (∃ o16, σ.2.2 0 i0 4 = some o16 ∧ (K (σ.1 6 o16 5)))) ∧ (x1 = 8 → (K (σ.1 3 i0 1)))
set_option maxHeartbeats 4000000 in
set_option maxRecDepth 100000 in
theorem xt_S_status {l : Launch} {Γ : GA} {δ : XSh} {σ : XSt} {K : Int32 → Prop} {i0 : Nat} (h0 : (0, i0) ∈ δ.1) {x1 : Int32} (hwp : xw_S_status δ σ K i0 x1) : xI l yX0_status cX0_status 2 (some .int) ({ frames := 2, cells := 0, slots := 0, locals := 42 } : Room) 0 0 Γ δ [.ref i0, .int x1] σ (fun r u => K r ∧ u = (δ, σ)) := by
  intro sz
  refine x_of (by decide) [(0, .ref i0), (1, .int x1)] (fun _ h => h) (Nat.le_of_ble_eq_true rfl) ?_
  intro p e s m args below meth c hsz X H locs ls hP hO hD hS hl
  subst hsz
  obtain ⟨hx, hb, hml, hown, hts, hK, hr, hlk⟩ := id X
  have hA : ∀ q, s.heap.size ≤ q → AX δ s.heap.size q := fun q h => Or.inr h
  unfold xw_S_status at hwp
  refine lv_iload_n hx hb dX0_status_0 rfl (lv_at hl 1 rfl) ?_
  by_cases c1 : (x1 < 0 ∨ 8 < x1)
  · replace hwp := hwp.1 c1
    refine lv_tableOut (tgt := 135) hx hb dX0_status_1 (sw_out c1) (by decide) ?_
    refine lv_iload_n hx hb dX0_status_135 rfl (lv_at hl 1 rfl) ?_
    refine lv_i2l (v := x1.toInt64) hx hb dX0_status_136 rfl ?_
    refine lv_ldc2 hx hb hown (hts _ q1338) dX0_status_137 ?_
    refine lv_ldc2 hx hb hown (hts _ q1339) dX0_status_140 ?_
    refine x_goi (va_runS (As := [.long x1.toInt64, .long 11, .long 17]) (rest := []) ⟨hx, hb, hml, hown, hts⟩ (xt_S_in hwp H.size) (va_cwS 3 hts (lw_S q332 q333 q75 q334) rfl rfl rfl (by decide +kernel) ⟨Nat.le_of_ble_eq_true rfl, Nat.le_of_ble_eq_true rfl⟩) (x_preS hK hO hD hP) rfl rfl hl.1 rfl (lv_room (Nat.le_of_ble_eq_true rfl)) dX0_status_143 ⟨(Nat.le_of_ble_eq_true rfl), (Nat.le_of_ble_eq_true rfl)⟩) hD hA hS (fun r2 u H locs hk hP hO hD hS => ?_)
    obtain ⟨hwp, eu⟩ := hk
    subst eu
    dsimp only at hP hO hD
    refine lv_if_eq (tgt := 161) hx hb dX0_status_146 (by decide) (fun c3 => ?_) (fun c3 => ?_)
    · replace hwp := hwp.1 c3
      refine lv_iconst (v := (-1)) hx hb dX0_status_161 (by decide) ?_
      exact x_iret hx hb hr hlk hP hO hD hS ⟨hwp, rfl⟩ dX0_status_162
    · replace hwp := hwp.2 c3
      refine lv_aload_n hx hb dX0_status_149 rfl (lv_at hl 0 rfl) ?_
      refine x_get hx hb hts hown hK hP 0 i0 h0 rfl rfl in_X0 1 (by decide) q197 rfl (v := .ref (δ.2.1 2 i0)) rfl dX0_status_150 ?_
      refine lv_iload_n hx hb dX0_status_153 rfl (lv_at hl 1 rfl) ?_
      refine lv_bipush (v := 10) hx hb dX0_status_154 (by decide) ?_
      refine lv_isub hx hb dX0_status_156 ?_
      obtain ⟨hi4, hwp⟩ := hwp
      refine x_iald hx hb hK hP 2 i0 ((hO.2.2.1 _ h0).2.1) rfl hi4 dX0_status_157 ?_
      refine lv_goto (tgt := 162) hx hb dX0_status_158 (by decide) ?_
      exact x_iret hx hb hr hlk hP hO hD hS ⟨hwp, rfl⟩ dX0_status_162
  · obtain ⟨j, hj, ej⟩ := sw_of (n := 8) (by decide) c1
    match j, hj, ej with
    | 0, _, ej =>
      have ej : x1 = 0 := ej
      replace hwp := hwp.2.1 ej
      refine lv_tableIn (off := 51) (tgt := 52) hx hb dX0_status_1 (by rw [ej]; decide) (by rw [ej]; decide) (by rw [ej]; rfl) (by decide) ?_
      refine lv_aload_n hx hb dX0_status_52 rfl (lv_at hl 0 rfl) ?_
      obtain ⟨o5, eo5, hwp⟩ := hwp
      refine x_getr hx hb hts hown hK hP 0 i0 h0 rfl rfl in_X0 4 (by decide) q200 rfl rfl eo5 dX0_status_53 (fun ho5 co5 => ?_)
      refine x_get hx hb hts hown hK hP 6 o5 ho5 rfl rfl in_X2 0 (by decide) q145 rfl (v := .int (σ.1 6 o5 0)) rfl dX0_status_56 ?_
      exact x_iret hx hb hr hlk hP hO hD hS ⟨hwp, rfl⟩ dX0_status_59
    | 1, _, ej =>
      have ej : x1 = 1 := ej
      replace hwp := hwp.2.2.1 ej
      refine lv_tableIn (off := 59) (tgt := 60) hx hb dX0_status_1 (by rw [ej]; decide) (by rw [ej]; decide) (by rw [ej]; rfl) (by decide) ?_
      refine lv_aload_n hx hb dX0_status_60 rfl (lv_at hl 0 rfl) ?_
      obtain ⟨o6, eo6, hwp⟩ := hwp
      refine x_getr hx hb hts hown hK hP 0 i0 h0 rfl rfl in_X0 4 (by decide) q200 rfl rfl eo6 dX0_status_61 (fun ho6 co6 => ?_)
      refine x_goi (va_runV (As := []) (rest := []) ⟨hx, hb, hml, hown, hts⟩ (xt_G_houses ho6 hwp H.size) (cwV 0 hts (lw_V q1073 q1074 q1075 q77 q1076) rfl rfl rfl (by decide +kernel) ⟨Nat.le_of_ble_eq_true rfl, Nat.le_of_ble_eq_true rfl⟩) (x_preV hK hO hD hP 6 o6 ho6 rfl rfl) rfl rfl hl.1 rfl (lv_room (Nat.le_of_ble_eq_true rfl)) dX0_status_64 ⟨(Nat.le_of_ble_eq_true rfl), (Nat.le_of_ble_eq_true rfl)⟩) hD hA hS (fun r7 u H locs hk hP hO hD hS => ?_)
      obtain ⟨hwp, eu⟩ := hk
      subst eu
      dsimp only at hP hO hD
      exact x_iret hx hb hr hlk hP hO hD hS ⟨hwp, rfl⟩ dX0_status_67
    | 2, _, ej =>
      have ej : x1 = 2 := ej
      replace hwp := hwp.2.2.2.1 ej
      refine lv_tableIn (off := 67) (tgt := 68) hx hb dX0_status_1 (by rw [ej]; decide) (by rw [ej]; decide) (by rw [ej]; rfl) (by decide) ?_
      refine lv_aload_n hx hb dX0_status_68 rfl (lv_at hl 0 rfl) ?_
      obtain ⟨o8, eo8, hwp⟩ := hwp
      refine x_getr hx hb hts hown hK hP 0 i0 h0 rfl rfl in_X0 4 (by decide) q200 rfl rfl eo8 dX0_status_69 (fun ho8 co8 => ?_)
      refine x_get hx hb hts hown hK hP 6 o8 ho8 rfl rfl in_X2 1 (by decide) q148 rfl (v := .int (σ.1 6 o8 1)) rfl dX0_status_72 ?_
      refine lv_if_eq (tgt := 82) hx hb dX0_status_75 (by decide) (fun c9 => ?_) (fun c9 => ?_)
      · replace hwp := hwp.1 c9
        refine lv_iconst (v := 0) hx hb dX0_status_82 (by decide) ?_
        exact x_iret hx hb hr hlk hP hO hD hS ⟨hwp, rfl⟩ dX0_status_83
      · replace hwp := hwp.2 c9
        refine lv_iconst (v := 1) hx hb dX0_status_78 (by decide) ?_
        refine lv_goto (tgt := 83) hx hb dX0_status_79 (by decide) ?_
        exact x_iret hx hb hr hlk hP hO hD hS ⟨hwp, rfl⟩ dX0_status_83
    | 3, _, ej =>
      have ej : x1 = 3 := ej
      replace hwp := hwp.2.2.2.2.1 ej
      refine lv_tableIn (off := 83) (tgt := 84) hx hb dX0_status_1 (by rw [ej]; decide) (by rw [ej]; decide) (by rw [ej]; rfl) (by decide) ?_
      refine lv_aload_n hx hb dX0_status_84 rfl (lv_at hl 0 rfl) ?_
      obtain ⟨o10, eo10, hwp⟩ := hwp
      refine x_getr hx hb hts hown hK hP 0 i0 h0 rfl rfl in_X0 4 (by decide) q200 rfl rfl eo10 dX0_status_85 (fun ho10 co10 => ?_)
      refine x_get hx hb hts hown hK hP 6 o10 ho10 rfl rfl in_X2 2 (by decide) q151 rfl (v := .int (σ.1 6 o10 2)) rfl dX0_status_88 ?_
      exact x_iret hx hb hr hlk hP hO hD hS ⟨hwp, rfl⟩ dX0_status_91
    | 4, _, ej =>
      have ej : x1 = 4 := ej
      replace hwp := hwp.2.2.2.2.2.1 ej
      refine lv_tableIn (off := 91) (tgt := 92) hx hb dX0_status_1 (by rw [ej]; decide) (by rw [ej]; decide) (by rw [ej]; rfl) (by decide) ?_
      refine lv_aload_n hx hb dX0_status_92 rfl (lv_at hl 0 rfl) ?_
      obtain ⟨o11, eo11, hwp⟩ := hwp
      refine x_getr hx hb hts hown hK hP 0 i0 h0 rfl rfl in_X0 4 (by decide) q200 rfl rfl eo11 dX0_status_93 (fun ho11 co11 => ?_)
      refine x_goi (va_runV (As := []) (rest := []) ⟨hx, hb, hml, hown, hts⟩ (xt_G_shutters ho11 hwp H.size) (cwV 0 hts (lw_V q1126 q1127 q1128 q77 q1129) rfl rfl rfl (by decide +kernel) ⟨Nat.le_of_ble_eq_true rfl, Nat.le_of_ble_eq_true rfl⟩) (x_preV hK hO hD hP 6 o11 ho11 rfl rfl) rfl rfl hl.1 rfl (lv_room (Nat.le_of_ble_eq_true rfl)) dX0_status_96 ⟨(Nat.le_of_ble_eq_true rfl), (Nat.le_of_ble_eq_true rfl)⟩) hD hA hS (fun r12 u H locs hk hP hO hD hS => ?_)
      obtain ⟨hwp, eu⟩ := hk
      subst eu
      dsimp only at hP hO hD
      exact x_iret hx hb hr hlk hP hO hD hS ⟨hwp, rfl⟩ dX0_status_99
    | 5, _, ej =>
      have ej : x1 = 5 := ej
      replace hwp := hwp.2.2.2.2.2.2.1 ej
      refine lv_tableIn (off := 99) (tgt := 100) hx hb dX0_status_1 (by rw [ej]; decide) (by rw [ej]; decide) (by rw [ej]; rfl) (by decide) ?_
      refine lv_aload_n hx hb dX0_status_100 rfl (lv_at hl 0 rfl) ?_
      obtain ⟨o13, eo13, hwp⟩ := hwp
      refine x_getr hx hb hts hown hK hP 0 i0 h0 rfl rfl in_X0 4 (by decide) q200 rfl rfl eo13 dX0_status_101 (fun ho13 co13 => ?_)
      refine x_get hx hb hts hown hK hP 6 o13 ho13 rfl rfl in_X2 3 (by decide) q154 rfl (v := .int (σ.1 6 o13 3)) rfl dX0_status_104 ?_
      refine x_goi (va_runS (As := [.int (σ.1 6 o13 3)]) (rest := []) ⟨hx, hb, hml, hown, hts⟩ (xt_Jn_bitCount hwp H.size) (va_cwS 1 hts (lw_S q1111 q644 q96 q645) rfl rfl rfl (by decide +kernel) ⟨Nat.le_of_ble_eq_true rfl, Nat.le_of_ble_eq_true rfl⟩) (x_preS hK hO hD hP) rfl rfl hl.1 rfl (lv_room (Nat.le_of_ble_eq_true rfl)) dX0_status_107 ⟨(Nat.le_of_ble_eq_true rfl), (Nat.le_of_ble_eq_true rfl)⟩) hD hA hS (fun r14 u H locs hk hP hO hD hS => ?_)
      obtain ⟨hwp, eu⟩ := hk
      subst eu
      dsimp only at hP hO hD
      exact x_iret hx hb hr hlk hP hO hD hS ⟨hwp, rfl⟩ dX0_status_110
    | 6, _, ej =>
      have ej : x1 = 6 := ej
      replace hwp := hwp.2.2.2.2.2.2.2.1 ej
      refine lv_tableIn (off := 110) (tgt := 111) hx hb dX0_status_1 (by rw [ej]; decide) (by rw [ej]; decide) (by rw [ej]; rfl) (by decide) ?_
      refine lv_aload_n hx hb dX0_status_111 rfl (lv_at hl 0 rfl) ?_
      obtain ⟨o15, eo15, hwp⟩ := hwp
      refine x_getr hx hb hts hown hK hP 0 i0 h0 rfl rfl in_X0 4 (by decide) q200 rfl rfl eo15 dX0_status_112 (fun ho15 co15 => ?_)
      refine x_get hx hb hts hown hK hP 6 o15 ho15 rfl rfl in_X2 4 (by decide) q156 rfl (v := .int (σ.1 6 o15 4)) rfl dX0_status_115 ?_
      exact x_iret hx hb hr hlk hP hO hD hS ⟨hwp, rfl⟩ dX0_status_118
    | 7, _, ej =>
      have ej : x1 = 7 := ej
      replace hwp := hwp.2.2.2.2.2.2.2.2.1 ej
      refine lv_tableIn (off := 118) (tgt := 119) hx hb dX0_status_1 (by rw [ej]; decide) (by rw [ej]; decide) (by rw [ej]; rfl) (by decide) ?_
      refine lv_aload_n hx hb dX0_status_119 rfl (lv_at hl 0 rfl) ?_
      obtain ⟨o16, eo16, hwp⟩ := hwp
      refine x_getr hx hb hts hown hK hP 0 i0 h0 rfl rfl in_X0 4 (by decide) q200 rfl rfl eo16 dX0_status_120 (fun ho16 co16 => ?_)
      refine x_get hx hb hts hown hK hP 6 o16 ho16 rfl rfl in_X2 5 (by decide) q158 rfl (v := .int (σ.1 6 o16 5)) rfl dX0_status_123 ?_
      exact x_iret hx hb hr hlk hP hO hD hS ⟨hwp, rfl⟩ dX0_status_126
    | 8, _, ej =>
      have ej : x1 = 8 := ej
      replace hwp := hwp.2.2.2.2.2.2.2.2.2 ej
      refine lv_tableIn (off := 126) (tgt := 127) hx hb dX0_status_1 (by rw [ej]; decide) (by rw [ej]; decide) (by rw [ej]; rfl) (by decide) ?_
      refine lv_aload_n hx hb dX0_status_127 rfl (lv_at hl 0 rfl) ?_
      refine x_get hx hb hts hown hK hP 0 i0 h0 rfl rfl in_X0 2 (by decide) q198 rfl (v := .ref (δ.2.1 3 i0)) rfl dX0_status_128 ?_
      refine x_get hx hb hts hown hK hP 3 i0 ((hO.2.2.1 _ h0).2.2) rfl rfl in_X1 1 (by decide) q128 rfl (v := .int (σ.1 3 i0 1)) rfl dX0_status_131 ?_
      exact x_iret hx hb hr hlk hP hO hD hS ⟨hwp, rfl⟩ dX0_status_134
    | j + 9, hj, _ => exact absurd hj (by omega)
/-! S_rightsBy -/
def xw_S_rightsBy_5_b (δ : XSh) (σ : XSt) (K : Int32 → Prop) (i0 : Nat) (i2 : Nat) (L5 : Int32 → Int32 → Int32 → Prop) (x1 : Int32) (x3 : Int32) (x4 : Int32) : Prop :=
  ∃ o1, σ.2.2 0 i0 4 = some o1 ∧ ((((σ.1 6 o1 0) ≤ x4) → (K x3)) ∧ ((¬ ((σ.1 6 o1 0) ≤ x4)) → (xw_G_isHouse δ σ (fun r3 => ((r3 = 0) → (L5 x1 (x3 + 0) (x4 + 1))) ∧ ((¬ (r3 = 0)) → (vp_in x4 8 ∧ (xw_Jn_bitCount δ σ (fun r6 => vp_in x4 8 ∧ ∃ o8, σ.2.2 8 o1 x4.toNatClampNeg = some o8 ∧ (xv_T_wanted δ σ (fun r9 => ((¬ (r6 = r9)) → (L5 x1 (x3 + 0) (x4 + 1))) ∧ ((r6 = r9) → (L5 x1 (x3 + 1) (x4 + 1)))) o8)) ((σ.1 15 i2 x4.toNatClampNeg) &&& (x1 ^^^ (-1))))))) o1 x4)))
def xw_S_rightsBy_5 (δ : XSh) (σ : XSt) (K : Int32 → Prop) (i0 : Nat) (i2 : Nat) : Nat → Int32 → Int32 → Int32 → Prop
  | 0 => fun _ _ _ => False
  | n + 1 => fun x1 x3 x4 => xw_S_rightsBy_5_b δ σ K i0 i2 (xw_S_rightsBy_5 δ σ K i0 i2 n) x1 x3 x4
set_option maxHeartbeats 4000000 in
set_option maxRecDepth 100000 in
theorem xk_S_rightsBy_5_b {p : Program} {l : Launch} {e : Env} {s : State} {m : MethodId} {args : Array Value} {below : List Frame} {meth : Method} {c : Code} {Γ : GA} {δ : XSh} {σ : XSt} {K : Int32 → Prop} {i0 : Nat} {i2 : Nat} (X : CX p s m args meth c cX0_rightsBy 5 (some .int) RX0 Γ) (h0 : (0, i0) ∈ δ.1) (h2 : (15, i2) ∈ δ.1) {L5 : Int32 → Int32 → Int32 → Prop} (hL5 : ∀ (x1 : Int32) (x3 : Int32) (x4 : Int32), L5 x1 x3 x4 → TX p l e ({ frames := 3, cells := 0, slots := 0, locals := 67 } : Room) s m args below meth c 5 0 0 (YI below (fun r u => K r ∧ u = (δ, σ)) 0 0 Γ δ s args) Γ δ δ σ 5 [(0, .ref i0), (1, .int x1), (2, .ref i2), (3, .int x3), (4, .int x4)] []) : ∀ (x1 : Int32) (x3 : Int32) (x4 : Int32), xw_S_rightsBy_5_b δ σ K i0 i2 L5 x1 x3 x4 → TX p l e ({ frames := 3, cells := 0, slots := 0, locals := 67 } : Room) s m args below meth c 5 0 0 (YI below (fun r u => K r ∧ u = (δ, σ)) 0 0 Γ δ s args) Γ δ δ σ 5 [(0, .ref i0), (1, .int x1), (2, .ref i2), (3, .int x3), (4, .int x4)] [] := by
  obtain ⟨hx, hb, hml, hown, hts, hK, hr, hlk⟩ := id X
  have hA : ∀ q, s.heap.size ≤ q → AX δ s.heap.size q := fun q h => Or.inr h
  intro x1 x3 x4 hwp H locs ls hP hO hD hS hl
  unfold xw_S_rightsBy_5_b at hwp
  refine lv_iload hx hb dX0_rightsBy_5 (lv_at hl 4 rfl) ?_
  refine lv_aload_n hx hb dX0_rightsBy_7 rfl (lv_at hl 0 rfl) ?_
  obtain ⟨o1, eo1, hwp⟩ := hwp
  refine x_getr hx hb hts hown hK hP 0 i0 h0 rfl rfl in_X0 4 (by decide) q200 rfl rfl eo1 dX0_rightsBy_8 (fun ho1 co1 => ?_)
  refine x_get hx hb hts hown hK hP 6 o1 ho1 rfl rfl in_X2 0 (by decide) q145 rfl (v := .int (σ.1 6 o1 0)) rfl dX0_rightsBy_11 ?_
  refine lv_icmp_ge (tgt := 70) hx hb dX0_rightsBy_14 (by decide) (fun c2 => ?_) (fun c2 => ?_)
  · replace hwp := hwp.1 c2
    refine lv_iload_n hx hb dX0_rightsBy_70 rfl (lv_at hl 3 rfl) ?_
    exact x_iret hx hb hr hlk hP hO hD hS ⟨hwp, rfl⟩ dX0_rightsBy_71
  · replace hwp := hwp.2 c2
    refine lv_iload_n hx hb dX0_rightsBy_17 rfl (lv_at hl 3 rfl) ?_
    refine lv_aload_n hx hb dX0_rightsBy_18 rfl (lv_at hl 0 rfl) ?_
    refine x_getr hx hb hts hown hK hP 0 i0 h0 rfl rfl in_X0 4 (by decide) q200 rfl rfl eo1 dX0_rightsBy_19 (fun ho1 co1 => ?_)
    refine lv_iload hx hb dX0_rightsBy_22 (lv_at hl 4 rfl) ?_
    refine x_goi (va_runV (As := [.int x4]) (rest := [.int x3]) ⟨hx, hb, hml, hown, hts⟩ (xt_G_isHouse ho1 hwp H.size) (cwV 1 hts (lw_V q858 q542 q543 q77 q544) rfl rfl rfl (by decide +kernel) ⟨Nat.le_of_ble_eq_true rfl, Nat.le_of_ble_eq_true rfl⟩) (x_preV hK hO hD hP 6 o1 ho1 rfl rfl) rfl rfl hl.1 rfl (lv_room (Nat.le_of_ble_eq_true rfl)) dX0_rightsBy_24 ⟨(Nat.le_of_ble_eq_true rfl), (Nat.le_of_ble_eq_true rfl)⟩) hD hA hS (fun r3 u H locs hk hP hO hD hS => ?_)
    obtain ⟨hwp, eu⟩ := hk
    subst eu
    dsimp only at hP hO hD
    refine lv_if_eq (tgt := 61) hx hb dX0_rightsBy_27 (by decide) (fun c4 => ?_) (fun c4 => ?_)
    · replace hwp := hwp.1 c4
      refine lv_iconst (v := 0) hx hb dX0_rightsBy_61 (by decide) ?_
      refine lv_iadd hx hb dX0_rightsBy_62 ?_
      refine lv_istore_n (lv' := [(3, .int (x3 + 0)), (0, .ref i0), (1, .int x1), (2, .ref i2), (4, .int x4)]) hx hb dX0_rightsBy_63 rfl hl (by decide) rfl (fun ls hl => ?_)
      refine lv_iinc (v := x4 + 1) (lv' := [(4, .int (x4 + 1)), (3, .int (x3 + 0)), (0, .ref i0), (1, .int x1), (2, .ref i2)]) hx hb dX0_rightsBy_64 hl (k := 4) rfl rfl (by decide) rfl (fun ls hl => ?_)
      refine lv_goto (tgt := 5) hx hb dX0_rightsBy_67 (by decide) ?_
      exact hL5 _ _ _ hwp H locs ls hP hO hD hS (lv_sub hl [2, 3, 4, 1, 0] rfl)
    · replace hwp := hwp.2 c4
      refine lv_aload_n hx hb dX0_rightsBy_30 rfl (lv_at hl 2 rfl) ?_
      refine lv_iload hx hb dX0_rightsBy_31 (lv_at hl 4 rfl) ?_
      obtain ⟨hi5, hwp⟩ := hwp
      refine x_iald hx hb hK hP 15 i2 h2 rfl hi5 dX0_rightsBy_33 ?_
      refine lv_iload_n hx hb dX0_rightsBy_34 rfl (lv_at hl 1 rfl) ?_
      refine lv_iconst (v := (-1)) hx hb dX0_rightsBy_35 (by decide) ?_
      refine lv_ixor hx hb dX0_rightsBy_36 ?_
      refine lv_iand hx hb dX0_rightsBy_37 ?_
      refine x_goi (va_runS (As := [.int ((σ.1 15 i2 x4.toNatClampNeg) &&& (x1 ^^^ (-1)))]) (rest := [.int x3]) ⟨hx, hb, hml, hown, hts⟩ (xt_Jn_bitCount hwp H.size) (va_cwS 1 hts (lw_S q1111 q644 q96 q645) rfl rfl rfl (by decide +kernel) ⟨Nat.le_of_ble_eq_true rfl, Nat.le_of_ble_eq_true rfl⟩) (x_preS hK hO hD hP) rfl rfl hl.1 rfl (lv_room (Nat.le_of_ble_eq_true rfl)) dX0_rightsBy_38 ⟨(Nat.le_of_ble_eq_true rfl), (Nat.le_of_ble_eq_true rfl)⟩) hD hA hS (fun r6 u H locs hk hP hO hD hS => ?_)
      obtain ⟨hwp, eu⟩ := hk
      subst eu
      dsimp only at hP hO hD
      refine lv_aload_n hx hb dX0_rightsBy_41 rfl (lv_at hl 0 rfl) ?_
      refine x_getr hx hb hts hown hK hP 0 i0 h0 rfl rfl in_X0 4 (by decide) q200 rfl rfl eo1 dX0_rightsBy_42 (fun ho1 co1 => ?_)
      refine x_get hx hb hts hown hK hP 6 o1 ho1 rfl rfl in_X2 6 (by decide) q160 rfl (v := .ref (δ.2.1 8 o1)) rfl dX0_rightsBy_45 ?_
      refine lv_iload hx hb dX0_rightsBy_48 (lv_at hl 4 rfl) ?_
      obtain ⟨hi7, o8, eo8, hwp⟩ := hwp
      refine x_aald hx hb hK hP 8 o1 ((hO.1 _ ho1).1) (Or.inl rfl) hi7 eo8 dX0_rightsBy_50 (fun ho8 co8 => ?_)
      refine x_goi (xr_T_wanted (As := []) (rest := [.int r6, .int x3]) ⟨hx, hb, hml, hown, hts⟩ hK hD hO hP ho8 (co8.1 rfl) hwp q1146 ⟨Nat.le_of_ble_eq_true rfl, Nat.le_of_ble_eq_true rfl⟩ rfl hl.1 rfl (Nat.le_of_ble_eq_true rfl) dX0_rightsBy_51 ⟨(Nat.le_of_ble_eq_true rfl), (Nat.le_of_ble_eq_true rfl)⟩) hD hA hS (fun r9 u H locs hk hP hO hD hS => ?_)
      obtain ⟨hwp, eu⟩ := hk
      subst eu
      dsimp only at hP hO hD
      refine lv_icmp_ne (tgt := 61) hx hb dX0_rightsBy_54 (by decide) (fun c10 => ?_) (fun c10 => ?_)
      · replace hwp := hwp.1 c10
        refine lv_iconst (v := 0) hx hb dX0_rightsBy_61 (by decide) ?_
        refine lv_iadd hx hb dX0_rightsBy_62 ?_
        refine lv_istore_n (lv' := [(3, .int (x3 + 0)), (0, .ref i0), (1, .int x1), (2, .ref i2), (4, .int x4)]) hx hb dX0_rightsBy_63 rfl hl (by decide) rfl (fun ls hl => ?_)
        refine lv_iinc (v := x4 + 1) (lv' := [(4, .int (x4 + 1)), (3, .int (x3 + 0)), (0, .ref i0), (1, .int x1), (2, .ref i2)]) hx hb dX0_rightsBy_64 hl (k := 4) rfl rfl (by decide) rfl (fun ls hl => ?_)
        refine lv_goto (tgt := 5) hx hb dX0_rightsBy_67 (by decide) ?_
        exact hL5 _ _ _ hwp H locs ls hP hO hD hS (lv_sub hl [2, 3, 4, 1, 0] rfl)
      · replace hwp := hwp.2 c10
        refine lv_iconst (v := 1) hx hb dX0_rightsBy_57 (by decide) ?_
        refine lv_goto (tgt := 62) hx hb dX0_rightsBy_58 (by decide) ?_
        refine lv_iadd hx hb dX0_rightsBy_62 ?_
        refine lv_istore_n (lv' := [(3, .int (x3 + 1)), (0, .ref i0), (1, .int x1), (2, .ref i2), (4, .int x4)]) hx hb dX0_rightsBy_63 rfl hl (by decide) rfl (fun ls hl => ?_)
        refine lv_iinc (v := x4 + 1) (lv' := [(4, .int (x4 + 1)), (3, .int (x3 + 1)), (0, .ref i0), (1, .int x1), (2, .ref i2)]) hx hb dX0_rightsBy_64 hl (k := 4) rfl rfl (by decide) rfl (fun ls hl => ?_)
        refine lv_goto (tgt := 5) hx hb dX0_rightsBy_67 (by decide) ?_
        exact hL5 _ _ _ hwp H locs ls hP hO hD hS (lv_sub hl [2, 3, 4, 1, 0] rfl)
set_option maxHeartbeats 4000000 in
set_option maxRecDepth 100000 in
theorem xk_S_rightsBy_5 {p : Program} {l : Launch} {e : Env} {s : State} {m : MethodId} {args : Array Value} {below : List Frame} {meth : Method} {c : Code} {Γ : GA} {δ : XSh} {σ : XSt} {K : Int32 → Prop} {i0 : Nat} {i2 : Nat} (X : CX p s m args meth c cX0_rightsBy 5 (some .int) RX0 Γ) (h0 : (0, i0) ∈ δ.1) (h2 : (15, i2) ∈ δ.1) : ∀ n (x1 : Int32) (x3 : Int32) (x4 : Int32), xw_S_rightsBy_5 δ σ K i0 i2 n x1 x3 x4 → TX p l e ({ frames := 3, cells := 0, slots := 0, locals := 67 } : Room) s m args below meth c 5 0 0 (YI below (fun r u => K r ∧ u = (δ, σ)) 0 0 Γ δ s args) Γ δ δ σ 5 [(0, .ref i0), (1, .int x1), (2, .ref i2), (3, .int x3), (4, .int x4)] [] := by
  intro n
  induction n with
  | zero => intro _ _ _ hwp; exact hwp.elim
  | succ n ih => intro x1 x3 x4 hwp; exact xk_S_rightsBy_5_b X h0 h2 ih x1 x3 x4 hwp
def xw_S_rightsBy (δ : XSh) (σ : XSt) (K : Int32 → Prop) (i0 : Nat) (i2 : Nat) (x1 : Int32) : Prop :=
  ∃ n, xw_S_rightsBy_5 δ σ K i0 i2 n x1 0 0
set_option maxHeartbeats 4000000 in
set_option maxRecDepth 100000 in
theorem xt_S_rightsBy {l : Launch} {Γ : GA} {δ : XSh} {σ : XSt} {K : Int32 → Prop} {i0 : Nat} {i2 : Nat} (h0 : (0, i0) ∈ δ.1) (h2 : (15, i2) ∈ δ.1) {x1 : Int32} (hwp : xw_S_rightsBy δ σ K i0 i2 x1) : xI l yX0_rightsBy cX0_rightsBy 5 (some .int) ({ frames := 3, cells := 0, slots := 0, locals := 67 } : Room) 0 0 Γ δ [.ref i0, .int x1, .ref i2] σ (fun r u => K r ∧ u = (δ, σ)) := by
  intro sz
  refine x_of (by decide) [(0, .ref i0), (1, .int x1), (2, .ref i2)] (fun _ h => h) (Nat.le_of_ble_eq_true rfl) ?_
  intro p e s m args below meth c hsz X H locs ls hP hO hD hS hl
  subst hsz
  obtain ⟨hx, hb, hml, hown, hts, hK, hr, hlk⟩ := id X
  have hA : ∀ q, s.heap.size ≤ q → AX δ s.heap.size q := fun q h => Or.inr h
  unfold xw_S_rightsBy at hwp
  refine lv_iconst (v := 0) hx hb dX0_rightsBy_0 (by decide) ?_
  refine lv_istore_n (lv' := [(3, .int 0), (0, .ref i0), (1, .int x1), (2, .ref i2)]) hx hb dX0_rightsBy_1 rfl hl (by decide) rfl (fun ls hl => ?_)
  refine lv_iconst (v := 0) hx hb dX0_rightsBy_2 (by decide) ?_
  refine lv_istore (lv' := [(4, .int 0), (3, .int 0), (0, .ref i0), (1, .int x1), (2, .ref i2)]) hx hb dX0_rightsBy_3 hl (by decide) rfl (fun ls hl => ?_)
  obtain ⟨n, hwp⟩ := hwp
  exact xk_S_rightsBy_5 X h0 h2 n _ _ _ hwp H locs ls hP hO hD hS (lv_sub hl [2, 3, 4, 1, 0] rfl)
/-! S_mayInto -/
def xw_S_mayInto (δ : XSh) (K : Int32 → XSt → Prop) (i0 : Nat) (x1 : Int32) (x2 : Int32) (σ : XSt) : Prop :=
  ∃ o1, σ.2.2 0 i0 3 = some o1 ∧ (∃ o2, σ.2.2 0 i0 4 = some o2 ∧ (xw_G_take δ (fun r3 σ4 => (x2 = 0 ∨ x2 = 1) ∧ (∀ σ6, σ6 = tI σ4 6 r3 1 x2 → (∃ o7, σ6.2.2 0 i0 3 = some o7 ∧ (∀ σ8, σ8 = tI σ6 6 o7 3 0 → (∃ o9, σ8.2.2 0 i0 3 = some o9 ∧ (xw_G_seers δ σ8 (fun r10 => K r10 σ8) o9 x1)))))) o1 o2 σ))
set_option maxHeartbeats 4000000 in
set_option maxRecDepth 100000 in
theorem xt_S_mayInto {l : Launch} {Γ : GA} {δ : XSh} {σ : XSt} {K : Int32 → XSt → Prop} {i0 : Nat} (h0 : (0, i0) ∈ δ.1) {x1 : Int32} {x2 : Int32} (hwp : xw_S_mayInto δ K i0 x1 x2 σ) : xI l yX0_mayInto cX0_mayInto 3 (some .int) ({ frames := 23, cells := 0, slots := 0, locals := 500 } : Room) 0 0 Γ δ [.ref i0, .int x1, .int x2] σ (fun r u => K r u.2 ∧ u.1 = δ) := by
  intro sz
  refine x_of (by decide) [(0, .ref i0), (1, .int x1), (2, .int x2)] (fun _ h => h) (Nat.le_of_ble_eq_true rfl) ?_
  intro p e s m args below meth c hsz X H locs ls hP hO hD hS hl
  subst hsz
  obtain ⟨hx, hb, hml, hown, hts, hK, hr, hlk⟩ := id X
  have hA : ∀ q, s.heap.size ≤ q → AX δ s.heap.size q := fun q h => Or.inr h
  unfold xw_S_mayInto at hwp
  refine lv_aload_n hx hb dX0_mayInto_0 rfl (lv_at hl 0 rfl) ?_
  obtain ⟨o1, eo1, hwp⟩ := hwp
  refine x_getr hx hb hts hown hK hP 0 i0 h0 rfl rfl in_X0 3 (by decide) q199 rfl rfl eo1 dX0_mayInto_1 (fun ho1 co1 => ?_)
  refine lv_aload_n hx hb dX0_mayInto_4 rfl (lv_at hl 0 rfl) ?_
  obtain ⟨o2, eo2, hwp⟩ := hwp
  refine x_getr hx hb hts hown hK hP 0 i0 h0 rfl rfl in_X0 4 (by decide) q200 rfl rfl eo2 dX0_mayInto_5 (fun ho2 co2 => ?_)
  refine x_gor (va_runV (As := [.ref o2]) (rest := []) ⟨hx, hb, hml, hown, hts⟩ (xt_G_take ho1 ho2 hwp H.size) (cwV 1 hts (lw_V q872 q873 q874 q77 q875) rfl rfl rfl (by decide +kernel) ⟨Nat.le_of_ble_eq_true rfl, Nat.le_of_ble_eq_true rfl⟩) (x_preV hK hO hD hP 6 o1 ho1 rfl rfl) rfl rfl hl.1 rfl (lv_room (Nat.le_of_ble_eq_true rfl)) dX0_mayInto_8 ⟨(Nat.le_of_ble_eq_true rfl), (Nat.le_of_ble_eq_true rfl)⟩) hD hA hS (fun r3 u H locs hk hP hO hD hS => ?_)
  obtain ⟨u1, σ4⟩ := u
  obtain ⟨⟨hwp, eu⟩, hr3⟩ := hk
  have eu : δ = u1 := eu.symm
  subst eu
  dsimp only at hP hO hD hwp hr3
  refine lv_iload_n hx hb dX0_mayInto_11 rfl (lv_at hl 2 rfl) ?_
  obtain ⟨hv5, hwp⟩ := hwp
  refine x_puti hx hb hts hown hK hD hP hS 6 r3 hr3 rfl rfl in_X2 tyX2 tyX2_ok nmX2 1 (by decide) q148 rfl rfl (zb_in hv5) (zb_fit hv5) (Nat.le_of_ble_eq_true rfl) rfl dX0_mayInto_12 (fun H locs hP hS => ?_)
  obtain ⟨σ6, eσ6⟩ : ∃ z, z = tI σ4 6 r3 1 x2 := ⟨_, rfl⟩
  replace hP : XH Γ δ σ6 H := by rw [eσ6]; exact hP
  replace hwp := hwp σ6 eσ6
  refine lv_aload_n hx hb dX0_mayInto_15 rfl (lv_at hl 0 rfl) ?_
  obtain ⟨o7, eo7, hwp⟩ := hwp
  refine x_getr hx hb hts hown hK hP 0 i0 h0 rfl rfl in_X0 3 (by decide) q199 rfl rfl eo7 dX0_mayInto_16 (fun ho7 co7 => ?_)
  refine lv_iconst (v := 0) hx hb dX0_mayInto_19 (by decide) ?_
  refine x_puti hx hb hts hown hK hD hP hS 6 o7 ho7 rfl rfl in_X2 tyX2 tyX2_ok nmX2 3 (by decide) q154 rfl rfl rfl rfl (Nat.le_of_ble_eq_true rfl) rfl dX0_mayInto_20 (fun H locs hP hS => ?_)
  obtain ⟨σ8, eσ8⟩ : ∃ z, z = tI σ6 6 o7 3 0 := ⟨_, rfl⟩
  replace hP : XH Γ δ σ8 H := by rw [eσ8]; exact hP
  replace hwp := hwp σ8 eσ8
  refine lv_aload_n hx hb dX0_mayInto_23 rfl (lv_at hl 0 rfl) ?_
  obtain ⟨o9, eo9, hwp⟩ := hwp
  refine x_getr hx hb hts hown hK hP 0 i0 h0 rfl rfl in_X0 3 (by decide) q199 rfl rfl eo9 dX0_mayInto_24 (fun ho9 co9 => ?_)
  refine lv_iload_n hx hb dX0_mayInto_27 rfl (lv_at hl 1 rfl) ?_
  refine x_goi (va_runV (As := [.int x1]) (rest := []) ⟨hx, hb, hml, hown, hts⟩ (xt_G_seers ho9 hwp H.size) (cwV 1 hts (lw_V q1059 q534 q535 q77 q536) rfl rfl rfl (by decide +kernel) ⟨Nat.le_of_ble_eq_true rfl, Nat.le_of_ble_eq_true rfl⟩) (x_preV hK hO hD hP 6 o9 ho9 rfl rfl) rfl rfl hl.1 rfl (lv_room (Nat.le_of_ble_eq_true rfl)) dX0_mayInto_28 ⟨(Nat.le_of_ble_eq_true rfl), (Nat.le_of_ble_eq_true rfl)⟩) hD hA hS (fun r10 u H locs hk hP hO hD hS => ?_)
  obtain ⟨hwp, eu⟩ := hk
  subst eu
  dsimp only at hP hO hD
  exact x_iret hx hb hr hlk hP hO hD hS ⟨hwp, rfl⟩ dX0_mayInto_31
/-! S_isAsTold -/
def xw_S_isAsTold_2_b (δ : XSh) (σ : XSt) (K : Int32 → Prop) (i0 : Nat) (i1 : Nat) (L2 : Int32 → Prop) (x2 : Int32) : Prop :=
  (((σ.1 6 i1 0) ≤ x2) → (K 1)) ∧ ((¬ ((σ.1 6 i1 0) ≤ x2)) → (xv_R_asInt δ σ (fun r2 => xw_G_into δ σ (fun r3 => (((r2 &&& (((1 : Int32) <<< ((σ.1 6 i1 0) &&& 31)) - 1)) = r3) → (L2 (x2 + 1))) ∧ ((¬ ((r2 &&& (((1 : Int32) <<< ((σ.1 6 i1 0) &&& 31)) - 1)) = r3)) → (K 0))) i1 x2) i0 x2))
def xw_S_isAsTold_2 (δ : XSh) (σ : XSt) (K : Int32 → Prop) (i0 : Nat) (i1 : Nat) : Nat → Int32 → Prop
  | 0 => fun _ => False
  | n + 1 => fun x2 => xw_S_isAsTold_2_b δ σ K i0 i1 (xw_S_isAsTold_2 δ σ K i0 i1 n) x2
set_option maxHeartbeats 4000000 in
set_option maxRecDepth 100000 in
theorem xk_S_isAsTold_2_b {p : Program} {l : Launch} {e : Env} {s : State} {m : MethodId} {args : Array Value} {below : List Frame} {meth : Method} {c : Code} {Γ : GA} {δ : XSh} {σ : XSt} {K : Int32 → Prop} {i0 : Nat} {i1 : Nat} (X : CX p s m args meth c cX0_isAsTold 3 (some .boolean) RX0 Γ) (h0 : (7, i0) ∈ δ.1) (c0 : 12 ≤ δ.2.2.1 i0) (h1 : (6, i1) ∈ δ.1) {L2 : Int32 → Prop} (hL2 : ∀ (x2 : Int32), L2 x2 → TX p l e ({ frames := 22, cells := 0, slots := 0, locals := 477 } : Room) s m args below meth c 3 0 0 (YI below (fun r u => K r ∧ u = (δ, σ)) 0 0 Γ δ s args) Γ δ δ σ 2 [(0, .ref i0), (1, .ref i1), (2, .int x2)] []) : ∀ (x2 : Int32), xw_S_isAsTold_2_b δ σ K i0 i1 L2 x2 → TX p l e ({ frames := 22, cells := 0, slots := 0, locals := 477 } : Room) s m args below meth c 3 0 0 (YI below (fun r u => K r ∧ u = (δ, σ)) 0 0 Γ δ s args) Γ δ δ σ 2 [(0, .ref i0), (1, .ref i1), (2, .int x2)] [] := by
  obtain ⟨hx, hb, hml, hown, hts, hK, hr, hlk⟩ := id X
  have hA : ∀ q, s.heap.size ≤ q → AX δ s.heap.size q := fun q h => Or.inr h
  intro x2 hwp H locs ls hP hO hD hS hl
  unfold xw_S_isAsTold_2_b at hwp
  refine lv_iload_n hx hb dX0_isAsTold_2 rfl (lv_at hl 2 rfl) ?_
  refine lv_aload_n hx hb dX0_isAsTold_3 rfl (lv_at hl 1 rfl) ?_
  refine x_get hx hb hts hown hK hP 6 i1 h1 rfl rfl in_X2 0 (by decide) q145 rfl (v := .int (σ.1 6 i1 0)) rfl dX0_isAsTold_4 ?_
  refine lv_icmp_ge (tgt := 40) hx hb dX0_isAsTold_7 (by decide) (fun c1 => ?_) (fun c1 => ?_)
  · replace hwp := hwp.1 c1
    refine lv_iconst (v := 1) hx hb dX0_isAsTold_40 (by decide) ?_
    exact x_zret (v := 1) hx hb hr hlk hP hO hD hS (Or.inr rfl) ⟨hwp, rfl⟩ dX0_isAsTold_41
  · replace hwp := hwp.2 c1
    refine lv_aload_n hx hb dX0_isAsTold_10 rfl (lv_at hl 0 rfl) ?_
    refine lv_iload_n hx hb dX0_isAsTold_11 rfl (lv_at hl 2 rfl) ?_
    refine x_goi (xr_R_asInt (As := [.int x2]) (rest := []) ⟨hx, hb, hml, hown, hts⟩ hK hD hO hP h0 c0 hwp q1197 ⟨(Nat.le_of_ble_eq_true rfl), (Nat.le_of_ble_eq_true rfl)⟩ rfl hl.1 rfl (Nat.le_of_ble_eq_true rfl) dX0_isAsTold_12 ⟨(Nat.le_of_ble_eq_true rfl), (Nat.le_of_ble_eq_true rfl)⟩) hD hA hS (fun r2 u H locs hk hP hO hD hS => ?_)
    obtain ⟨hwp, eu⟩ := hk
    subst eu
    dsimp only at hP hO hD
    refine lv_iconst (v := 1) hx hb dX0_isAsTold_15 (by decide) ?_
    refine lv_aload_n hx hb dX0_isAsTold_16 rfl (lv_at hl 1 rfl) ?_
    refine x_get hx hb hts hown hK hP 6 i1 h1 rfl rfl in_X2 0 (by decide) q145 rfl (v := .int (σ.1 6 i1 0)) rfl dX0_isAsTold_17 ?_
    refine lv_ishl hx hb dX0_isAsTold_20 ?_
    refine lv_iconst (v := 1) hx hb dX0_isAsTold_21 (by decide) ?_
    refine lv_isub hx hb dX0_isAsTold_22 ?_
    refine lv_iand hx hb dX0_isAsTold_23 ?_
    refine lv_aload_n hx hb dX0_isAsTold_24 rfl (lv_at hl 1 rfl) ?_
    refine lv_iload_n hx hb dX0_isAsTold_25 rfl (lv_at hl 2 rfl) ?_
    refine x_goi (va_runV (As := [.int x2]) (rest := [.int (r2 &&& (((1 : Int32) <<< ((σ.1 6 i1 0) &&& 31)) - 1))]) ⟨hx, hb, hml, hown, hts⟩ (xt_G_into h1 hwp H.size) (cwV 1 hts (lw_V q1168 q538 q539 q77 q540) rfl rfl rfl (by decide +kernel) ⟨Nat.le_of_ble_eq_true rfl, Nat.le_of_ble_eq_true rfl⟩) (x_preV hK hO hD hP 6 i1 h1 rfl rfl) rfl rfl hl.1 rfl (lv_room (Nat.le_of_ble_eq_true rfl)) dX0_isAsTold_26 ⟨(Nat.le_of_ble_eq_true rfl), (Nat.le_of_ble_eq_true rfl)⟩) hD hA hS (fun r3 u H locs hk hP hO hD hS => ?_)
    obtain ⟨hwp, eu⟩ := hk
    subst eu
    dsimp only at hP hO hD
    refine lv_icmp_eq (tgt := 34) hx hb dX0_isAsTold_29 (by decide) (fun c4 => ?_) (fun c4 => ?_)
    · replace hwp := hwp.1 c4
      refine lv_iinc (v := x2 + 1) (lv' := [(2, .int (x2 + 1)), (0, .ref i0), (1, .ref i1)]) hx hb dX0_isAsTold_34 hl (k := 2) rfl rfl (by decide) rfl (fun ls hl => ?_)
      refine lv_goto (tgt := 2) hx hb dX0_isAsTold_37 (by decide) ?_
      exact hL2 _ hwp H locs ls hP hO hD hS (lv_sub hl [1, 2, 0] rfl)
    · replace hwp := hwp.2 c4
      refine lv_iconst (v := 0) hx hb dX0_isAsTold_32 (by decide) ?_
      exact x_zret (v := 0) hx hb hr hlk hP hO hD hS (Or.inl rfl) ⟨hwp, rfl⟩ dX0_isAsTold_33
set_option maxHeartbeats 4000000 in
set_option maxRecDepth 100000 in
theorem xk_S_isAsTold_2 {p : Program} {l : Launch} {e : Env} {s : State} {m : MethodId} {args : Array Value} {below : List Frame} {meth : Method} {c : Code} {Γ : GA} {δ : XSh} {σ : XSt} {K : Int32 → Prop} {i0 : Nat} {i1 : Nat} (X : CX p s m args meth c cX0_isAsTold 3 (some .boolean) RX0 Γ) (h0 : (7, i0) ∈ δ.1) (c0 : 12 ≤ δ.2.2.1 i0) (h1 : (6, i1) ∈ δ.1) : ∀ n (x2 : Int32), xw_S_isAsTold_2 δ σ K i0 i1 n x2 → TX p l e ({ frames := 22, cells := 0, slots := 0, locals := 477 } : Room) s m args below meth c 3 0 0 (YI below (fun r u => K r ∧ u = (δ, σ)) 0 0 Γ δ s args) Γ δ δ σ 2 [(0, .ref i0), (1, .ref i1), (2, .int x2)] [] := by
  intro n
  induction n with
  | zero => intro _ hwp; exact hwp.elim
  | succ n ih => intro x2 hwp; exact xk_S_isAsTold_2_b X h0 c0 h1 ih x2 hwp
def xw_S_isAsTold (δ : XSh) (σ : XSt) (K : Int32 → Prop) (i0 : Nat) (i1 : Nat) : Prop :=
  ∃ n, xw_S_isAsTold_2 δ σ K i0 i1 n 0
set_option maxHeartbeats 4000000 in
set_option maxRecDepth 100000 in
theorem xt_S_isAsTold {l : Launch} {Γ : GA} {δ : XSh} {σ : XSt} {K : Int32 → Prop} {i0 : Nat} {i1 : Nat} (h0 : (7, i0) ∈ δ.1) (c0 : 12 ≤ δ.2.2.1 i0) (h1 : (6, i1) ∈ δ.1) (hwp : xw_S_isAsTold δ σ K i0 i1 ) : xI l yX0_isAsTold cX0_isAsTold 3 (some .boolean) ({ frames := 22, cells := 0, slots := 0, locals := 477 } : Room) 0 0 Γ δ [.ref i0, .ref i1] σ (fun r u => K r ∧ u = (δ, σ)) := by
  intro sz
  refine x_of (by decide) [(0, .ref i0), (1, .ref i1)] (fun _ h => h) (Nat.le_of_ble_eq_true rfl) ?_
  intro p e s m args below meth c hsz X H locs ls hP hO hD hS hl
  subst hsz
  obtain ⟨hx, hb, hml, hown, hts, hK, hr, hlk⟩ := id X
  have hA : ∀ q, s.heap.size ≤ q → AX δ s.heap.size q := fun q h => Or.inr h
  unfold xw_S_isAsTold at hwp
  refine lv_iconst (v := 0) hx hb dX0_isAsTold_0 (by decide) ?_
  refine lv_istore_n (lv' := [(2, .int 0), (0, .ref i0), (1, .ref i1)]) hx hb dX0_isAsTold_1 rfl hl (by decide) rfl (fun ls hl => ?_)
  obtain ⟨n, hwp⟩ := hwp
  exact xk_S_isAsTold_2 X h0 c0 h1 n _ hwp H locs ls hP hO hD hS (lv_sub hl [1, 2, 0] rfl)
/-! S_fitsIn -/
def xw_S_fitsIn (δ : XSh) (K : Int32 → XSt → Prop) (i0 : Nat) (i1 : Nat) (x2 : Int32) (σ : XSt) : Prop :=
  ∃ o1, σ.2.2 0 i0 3 = some o1 ∧ (∃ o2, σ.2.2 0 i0 4 = some o2 ∧ (xw_G_take δ (fun r3 σ4 => (x2 = 0 ∨ x2 = 1) ∧ (∀ σ6, σ6 = tI σ4 6 r3 1 x2 → (∃ o7, σ6.2.2 0 i0 3 = some o7 ∧ (xw_S_isAsTold δ σ6 (fun r8 => (r8 = 0 ∨ r8 = 1) ∧ K r8 σ6) i1 o7)))) o1 o2 σ))
set_option maxHeartbeats 4000000 in
set_option maxRecDepth 100000 in
theorem xt_S_fitsIn {l : Launch} {Γ : GA} {δ : XSh} {σ : XSt} {K : Int32 → XSt → Prop} {i0 : Nat} {i1 : Nat} (h0 : (0, i0) ∈ δ.1) (h1 : (7, i1) ∈ δ.1) (c1 : 12 ≤ δ.2.2.1 i1) {x2 : Int32} (hwp : xw_S_fitsIn δ K i0 i1 x2 σ) : xI l yX0_fitsIn cX0_fitsIn 3 (some .boolean) ({ frames := 23, cells := 0, slots := 0, locals := 499 } : Room) 0 0 Γ δ [.ref i0, .ref i1, .int x2] σ (fun r u => K r u.2 ∧ u.1 = δ) := by
  intro sz
  refine x_of (by decide) [(0, .ref i0), (1, .ref i1), (2, .int x2)] (fun _ h => h) (Nat.le_of_ble_eq_true rfl) ?_
  intro p e s m args below meth c hsz X H locs ls hP hO hD hS hl
  subst hsz
  obtain ⟨hx, hb, hml, hown, hts, hK, hr, hlk⟩ := id X
  have hA : ∀ q, s.heap.size ≤ q → AX δ s.heap.size q := fun q h => Or.inr h
  unfold xw_S_fitsIn at hwp
  refine lv_aload_n hx hb dX0_fitsIn_0 rfl (lv_at hl 0 rfl) ?_
  obtain ⟨o1, eo1, hwp⟩ := hwp
  refine x_getr hx hb hts hown hK hP 0 i0 h0 rfl rfl in_X0 3 (by decide) q199 rfl rfl eo1 dX0_fitsIn_1 (fun ho1 co1 => ?_)
  refine lv_aload_n hx hb dX0_fitsIn_4 rfl (lv_at hl 0 rfl) ?_
  obtain ⟨o2, eo2, hwp⟩ := hwp
  refine x_getr hx hb hts hown hK hP 0 i0 h0 rfl rfl in_X0 4 (by decide) q200 rfl rfl eo2 dX0_fitsIn_5 (fun ho2 co2 => ?_)
  refine x_gor (va_runV (As := [.ref o2]) (rest := []) ⟨hx, hb, hml, hown, hts⟩ (xt_G_take ho1 ho2 hwp H.size) (cwV 1 hts (lw_V q872 q873 q874 q77 q875) rfl rfl rfl (by decide +kernel) ⟨Nat.le_of_ble_eq_true rfl, Nat.le_of_ble_eq_true rfl⟩) (x_preV hK hO hD hP 6 o1 ho1 rfl rfl) rfl rfl hl.1 rfl (lv_room (Nat.le_of_ble_eq_true rfl)) dX0_fitsIn_8 ⟨(Nat.le_of_ble_eq_true rfl), (Nat.le_of_ble_eq_true rfl)⟩) hD hA hS (fun r3 u H locs hk hP hO hD hS => ?_)
  obtain ⟨u1, σ4⟩ := u
  obtain ⟨⟨hwp, eu⟩, hr3⟩ := hk
  have eu : δ = u1 := eu.symm
  subst eu
  dsimp only at hP hO hD hwp hr3
  refine lv_iload_n hx hb dX0_fitsIn_11 rfl (lv_at hl 2 rfl) ?_
  obtain ⟨hv5, hwp⟩ := hwp
  refine x_puti hx hb hts hown hK hD hP hS 6 r3 hr3 rfl rfl in_X2 tyX2 tyX2_ok nmX2 1 (by decide) q148 rfl rfl (zb_in hv5) (zb_fit hv5) (Nat.le_of_ble_eq_true rfl) rfl dX0_fitsIn_12 (fun H locs hP hS => ?_)
  obtain ⟨σ6, eσ6⟩ : ∃ z, z = tI σ4 6 r3 1 x2 := ⟨_, rfl⟩
  replace hP : XH Γ δ σ6 H := by rw [eσ6]; exact hP
  replace hwp := hwp σ6 eσ6
  refine lv_aload_n hx hb dX0_fitsIn_15 rfl (lv_at hl 1 rfl) ?_
  refine lv_aload_n hx hb dX0_fitsIn_16 rfl (lv_at hl 0 rfl) ?_
  obtain ⟨o7, eo7, hwp⟩ := hwp
  refine x_getr hx hb hts hown hK hP 0 i0 h0 rfl rfl in_X0 3 (by decide) q199 rfl rfl eo7 dX0_fitsIn_17 (fun ho7 co7 => ?_)
  refine x_goi (va_runS (As := [.ref i1, .ref o7]) (rest := []) ⟨hx, hb, hml, hown, hts⟩ (xt_S_isAsTold h1 c1 ho7 hwp H.size) (va_cwS 2 hts (lw_S q1194 q1195 q75 q1196) rfl rfl rfl (by decide +kernel) ⟨Nat.le_of_ble_eq_true rfl, Nat.le_of_ble_eq_true rfl⟩) (x_preS hK hO hD hP) rfl rfl hl.1 rfl (lv_room (Nat.le_of_ble_eq_true rfl)) dX0_fitsIn_20 ⟨(Nat.le_of_ble_eq_true rfl), (Nat.le_of_ble_eq_true rfl)⟩) hD hA hS (fun r8 u H locs hk hP hO hD hS => ?_)
  obtain ⟨hwp, eu⟩ := hk
  subst eu
  dsimp only at hP hO hD
  obtain ⟨hv01, hwp⟩ := hwp
  exact x_zret hx hb hr hlk hP hO hD hS hv01 ⟨hwp, rfl⟩ dX0_fitsIn_23
/-! S_shelvesFollow -/
def xw_S_shelvesFollow_10_b (δ : XSh) (K : XSt → Prop) (i0 : Nat) (L10 : Nat → Int32 → Int32 → XSt → Prop) (y1 : Nat) (x2 : Int32) (x3 : Int32) (σ : XSt) : Prop :=
  ((x2 ≤ x3) → (K σ)) ∧ ((¬ (x2 ≤ x3)) → (vp_in x3 8 ∧ ∃ o3, σ.2.2 1 y1 x3.toNatClampNeg = some o3 ∧ (xw_Sh_holdsThing δ σ (fun r4 => ((r4 = 0) → (L10 y1 x2 (x3 + 1) σ)) ∧ ((¬ (r4 = 0)) → ((σ.2.2 5 o3 0 = none → (False)) ∧ (∀ o6, σ.2.2 5 o3 0 = some o6 → (δ.2.2.1 o6 ∈ [5, 6, 7, 8, 9, 10, 11] ∧ (∃ o8, σ.2.2 0 i0 4 = some o8 ∧ (xw_G_isThing δ σ (fun r9 => ((r9 = 0) → (∀ σ11, σ11 = tP σ 5 o3 0 none → (L10 y1 x2 (x3 + 1) σ11))) ∧ ((¬ (r9 = 0)) → (vp_in (σ.1 7 o6 0) 8 ∧ ∃ o13, σ.2.2 8 o8 (σ.1 7 o6 0).toNatClampNeg = some o13 ∧ (∀ σ14, σ14 = tP σ 5 o3 0 (some o13) → (L10 y1 x2 (x3 + 1) σ14))))) o8 (σ.1 7 o6 0)))))))) o3)))
def xw_S_shelvesFollow_10 (δ : XSh) (K : XSt → Prop) (i0 : Nat) : Nat → Nat → Int32 → Int32 → XSt → Prop
  | 0 => fun _ _ _ _ => False
  | n + 1 => fun y1 x2 x3 σ => xw_S_shelvesFollow_10_b δ K i0 (xw_S_shelvesFollow_10 δ K i0 n) y1 x2 x3 σ
set_option maxHeartbeats 4000000 in
set_option maxRecDepth 100000 in
theorem xk_S_shelvesFollow_10_b {p : Program} {l : Launch} {e : Env} {s : State} {m : MethodId} {args : Array Value} {below : List Frame} {meth : Method} {c : Code} {Γ : GA} {δ : XSh} {K : XSt → Prop} {i0 : Nat} (X : CX p s m args meth c cX0_shelvesFollow 6 none RX0 Γ) (h0 : (0, i0) ∈ δ.1) {L10 : Nat → Int32 → Int32 → XSt → Prop} (hL10 : ∀ (y1 : Nat) (x2 : Int32) (x3 : Int32) (σ : XSt), (1, y1) ∈ δ.1 → L10 y1 x2 x3 σ → TX p l e ({ frames := 2, cells := 0, slots := 0, locals := 46 } : Room) s m args below meth c 6 0 0 (YV below (fun u => K u.2 ∧ u.1 = δ) 0 0 Γ δ s args) Γ δ δ σ 10 [(0, .ref i0), (1, .ref (δ.2.1 1 y1)), (2, .int x2), (3, .int x3)] []) : ∀ (y1 : Nat) (x2 : Int32) (x3 : Int32) (σ : XSt), (1, y1) ∈ δ.1 → xw_S_shelvesFollow_10_b δ K i0 L10 y1 x2 x3 σ → TX p l e ({ frames := 2, cells := 0, slots := 0, locals := 46 } : Room) s m args below meth c 6 0 0 (YV below (fun u => K u.2 ∧ u.1 = δ) 0 0 Γ δ s args) Γ δ δ σ 10 [(0, .ref i0), (1, .ref (δ.2.1 1 y1)), (2, .int x2), (3, .int x3)] [] := by
  obtain ⟨hx, hb, hml, hown, hts, hK, hr, hlk⟩ := id X
  have hA : ∀ q, s.heap.size ≤ q → AX δ s.heap.size q := fun q h => Or.inr h
  intro y1 x2 x3 σ hy1 hwp H locs ls hP hO hD hS hl
  unfold xw_S_shelvesFollow_10_b at hwp
  refine lv_iload_n hx hb dX0_shelvesFollow_10 rfl (lv_at hl 3 rfl) ?_
  refine lv_iload_n hx hb dX0_shelvesFollow_11 rfl (lv_at hl 2 rfl) ?_
  refine lv_icmp_ge (tgt := 78) hx hb dX0_shelvesFollow_12 (by decide) (fun c1 => ?_) (fun c1 => ?_)
  · replace hwp := hwp.1 c1
    exact x_vret hx hb hr hlk hP hO hD hS ⟨hwp, rfl⟩ dX0_shelvesFollow_78
  · replace hwp := hwp.2 c1
    refine lv_aload_n hx hb dX0_shelvesFollow_15 rfl (lv_at hl 1 rfl) ?_
    refine lv_iload_n hx hb dX0_shelvesFollow_16 rfl (lv_at hl 3 rfl) ?_
    obtain ⟨hi2, o3, eo3, hwp⟩ := hwp
    refine x_aald hx hb hK hP 1 y1 hy1 (Or.inr rfl) hi2 eo3 dX0_shelvesFollow_17 (fun ho3 co3 => ?_)
    refine lv_astore (lv' := [(4, .ref o3), (0, .ref i0), (1, .ref (δ.2.1 1 y1)), (2, .int x2), (3, .int x3)]) hx hb dX0_shelvesFollow_18 hl (by decide) rfl (fun ls hl => ?_)
    refine lv_aload hx hb dX0_shelvesFollow_20 (lv_at hl 0 rfl) ?_
    refine x_goi (va_runV (As := []) (rest := []) ⟨hx, hb, hml, hown, hts⟩ (xt_Sh_holdsThing ho3 hwp H.size) (cwV 0 hts (lw_V q447 q448 q449 q78 q450) rfl rfl rfl (by decide +kernel) ⟨Nat.le_of_ble_eq_true rfl, Nat.le_of_ble_eq_true rfl⟩) (x_preV hK hO hD hP 5 o3 ho3 rfl rfl) rfl rfl hl.1 rfl (lv_room (Nat.le_of_ble_eq_true rfl)) dX0_shelvesFollow_22 ⟨(Nat.le_of_ble_eq_true rfl), (Nat.le_of_ble_eq_true rfl)⟩) hD hA hS (fun r4 u H locs hk hP hO hD hS => ?_)
    obtain ⟨hwp, eu⟩ := hk
    subst eu
    dsimp only at hP hO hD
    refine lv_if_eq (tgt := 72) hx hb dX0_shelvesFollow_25 (by decide) (fun c5 => ?_) (fun c5 => ?_)
    · replace hwp := hwp.1 c5
      refine lv_iinc (v := x3 + 1) (lv' := [(3, .int (x3 + 1)), (4, .ref o3), (0, .ref i0), (1, .ref (δ.2.1 1 y1)), (2, .int x2)]) hx hb dX0_shelvesFollow_72 hl (k := 4) rfl rfl (by decide) rfl (fun ls hl => ?_)
      refine lv_goto (tgt := 10) hx hb dX0_shelvesFollow_75 (by decide) ?_
      exact hL10 _ _ _ σ hy1 hwp H locs ls hP hO hD hS (lv_sub hl [2, 3, 4, 0] rfl)
    · replace hwp := hwp.2 c5
      refine lv_aload hx hb dX0_shelvesFollow_28 (lv_at hl 0 rfl) ?_
      rcases o_cases (σ.2.2 5 o3 0) with eo6 | ⟨o6, eo6⟩
      · replace hwp := hwp.1 eo6
        refine x_getN hx hb hts hown hK hP 5 o3 ho3 rfl rfl in_X3 0 (by decide) q192 rfl rfl eo6 dX0_shelvesFollow_30 ?_
        refine lv_castN hx hb dX0_shelvesFollow_33 ?_
        exact hwp.elim
      · replace hwp := hwp.2 o6 eo6
        refine x_getr hx hb hts hown hK hP 5 o3 ho3 rfl rfl in_X3 0 (by decide) q192 rfl rfl eo6 dX0_shelvesFollow_30 (fun ho6 co6 => ?_)
        obtain ⟨c7, hwp⟩ := hwp
        refine x_castOK hx hb hown hK hO hP cs_Thing (hts _ q521) o6 ho6 c7 dX0_shelvesFollow_33 ?_
        refine x_getT hx hb hts hown hK hO hP o6 ho6 (lt_in c7) 0 (by decide) q726 (fun _ h9 => h9) dX0_shelvesFollow_36 ?_
        refine lv_istore (lv' := [(5, .int (σ.1 7 o6 0)), (4, .ref o3), (0, .ref i0), (1, .ref (δ.2.1 1 y1)), (2, .int x2), (3, .int x3)]) hx hb dX0_shelvesFollow_39 hl (by decide) rfl (fun ls hl => ?_)
        refine lv_aload hx hb dX0_shelvesFollow_41 (lv_at hl 1 rfl) ?_
        refine lv_aload_n hx hb dX0_shelvesFollow_43 rfl (lv_at hl 2 rfl) ?_
        obtain ⟨o8, eo8, hwp⟩ := hwp
        refine x_getr hx hb hts hown hK hP 0 i0 h0 rfl rfl in_X0 4 (by decide) q200 rfl rfl eo8 dX0_shelvesFollow_44 (fun ho8 co8 => ?_)
        refine lv_iload hx hb dX0_shelvesFollow_47 (lv_at hl 0 rfl) ?_
        refine x_goi (va_runV (As := [.int (σ.1 7 o6 0)]) (rest := [.ref o3]) ⟨hx, hb, hml, hown, hts⟩ (xt_G_isThing ho8 hwp H.size) (cwV 1 hts (lw_V q512 q513 q514 q77 q515) rfl rfl rfl (by decide +kernel) ⟨Nat.le_of_ble_eq_true rfl, Nat.le_of_ble_eq_true rfl⟩) (x_preV hK hO hD hP 6 o8 ho8 rfl rfl) rfl rfl hl.1 rfl (lv_room (Nat.le_of_ble_eq_true rfl)) dX0_shelvesFollow_49 ⟨(Nat.le_of_ble_eq_true rfl), (Nat.le_of_ble_eq_true rfl)⟩) hD hA hS (fun r9 u H locs hk hP hO hD hS => ?_)
        obtain ⟨hwp, eu⟩ := hk
        subst eu
        dsimp only at hP hO hD
        refine lv_if_eq (tgt := 68) hx hb dX0_shelvesFollow_52 (by decide) (fun c10 => ?_) (fun c10 => ?_)
        · replace hwp := hwp.1 c10
          refine lv_null hx hb dX0_shelvesFollow_68 ?_
          refine x_putr (v := none) hx hb hts hown hK hD hP hS 5 o3 ho3 rfl rfl in_X3 tyX3 tyX3_ok nmX3 0 (by decide) q192 rfl rfl rfl rfl (Nat.le_of_ble_eq_true rfl) rfl (fun t9 h9 => by cases h9) dX0_shelvesFollow_69 (fun H locs hP hS => ?_)
          obtain ⟨σ11, eσ11⟩ : ∃ z, z = tP σ 5 o3 0 none := ⟨_, rfl⟩
          replace hP : XH Γ δ σ11 H := by rw [eσ11]; exact hP
          replace hwp := hwp σ11 eσ11
          refine lv_iinc (v := x3 + 1) (lv' := [(3, .int (x3 + 1)), (5, .int (σ.1 7 o6 0)), (4, .ref o3), (0, .ref i0), (1, .ref (δ.2.1 1 y1)), (2, .int x2)]) hx hb dX0_shelvesFollow_72 hl (k := 5) rfl rfl (by decide) rfl (fun ls hl => ?_)
          refine lv_goto (tgt := 10) hx hb dX0_shelvesFollow_75 (by decide) ?_
          exact hL10 _ _ _ σ11 hy1 hwp H locs ls hP hO hD hS (lv_sub hl [3, 4, 5, 0] rfl)
        · replace hwp := hwp.2 c10
          refine lv_aload_n hx hb dX0_shelvesFollow_55 rfl (lv_at hl 2 rfl) ?_
          refine x_getr hx hb hts hown hK hP 0 i0 h0 rfl rfl in_X0 4 (by decide) q200 rfl rfl eo8 dX0_shelvesFollow_56 (fun ho8 co8 => ?_)
          refine x_get hx hb hts hown hK hP 6 o8 ho8 rfl rfl in_X2 6 (by decide) q160 rfl (v := .ref (δ.2.1 8 o8)) rfl dX0_shelvesFollow_59 ?_
          refine lv_iload hx hb dX0_shelvesFollow_62 (lv_at hl 0 rfl) ?_
          obtain ⟨hi12, o13, eo13, hwp⟩ := hwp
          refine x_aald hx hb hK hP 8 o8 ((hO.1 _ ho8).1) (Or.inl rfl) hi12 eo13 dX0_shelvesFollow_64 (fun ho13 co13 => ?_)
          refine lv_goto (tgt := 69) hx hb dX0_shelvesFollow_65 (by decide) ?_
          refine x_putr (v := (some o13)) hx hb hts hown hK hD hP hS 5 o3 ho3 rfl rfl in_X3 tyX3 tyX3_ok nmX3 0 (by decide) q192 rfl rfl rfl rfl (Nat.le_of_ble_eq_true rfl) rfl (fun t9 h9 => by cases h9; exact ⟨ho13, fun z => absurd z (by decide), fun z => absurd z.1 (by decide)⟩) dX0_shelvesFollow_69 (fun H locs hP hS => ?_)
          obtain ⟨σ14, eσ14⟩ : ∃ z, z = tP σ 5 o3 0 (some o13) := ⟨_, rfl⟩
          replace hP : XH Γ δ σ14 H := by rw [eσ14]; exact hP
          replace hwp := hwp σ14 eσ14
          refine lv_iinc (v := x3 + 1) (lv' := [(3, .int (x3 + 1)), (5, .int (σ.1 7 o6 0)), (4, .ref o3), (0, .ref i0), (1, .ref (δ.2.1 1 y1)), (2, .int x2)]) hx hb dX0_shelvesFollow_72 hl (k := 5) rfl rfl (by decide) rfl (fun ls hl => ?_)
          refine lv_goto (tgt := 10) hx hb dX0_shelvesFollow_75 (by decide) ?_
          exact hL10 _ _ _ σ14 hy1 hwp H locs ls hP hO hD hS (lv_sub hl [3, 4, 5, 0] rfl)
set_option maxHeartbeats 4000000 in
set_option maxRecDepth 100000 in
theorem xk_S_shelvesFollow_10 {p : Program} {l : Launch} {e : Env} {s : State} {m : MethodId} {args : Array Value} {below : List Frame} {meth : Method} {c : Code} {Γ : GA} {δ : XSh} {K : XSt → Prop} {i0 : Nat} (X : CX p s m args meth c cX0_shelvesFollow 6 none RX0 Γ) (h0 : (0, i0) ∈ δ.1) : ∀ n (y1 : Nat) (x2 : Int32) (x3 : Int32) (σ : XSt), (1, y1) ∈ δ.1 → xw_S_shelvesFollow_10 δ K i0 n y1 x2 x3 σ → TX p l e ({ frames := 2, cells := 0, slots := 0, locals := 46 } : Room) s m args below meth c 6 0 0 (YV below (fun u => K u.2 ∧ u.1 = δ) 0 0 Γ δ s args) Γ δ δ σ 10 [(0, .ref i0), (1, .ref (δ.2.1 1 y1)), (2, .int x2), (3, .int x3)] [] := by
  intro n
  induction n with
  | zero => intro _ _ _ _ _ hwp; exact hwp.elim
  | succ n ih => intro y1 x2 x3 σ hy1 hwp; exact xk_S_shelvesFollow_10_b X h0 ih y1 x2 x3 σ hy1 hwp
def xw_S_shelvesFollow (δ : XSh) (K : XSt → Prop) (i0 : Nat) (σ : XSt) : Prop :=
  ∃ n, xw_S_shelvesFollow_10 δ K i0 n i0 8 0 σ
set_option maxHeartbeats 4000000 in
set_option maxRecDepth 100000 in
theorem xt_S_shelvesFollow {l : Launch} {Γ : GA} {δ : XSh} {σ : XSt} {K : XSt → Prop} {i0 : Nat} (h0 : (0, i0) ∈ δ.1) (hwp : xw_S_shelvesFollow δ K i0  σ) : xV l yX0_shelvesFollow cX0_shelvesFollow 6 none ({ frames := 2, cells := 0, slots := 0, locals := 46 } : Room) 0 0 Γ δ [.ref i0] σ (fun u => K u.2 ∧ u.1 = δ) := by
  intro sz
  refine x_of (by decide) [(0, .ref i0)] (fun _ h => h) (Nat.le_of_ble_eq_true rfl) ?_
  intro p e s m args below meth c hsz X H locs ls hP hO hD hS hl
  subst hsz
  obtain ⟨hx, hb, hml, hown, hts, hK, hr, hlk⟩ := id X
  have hA : ∀ q, s.heap.size ≤ q → AX δ s.heap.size q := fun q h => Or.inr h
  unfold xw_S_shelvesFollow at hwp
  refine lv_aload_n hx hb dX0_shelvesFollow_0 rfl (lv_at hl 0 rfl) ?_
  refine x_get hx hb hts hown hK hP 0 i0 h0 rfl rfl in_X0 0 (by decide) q196 rfl (v := .ref (δ.2.1 1 i0)) rfl dX0_shelvesFollow_1 ?_
  refine lv_astore_n (lv' := [(1, .ref (δ.2.1 1 i0)), (0, .ref i0)]) hx hb dX0_shelvesFollow_4 rfl hl (by decide) rfl (fun ls hl => ?_)
  refine lv_aload_n hx hb dX0_shelvesFollow_5 rfl (lv_at hl 0 rfl) ?_
  refine x_alen8 hx hb hK hP i0 ((hO.2.2.1 _ h0).1) dX0_shelvesFollow_6 ?_
  refine lv_istore_n (lv' := [(2, .int 8), (1, .ref (δ.2.1 1 i0)), (0, .ref i0)]) hx hb dX0_shelvesFollow_7 rfl hl (by decide) rfl (fun ls hl => ?_)
  refine lv_iconst (v := 0) hx hb dX0_shelvesFollow_8 (by decide) ?_
  refine lv_istore_n (lv' := [(3, .int 0), (2, .int 8), (1, .ref (δ.2.1 1 i0)), (0, .ref i0)]) hx hb dX0_shelvesFollow_9 rfl hl (by decide) rfl (fun ls hl => ?_)
  obtain ⟨n, hwp⟩ := hwp
  exact xk_S_shelvesFollow_10 X h0 n _ _ _ σ ((hO.2.2.1 _ h0).1) hwp H locs ls hP hO hD hS (lv_sub hl [3, 2, 1, 0] rfl)
/-! Rd_ends -/
def xw_Rd_ends (δ : XSh) (σ : XSt) (K : Int32 → Prop) (i0 : Nat) : Prop :=
  ∃ o1, σ.2.2 12 i0 0 = some o1 ∧ (xv_R_length δ σ (fun r2 => ((¬ ((σ.1 12 i0 2) = r2)) → (K 0)) ∧ (((σ.1 12 i0 2) = r2) → (K 1))) o1)
set_option maxHeartbeats 4000000 in
set_option maxRecDepth 100000 in
theorem xt_Rd_ends {l : Launch} {Γ : GA} {δ : XSh} {σ : XSt} {K : Int32 → Prop} {i0 : Nat} (h0 : (12, i0) ∈ δ.1) (hwp : xw_Rd_ends δ σ K i0 ) : xI l yX18_ends cX18_ends 1 (some .boolean) ({ frames := 1, cells := 0, slots := 0, locals := 20 } : Room) 0 0 Γ δ [.ref i0] σ (fun r u => K r ∧ u = (δ, σ)) := by
  intro sz
  refine x_of (by decide) [(0, .ref i0)] (fun _ h => h) (Nat.le_of_ble_eq_true rfl) ?_
  intro p e s m args below meth c hsz X H locs ls hP hO hD hS hl
  subst hsz
  obtain ⟨hx, hb, hml, hown, hts, hK, hr, hlk⟩ := id X
  have hA : ∀ q, s.heap.size ≤ q → AX δ s.heap.size q := fun q h => Or.inr h
  unfold xw_Rd_ends at hwp
  refine lv_aload_n hx hb dX18_ends_0 rfl (lv_at hl 0 rfl) ?_
  refine x_get hx hb hts hown hK hP 12 i0 h0 rfl rfl in_X18 2 (by decide) q885 rfl (v := .int (σ.1 12 i0 2)) rfl dX18_ends_1 ?_
  refine lv_aload_n hx hb dX18_ends_4 rfl (lv_at hl 0 rfl) ?_
  obtain ⟨o1, eo1, hwp⟩ := hwp
  refine x_getr hx hb hts hown hK hP 12 i0 h0 rfl rfl in_X18 0 (by decide) q883 rfl rfl eo1 dX18_ends_5 (fun ho1 co1 => ?_)
  refine x_goi (xr_R_length (As := []) (rest := [.int (σ.1 12 i0 2)]) ⟨hx, hb, hml, hown, hts⟩ hK hD hO hP ho1 (co1.2 ⟨rfl, rfl⟩) hwp q912 ⟨(Nat.le_of_ble_eq_true rfl), (Nat.le_of_ble_eq_true rfl)⟩ rfl hl.1 rfl (Nat.le_of_ble_eq_true rfl) dX18_ends_8 ⟨(Nat.le_of_ble_eq_true rfl), (Nat.le_of_ble_eq_true rfl)⟩) hD hA hS (fun r2 u H locs hk hP hO hD hS => ?_)
  obtain ⟨hwp, eu⟩ := hk
  subst eu
  dsimp only at hP hO hD
  refine lv_icmp_ne (tgt := 18) hx hb dX18_ends_11 (by decide) (fun c3 => ?_) (fun c3 => ?_)
  · replace hwp := hwp.1 c3
    refine lv_iconst (v := 0) hx hb dX18_ends_18 (by decide) ?_
    exact x_zret (v := 0) hx hb hr hlk hP hO hD hS (Or.inl rfl) ⟨hwp, rfl⟩ dX18_ends_19
  · replace hwp := hwp.2 c3
    refine lv_iconst (v := 1) hx hb dX18_ends_14 (by decide) ?_
    refine lv_goto (tgt := 19) hx hb dX18_ends_15 (by decide) ?_
    exact x_zret (v := 1) hx hb hr hlk hP hO hD hS (Or.inr rfl) ⟨hwp, rfl⟩ dX18_ends_19
/-! Rd_sees -/
def xw_Rd_sees (δ : XSh) (σ : XSt) (K : Int32 → Prop) (i0 : Nat) (x1 : Int32) : Prop :=
  xw_Rd_ends δ σ (fun r1 => ((¬ (r1 = 0)) → (K 0)) ∧ ((r1 = 0) → (∃ o3, σ.2.2 12 i0 0 = some o3 ∧ (xv_R_asInt δ σ (fun r4 => ((¬ (r4 = x1)) → (K 0)) ∧ ((r4 = x1) → (K 1))) o3 (σ.1 12 i0 2))))) i0
set_option maxHeartbeats 4000000 in
set_option maxRecDepth 100000 in
theorem xt_Rd_sees {l : Launch} {Γ : GA} {δ : XSh} {σ : XSt} {K : Int32 → Prop} {i0 : Nat} (h0 : (12, i0) ∈ δ.1) {x1 : Int32} (hwp : xw_Rd_sees δ σ K i0 x1) : xI l yX18_sees cX18_sees 2 (some .boolean) ({ frames := 2, cells := 0, slots := 0, locals := 42 } : Room) 0 0 Γ δ [.ref i0, .int x1] σ (fun r u => K r ∧ u = (δ, σ)) := by
  intro sz
  refine x_of (by decide) [(0, .ref i0), (1, .int x1)] (fun _ h => h) (Nat.le_of_ble_eq_true rfl) ?_
  intro p e s m args below meth c hsz X H locs ls hP hO hD hS hl
  subst hsz
  obtain ⟨hx, hb, hml, hown, hts, hK, hr, hlk⟩ := id X
  have hA : ∀ q, s.heap.size ≤ q → AX δ s.heap.size q := fun q h => Or.inr h
  unfold xw_Rd_sees at hwp
  refine lv_aload_n hx hb dX18_sees_0 rfl (lv_at hl 0 rfl) ?_
  refine x_goi (va_runV (As := []) (rest := []) ⟨hx, hb, hml, hown, hts⟩ (xt_Rd_ends h0 hwp H.size) (cwV 0 hts (lw_V q908 q910 qs10 q104 q911) rfl rfl rfl (by decide +kernel) ⟨Nat.le_of_ble_eq_true rfl, Nat.le_of_ble_eq_true rfl⟩) (x_preV hK hO hD hP 12 i0 h0 rfl rfl) rfl rfl hl.1 rfl (lv_room (Nat.le_of_ble_eq_true rfl)) dX18_sees_1 ⟨(Nat.le_of_ble_eq_true rfl), (Nat.le_of_ble_eq_true rfl)⟩) hD hA hS (fun r1 u H locs hk hP hO hD hS => ?_)
  obtain ⟨hwp, eu⟩ := hk
  subst eu
  dsimp only at hP hO hD
  refine lv_if_ne (tgt := 26) hx hb dX18_sees_4 (by decide) (fun c2 => ?_) (fun c2 => ?_)
  · replace hwp := hwp.1 c2
    refine lv_iconst (v := 0) hx hb dX18_sees_26 (by decide) ?_
    exact x_zret (v := 0) hx hb hr hlk hP hO hD hS (Or.inl rfl) ⟨hwp, rfl⟩ dX18_sees_27
  · replace hwp := hwp.2 c2
    refine lv_aload_n hx hb dX18_sees_7 rfl (lv_at hl 0 rfl) ?_
    obtain ⟨o3, eo3, hwp⟩ := hwp
    refine x_getr hx hb hts hown hK hP 12 i0 h0 rfl rfl in_X18 0 (by decide) q883 rfl rfl eo3 dX18_sees_8 (fun ho3 co3 => ?_)
    refine lv_aload_n hx hb dX18_sees_11 rfl (lv_at hl 0 rfl) ?_
    refine x_get hx hb hts hown hK hP 12 i0 h0 rfl rfl in_X18 2 (by decide) q885 rfl (v := .int (σ.1 12 i0 2)) rfl dX18_sees_12 ?_
    refine x_goi (xr_R_asInt (As := [.int (σ.1 12 i0 2)]) (rest := []) ⟨hx, hb, hml, hown, hts⟩ hK hD hO hP ho3 (co3.2 ⟨rfl, rfl⟩) hwp q927 ⟨(Nat.le_of_ble_eq_true rfl), (Nat.le_of_ble_eq_true rfl)⟩ rfl hl.1 rfl (Nat.le_of_ble_eq_true rfl) dX18_sees_15 ⟨(Nat.le_of_ble_eq_true rfl), (Nat.le_of_ble_eq_true rfl)⟩) hD hA hS (fun r4 u H locs hk hP hO hD hS => ?_)
    obtain ⟨hwp, eu⟩ := hk
    subst eu
    dsimp only at hP hO hD
    refine lv_iload_n hx hb dX18_sees_18 rfl (lv_at hl 1 rfl) ?_
    refine lv_icmp_ne (tgt := 26) hx hb dX18_sees_19 (by decide) (fun c5 => ?_) (fun c5 => ?_)
    · replace hwp := hwp.1 c5
      refine lv_iconst (v := 0) hx hb dX18_sees_26 (by decide) ?_
      exact x_zret (v := 0) hx hb hr hlk hP hO hD hS (Or.inl rfl) ⟨hwp, rfl⟩ dX18_sees_27
    · replace hwp := hwp.2 c5
      refine lv_iconst (v := 1) hx hb dX18_sees_22 (by decide) ?_
      refine lv_goto (tgt := 27) hx hb dX18_sees_23 (by decide) ?_
      exact x_zret (v := 1) hx hb hr hlk hP hO hD hS (Or.inr rfl) ⟨hwp, rfl⟩ dX18_sees_27
/-! Rd_digit -/
def xw_Rd_digit (δ : XSh) (σ : XSt) (K : Int32 → Prop) (i0 : Nat) : Prop :=
  xw_Rd_ends δ σ (fun r1 => ((¬ (r1 = 0)) → (K 0)) ∧ ((r1 = 0) → (∃ o3, σ.2.2 12 i0 0 = some o3 ∧ (xv_R_asInt δ σ (fun r4 => ((r4 < 48) → (K 0)) ∧ ((¬ (r4 < 48)) → (xv_R_asInt δ σ (fun r6 => ((57 < r6) → (K 0)) ∧ ((¬ (57 < r6)) → (K 1))) o3 (σ.1 12 i0 2)))) o3 (σ.1 12 i0 2))))) i0
set_option maxHeartbeats 4000000 in
set_option maxRecDepth 100000 in
theorem xt_Rd_digit {l : Launch} {Γ : GA} {δ : XSh} {σ : XSt} {K : Int32 → Prop} {i0 : Nat} (h0 : (12, i0) ∈ δ.1) (hwp : xw_Rd_digit δ σ K i0 ) : xI l yX18_digit cX18_digit 1 (some .boolean) ({ frames := 2, cells := 0, slots := 0, locals := 42 } : Room) 0 0 Γ δ [.ref i0] σ (fun r u => K r ∧ u = (δ, σ)) := by
  intro sz
  refine x_of (by decide) [(0, .ref i0)] (fun _ h => h) (Nat.le_of_ble_eq_true rfl) ?_
  intro p e s m args below meth c hsz X H locs ls hP hO hD hS hl
  subst hsz
  obtain ⟨hx, hb, hml, hown, hts, hK, hr, hlk⟩ := id X
  have hA : ∀ q, s.heap.size ≤ q → AX δ s.heap.size q := fun q h => Or.inr h
  unfold xw_Rd_digit at hwp
  refine lv_aload_n hx hb dX18_digit_0 rfl (lv_at hl 0 rfl) ?_
  refine x_goi (va_runV (As := []) (rest := []) ⟨hx, hb, hml, hown, hts⟩ (xt_Rd_ends h0 hwp H.size) (cwV 0 hts (lw_V q908 q910 qs10 q104 q911) rfl rfl rfl (by decide +kernel) ⟨Nat.le_of_ble_eq_true rfl, Nat.le_of_ble_eq_true rfl⟩) (x_preV hK hO hD hP 12 i0 h0 rfl rfl) rfl rfl hl.1 rfl (lv_room (Nat.le_of_ble_eq_true rfl)) dX18_digit_1 ⟨(Nat.le_of_ble_eq_true rfl), (Nat.le_of_ble_eq_true rfl)⟩) hD hA hS (fun r1 u H locs hk hP hO hD hS => ?_)
  obtain ⟨hwp, eu⟩ := hk
  subst eu
  dsimp only at hP hO hD
  refine lv_if_ne (tgt := 43) hx hb dX18_digit_4 (by decide) (fun c2 => ?_) (fun c2 => ?_)
  · replace hwp := hwp.1 c2
    refine lv_iconst (v := 0) hx hb dX18_digit_43 (by decide) ?_
    exact x_zret (v := 0) hx hb hr hlk hP hO hD hS (Or.inl rfl) ⟨hwp, rfl⟩ dX18_digit_44
  · replace hwp := hwp.2 c2
    refine lv_aload_n hx hb dX18_digit_7 rfl (lv_at hl 0 rfl) ?_
    obtain ⟨o3, eo3, hwp⟩ := hwp
    refine x_getr hx hb hts hown hK hP 12 i0 h0 rfl rfl in_X18 0 (by decide) q883 rfl rfl eo3 dX18_digit_8 (fun ho3 co3 => ?_)
    refine lv_aload_n hx hb dX18_digit_11 rfl (lv_at hl 0 rfl) ?_
    refine x_get hx hb hts hown hK hP 12 i0 h0 rfl rfl in_X18 2 (by decide) q885 rfl (v := .int (σ.1 12 i0 2)) rfl dX18_digit_12 ?_
    refine x_goi (xr_R_asInt (As := [.int (σ.1 12 i0 2)]) (rest := []) ⟨hx, hb, hml, hown, hts⟩ hK hD hO hP ho3 (co3.2 ⟨rfl, rfl⟩) hwp q927 ⟨(Nat.le_of_ble_eq_true rfl), (Nat.le_of_ble_eq_true rfl)⟩ rfl hl.1 rfl (Nat.le_of_ble_eq_true rfl) dX18_digit_15 ⟨(Nat.le_of_ble_eq_true rfl), (Nat.le_of_ble_eq_true rfl)⟩) hD hA hS (fun r4 u H locs hk hP hO hD hS => ?_)
    obtain ⟨hwp, eu⟩ := hk
    subst eu
    dsimp only at hP hO hD
    refine lv_bipush (v := 48) hx hb dX18_digit_18 (by decide) ?_
    refine lv_icmp_lt (tgt := 43) hx hb dX18_digit_20 (by decide) (fun c5 => ?_) (fun c5 => ?_)
    · replace hwp := hwp.1 c5
      refine lv_iconst (v := 0) hx hb dX18_digit_43 (by decide) ?_
      exact x_zret (v := 0) hx hb hr hlk hP hO hD hS (Or.inl rfl) ⟨hwp, rfl⟩ dX18_digit_44
    · replace hwp := hwp.2 c5
      refine lv_aload_n hx hb dX18_digit_23 rfl (lv_at hl 0 rfl) ?_
      refine x_getr hx hb hts hown hK hP 12 i0 h0 rfl rfl in_X18 0 (by decide) q883 rfl rfl eo3 dX18_digit_24 (fun ho3 co3 => ?_)
      refine lv_aload_n hx hb dX18_digit_27 rfl (lv_at hl 0 rfl) ?_
      refine x_get hx hb hts hown hK hP 12 i0 h0 rfl rfl in_X18 2 (by decide) q885 rfl (v := .int (σ.1 12 i0 2)) rfl dX18_digit_28 ?_
      refine x_goi (xr_R_asInt (As := [.int (σ.1 12 i0 2)]) (rest := []) ⟨hx, hb, hml, hown, hts⟩ hK hD hO hP ho3 (co3.2 ⟨rfl, rfl⟩) hwp q927 ⟨(Nat.le_of_ble_eq_true rfl), (Nat.le_of_ble_eq_true rfl)⟩ rfl hl.1 rfl (Nat.le_of_ble_eq_true rfl) dX18_digit_31 ⟨(Nat.le_of_ble_eq_true rfl), (Nat.le_of_ble_eq_true rfl)⟩) hD hA hS (fun r6 u H locs hk hP hO hD hS => ?_)
      obtain ⟨hwp, eu⟩ := hk
      subst eu
      dsimp only at hP hO hD
      refine lv_bipush (v := 57) hx hb dX18_digit_34 (by decide) ?_
      refine lv_icmp_gt (tgt := 43) hx hb dX18_digit_36 (by decide) (fun c7 => ?_) (fun c7 => ?_)
      · replace hwp := hwp.1 c7
        refine lv_iconst (v := 0) hx hb dX18_digit_43 (by decide) ?_
        exact x_zret (v := 0) hx hb hr hlk hP hO hD hS (Or.inl rfl) ⟨hwp, rfl⟩ dX18_digit_44
      · replace hwp := hwp.2 c7
        refine lv_iconst (v := 1) hx hb dX18_digit_39 (by decide) ?_
        refine lv_goto (tgt := 44) hx hb dX18_digit_40 (by decide) ?_
        exact x_zret (v := 1) hx hb hr hlk hP hO hD hS (Or.inr rfl) ⟨hwp, rfl⟩ dX18_digit_44
