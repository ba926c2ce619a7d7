def xw_Sh_holdsThing (δ : XSh) (σ : XSt) (K : Int32 → Prop) (i0 : Nat) : Prop :=
  (σ.2.2 5 i0 0 = none → (K 0)) ∧ (∀ o1, σ.2.2 5 i0 0 = some o1 → (((δ.2.2.1 o1 ∈ [5, 6, 7, 8, 9, 10, 11]) → (K 1)) ∧ ((¬ δ.2.2.1 o1 ∈ [5, 6, 7, 8, 9, 10, 11]) → (K 0))))
def xw_S_beyond (δ : XSh) (K : Int32 → XSt → Prop) (i0 : Nat) (σ : XSt) : Prop :=
  vp_in 5 8 ∧ (vp_in 5 8 ∧ (∀ σ3, σ3 = tI σ 2 i0 (5 : Int32).toNatClampNeg ((σ.1 2 i0 (5 : Int32).toNatClampNeg) + 1) → (K (-5) σ3)))
def xw_S_refused (δ : XSh) (K : Int32 → XSt → Prop) (i0 : Nat) (i1 : Nat) (σ : XSt) : Prop :=
  vp_in (-(σ.1 13 i1 6)) 8 ∧ (vp_in (-(σ.1 13 i1 6)) 8 ∧ (∀ σ3, σ3 = tI σ 2 i0 (-(σ.1 13 i1 6)).toNatClampNeg ((σ.1 2 i0 (-(σ.1 13 i1 6)).toNatClampNeg) + 1) → (K (σ3.1 13 i1 6) σ3)))
def xw_S_holds (δ : XSh) (σ : XSt) (K : Int32 → Prop) (i0 : Nat) (x1 : Int32) : Prop :=
  ((x1 < 0) → (K (-1))) ∧ ((¬ (x1 < 0)) → (((8 ≤ x1) → (K (-1))) ∧ ((¬ (8 ≤ x1)) → (vp_in x1 8 ∧ ∃ o4, σ.2.2 1 i0 x1.toNatClampNeg = some o4 ∧ ((σ.2.2 5 o4 0 = none → (K (-1))) ∧ (∀ o5, σ.2.2 5 o4 0 = some o5 → (vp_in x1 8 ∧ ∃ o7, σ.2.2 1 i0 x1.toNatClampNeg = some o7 ∧ ((σ.2.2 5 o7 0 = none → ((((0 : Int32) = 0) → (False)) ∧ ((¬ ((0 : Int32) = 0)) → (False)))) ∧ (∀ o8, σ.2.2 5 o7 0 = some o8 → (((δ.2.2.1 o8 ∈ [5, 6, 7, 8, 9, 10, 11]) → ((((1 : Int32) = 0) → (δ.2.2.1 o8 ∈ [12, 13, 14, 15] ∧ (xv_R_sort δ σ (fun r13 => K ((100 : Int32) + r13)) o8))) ∧ ((¬ ((1 : Int32) = 0)) → (K (σ.1 7 o8 0))))) ∧ ((¬ δ.2.2.1 o8 ∈ [5, 6, 7, 8, 9, 10, 11]) → ((((0 : Int32) = 0) → (xv_R_sort δ σ (fun r16 => K ((100 : Int32) + r16)) o8)) ∧ ((¬ ((0 : Int32) = 0)) → (δ.2.2.1 o8 ∈ [5, 6, 7, 8, 9, 10, 11] ∧ (K (σ.1 7 o8 0))))))))))))))))
def xw_S_thingOf (δ : XSh) (K : Int32 → XSt → Prop) (i0 : Nat) (x1 : Int32) (x2 : Int32) (σ : XSt) : Prop :=
  ∃ o1, σ.2.2 0 i0 4 = some o1 ∧ (xw_G_isThing δ σ (fun r2 => ((¬ (r2 = 0)) → (vp_in x1 8 ∧ ∃ o5, σ.2.2 8 o1 x1.toNatClampNeg = some o5 ∧ (((x2 < 0 ∨ 6 < x2) → (xw_S_beyond δ (fun r7 σ8 => K r7 σ8) i0 σ)) ∧ (x2 = 0 → (xv_T_kind δ σ (fun r9 => K r9 σ) o5)) ∧ (x2 = 1 → (K (σ.1 7 o5 1) σ)) ∧ (x2 = 2 → (K (σ.1 7 o5 2) σ)) ∧ (x2 = 3 → (vp_in x1 8 ∧ (K (σ.1 9 o1 x1.toNatClampNeg) σ))) ∧ (x2 = 4 → (K (σ.1 7 o5 3) σ)) ∧ (x2 = 5 → (xw_G_tall δ σ (fun r11 => K r11 σ) o1 x1)) ∧ (x2 = 6 → (K (((σ.1 6 o1 3) >>> (x1 &&& 31)) &&& 1) σ))))) ∧ ((r2 = 0) → (xw_S_beyond δ (fun r12 σ13 => K r12 σ13) i0 σ))) o1 x1)
def xw_S_fault (δ : XSh) (σ : XSt) (K : Int32 → Prop) (i0 : Nat) : Prop :=
  K (σ.1 0 i0 6)
def xw_S_right (δ : XSh) (σ : XSt) (K : Int32 → Prop) (i0 : Nat) : Prop :=
  ∃ o1, σ.2.2 0 i0 4 = some o1 ∧ (xw_G_right δ σ (fun r2 => K r2) o1)
def xw_S_first (δ : XSh) (σ : XSt) (K : Int32 → Prop) (i0 : Nat) : Prop :=
  ∃ o1, σ.2.2 0 i0 4 = some o1 ∧ (xw_G_houses δ σ (fun r2 => xw_G_right δ σ (fun r3 => ((¬ ((r2 &&& (r3 ^^^ (-1))) = 0)) → (xw_Jn_numberOfTrailingZeros δ σ (fun r5 => K r5) (r2 &&& (r3 ^^^ (-1))))) ∧ (((r2 &&& (r3 ^^^ (-1))) = 0) → (K (-1)))) o1) o1)
def xw_S_opens_21_b (δ : XSh) (K : Int32 → XSt → Prop) (i0 : Nat) (L21 : Int32 → Int32 → XSt → Prop) (x1 : Int32) (x2 : Int32) (σ : XSt) : Prop :=
  ∃ o1, σ.2.2 0 i0 4 = some o1 ∧ ((((σ.1 6 o1 0) ≤ x2) → (∀ σ3, σ3 = tI σ 6 o1 3 0 → (K x1 σ3))) ∧ ((¬ ((σ.1 6 o1 0) ≤ x2)) → (vp_in x2 8 ∧ (∀ σ5, σ5 = tI σ 10 o1 x2.toNatClampNeg 0 → (L21 x1 (x2 + 1) σ5)))))
def xw_S_opens_21 (δ : XSh) (K : Int32 → XSt → Prop) (i0 : Nat) : Nat → Int32 → Int32 → XSt → Prop
  | 0 => fun _ _ _ => False
  | n + 1 => fun x1 x2 σ => xw_S_opens_21_b δ K i0 (xw_S_opens_21 δ K i0 n) x1 x2 σ
def xw_S_opens (δ : XSh) (K : Int32 → XSt → Prop) (i0 : Nat) (σ : XSt) : Prop :=
  ∃ o1, σ.2.2 0 i0 4 = some o1 ∧ (xw_G_shutters δ σ (fun r2 => xw_Jn_bitCount δ σ (fun r3 => ∃ n, xw_S_opens_21 δ K i0 n (r2 + r3) 0 σ) (σ.1 6 o1 3)) o1)
def xw_S_pairs_27_b (δ : XSh) (σ : XSt) (K : Int32 → Prop) (i0 : Nat) (L4 : Int32 → Int32 → Prop) (L27 : Int32 → Int32 → Int32 → Int32 → Prop) (x1 : Int32) (x2 : Int32) (x3 : Int32) (x4 : Int32) : Prop :=
  ((x2 ≤ x4) → (L4 x1 (x2 + 1))) ∧ ((¬ (x2 ≤ x4)) → (((((x3 >>> (x4 &&& 31)) &&& 1) = 0) → (L27 (x1 + 0) x2 x3 (x4 + 1))) ∧ ((¬ (((x3 >>> (x4 &&& 31)) &&& 1) = 0)) → (∃ o3, σ.2.2 0 i0 4 = some o3 ∧ (xw_G_into δ σ (fun r4 => ((((r4 >>> (x2 &&& 31)) &&& 1) = 0) → (L27 (x1 + 0) x2 x3 (x4 + 1))) ∧ ((¬ (((r4 >>> (x2 &&& 31)) &&& 1) = 0)) → (L27 (x1 + 1) x2 x3 (x4 + 1)))) o3 x4)))))
def xw_S_pairs_27 (δ : XSh) (σ : XSt) (K : Int32 → Prop) (i0 : Nat) (L4 : Int32 → Int32 → Prop) : Nat → Int32 → Int32 → Int32 → Int32 → Prop
  | 0 => fun _ _ _ _ => False
  | n + 1 => fun x1 x2 x3 x4 => xw_S_pairs_27_b δ σ K i0 L4 (xw_S_pairs_27 δ σ K i0 L4 n) x1 x2 x3 x4
def xw_S_pairs_4_b (δ : XSh) (σ : XSt) (K : Int32 → Prop) (i0 : Nat) (L4 : Int32 → Int32 → Prop) (x1 : Int32) (x2 : Int32) : Prop :=
  ∃ o1, σ.2.2 0 i0 4 = some o1 ∧ ((((σ.1 6 o1 0) ≤ x2) → (K x1)) ∧ ((¬ ((σ.1 6 o1 0) ≤ x2)) → (xw_G_into δ σ (fun r3 => ∃ n, xw_S_pairs_27 δ σ K i0 L4 n x1 x2 r3 0) o1 x2)))
def xw_S_pairs_4 (δ : XSh) (σ : XSt) (K : Int32 → Prop) (i0 : Nat) : Nat → Int32 → Int32 → Prop
  | 0 => fun _ _ => False
  | n + 1 => fun x1 x2 => xw_S_pairs_4_b δ σ K i0 (xw_S_pairs_4 δ σ K i0 n) x1 x2
def xw_S_pairs (δ : XSh) (σ : XSt) (K : Int32 → Prop) (i0 : Nat) : Prop :=
  ∃ n, xw_S_pairs_4 δ σ K i0 n 0 0
def xw_S_seed (δ : XSh) (K : Int32 → XSt → Prop) (i0 : Nat) (x1 : Int32) (σ : XSt) : Prop :=
  ∃ o1, σ.2.2 0 i0 4 = some o1 ∧ (∀ σ2, σ2 = tI σ 6 o1 5 x1 → (K (σ.1 6 o1 5) σ2))
def xw_S_act (δ : XSh) (K : Int32 → XSt → Prop) (i0 : Nat) (x1 : Int32) (x2 : Int32) (x3 : Int32) (σ : XSt) : Prop :=
  ∀ σ1, σ1 = tI σ 3 i0 1 0 → (∃ o2, σ1.2.2 0 i0 4 = some o2 ∧ (xw_G_isThing δ σ1 (fun r3 => ((¬ (r3 = 0)) → (vp_in x1 8 ∧ ∃ o6, σ1.2.2 8 o2 x1.toNatClampNeg = some o6 ∧ (((x2 < 0 ∨ 2 < x2) → (K 0 σ1)) ∧ (x2 = 0 → (xv_T_standing δ (fun r8 σ9 => K r8 σ9) o6 i0 x3 σ1)) ∧ (x2 = 1 → (xv_T_looking δ (fun r10 σ11 => K r10 σ11) o6 i0 x3 σ1)) ∧ (x2 = 2 → (xv_T_hiding δ (fun r12 σ13 => K r12 σ13) o6 i0 x3 σ1))))) ∧ ((r3 = 0) → (K 0 σ1))) o2 x1))
def xw_S_trace (δ : XSh) (σ : XSt) (K : Int32 → Prop) (i0 : Nat) (x1 : Int32) : Prop :=
  ∀ r1, r1 = (if 20 < (σ.1 3 i0 1) then 20 else (σ.1 3 i0 1)) → (xw_S_in δ σ (fun r2 => ((r2 = 0) → (K (-1))) ∧ ((¬ (r2 = 0)) → (vp_in x1 20 ∧ (K (σ.1 4 i0 x1.toNatClampNeg))))) x1.toInt64 0 ((r1 - 1).toInt64))
def xw_S_status (δ : XSh) (σ : XSt) (K : Int32 → Prop) (i0 : Nat) (x1 : Int32) : Prop :=
  ((x1 < 0 ∨ 8 < x1) → (xw_S_in δ σ (fun r2 => ((r2 = 0) → (K (-1))) ∧ ((¬ (r2 = 0)) → (vp_in (x1 - 10) 8 ∧ (K (σ.1 2 i0 (x1 - 10).toNatClampNeg))))) x1.toInt64 11 17)) ∧ (x1 = 0 → (∃ o5, σ.2.2 0 i0 4 = some o5 ∧ (K (σ.1 6 o5 0)))) ∧ (x1 = 1 → (∃ o6, σ.2.2 0 i0 4 = some o6 ∧ (xw_G_houses δ σ (fun r7 => K r7) o6))) ∧ (x1 = 2 → (∃ o8, σ.2.2 0 i0 4 = some o8 ∧ ((((σ.1 6 o8 1) = 0) → (K 0)) ∧ ((¬ ((σ.1 6 o8 1) = 0)) → (K 1))))) ∧ (x1 = 3 → (∃ o10, σ.2.2 0 i0 4 = some o10 ∧ (K (σ.1 6 o10 2)))) ∧ (x1 = 4 → (∃ o11, σ.2.2 0 i0 4 = some o11 ∧ (xw_G_shutters δ σ (fun r12 => K r12) o11))) ∧ (x1 = 5 → (∃ o13, σ.2.2 0 i0 4 = some o13 ∧ (xw_Jn_bitCount δ σ (fun r14 => K r14) (σ.1 6 o13 3)))) ∧ (x1 = 6 → (∃ o15, σ.2.2 0 i0 4 = some o15 ∧ (K (σ.1 6 o15 4)))) ∧ (x1 = 7 → (∃ o16, σ.2.2 0 i0 4 = some o16 ∧ (K (σ.1 6 o16 5)))) ∧ (x1 = 8 → (K (σ.1 3 i0 1)))
def xw_S_rightsBy_5_b (δ : XSh) (σ : XSt) (K : Int32 → Prop) (i0 : Nat) (i2 : Nat) (L5 : Int32 → Int32 → Int32 → Prop) (x1 : Int32) (x3 : Int32) (x4 : Int32) : Prop :=
  ∃ o1, σ.2.2 0 i0 4 = some o1 ∧ ((((σ.1 6 o1 0) ≤ x4) → (K x3)) ∧ ((¬ ((σ.1 6 o1 0) ≤ x4)) → (xw_G_isHouse δ σ (fun r3 => ((r3 = 0) → (L5 x1 (x3 + 0) (x4 + 1))) ∧ ((¬ (r3 = 0)) → (vp_in x4 8 ∧ (xw_Jn_bitCount δ σ (fun r6 => vp_in x4 8 ∧ ∃ o8, σ.2.2 8 o1 x4.toNatClampNeg = some o8 ∧ (xv_T_wanted δ σ (fun r9 => ((¬ (r6 = r9)) → (L5 x1 (x3 + 0) (x4 + 1))) ∧ ((r6 = r9) → (L5 x1 (x3 + 1) (x4 + 1)))) o8)) ((σ.1 15 i2 x4.toNatClampNeg) &&& (x1 ^^^ (-1))))))) o1 x4)))
def xw_S_rightsBy_5 (δ : XSh) (σ : XSt) (K : Int32 → Prop) (i0 : Nat) (i2 : Nat) : Nat → Int32 → Int32 → Int32 → Prop
  | 0 => fun _ _ _ => False
  | n + 1 => fun x1 x3 x4 => xw_S_rightsBy_5_b δ σ K i0 i2 (xw_S_rightsBy_5 δ σ K i0 i2 n) x1 x3 x4
def xw_S_rightsBy (δ : XSh) (σ : XSt) (K : Int32 → Prop) (i0 : Nat) (i2 : Nat) (x1 : Int32) : Prop :=
  ∃ n, xw_S_rightsBy_5 δ σ K i0 i2 n x1 0 0
def xw_S_mayInto (δ : XSh) (K : Int32 → XSt → Prop) (i0 : Nat) (x1 : Int32) (x2 : Int32) (σ : XSt) : Prop :=
  ∃ o1, σ.2.2 0 i0 3 = some o1 ∧ (∃ o2, σ.2.2 0 i0 4 = some o2 ∧ (xw_G_take δ (fun r3 σ4 => (x2 = 0 ∨ x2 = 1) ∧ (∀ σ6, σ6 = tI σ4 6 r3 1 x2 → (∃ o7, σ6.2.2 0 i0 3 = some o7 ∧ (∀ σ8, σ8 = tI σ6 6 o7 3 0 → (∃ o9, σ8.2.2 0 i0 3 = some o9 ∧ (xw_G_seers δ σ8 (fun r10 => K r10 σ8) o9 x1)))))) o1 o2 σ))
def xw_S_isAsTold_2_b (δ : XSh) (σ : XSt) (K : Int32 → Prop) (i0 : Nat) (i1 : Nat) (L2 : Int32 → Prop) (x2 : Int32) : Prop :=
  (((σ.1 6 i1 0) ≤ x2) → (K 1)) ∧ ((¬ ((σ.1 6 i1 0) ≤ x2)) → (xv_R_asInt δ σ (fun r2 => xw_G_into δ σ (fun r3 => (((r2 &&& (((1 : Int32) <<< ((σ.1 6 i1 0) &&& 31)) - 1)) = r3) → (L2 (x2 + 1))) ∧ ((¬ ((r2 &&& (((1 : Int32) <<< ((σ.1 6 i1 0) &&& 31)) - 1)) = r3)) → (K 0))) i1 x2) i0 x2))
def xw_S_isAsTold_2 (δ : XSh) (σ : XSt) (K : Int32 → Prop) (i0 : Nat) (i1 : Nat) : Nat → Int32 → Prop
  | 0 => fun _ => False
  | n + 1 => fun x2 => xw_S_isAsTold_2_b δ σ K i0 i1 (xw_S_isAsTold_2 δ σ K i0 i1 n) x2
def xw_S_isAsTold (δ : XSh) (σ : XSt) (K : Int32 → Prop) (i0 : Nat) (i1 : Nat) : Prop :=
  ∃ n, xw_S_isAsTold_2 δ σ K i0 i1 n 0
def xw_S_fitsIn (δ : XSh) (K : Int32 → XSt → Prop) (i0 : Nat) (i1 : Nat) (x2 : Int32) (σ : XSt) : Prop :=
  ∃ o1, σ.2.2 0 i0 3 = some o1 ∧ (∃ o2, σ.2.2 0 i0 4 = some o2 ∧ (xw_G_take δ (fun r3 σ4 => (x2 = 0 ∨ x2 = 1) ∧ (∀ σ6, σ6 = tI σ4 6 r3 1 x2 → (∃ o7, σ6.2.2 0 i0 3 = some o7 ∧ (xw_S_isAsTold δ σ6 (fun r8 => (r8 = 0 ∨ r8 = 1) ∧ K r8 σ6) i1 o7)))) o1 o2 σ))
def xw_S_shelvesFollow_10_b (δ : XSh) (K : XSt → Prop) (i0 : Nat) (L10 : Nat → Int32 → Int32 → XSt → Prop) (y1 : Nat) (x2 : Int32) (x3 : Int32) (σ : XSt) : Prop :=
  ((x2 ≤ x3) → (K σ)) ∧ ((¬ (x2 ≤ x3)) → (vp_in x3 8 ∧ ∃ o3, σ.2.2 1 y1 x3.toNatClampNeg = some o3 ∧ (xw_Sh_holdsThing δ σ (fun r4 => ((r4 = 0) → (L10 y1 x2 (x3 + 1) σ)) ∧ ((¬ (r4 = 0)) → ((σ.2.2 5 o3 0 = none → (False)) ∧ (∀ o6, σ.2.2 5 o3 0 = some o6 → (δ.2.2.1 o6 ∈ [5, 6, 7, 8, 9, 10, 11] ∧ (∃ o8, σ.2.2 0 i0 4 = some o8 ∧ (xw_G_isThing δ σ (fun r9 => ((r9 = 0) → (∀ σ11, σ11 = tP σ 5 o3 0 none → (L10 y1 x2 (x3 + 1) σ11))) ∧ ((¬ (r9 = 0)) → (vp_in (σ.1 7 o6 0) 8 ∧ ∃ o13, σ.2.2 8 o8 (σ.1 7 o6 0).toNatClampNeg = some o13 ∧ (∀ σ14, σ14 = tP σ 5 o3 0 (some o13) → (L10 y1 x2 (x3 + 1) σ14))))) o8 (σ.1 7 o6 0)))))))) o3)))
def xw_S_shelvesFollow_10 (δ : XSh) (K : XSt → Prop) (i0 : Nat) : Nat → Nat → Int32 → Int32 → XSt → Prop
  | 0 => fun _ _ _ _ => False
  | n + 1 => fun y1 x2 x3 σ => xw_S_shelvesFollow_10_b δ K i0 (xw_S_shelvesFollow_10 δ K i0 n) y1 x2 x3 σ
def xw_S_shelvesFollow (δ : XSh) (K : XSt → Prop) (i0 : Nat) (σ : XSt) : Prop :=
  ∃ n, xw_S_shelvesFollow_10 δ K i0 n i0 8 0 σ
def xw_Rd_ends (δ : XSh) (σ : XSt) (K : Int32 → Prop) (i0 : Nat) : Prop :=
  ∃ o1, σ.2.2 12 i0 0 = some o1 ∧ (xv_R_length δ σ (fun r2 => ((¬ ((σ.1 12 i0 2) = r2)) → (K 0)) ∧ (((σ.1 12 i0 2) = r2) → (K 1))) o1)
def xw_Rd_sees (δ : XSh) (σ : XSt) (K : Int32 → Prop) (i0 : Nat) (x1 : Int32) : Prop :=
  xw_Rd_ends δ σ (fun r1 => ((¬ (r1 = 0)) → (K 0)) ∧ ((r1 = 0) → (∃ o3, σ.2.2 12 i0 0 = some o3 ∧ (xv_R_asInt δ σ (fun r4 => ((¬ (r4 = x1)) → (K 0)) ∧ ((r4 = x1) → (K 1))) o3 (σ.1 12 i0 2))))) i0
def xw_Rd_digit (δ : XSh) (σ : XSt) (K : Int32 → Prop) (i0 : Nat) : Prop :=
  xw_Rd_ends δ σ (fun r1 => ((¬ (r1 = 0)) → (K 0)) ∧ ((r1 = 0) → (∃ o3, σ.2.2 12 i0 0 = some o3 ∧ (xv_R_asInt δ σ (fun r4 => ((r4 < 48) → (K 0)) ∧ ((¬ (r4 < 48)) → (xv_R_asInt δ σ (fun r6 => ((57 < r6) → (K 0)) ∧ ((¬ (57 < r6)) → (K 1))) o3 (σ.1 12 i0 2)))) o3 (σ.1 12 i0 2))))) i0
