def xw_S_need (K : XSh → XSt → Prop) (X : Nat → XSh → XSt → Prop) (x0 : Int32) (x1 : Int32) (δ : XSh) (σ : XSt) : Prop :=
  ((¬ (x0 = 0)) → (K δ σ)) ∧ ((x0 = 0) → (∀ q2 δ3 σ4, NewRe x1 δ σ q2 δ3 σ4 → (X q2 δ3 σ4)))
def xw_S_shelf (K : Nat → XSh → XSt → Prop) (X : Nat → XSh → XSt → Prop) (i0 : Nat) (x1 : Int32) (δ : XSh) (σ : XSt) : Prop :=
  ((vp_in x1 8) → ∃ o2, σ.2.2 1 i0 x1.toNatClampNeg = some o2 ∧ (K o2 δ σ)) ∧ ((¬ vp_in x1 8) → (∀ q : Nat, (∀ q3 δ4 σ5, NewRe (-1) δ σ q3 δ4 σ5 → (X q3 δ4 σ5))))
def xw_S_mustThing (K : XSh → XSt → Prop) (X : Nat → XSh → XSt → Prop) (i0 : Nat) (x1 : Int32) (δ : XSh) (σ : XSt) : Prop :=
  ∃ o1, σ.2.2 0 i0 4 = some o1 ∧ (xw_G_isThing δ σ (fun r2 => xw_S_need (fun δ3 σ4 => K δ3 σ4) (fun q9 δ6 σ7 => X q9 δ6 σ7) r2 (-1) δ σ) o1 x1)
def xw_S_mustHouse (K : XSh → XSt → Prop) (X : Nat → XSh → XSt → Prop) (i0 : Nat) (x1 : Int32) (δ : XSh) (σ : XSt) : Prop :=
  xw_S_mustThing (fun δ1 σ2 => ∃ o4, σ2.2.2 0 i0 4 = some o4 ∧ (xw_G_isHouse δ1 σ2 (fun r5 => xw_S_need (fun δ6 σ7 => K δ6 σ7) (fun q12 δ9 σ10 => X q12 δ9 σ10) r5 (-2) δ1 σ2) o4 x1)) (fun q16 δ13 σ14 => X q16 δ13 σ14) i0 x1 δ σ
def xw_S_mustHouses_73 (K : XSh → XSt → Prop) (X : Nat → XSh → XSt → Prop) (i0 : Nat) (t0 : Int32) (δ : XSh) (σ : XSt) : Prop :=
  xw_S_need (fun δ1 σ2 => K δ1 σ2) (fun q7 δ4 σ5 => X q7 δ4 σ5) t0 (-6) δ σ
def xw_S_mustHouses_58 (K : XSh → XSt → Prop) (X : Nat → XSh → XSt → Prop) (i0 : Nat) (x1 : Int32) (x2 : Int32) (t0 : Int32) (δ : XSh) (σ : XSt) : Prop :=
  xw_S_need (fun δ1 σ2 => ((x1 = x2) → (xw_S_mustHouses_73 K X i0 0 δ1 σ2)) ∧ ((¬ (x1 = x2)) → (xw_S_mustHouses_73 K X i0 1 δ1 σ2))) (fun q8 δ5 σ6 => X q8 δ5 σ6) t0 (-2) δ σ
def xw_S_mustHouses_57 (K : XSh → XSt → Prop) (X : Nat → XSh → XSt → Prop) (i0 : Nat) (x1 : Int32) (x2 : Int32) (δ : XSh) (σ : XSt) : Prop :=
  xw_S_mustHouses_58 K X i0 x1 x2 0 δ σ
def xw_S_mustHouses_27 (K : XSh → XSt → Prop) (X : Nat → XSh → XSt → Prop) (i0 : Nat) (x1 : Int32) (x2 : Int32) (t0 : Int32) (δ : XSh) (σ : XSt) : Prop :=
  xw_S_need (fun δ1 σ2 => ∃ o4, σ2.2.2 0 i0 4 = some o4 ∧ (xw_G_isHouse δ1 σ2 (fun r5 => ((r5 = 0) → (xw_S_mustHouses_57 K X i0 x1 x2 δ1 σ2)) ∧ ((¬ (r5 = 0)) → (xw_G_isHouse δ1 σ2 (fun r7 => ((r7 = 0) → (xw_S_mustHouses_57 K X i0 x1 x2 δ1 σ2)) ∧ ((¬ (r7 = 0)) → (xw_S_mustHouses_58 K X i0 x1 x2 1 δ1 σ2))) o4 x2))) o4 x1)) (fun q12 δ9 σ10 => X q12 δ9 σ10) t0 (-1) δ σ
def xw_S_mustHouses_26 (K : XSh → XSt → Prop) (X : Nat → XSh → XSt → Prop) (i0 : Nat) (x1 : Int32) (x2 : Int32) (δ : XSh) (σ : XSt) : Prop :=
  xw_S_mustHouses_27 K X i0 x1 x2 0 δ σ
def xw_S_mustHouses (K : XSh → XSt → Prop) (X : Nat → XSh → XSt → Prop) (i0 : Nat) (x1 : Int32) (x2 : Int32) (δ : XSh) (σ : XSt) : Prop :=
  ∃ o1, σ.2.2 0 i0 4 = some o1 ∧ (xw_G_isThing δ σ (fun r2 => ((r2 = 0) → (xw_S_mustHouses_26 K X i0 x1 x2 δ σ)) ∧ ((¬ (r2 = 0)) → (xw_G_isThing δ σ (fun r4 => ((r4 = 0) → (xw_S_mustHouses_26 K X i0 x1 x2 δ σ)) ∧ ((¬ (r4 = 0)) → (xw_S_mustHouses_27 K X i0 x1 x2 1 δ σ))) o1 x2))) o1 x1)
def xw_S_newRow (K : Nat → XSh → XSt → Prop) (X : Nat → XSh → XSt → Prop) (x0 : Int32) (x1 : Int32) (δ : XSh) (σ : XSt) : Prop :=
  ((x0 < 0 ∨ 3 < x0) → (∀ q2 δ3 σ4, NewRe (-6) δ σ q2 δ3 σ4 → (X q2 δ3 σ4))) ∧ (x0 = 0 → ((¬ x1 < 0) ∧ x1.toNatClampNeg ≤ 160 ∧ ∀ q6 δ7 σ8, NewB 12 x1.toNatClampNeg δ σ q6 δ7 σ8 → (K q6 δ7 σ8))) ∧ (x0 = 1 → ((¬ x1 < 0) ∧ x1.toNatClampNeg ≤ 160 ∧ ∀ q10 δ11 σ12, NewB 13 x1.toNatClampNeg δ σ q10 δ11 σ12 → (K q10 δ11 σ12))) ∧ (x0 = 2 → ((¬ x1 < 0) ∧ x1.toNatClampNeg ≤ 160 ∧ ∀ q14 δ15 σ16, NewB 14 x1.toNatClampNeg δ σ q14 δ15 σ16 → (K q14 δ15 σ16))) ∧ (x0 = 3 → ((¬ x1 < 0) ∧ x1.toNatClampNeg ≤ 160 ∧ ∀ q18 δ19 σ20, NewB 15 x1.toNatClampNeg δ σ q18 δ19 σ20 → (K q18 δ19 σ20)))
def xw_Sh_row (K : Nat → XSh → XSt → Prop) (X : Nat → XSh → XSt → Prop) (i0 : Nat) (δ : XSh) (σ : XSt) : Prop :=
  (σ.2.2 5 i0 0 = none → (xw_S_need (fun δ2 σ3 => False) (fun q8 δ5 σ6 => X q8 δ5 σ6) 0 (-3) δ σ)) ∧ (∀ o1, σ.2.2 5 i0 0 = some o1 → (((δ.2.2.1 o1 ∈ [12, 13, 14, 15]) → (xw_S_need (fun δ11 σ12 => K o1 δ11 σ12) (fun q19 δ16 σ17 => X q19 δ16 σ17) 1 (-3) δ σ)) ∧ ((¬ δ.2.2.1 o1 ∈ [12, 13, 14, 15]) → (∀ q : Nat, (∀ q22 δ23 σ24, NewRe (-2) δ σ q22 δ23 σ24 → (X q22 δ23 σ24))))))
def xw_Sh_says_286 (K : Int32 → XSh → XSt → Prop) (X : Nat → XSh → XSt → Prop) (i0 : Nat) (i2 : Nat) (x3 : Int32) (t0 : Int32) (δ : XSh) (σ : XSt) : Prop :=
  xw_S_need (fun δ1 σ2 => K x3 δ1 σ2) (fun q7 δ4 σ5 => X q7 δ4 σ5) t0 (-3) δ σ
def xw_Sh_says_274 (K : Int32 → XSh → XSt → Prop) (X : Nat → XSh → XSt → Prop) (i0 : Nat) (i2 : Nat) (x3 : Int32) (δ : XSh) (σ : XSt) : Prop :=
  (σ.2.2 5 i0 0 = none → (xw_Sh_says_286 K X i0 i2 x3 0 δ σ)) ∧ (∀ o1, σ.2.2 5 i0 0 = some o1 → (xw_Sh_says_286 K X i0 i2 x3 1 δ σ))
def xw_Sh_says_68 (K : Int32 → XSh → XSt → Prop) (X : Nat → XSh → XSt → Prop) (i0 : Nat) (i2 : Nat) (t0 : Int32) (δ : XSh) (σ : XSt) : Prop :=
  xw_Sh_says_274 K X i0 i2 t0 δ σ
def xw_Sh_says_117 (K : Int32 → XSh → XSt → Prop) (X : Nat → XSh → XSt → Prop) (i0 : Nat) (i2 : Nat) (t0 : Int32) (δ : XSh) (σ : XSt) : Prop :=
  xw_Sh_says_274 K X i0 i2 t0 δ σ
def xw_Sh_says_157 (K : Int32 → XSh → XSt → Prop) (X : Nat → XSh → XSt → Prop) (i0 : Nat) (i2 : Nat) (t0 : Int32) (δ : XSh) (σ : XSt) : Prop :=
  xw_Sh_says_274 K X i0 i2 t0 δ σ
def xw_Sh_says_194 (K : Int32 → XSh → XSt → Prop) (X : Nat → XSh → XSt → Prop) (i0 : Nat) (i2 : Nat) (t0 : Int32) (δ : XSh) (σ : XSt) : Prop :=
  xw_Sh_says_274 K X i0 i2 t0 δ σ
def xw_Sh_says_219 (K : Int32 → XSh → XSt → Prop) (X : Nat → XSh → XSt → Prop) (i0 : Nat) (i2 : Nat) (t0 : Int32) (δ : XSh) (σ : XSt) : Prop :=
  xw_Sh_says_274 K X i0 i2 t0 δ σ
def xw_Sh_says_244 (K : Int32 → XSh → XSt → Prop) (X : Nat → XSh → XSt → Prop) (i0 : Nat) (i2 : Nat) (t0 : Int32) (δ : XSh) (σ : XSt) : Prop :=
  xw_Sh_says_274 K X i0 i2 t0 δ σ
def xw_Sh_says_273 (K : Int32 → XSh → XSt → Prop) (X : Nat → XSh → XSt → Prop) (i0 : Nat) (i2 : Nat) (t0 : Int32) (δ : XSh) (σ : XSt) : Prop :=
  xw_Sh_says_274 K X i0 i2 t0 δ σ
def xw_Sh_says_293 (K : Int32 → XSh → XSt → Prop) (X : Nat → XSh → XSt → Prop) (i0 : Nat) (i2 : Nat) (z0 : Nat) (δ : XSh) (σ : XSt) : Prop :=
  ∀ q1 δ2 σ3, NewRe (-2) δ σ q1 δ2 σ3 → (X q1 δ2 σ3)
def xw_Sh_says (K : Int32 → XSh → XSt → Prop) (X : Nat → XSh → XSt → Prop) (i0 : Nat) (i2 : Nat) (x1 : Int32) (δ : XSh) (σ : XSt) : Prop :=
  ((x1 < 1 ∨ 6 < x1) → ((σ.2.2 5 i0 0 = none → (xw_Sh_says_273 K X i0 i2 (-1) δ σ)) ∧ (∀ o2, σ.2.2 5 i0 0 = some o2 → (((δ.2.2.1 o2 ∈ [5, 6, 7, 8, 9, 10, 11]) → (xw_G_tall δ σ (fun r4 => xw_Sh_says_273 K X i0 i2 r4 δ σ) i2 (σ.1 7 o2 0))) ∧ ((¬ δ.2.2.1 o2 ∈ [5, 6, 7, 8, 9, 10, 11]) → (∀ q : Nat, (xw_Sh_says_293 K X i0 i2 q δ σ))))))) ∧ (x1 = 1 → ((σ.2.2 5 i0 0 = none → (xw_Sh_says_68 K X i0 i2 (-1) δ σ)) ∧ (∀ o5, σ.2.2 5 i0 0 = some o5 → (((δ.2.2.1 o5 ∈ [6, 8, 9, 10]) → (xw_G_seers δ σ (fun r7 => xw_Jn_bitCount δ σ (fun r8 => xw_Sh_says_68 K X i0 i2 r8 δ σ) r7) i2 (σ.1 7 o5 0))) ∧ ((¬ δ.2.2.1 o5 ∈ [6, 8, 9, 10]) → (∀ q : Nat, (xw_Sh_says_293 K X i0 i2 q δ σ))))))) ∧ (x1 = 2 → ((σ.2.2 5 i0 0 = none → (xw_Sh_says_117 K X i0 i2 (-1) δ σ)) ∧ (∀ o9, σ.2.2 5 i0 0 = some o9 → (((δ.2.2.1 o9 ∈ [7, 11]) → (xw_G_tall δ σ (fun r11 => vp_in (σ.1 7 o9 0) 8 ∧ (∀ r13, r13 = (if (0 : Int32) < (r11 - (σ.1 9 i2 (σ.1 7 o9 0).toNatClampNeg)) then (r11 - (σ.1 9 i2 (σ.1 7 o9 0).toNatClampNeg)) else (0 : Int32)) → (xw_Sh_says_117 K X i0 i2 r13 δ σ))) i2 (σ.1 7 o9 0))) ∧ ((¬ δ.2.2.1 o9 ∈ [7, 11]) → (∀ q : Nat, (xw_Sh_says_293 K X i0 i2 q δ σ))))))) ∧ (x1 = 3 → ((σ.2.2 5 i0 0 = none → (xw_Sh_says_157 K X i0 i2 (-1) δ σ)) ∧ (∀ o14, σ.2.2 5 i0 0 = some o14 → (((δ.2.2.1 o14 ∈ [8]) → (vp_in (σ.1 7 o14 0) 8 ∧ (xw_To_eyes δ σ (fun r17 => xw_Sh_says_157 K X i0 i2 r17 δ σ) o14 (σ.1 9 i2 (σ.1 7 o14 0).toNatClampNeg)))) ∧ ((¬ δ.2.2.1 o14 ∈ [8]) → (∀ q : Nat, (xw_Sh_says_293 K X i0 i2 q δ σ))))))) ∧ (x1 = 4 → ((σ.2.2 5 i0 0 = none → (xw_Sh_says_194 K X i0 i2 (-1) δ σ)) ∧ (∀ o18, σ.2.2 5 i0 0 = some o18 → (((δ.2.2.1 o18 ∈ [9]) → (xw_G_isRight δ σ (fun r20 => ((r20 = 0) → (xw_Sh_says_194 K X i0 i2 0 δ σ)) ∧ ((¬ (r20 = 0)) → (xw_Sh_says_194 K X i0 i2 1 δ σ))) i2 (σ.1 7 o18 0))) ∧ ((¬ δ.2.2.1 o18 ∈ [9]) → (∀ q : Nat, (xw_Sh_says_293 K X i0 i2 q δ σ))))))) ∧ (x1 = 5 → ((σ.2.2 5 i0 0 = none → (xw_Sh_says_219 K X i0 i2 (-1) δ σ)) ∧ (∀ o22, σ.2.2 5 i0 0 = some o22 → (((δ.2.2.1 o22 ∈ [10]) → (xw_Bl_sight δ σ (fun r24 => xw_Sh_says_219 K X i0 i2 r24 δ σ) o22)) ∧ ((¬ δ.2.2.1 o22 ∈ [10]) → (∀ q : Nat, (xw_Sh_says_293 K X i0 i2 q δ σ))))))) ∧ (x1 = 6 → ((σ.2.2 5 i0 0 = none → (xw_Sh_says_244 K X i0 i2 (-1) δ σ)) ∧ (∀ o25, σ.2.2 5 i0 0 = some o25 → (((δ.2.2.1 o25 ∈ [11]) → (xw_Fi_leaves δ σ (fun r27 => xw_Sh_says_244 K X i0 i2 r27 δ σ) o25)) ∧ ((¬ δ.2.2.1 o25 ∈ [11]) → (∀ q : Nat, (xw_Sh_says_293 K X i0 i2 q δ σ)))))))
def xw_S_thingOfKind (K : Nat → XSh → XSt → Prop) (x0 : Int32) (x1 : Int32) (x2 : Int32) (x3 : Int32) (x4 : Int32) (δ : XSh) (σ : XSt) : Prop :=
  ((x0 < 1 ∨ 6 < x0) → (∀ q2 δ3 σ4, NewT 5 x1 x2 x3 x4 δ σ q2 δ3 σ4 → (K q2 δ3 σ4))) ∧ (x0 = 1 → (∀ q6 δ7 σ8, NewT 6 x1 x2 x3 x4 δ σ q6 δ7 σ8 → (K q6 δ7 σ8))) ∧ (x0 = 2 → (∀ q10 δ11 σ12, NewT 7 x1 x2 x3 x4 δ σ q10 δ11 σ12 → (K q10 δ11 σ12))) ∧ (x0 = 3 → (∀ q14 δ15 σ16, NewT 8 x1 x2 x3 x4 δ σ q14 δ15 σ16 → (K q14 δ15 σ16))) ∧ (x0 = 4 → (∀ q18 δ19 σ20, NewT 9 x1 x2 x3 x4 δ σ q18 δ19 σ20 → (K q18 δ19 σ20))) ∧ (x0 = 5 → (∀ q22 δ23 σ24, NewT 10 x1 x2 x3 x4 δ σ q22 δ23 σ24 → (K q22 δ23 σ24))) ∧ (x0 = 6 → (∀ q26 δ27 σ28, NewT 11 x1 x2 x3 x4 δ σ q26 δ27 σ28 → (K q26 δ27 σ28)))
def xw_G_add (K : Int32 → XSh → XSt → Prop) (i0 : Nat) (x1 : Int32) (x2 : Int32) (x3 : Int32) (x4 : Int32) (x5 : Int32) (δ : XSh) (σ : XSt) : Prop :=
  xw_S_thingOfKind (fun r2 δ3 σ4 => vp_in (σ.1 6 i0 0) 8 ∧ (∀ σ9, σ9 = tP σ4 8 i0 (σ.1 6 i0 0).toNatClampNeg (some r2) → (vp_in (σ9.1 6 i0 0) 8 ∧ (∀ σ11, σ11 = tI σ9 9 i0 (σ9.1 6 i0 0).toNatClampNeg x4 → (vp_in (σ11.1 6 i0 0) 8 ∧ (∀ σ13, σ13 = tI σ11 10 i0 (σ11.1 6 i0 0).toNatClampNeg 0 → (∀ σ14, σ14 = tI σ13 6 i0 0 ((σ13.1 6 i0 0) + 1) → (K (σ13.1 6 i0 0) δ3 σ14)))))))) x1 (σ.1 6 i0 0) x2 x3 x5 δ σ
def xw_S_allInto_41 (K : Nat → XSh → XSt → Prop) (i0 : Nat) (L7 : Int32 → Nat → Int32 → XSh → XSt → Prop) (x1 : Int32) (y2 : Nat) (x3 : Int32) (t0 : Int32) (t1 : Int32) (z2 : Nat) (δ : XSh) (σ : XSt) : Prop :=
  vp_in t1 8 ∧ (∀ σ2, σ2 = tI σ 15 z2 t1.toNatClampNeg t0 → (L7 x1 y2 (x3 + 1) δ σ2))
def xw_S_allInto_7_b (K : Nat → XSh → XSt → Prop) (i0 : Nat) (L7 : Int32 → Nat → Int32 → XSh → XSt → Prop) (x1 : Int32) (y2 : Nat) (x3 : Int32) (δ : XSh) (σ : XSt) : Prop :=
  ∃ o1, σ.2.2 0 i0 4 = some o1 ∧ ((((σ.1 6 o1 0) ≤ x3) → (K y2 δ σ)) ∧ ((¬ ((σ.1 6 o1 0) ≤ x3)) → (xw_G_isHouse δ σ (fun r3 => ((r3 = 0) → (xw_S_allInto_41 K i0 L7 x1 y2 x3 0 x3 y2 δ σ)) ∧ ((¬ (r3 = 0)) → (xw_S_mayInto δ (fun r5 σ6 => xw_S_allInto_41 K i0 L7 x1 y2 x3 r5 x3 y2 δ σ6) i0 x3 x1 σ))) o1 x3)))
def xw_S_allInto_7 (K : Nat → XSh → XSt → Prop) (i0 : Nat) : Nat → Int32 → Nat → Int32 → XSh → XSt → Prop
  | 0 => fun _ _ _ _ _ => False
  | n + 1 => fun x1 y2 x3 δ σ => xw_S_allInto_7_b K i0 (xw_S_allInto_7 K i0 n) x1 y2 x3 δ σ
def xw_S_allInto (K : Nat → XSh → XSt → Prop) (i0 : Nat) (x1 : Int32) (δ : XSh) (σ : XSt) : Prop :=
  ∀ q1 δ2 σ3, NewA δ σ q1 δ2 σ3 → (∃ n, xw_S_allInto_7 K i0 n x1 q1 0 δ2 σ3)
def xw_S_raises_24 (K : XSh → XSt → Prop) (X : Nat → XSh → XSt → Prop) (i0 : Nat) (x1 : Int32) (t0 : Int32) (δ : XSh) (σ : XSt) : Prop :=
  xw_S_need (fun δ1 σ2 => ∃ o4, σ2.2.2 0 i0 3 = some o4 ∧ (∃ o5, σ2.2.2 0 i0 4 = some o5 ∧ (xw_G_take δ1 (fun r6 σ7 => vp_in x1 8 ∧ (vp_in x1 8 ∧ (∀ σ10, σ10 = tI σ7 9 r6 x1.toNatClampNeg ((σ7.1 9 r6 x1.toNatClampNeg) + 1) → (K δ1 σ10)))) o4 o5 σ2))) (fun q14 δ11 σ12 => X q14 δ11 σ12) t0 (-6) δ σ
def xw_S_raises (K : XSh → XSt → Prop) (X : Nat → XSh → XSt → Prop) (i0 : Nat) (x1 : Int32) (δ : XSh) (σ : XSt) : Prop :=
  xw_S_mustHouse (fun δ1 σ2 => ∃ o4, σ2.2.2 0 i0 4 = some o4 ∧ (vp_in x1 8 ∧ (((20 ≤ (σ2.1 9 o4 x1.toNatClampNeg)) → (xw_S_raises_24 K X i0 x1 0 δ1 σ2)) ∧ ((¬ (20 ≤ (σ2.1 9 o4 x1.toNatClampNeg))) → (xw_S_raises_24 K X i0 x1 1 δ1 σ2))))) (fun q10 δ7 σ8 => X q10 δ7 σ8) i0 x1 δ σ
def xw_Rd_hasRoom (K : XSh → XSt → Prop) (X : Nat → XSh → XSt → Prop) (i0 : Nat) (x1 : Int32) (x2 : Int32) (δ : XSh) (σ : XSt) : Prop :=
  ((¬ (x1 = 0)) → (K δ σ)) ∧ ((x1 = 0) → (∀ q2 δ3 σ4, NewFa x2 δ σ q2 δ3 σ4 → (X q2 δ3 σ4)))
def xw_Rd_must (K : XSh → XSt → Prop) (X : Nat → XSh → XSt → Prop) (i0 : Nat) (x1 : Int32) (δ : XSh) (σ : XSt) : Prop :=
  xw_Rd_sees δ σ (fun r1 => ((¬ (r1 = 0)) → (∀ σ3, σ3 = tI σ 12 i0 2 ((σ.1 12 i0 2) + 1) → (K δ σ3))) ∧ ((r1 = 0) → (∀ q4 δ5 σ6, NewFa (σ.1 12 i0 2) δ σ q4 δ5 σ6 → (X q4 δ5 σ6)))) i0 x1
def xw_Rd_number_89 (K : Int32 → XSh → XSt → Prop) (X : Nat → XSh → XSt → Prop) (i0 : Nat) (x1 : Int32) (x2 : Int32) (x3 : Int32) (δ : XSh) (σ : XSt) : Prop :=
  xw_S_in δ σ (fun r1 => xw_Rd_hasRoom (fun δ2 σ3 => K x3 δ2 σ3) (fun q8 δ5 σ6 => X q8 δ5 σ6) i0 r1 (σ.1 12 i0 3) δ σ) x3.toInt64 x1.toInt64 x2.toInt64
def xw_Rd_number (K : Int32 → XSh → XSt → Prop) (X : Nat → XSh → XSt → Prop) (i0 : Nat) (x1 : Int32) (x2 : Int32) (δ : XSh) (σ : XSt) : Prop :=
  xw_Rd_must (fun δ1 σ2 => ∀ σ4, σ4 = tI σ2 12 i0 3 (σ2.1 12 i0 2) → (xw_Rd_digit δ1 σ4 (fun r5 => ((¬ (r5 = 0)) → (∃ o7, σ4.2.2 12 i0 0 = some o7 ∧ (∀ σ8, σ8 = tI σ4 12 i0 2 ((σ4.1 12 i0 2) + 1) → (xv_R_asInt δ1 σ8 (fun r10 => xw_Rd_digit δ1 σ8 (fun r11 => ((r11 = 0) → (xw_Rd_number_89 K X i0 x1 x2 (r10 - 48) δ1 σ8)) ∧ ((¬ (r11 = 0)) → (∃ o13, σ8.2.2 12 i0 0 = some o13 ∧ (∀ σ14, σ14 = tI σ8 12 i0 2 ((σ8.1 12 i0 2) + 1) → (xv_R_asInt δ1 σ14 (fun r16 => xw_Rd_number_89 K X i0 x1 x2 ((((10 : Int32) * (r10 - 48)) + r16) - 48) δ1 σ14) o13 (σ8.1 12 i0 2)))))) i0) o7 (σ4.1 12 i0 2))))) ∧ ((r5 = 0) → (∀ q17 δ18 σ19, NewFa (σ4.1 12 i0 2) δ1 σ4 q17 δ18 σ19 → (X q17 δ18 σ19)))) i0)) (fun q24 δ21 σ22 => X q24 δ21 σ22) i0 32 δ σ
def xw_Rd_house (K : Int32 → XSh → XSt → Prop) (X : Nat → XSh → XSt → Prop) (i0 : Nat) (δ : XSh) (σ : XSt) : Prop :=
  xw_Rd_number (fun r1 δ2 σ3 => ∃ o5, σ3.2.2 12 i0 1 = some o5 ∧ (xw_G_isHouse δ2 σ3 (fun r6 => xw_Rd_hasRoom (fun δ7 σ8 => K r1 δ7 σ8) (fun q13 δ10 σ11 => X q13 δ10 σ11) i0 r6 (σ3.1 12 i0 3) δ2 σ3) o5 r1)) (fun q17 δ14 σ15 => X q17 δ14 σ15) i0 0 99 δ σ
def xw_Rd_thing_18 (K : XSh → XSt → Prop) (X : Nat → XSh → XSt → Prop) (i0 : Nat) (x1 : Int32) (t0 : Int32) (z1 : Nat) (δ : XSh) (σ : XSt) : Prop :=
  xw_Rd_hasRoom (fun δ1 σ2 => xw_Rd_number (fun r4 δ5 σ6 => xw_Rd_number (fun r8 δ9 σ10 => xw_Rd_number (fun r12 δ13 σ14 => ∃ o16, σ14.2.2 12 i0 1 = some o16 ∧ (xw_G_isFree δ13 σ14 (fun r17 => xw_Rd_hasRoom (fun δ18 σ19 => xw_Rd_number (fun r21 δ22 σ23 => ∃ o25, σ23.2.2 12 i0 1 = some o25 ∧ (xw_Rd_number (fun r26 δ27 σ28 => xw_G_add (fun r32 δ33 σ34 => K δ33 σ34) o25 r4 r8 r12 r21 r26 δ27 σ28) (fun q39 δ36 σ37 => X q39 δ36 σ37) i0 0 9 δ22 σ23)) (fun q45 δ42 σ43 => X q45 δ42 σ43) i0 0 20 δ18 σ19) (fun q49 δ46 σ47 => X q49 δ46 σ47) i0 r17 (σ14.1 12 i0 3) δ13 σ14) o16 r8 r12)) (fun q53 δ50 σ51 => X q53 δ50 σ51) i0 0 9 δ9 σ10) (fun q57 δ54 σ55 => X q57 δ54 σ55) i0 0 9 δ5 σ6) (fun q61 δ58 σ59 => X q61 δ58 σ59) i0 0 6 δ1 σ2) (fun q65 δ62 σ63 => X q65 δ62 σ63) z1 t0 x1 δ σ
def xw_Rd_thing (K : XSh → XSt → Prop) (X : Nat → XSh → XSt → Prop) (i0 : Nat) (x1 : Int32) (δ : XSh) (σ : XSt) : Prop :=
  ∃ o1, σ.2.2 12 i0 1 = some o1 ∧ (((8 ≤ (σ.1 6 o1 0)) → (xw_Rd_thing_18 K X i0 x1 0 i0 δ σ)) ∧ ((¬ (8 ≤ (σ.1 6 o1 0))) → (xw_Rd_thing_18 K X i0 x1 1 i0 δ σ)))
