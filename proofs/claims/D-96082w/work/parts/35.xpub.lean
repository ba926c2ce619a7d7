def xw_S_row_64 (K : Int32 → XSh → XSt → Prop) (i0 : Nat) (z0 : Nat) (δ : XSh) (σ : XSt) : Prop :=
  xw_S_refused δ (fun r1 σ2 => K r1 δ σ2) i0 z0 σ
def xw_S_row_47 (K : Int32 → XSh → XSt → Prop) (i0 : Nat) (x2 : Int32) (x3 : Int32) (y4 : Nat) (t0 : Int32) (δ : XSh) (σ : XSt) : Prop :=
  xw_S_need (fun δ1 σ2 => xw_S_newRow (fun r6 δ7 σ8 => ∀ σ12, σ12 = tP σ8 5 y4 0 (some r6) → (K 1 δ7 σ12)) (fun q16 δ13 σ14 => xw_S_row_64 K i0 q16 δ13 σ14) x2 x3 δ1 σ2) (fun q22 δ19 σ20 => xw_S_row_64 K i0 q22 δ19 σ20) t0 (-7) δ σ
def xw_S_row_16 (K : Int32 → XSh → XSt → Prop) (i0 : Nat) (x2 : Int32) (x3 : Int32) (y4 : Nat) (t0 : Int32) (δ : XSh) (σ : XSt) : Prop :=
  xw_S_need (fun δ1 σ2 => xw_S_in δ1 σ2 (fun r6 => xw_S_need (fun δ7 σ8 => ((160 < x3) → (xw_S_row_47 K i0 x2 x3 y4 0 δ7 σ8)) ∧ ((¬ (160 < x3)) → (xw_S_row_47 K i0 x2 x3 y4 1 δ7 σ8))) (fun q16 δ13 σ14 => xw_S_row_64 K i0 q16 δ13 σ14) r6 (-6) δ1 σ2) x2.toInt64 0 3) (fun q22 δ19 σ20 => xw_S_row_64 K i0 q22 δ19 σ20) t0 (-4) δ σ
def xw_S_row (K : Int32 → XSh → XSt → Prop) (i0 : Nat) (x1 : Int32) (x2 : Int32) (x3 : Int32) (δ : XSh) (σ : XSt) : Prop :=
  xw_S_shelf (fun r1 δ2 σ3 => ((x3 < 0) → (xw_S_row_16 K i0 x2 x3 r1 0 δ2 σ3)) ∧ ((¬ (x3 < 0)) → (xw_S_row_16 K i0 x2 x3 r1 1 δ2 σ3))) (fun q9 δ6 σ7 => xw_S_row_64 K i0 q9 δ6 σ7) i0 x1 δ σ
def xw_S_set_34 (K : Int32 → XSh → XSt → Prop) (i0 : Nat) (z0 : Nat) (δ : XSh) (σ : XSt) : Prop :=
  xw_S_refused δ (fun r1 σ2 => K r1 δ σ2) i0 z0 σ
def xw_S_set (K : Int32 → XSh → XSt → Prop) (i0 : Nat) (x1 : Int32) (x2 : Int32) (x3 : Int64) (δ : XSh) (σ : XSt) : Prop :=
  xw_S_shelf (fun r1 δ2 σ3 => xw_Sh_row (fun r5 δ6 σ7 => xv_R_put (fun δ9 σ10 => K 1 δ9 σ10) (fun δ14 σ15 => ∀ q17 : Nat, (∀ q20 δ21 σ22, NewRe (-5) δ14 σ15 q20 δ21 σ22 → (xw_S_set_34 K i0 q20 δ21 σ22))) r5 x2 x3 δ6 σ7) (fun q29 δ26 σ27 => xw_S_set_34 K i0 q29 δ26 σ27) r1 δ2 σ3) (fun q33 δ30 σ31 => xw_S_set_34 K i0 q33 δ30 σ31) i0 x1 δ σ
def xw_S_element (K : Int64 → XSh → XSt → Prop) (i0 : Nat) (x1 : Int32) (x2 : Int32) (δ : XSh) (σ : XSt) : Prop :=
  xw_S_shelf (fun r1 δ2 σ3 => xw_Sh_row (fun r5 δ6 σ7 => xv_R_getX (fun r9 δ10 σ11 => K r9 δ10 σ11) (fun δ13 σ14 => ∀ q16 : Nat, (K 0 δ13 σ14)) r5 x2 δ6 σ7) (fun q20 δ17 σ18 => K 0 δ17 σ18) r1 δ2 σ3) (fun q24 δ21 σ22 => K 0 δ21 σ22) i0 x1 δ σ
def xw_S_show_38 (K : Int32 → XSh → XSt → Prop) (i0 : Nat) (z0 : Nat) (δ : XSh) (σ : XSt) : Prop :=
  xw_S_refused δ (fun r1 σ2 => K r1 δ σ2) i0 z0 σ
def xw_S_show (K : Int32 → XSh → XSt → Prop) (i0 : Nat) (x1 : Int32) (x2 : Int32) (δ : XSh) (σ : XSt) : Prop :=
  xw_S_shelf (fun r1 δ2 σ3 => ((¬ (x2 = (-1))) → (xw_S_mustThing (fun δ6 σ7 => ∃ o11, σ7.2.2 0 i0 4 = some o11 ∧ (vp_in x2 8 ∧ ∃ o13, σ7.2.2 8 o11 x2.toNatClampNeg = some o13 ∧ (∀ σ14, σ14 = tP σ7 5 r1 0 (some o13) → (K 1 δ6 σ14)))) (fun q18 δ15 σ16 => xw_S_show_38 K i0 q18 δ15 σ16) i0 x2 δ2 σ3)) ∧ ((x2 = (-1)) → (∀ σ21, σ21 = tP σ3 5 r1 0 none → (K 0 δ2 σ21)))) (fun q25 δ22 σ23 => xw_S_show_38 K i0 q25 δ22 σ23) i0 x1 δ σ
def xw_S_says_29 (K : Int32 → XSh → XSt → Prop) (i0 : Nat) (z0 : Nat) (δ : XSh) (σ : XSt) : Prop :=
  xw_S_refused δ (fun r1 σ2 => K r1 δ σ2) i0 z0 σ
def xw_S_says (K : Int32 → XSh → XSt → Prop) (i0 : Nat) (x1 : Int32) (x2 : Int32) (δ : XSh) (σ : XSt) : Prop :=
  xw_S_shelf (fun r1 δ2 σ3 => xw_S_in δ2 σ3 (fun r5 => xw_S_need (fun δ6 σ7 => ∃ o11, σ7.2.2 0 i0 4 = some o11 ∧ (xw_Sh_says (fun r12 δ13 σ14 => K r12 δ13 σ14) (fun q21 δ18 σ19 => xw_S_says_29 K i0 q21 δ18 σ19) r1 o11 x2 δ6 σ7)) (fun q27 δ24 σ25 => xw_S_says_29 K i0 q27 δ24 σ25) r5 (-1) δ2 σ3) x2.toInt64 0 6) (fun q33 δ30 σ31 => xw_S_says_29 K i0 q33 δ30 σ31) i0 x1 δ σ
def xw_S_thing_124 (K : Int32 → XSh → XSt → Prop) (i0 : Nat) (z0 : Nat) (δ : XSh) (σ : XSt) : Prop :=
  xw_S_refused δ (fun r1 σ2 => K r1 δ σ2) i0 z0 σ
def xw_S_thing_104 (K : Int32 → XSh → XSt → Prop) (i0 : Nat) (x1 : Int32) (x2 : Int32) (x3 : Int32) (x4 : Int32) (x5 : Int32) (t0 : Int32) (δ : XSh) (σ : XSt) : Prop :=
  xw_S_need (fun δ1 σ2 => ∃ o4, σ2.2.2 0 i0 4 = some o4 ∧ (xw_G_add (fun r5 δ6 σ7 => K r5 δ6 σ7) o4 x1 x2 x3 x4 x5 δ1 σ2)) (fun q12 δ9 σ10 => xw_S_thing_124 K i0 q12 δ9 σ10) t0 (-7) δ σ
def xw_S_thing_68 (K : Int32 → XSh → XSt → Prop) (i0 : Nat) (x1 : Int32) (x2 : Int32) (x3 : Int32) (x4 : Int32) (x5 : Int32) (t0 : Int32) (δ : XSh) (σ : XSt) : Prop :=
  xw_S_need (fun δ1 σ2 => ∃ o4, σ2.2.2 0 i0 4 = some o4 ∧ (xw_G_isFree δ1 σ2 (fun r5 => xw_S_need (fun δ6 σ7 => ∃ o9, σ7.2.2 0 i0 4 = some o9 ∧ (((8 ≤ (σ7.1 6 o9 0)) → (xw_S_thing_104 K i0 x1 x2 x3 x4 x5 0 δ6 σ7)) ∧ ((¬ (8 ≤ (σ7.1 6 o9 0))) → (xw_S_thing_104 K i0 x1 x2 x3 x4 x5 1 δ6 σ7)))) (fun q14 δ11 σ12 => xw_S_thing_124 K i0 q14 δ11 σ12) r5 (-6) δ1 σ2) o4 x2 x3)) (fun q18 δ15 σ16 => xw_S_thing_124 K i0 q18 δ15 σ16) t0 (-6) δ σ
def xw_S_thing_67 (K : Int32 → XSh → XSt → Prop) (i0 : Nat) (x1 : Int32) (x2 : Int32) (x3 : Int32) (x4 : Int32) (x5 : Int32) (δ : XSh) (σ : XSt) : Prop :=
  xw_S_thing_68 K i0 x1 x2 x3 x4 x5 0 δ σ
def xw_S_thing (K : Int32 → XSh → XSt → Prop) (i0 : Nat) (x1 : Int32) (x2 : Int32) (x3 : Int32) (x4 : Int32) (x5 : Int32) (δ : XSh) (σ : XSt) : Prop :=
  xw_S_in δ σ (fun r1 => xw_S_need (fun δ2 σ3 => xw_S_in δ2 σ3 (fun r5 => ((r5 = 0) → (xw_S_thing_67 K i0 x1 x2 x3 x4 x5 δ2 σ3)) ∧ ((¬ (r5 = 0)) → (xw_S_in δ2 σ3 (fun r7 => ((r7 = 0) → (xw_S_thing_67 K i0 x1 x2 x3 x4 x5 δ2 σ3)) ∧ ((¬ (r7 = 0)) → (xw_S_in δ2 σ3 (fun r9 => ((r9 = 0) → (xw_S_thing_67 K i0 x1 x2 x3 x4 x5 δ2 σ3)) ∧ ((¬ (r9 = 0)) → (xw_S_in δ2 σ3 (fun r11 => ((r11 = 0) → (xw_S_thing_67 K i0 x1 x2 x3 x4 x5 δ2 σ3)) ∧ ((¬ (r11 = 0)) → (xw_S_thing_68 K i0 x1 x2 x3 x4 x5 1 δ2 σ3))) x5.toInt64 0 9))) x4.toInt64 0 20))) x3.toInt64 0 9))) x2.toInt64 0 9) (fun q16 δ13 σ14 => xw_S_thing_124 K i0 q16 δ13 σ14) r1 (-1) δ σ) x1.toInt64 0 6
def xw_S_height_41 (K : Int32 → XSh → XSt → Prop) (i0 : Nat) (z0 : Nat) (δ : XSh) (σ : XSt) : Prop :=
  xw_S_refused δ (fun r1 σ2 => K r1 δ σ2) i0 z0 σ
def xw_S_height (K : Int32 → XSh → XSt → Prop) (i0 : Nat) (x1 : Int32) (x2 : Int32) (δ : XSh) (σ : XSt) : Prop :=
  xw_S_mustThing (fun δ1 σ2 => xw_S_in δ1 σ2 (fun r4 => xw_S_need (fun δ5 σ6 => ∃ o8, σ6.2.2 0 i0 4 = some o8 ∧ (vp_in x1 8 ∧ (vp_in x1 8 ∧ (∀ σ11, σ11 = tI σ6 9 o8 x1.toNatClampNeg x2 → (K (σ6.1 9 o8 x1.toNatClampNeg) δ5 σ11))))) (fun q15 δ12 σ13 => xw_S_height_41 K i0 q15 δ12 σ13) r4 (-6) δ1 σ2) x2.toInt64 0 20) (fun q19 δ16 σ17 => xw_S_height_41 K i0 q19 δ16 σ17) i0 x1 δ σ
def xw_S_ask_75 (K : Int32 → XSh → XSt → Prop) (i0 : Nat) (x3 : Int32) (t0 : Int32) (z1 : Nat) (δ : XSh) (σ : XSt) : Prop :=
  (t0 = 0 ∨ t0 = 1) ∧ (∀ σ2, σ2 = tI σ 6 z1 1 t0 → (K x3 δ σ2))
def xw_S_ask_60 (K : Int32 → XSh → XSt → Prop) (i0 : Nat) (x2 : Int32) (t0 : Int32) (δ : XSh) (σ : XSt) : Prop :=
  ∃ o1, σ.2.2 0 i0 4 = some o1 ∧ (((¬ (x2 = 1)) → (xw_S_ask_75 K i0 t0 0 o1 δ σ)) ∧ ((x2 = 1) → (xw_S_ask_75 K i0 t0 1 o1 δ σ)))
def xw_S_ask_36 (K : Int32 → XSh → XSt → Prop) (i0 : Nat) (x1 : Int32) (x2 : Int32) (t0 : Int32) (δ : XSh) (σ : XSt) : Prop :=
  xw_S_need (fun δ1 σ2 => ((¬ (x1 = 0)) → (∃ o5, σ2.2.2 0 i0 4 = some o5 ∧ (∀ σ6, σ6 = tI σ2 6 o5 2 x2 → (K (σ2.1 6 o5 2) δ1 σ6)))) ∧ ((x1 = 0) → (∃ o7, σ2.2.2 0 i0 4 = some o7 ∧ ((((σ2.1 6 o7 1) = 0) → (xw_S_ask_60 K i0 x2 0 δ1 σ2)) ∧ ((¬ ((σ2.1 6 o7 1) = 0)) → (xw_S_ask_60 K i0 x2 1 δ1 σ2)))))) (fun q12 δ9 σ10 => xw_S_refused δ9 (fun r13 σ14 => K r13 δ9 σ14) i0 q12 σ10) t0 (-6) δ σ
def xw_S_ask_35 (K : Int32 → XSh → XSt → Prop) (i0 : Nat) (x1 : Int32) (x2 : Int32) (δ : XSh) (σ : XSt) : Prop :=
  xw_S_ask_36 K i0 x1 x2 0 δ σ
def xw_S_ask_25 (K : Int32 → XSh → XSt → Prop) (i0 : Nat) (x1 : Int32) (x2 : Int32) (t0 : Int64) (t1 : Int64) (t2 : Int64) (δ : XSh) (σ : XSt) : Prop :=
  xw_S_in δ σ (fun r1 => ((r1 = 0) → (xw_S_ask_35 K i0 x1 x2 δ σ)) ∧ ((¬ (r1 = 0)) → (xw_S_ask_36 K i0 x1 x2 1 δ σ))) t2 t1 t0
def xw_S_ask (K : Int32 → XSh → XSt → Prop) (i0 : Nat) (x1 : Int32) (x2 : Int32) (δ : XSh) (σ : XSt) : Prop :=
  xw_S_in δ σ (fun r1 => ((r1 = 0) → (xw_S_ask_35 K i0 x1 x2 δ σ)) ∧ ((¬ (r1 = 0)) → (((¬ (x1 = 0)) → (xw_S_ask_25 K i0 x1 x2 9 x1.toInt64 x2.toInt64 δ σ)) ∧ ((x1 = 0) → (xw_S_ask_25 K i0 x1 x2 1 x1.toInt64 x2.toInt64 δ σ))))) x1.toInt64 0 1
def xw_S_shut_72 (K : Int32 → XSh → XSt → Prop) (i0 : Nat) (x3 : Int32) (x4 : Int32) (t0 : Int32) (t1 : Int32) (z2 : Nat) (δ : XSh) (σ : XSt) : Prop :=
  vp_in t1 8 ∧ (∀ σ2, σ2 = tI σ 10 z2 t1.toNatClampNeg t0 → (((x4 = x3) → (K 0 δ σ2)) ∧ ((¬ (x4 = x3)) → (K 1 δ σ2))))
def xw_S_shut_27 (K : Int32 → XSh → XSt → Prop) (i0 : Nat) (x1 : Int32) (x2 : Int32) (x3 : Int32) (t0 : Int32) (δ : XSh) (σ : XSt) : Prop :=
  ∃ o1, σ.2.2 0 i0 4 = some o1 ∧ (((x3 = 0) → (vp_in x2 8 ∧ (xw_S_shut_72 K i0 x3 t0 ((σ.1 10 o1 x2.toNatClampNeg) &&& (((1 : Int32) <<< (x1 &&& 31)) ^^^ (-1))) x2 o1 δ σ))) ∧ ((¬ (x3 = 0)) → (vp_in x2 8 ∧ (xw_S_shut_72 K i0 x3 t0 ((σ.1 10 o1 x2.toNatClampNeg) ||| ((1 : Int32) <<< (x1 &&& 31))) x2 o1 δ σ))))
def xw_S_shut (K : Int32 → XSh → XSt → Prop) (i0 : Nat) (x1 : Int32) (x2 : Int32) (x3 : Int32) (δ : XSh) (σ : XSt) : Prop :=
  xw_S_mustHouses (fun δ1 σ2 => ∃ o4, σ2.2.2 0 i0 4 = some o4 ∧ (vp_in x2 8 ∧ ((((((σ2.1 10 o4 x2.toNatClampNeg) >>> (x1 &&& 31)) &&& 1) = 0) → (xw_S_shut_27 K i0 x1 x2 x3 0 δ1 σ2)) ∧ ((¬ ((((σ2.1 10 o4 x2.toNatClampNeg) >>> (x1 &&& 31)) &&& 1) = 0)) → (xw_S_shut_27 K i0 x1 x2 x3 1 δ1 σ2))))) (fun q10 δ7 σ8 => xw_S_refused δ7 (fun r11 σ12 => K r11 δ7 σ12) i0 q10 σ8) i0 x1 x2 δ σ
def xw_S_draw_60 (K : Int32 → XSh → XSt → Prop) (i0 : Nat) (x2 : Int32) (x3 : Int32) (t0 : Int32) (z1 : Nat) (δ : XSh) (σ : XSt) : Prop :=
  ∀ σ1, σ1 = tI σ 6 z1 3 t0 → (((x3 = x2) → (K 0 δ σ1)) ∧ ((¬ (x3 = x2)) → (K 1 δ σ1)))
def xw_S_draw_24 (K : Int32 → XSh → XSt → Prop) (i0 : Nat) (x1 : Int32) (x2 : Int32) (t0 : Int32) (δ : XSh) (σ : XSt) : Prop :=
  ∃ o1, σ.2.2 0 i0 4 = some o1 ∧ (((x2 = 0) → (xw_S_draw_60 K i0 x2 t0 ((σ.1 6 o1 3) &&& (((1 : Int32) <<< (x1 &&& 31)) ^^^ (-1))) o1 δ σ)) ∧ ((¬ (x2 = 0)) → (xw_S_draw_60 K i0 x2 t0 ((σ.1 6 o1 3) ||| ((1 : Int32) <<< (x1 &&& 31))) o1 δ σ)))
def xw_S_draw (K : Int32 → XSh → XSt → Prop) (i0 : Nat) (x1 : Int32) (x2 : Int32) (δ : XSh) (σ : XSt) : Prop :=
  xw_S_mustHouse (fun δ1 σ2 => ∃ o4, σ2.2.2 0 i0 4 = some o4 ∧ ((((((σ2.1 6 o4 3) >>> (x1 &&& 31)) &&& 1) = 0) → (xw_S_draw_24 K i0 x1 x2 0 δ1 σ2)) ∧ ((¬ ((((σ2.1 6 o4 3) >>> (x1 &&& 31)) &&& 1) = 0)) → (xw_S_draw_24 K i0 x1 x2 1 δ1 σ2)))) (fun q9 δ6 σ7 => xw_S_refused δ6 (fun r10 σ11 => K r10 δ6 σ11) i0 q9 σ7) i0 x1 δ σ
def xw_S_sees_128 (K : Int32 → XSh → XSt → Prop) (i0 : Nat) (z0 : Nat) (δ : XSh) (σ : XSt) : Prop :=
  xw_S_refused δ (fun r1 σ2 => K r1 δ σ2) i0 z0 σ
def xw_S_sees_115 (K : Int32 → XSh → XSt → Prop) (i0 : Nat) (t0 : Int32) (δ : XSh) (σ : XSt) : Prop :=
  ((t0 = 0) → (K 0 δ σ)) ∧ ((¬ (t0 = 0)) → (K 1 δ σ))
def xw_S_sees_85 (K : Int32 → XSh → XSt → Prop) (i0 : Nat) (x1 : Int32) (x2 : Int32) (x3 : Int32) (t0 : Int32) (δ : XSh) (σ : XSt) : Prop :=
  xw_S_need (fun δ1 σ2 => ((¬ (x3 = 0)) → (∃ o5, σ2.2.2 0 i0 4 = some o5 ∧ (xw_G_seesInto δ1 σ2 (fun r6 => xw_S_sees_115 K i0 r6 δ1 σ2) o5 x1 x2))) ∧ ((x3 = 0) → (∃ o7, σ2.2.2 0 i0 4 = some o7 ∧ (xw_G_looksInto δ1 σ2 (fun r8 => xw_S_sees_115 K i0 r8 δ1 σ2) o7 x1 x2)))) (fun q12 δ9 σ10 => xw_S_sees_128 K i0 q12 δ9 σ10) t0 (-6) δ σ
def xw_S_sees_58 (K : Int32 → XSh → XSt → Prop) (i0 : Nat) (x1 : Int32) (x2 : Int32) (x3 : Int32) (t0 : Int32) (δ : XSh) (σ : XSt) : Prop :=
  xw_S_need (fun δ1 σ2 => xw_S_in δ1 σ2 (fun r4 => xw_S_need (fun δ5 σ6 => ((x1 = x2) → (xw_S_sees_85 K i0 x1 x2 x3 0 δ5 σ6)) ∧ ((¬ (x1 = x2)) → (xw_S_sees_85 K i0 x1 x2 x3 1 δ5 σ6))) (fun q12 δ9 σ10 => xw_S_sees_128 K i0 q12 δ9 σ10) r4 (-5) δ1 σ2) x3.toInt64 0 1) (fun q16 δ13 σ14 => xw_S_sees_128 K i0 q16 δ13 σ14) t0 (-2) δ σ
def xw_S_sees_57 (K : Int32 → XSh → XSt → Prop) (i0 : Nat) (x1 : Int32) (x2 : Int32) (x3 : Int32) (δ : XSh) (σ : XSt) : Prop :=
  xw_S_sees_58 K i0 x1 x2 x3 0 δ σ
def xw_S_sees_27 (K : Int32 → XSh → XSt → Prop) (i0 : Nat) (x1 : Int32) (x2 : Int32) (x3 : Int32) (t0 : Int32) (δ : XSh) (σ : XSt) : Prop :=
  xw_S_need (fun δ1 σ2 => ∃ o4, σ2.2.2 0 i0 4 = some o4 ∧ (xw_G_isHouse δ1 σ2 (fun r5 => ((r5 = 0) → (xw_S_sees_57 K i0 x1 x2 x3 δ1 σ2)) ∧ ((¬ (r5 = 0)) → (xw_G_isHouse δ1 σ2 (fun r7 => ((r7 = 0) → (xw_S_sees_57 K i0 x1 x2 x3 δ1 σ2)) ∧ ((¬ (r7 = 0)) → (xw_S_sees_58 K i0 x1 x2 x3 1 δ1 σ2))) o4 x2))) o4 x1)) (fun q12 δ9 σ10 => xw_S_sees_128 K i0 q12 δ9 σ10) t0 (-1) δ σ
def xw_S_sees_26 (K : Int32 → XSh → XSt → Prop) (i0 : Nat) (x1 : Int32) (x2 : Int32) (x3 : Int32) (δ : XSh) (σ : XSt) : Prop :=
  xw_S_sees_27 K i0 x1 x2 x3 0 δ σ
def xw_S_sees (K : Int32 → XSh → XSt → Prop) (i0 : Nat) (x1 : Int32) (x2 : Int32) (x3 : Int32) (δ : XSh) (σ : XSt) : Prop :=
  ∃ o1, σ.2.2 0 i0 4 = some o1 ∧ (xw_G_isThing δ σ (fun r2 => ((r2 = 0) → (xw_S_sees_26 K i0 x1 x2 x3 δ σ)) ∧ ((¬ (r2 = 0)) → (xw_G_isThing δ σ (fun r4 => ((r4 = 0) → (xw_S_sees_26 K i0 x1 x2 x3 δ σ)) ∧ ((¬ (r4 = 0)) → (xw_S_sees_27 K i0 x1 x2 x3 1 δ σ))) o1 x2))) o1 x1)
def xw_S_bars (K : Int32 → XSh → XSt → Prop) (i0 : Nat) (x1 : Int32) (x2 : Int32) (δ : XSh) (σ : XSt) : Prop :=
  xw_S_mustHouses (fun δ1 σ2 => ∃ o4, σ2.2.2 0 i0 4 = some o4 ∧ (xw_G_bars δ1 σ2 (fun r5 => K r5 δ1 σ2) o4 x1 x2)) (fun q9 δ6 σ7 => xw_S_refused δ6 (fun r10 σ11 => K (r10 - 10) δ6 σ11) i0 q9 σ7) i0 x1 x2 δ σ
def xw_S_seers (K : Int32 → XSh → XSt → Prop) (i0 : Nat) (x1 : Int32) (δ : XSh) (σ : XSt) : Prop :=
  xw_S_mustHouse (fun δ1 σ2 => ∃ o4, σ2.2.2 0 i0 4 = some o4 ∧ (xw_G_seers δ1 σ2 (fun r5 => K r5 δ1 σ2) o4 x1)) (fun q9 δ6 σ7 => xw_S_refused δ6 (fun r10 σ11 => K r10 δ6 σ11) i0 q9 σ7) i0 x1 δ σ
def xw_S_cost (K : Int32 → XSh → XSt → Prop) (i0 : Nat) (x1 : Int32) (x2 : Int32) (δ : XSh) (σ : XSt) : Prop :=
  xw_S_mustHouses (fun δ1 σ2 => ∃ o4, σ2.2.2 0 i0 4 = some o4 ∧ (xw_G_cost δ1 σ2 (fun r5 => K r5 δ1 σ2) o4 x1 x2)) (fun q9 δ6 σ7 => xw_S_refused δ6 (fun r10 σ11 => K r10 δ6 σ11) i0 q9 σ7) i0 x1 x2 δ σ
def xw_S_cheapest_95_b (K : Int32 → XSh → XSt → Prop) (i0 : Nat) (L24 : Int32 → Int32 → Int32 → Int32 → Int32 → XSh → XSt → Prop) (L95 : Int32 → Int32 → Int32 → Int32 → Int32 → Int32 → Int32 → XSh → XSt → Prop) (x1 : Int32) (x2 : Int32) (x3 : Int32) (x4 : Int32) (x5 : Int32) (x6 : Int32) (x7 : Int32) (δ : XSh) (σ : XSt) : Prop :=
  ∃ o1, σ.2.2 0 i0 4 = some o1 ∧ ((((σ.1 6 o1 0) ≤ x7) → (L24 x1 x2 x3 x4 (x5 + 1) δ σ)) ∧ ((¬ ((σ.1 6 o1 0) ≤ x7)) → (((((x6 >>> (x7 &&& 31)) &&& 1) = 0) → (L95 x1 (x2 + 0) x3 x4 x5 x6 (x7 + 1) δ σ)) ∧ ((¬ (((x6 >>> (x7 &&& 31)) &&& 1) = 0)) → (xw_G_cost δ σ (fun r4 => L95 x1 (x2 + r4) x3 x4 x5 x6 (x7 + 1) δ σ) o1 x7 x5)))))
def xw_S_cheapest_95 (K : Int32 → XSh → XSt → Prop) (i0 : Nat) (L24 : Int32 → Int32 → Int32 → Int32 → Int32 → XSh → XSt → Prop) : Nat → Int32 → Int32 → Int32 → Int32 → Int32 → Int32 → Int32 → XSh → XSt → Prop
  | 0 => fun _ _ _ _ _ _ _ _ _ => False
  | n + 1 => fun x1 x2 x3 x4 x5 x6 x7 δ σ => xw_S_cheapest_95_b K i0 L24 (xw_S_cheapest_95 K i0 L24 n) x1 x2 x3 x4 x5 x6 x7 δ σ
def xw_S_cheapest_69 (K : Int32 → XSh → XSt → Prop) (i0 : Nat) (L24 : Int32 → Int32 → Int32 → Int32 → Int32 → XSh → XSt → Prop) (x1 : Int32) (x2 : Int32) (x4 : Int32) (x5 : Int32) (t0 : Int32) (t1 : Int32) (δ : XSh) (σ : XSt) : Prop :=
  ∃ o1, σ.2.2 0 i0 4 = some o1 ∧ (xw_G_toShut δ σ (fun r2 => xw_Jn_bitCount δ σ (fun r3 => ∃ n, xw_S_cheapest_95 K i0 L24 n x1 x2 (t1 ||| t0) (x4 + r3) x5 r2 0 δ σ) r2) o1 x5)
def xw_S_cheapest_24_b (K : Int32 → XSh → XSt → Prop) (i0 : Nat) (L24 : Int32 → Int32 → Int32 → Int32 → Int32 → XSh → XSt → Prop) (x1 : Int32) (x2 : Int32) (x3 : Int32) (x4 : Int32) (x5 : Int32) (δ : XSh) (σ : XSt) : Prop :=
  ∃ o1, σ.2.2 0 i0 4 = some o1 ∧ ((((σ.1 6 o1 0) ≤ x5) → (((¬ (x1 = 0)) → (((¬ (x1 = 1)) → (K x4 δ σ)) ∧ ((x1 = 1) → (K x3 δ σ)))) ∧ ((x1 = 0) → (K x2 δ σ)))) ∧ ((¬ ((σ.1 6 o1 0) ≤ x5)) → (xw_G_isHouse δ σ (fun r5 => ((r5 = 0) → (L24 x1 x2 x3 x4 (x5 + 1) δ σ)) ∧ ((¬ (r5 = 0)) → (xw_G_canBe δ σ (fun r7 => ((r7 = 0) → (xw_S_cheapest_69 K i0 L24 x1 x2 x4 x5 ((1 : Int32) <<< (x5 &&& 31)) x3 δ σ)) ∧ ((¬ (r7 = 0)) → (xw_S_cheapest_69 K i0 L24 x1 x2 x4 x5 0 x3 δ σ))) o1 x5))) o1 x5)))
def xw_S_cheapest_24 (K : Int32 → XSh → XSt → Prop) (i0 : Nat) : Nat → Int32 → Int32 → Int32 → Int32 → Int32 → XSh → XSt → Prop
  | 0 => fun _ _ _ _ _ _ _ => False
  | n + 1 => fun x1 x2 x3 x4 x5 δ σ => xw_S_cheapest_24_b K i0 (xw_S_cheapest_24 K i0 n) x1 x2 x3 x4 x5 δ σ
def xw_S_cheapest (K : Int32 → XSh → XSt → Prop) (i0 : Nat) (x1 : Int32) (δ : XSh) (σ : XSt) : Prop :=
  xw_S_in δ σ (fun r1 => xw_S_need (fun δ2 σ3 => ∃ n, xw_S_cheapest_24 K i0 n x1 0 0 0 0 δ2 σ3) (fun q8 δ5 σ6 => xw_S_refused δ5 (fun r9 σ10 => K r9 δ5 σ10) i0 q8 σ6) r1 (-5) δ σ) x1.toInt64 0 2
def xw_S_keeps (K : Int32 → XSh → XSt → Prop) (i0 : Nat) (x1 : Int32) (δ : XSh) (σ : XSt) : Prop :=
  xw_S_mustHouse (fun δ1 σ2 => ∃ o4, σ2.2.2 0 i0 4 = some o4 ∧ (xw_G_keeps δ1 σ2 (fun r5 => K r5 δ1 σ2) o4 x1)) (fun q9 δ6 σ7 => xw_S_refused δ6 (fun r10 σ11 => K (r10 - 10) δ6 σ11) i0 q9 σ7) i0 x1 δ σ
def xw_S_shuts_67_b (K : Int32 → XSh → XSt → Prop) (i0 : Nat) (L67 : Nat → Int32 → Int32 → XSh → XSt → Prop) (y1 : Nat) (x2 : Int32) (x3 : Int32) (δ : XSh) (σ : XSt) : Prop :=
  ∃ o1, σ.2.2 0 i0 4 = some o1 ∧ ((((σ.1 6 o1 0) ≤ x3) → (K x2 δ σ)) ∧ ((¬ ((σ.1 6 o1 0) ≤ x3)) → (vp_in x3 8 ∧ (vp_in x3 8 ∧ (vp_in x3 8 ∧ (∀ σ6, σ6 = tI σ 10 o1 x3.toNatClampNeg ((σ.1 10 o1 x3.toNatClampNeg) ||| (σ.1 15 y1 x3.toNatClampNeg)) → (L67 y1 x2 (x3 + 1) δ σ6)))))))
def xw_S_shuts_67 (K : Int32 → XSh → XSt → Prop) (i0 : Nat) : Nat → Nat → Int32 → Int32 → XSh → XSt → Prop
  | 0 => fun _ _ _ _ _ => False
  | n + 1 => fun y1 x2 x3 δ σ => xw_S_shuts_67_b K i0 (xw_S_shuts_67 K i0 n) y1 x2 x3 δ σ
def xw_S_shuts_7_b (K : Int32 → XSh → XSt → Prop) (i0 : Nat) (L7 : Nat → Int32 → XSh → XSt → Prop) (y1 : Nat) (x2 : Int32) (δ : XSh) (σ : XSt) : Prop :=
  ∃ o1, σ.2.2 0 i0 4 = some o1 ∧ ((((σ.1 6 o1 0) ≤ x2) → (xw_S_cheapest (fun r3 δ4 σ5 => ∃ n, xw_S_shuts_67 K i0 n y1 r3 0 δ4 σ5) i0 0 δ σ)) ∧ ((¬ ((σ.1 6 o1 0) ≤ x2)) → (xw_G_isHouse δ σ (fun r9 => ((r9 = 0) → (L7 y1 (x2 + 1) δ σ)) ∧ ((¬ (r9 = 0)) → (xw_G_canBe δ σ (fun r11 => xw_S_need (fun δ12 σ13 => ∃ o17, σ13.2.2 0 i0 4 = some o17 ∧ (xw_G_toShut δ12 σ13 (fun r18 => vp_in x2 8 ∧ (∀ σ20, σ20 = tI σ13 15 y1 x2.toNatClampNeg r18 → (L7 y1 (x2 + 1) δ12 σ20))) o17 x2)) (fun q24 δ21 σ22 => xw_S_refused δ21 (fun r27 σ28 => K r27 δ21 σ28) i0 q24 σ22) r11 (-6) δ σ) o1 x2))) o1 x2)))
def xw_S_shuts_7 (K : Int32 → XSh → XSt → Prop) (i0 : Nat) : Nat → Nat → Int32 → XSh → XSt → Prop
  | 0 => fun _ _ _ _ => False
  | n + 1 => fun y1 x2 δ σ => xw_S_shuts_7_b K i0 (xw_S_shuts_7 K i0 n) y1 x2 δ σ
def xw_S_shuts (K : Int32 → XSh → XSt → Prop) (i0 : Nat) (δ : XSh) (σ : XSt) : Prop :=
  ∀ q1 δ2 σ3, NewA δ σ q1 δ2 σ3 → (∃ n, n ≤ 9 ∧ xw_S_shuts_7 K i0 n q1 0 δ2 σ3)
def xw_S_curtains_137 (K : Int32 → XSh → XSt → Prop) (i0 : Nat) (L64 : Int32 → Nat → Nat → Int32 → Int32 → Int32 → Int32 → XSh → XSt → Prop) (x1 : Int32) (y2 : Nat) (y3 : Nat) (x6 : Int32) (x7 : Int32) (x8 : Int32) (δ : XSh) (σ : XSt) : Prop :=
  L64 x1 y2 y3 x7 x8 x6 (x7 + 1) δ σ
def xw_S_curtains_107 (K : Int32 → XSh → XSt → Prop) (i0 : Nat) (L64 : Int32 → Nat → Nat → Int32 → Int32 → Int32 → Int32 → XSh → XSt → Prop) (x1 : Int32) (y2 : Nat) (y3 : Nat) (x4 : Int32) (x5 : Int32) (x6 : Int32) (x7 : Int32) (t0 : Int32) (t1 : Int32) (δ : XSh) (σ : XSt) : Prop :=
  ((x5 < (t1 + t0)) → (xw_S_curtains_137 K i0 L64 x1 y2 y3 x6 x7 (t1 + t0) δ σ)) ∧ ((¬ (x5 < (t1 + t0))) → (((¬ ((t1 + t0) = x5)) → (L64 x1 y2 y3 x4 x5 x6 (x7 + 1) δ σ)) ∧ (((t1 + t0) = x5) → (xw_Jn_bitCount δ σ (fun r3 => xw_Jn_bitCount δ σ (fun r4 => ((r4 ≤ r3) → (L64 x1 y2 y3 x4 x5 x6 (x7 + 1) δ σ)) ∧ ((¬ (r4 ≤ r3)) → (xw_S_curtains_137 K i0 L64 x1 y2 y3 x6 x7 (t1 + t0) δ σ))) x4) x7))))
def xw_S_curtains_64_b (K : Int32 → XSh → XSt → Prop) (i0 : Nat) (L64 : Int32 → Nat → Nat → Int32 → Int32 → Int32 → Int32 → XSh → XSt → Prop) (x1 : Int32) (y2 : Nat) (y3 : Nat) (x4 : Int32) (x5 : Int32) (x6 : Int32) (x7 : Int32) (δ : XSh) (σ : XSt) : Prop :=
  ((x6 < x7) → (((¬ ((x1 - x1 / 2 * 2) = 0)) → (K x5 δ σ)) ∧ (((x1 - x1 / 2 * 2) = 0) → (K x4 δ σ)))) ∧ ((¬ (x6 < x7)) → ((((x7 &&& (x6 ^^^ (-1))) = 0) → (xw_S_rightsBy δ σ (fun r4 => ((2 ≤ x1) → (xw_S_rightsBy δ σ (fun r6 => xw_S_curtains_107 K i0 L64 x1 y2 y3 x4 x5 x6 x7 r6 r4 δ σ) i0 y3 x7)) ∧ ((¬ (2 ≤ x1)) → (xw_S_curtains_107 K i0 L64 x1 y2 y3 x4 x5 x6 x7 0 r4 δ σ))) i0 y2 x7)) ∧ ((¬ ((x7 &&& (x6 ^^^ (-1))) = 0)) → (L64 x1 y2 y3 x4 x5 x6 (x7 + 1) δ σ))))
def xw_S_curtains_64 (K : Int32 → XSh → XSt → Prop) (i0 : Nat) : Nat → Int32 → Nat → Nat → Int32 → Int32 → Int32 → Int32 → XSh → XSt → Prop
  | 0 => fun _ _ _ _ _ _ _ _ _ => False
  | n + 1 => fun x1 y2 y3 x4 x5 x6 x7 δ σ => xw_S_curtains_64_b K i0 (xw_S_curtains_64 K i0 n) x1 y2 y3 x4 x5 x6 x7 δ σ
def xw_S_curtains_42 (K : Int32 → XSh → XSt → Prop) (i0 : Nat) (x1 : Int32) (y2 : Nat) (t0 : Int32) (z1 : Nat) (δ : XSh) (σ : XSt) : Prop :=
  xw_S_allInto (fun r1 δ2 σ3 => ∃ o7, σ3.2.2 0 i0 4 = some o7 ∧ (xw_G_houses δ2 σ3 (fun r8 => ∃ n, xw_S_curtains_64 K i0 n x1 y2 r1 0 (-1) r8 0 δ2 σ3) o7)) z1 t0 δ σ
def xw_S_curtains (K : Int32 → XSh → XSt → Prop) (i0 : Nat) (x1 : Int32) (δ : XSh) (σ : XSt) : Prop :=
  xw_S_in δ σ (fun r1 => xw_S_need (fun δ2 σ3 => ∃ o5, σ3.2.2 0 i0 4 = some o5 ∧ (xw_S_allInto (fun r6 δ7 σ8 => ∃ o10, σ8.2.2 0 i0 4 = some o10 ∧ (((¬ ((σ8.1 6 o10 1) = 0)) → (xw_S_curtains_42 K i0 x1 r6 0 i0 δ7 σ8)) ∧ (((σ8.1 6 o10 1) = 0) → (xw_S_curtains_42 K i0 x1 r6 1 i0 δ7 σ8)))) i0 (σ3.1 6 o5 1) δ2 σ3)) (fun q15 δ12 σ13 => xw_S_refused δ12 (fun r16 σ17 => K r16 δ12 σ17) i0 q15 σ13) r1 (-5) δ σ) x1.toInt64 0 3
def xw_S_newly_129 (K : Int32 → XSh → XSt → Prop) (i0 : Nat) (z0 : Nat) (δ : XSh) (σ : XSt) : Prop :=
  xw_S_refused δ (fun r1 σ2 => K r1 δ σ2) i0 z0 σ
def xw_S_newly_43_b (K : Int32 → XSh → XSt → Prop) (i0 : Nat) (L43 : Int32 → Int32 → Int32 → Int32 → XSh → XSt → Prop) (x1 : Int32) (x2 : Int32) (x3 : Int32) (x4 : Int32) (δ : XSh) (σ : XSt) : Prop :=
  ((100 ≤ x4) → (K x2 δ σ)) ∧ ((¬ (100 ≤ x4)) → (∃ o2, σ.2.2 0 i0 4 = some o2 ∧ (xw_G_isFree δ σ (fun r3 => ((r3 = 0) → (L43 x1 x2 x3 (x4 + 1) δ σ)) ∧ ((¬ (r3 = 0)) → (∃ o5, σ.2.2 0 i0 3 = some o5 ∧ (xw_G_take δ (fun r6 σ7 => xw_G_add (fun r8 δ9 σ10 => ∃ o12, σ10.2.2 0 i0 3 = some o12 ∧ (xw_G_rights δ9 σ10 (fun r13 => ((r13 ≤ x3) → (L43 x1 x2 x3 (x4 + 1) δ9 σ10)) ∧ ((¬ (r13 ≤ x3)) → (L43 x1 x4 r13 (x4 + 1) δ9 σ10))) o12)) r6 1 (x4 - x4 / 10 * 10) (x4 / 10) x1 0 δ σ7) o5 o2 σ)))) o2 (x4 - x4 / 10 * 10) (x4 / 10))))
def xw_S_newly_43 (K : Int32 → XSh → XSt → Prop) (i0 : Nat) : Nat → Int32 → Int32 → Int32 → Int32 → XSh → XSt → Prop
  | 0 => fun _ _ _ _ _ _ => False
  | n + 1 => fun x1 x2 x3 x4 δ σ => xw_S_newly_43_b K i0 (xw_S_newly_43 K i0 n) x1 x2 x3 x4 δ σ
def xw_S_newly_31 (K : Int32 → XSh → XSt → Prop) (i0 : Nat) (x1 : Int32) (t0 : Int32) (δ : XSh) (σ : XSt) : Prop :=
  xw_S_need (fun δ1 σ2 => ∃ n, n ≤ 101 ∧ xw_S_newly_43 K i0 n x1 (-1) (-1) 0 δ1 σ2) (fun q7 δ4 σ5 => xw_S_newly_129 K i0 q7 δ4 σ5) t0 (-7) δ σ
def xw_S_newly (K : Int32 → XSh → XSt → Prop) (i0 : Nat) (x1 : Int32) (δ : XSh) (σ : XSt) : Prop :=
  xw_S_in δ σ (fun r1 => xw_S_need (fun δ2 σ3 => ∃ o5, σ3.2.2 0 i0 4 = some o5 ∧ (((8 ≤ (σ3.1 6 o5 0)) → (xw_S_newly_31 K i0 x1 0 δ2 σ3)) ∧ ((¬ (8 ≤ (σ3.1 6 o5 0))) → (xw_S_newly_31 K i0 x1 1 δ2 σ3)))) (fun q10 δ7 σ8 => xw_S_newly_129 K i0 q10 δ7 σ8) r1 (-6) δ σ) x1.toInt64 0 20
def xw_S_storey (K : Int32 → XSh → XSt → Prop) (i0 : Nat) (x1 : Int32) (δ : XSh) (σ : XSt) : Prop :=
  xw_S_raises (fun δ1 σ2 => ∃ o4, σ2.2.2 0 i0 3 = some o4 ∧ (xw_G_rights δ1 σ2 (fun r5 => ∃ o6, σ2.2.2 0 i0 4 = some o6 ∧ (xw_G_rights δ1 σ2 (fun r7 => K (r5 - r7) δ1 σ2) o6)) o4)) (fun q11 δ8 σ9 => xw_S_refused δ8 (fun r12 σ13 => K ((-1000 : Int32) + r12) δ8 σ13) i0 q11 σ9) i0 x1 δ σ
def xw_S_blinded_9_b (K : Int32 → XSh → XSt → Prop) (i0 : Nat) (L9 : Int32 → Int32 → XSh → XSt → Prop) (x2 : Int32) (x3 : Int32) (δ : XSh) (σ : XSt) : Prop :=
  ∃ o1, σ.2.2 0 i0 4 = some o1 ∧ ((((σ.1 6 o1 0) ≤ x3) → (K x2 δ σ)) ∧ ((¬ ((σ.1 6 o1 0) ≤ x3)) → (xw_G_into δ σ (fun r3 => ∃ o4, σ.2.2 0 i0 3 = some o4 ∧ (xw_G_into δ σ (fun r5 => xw_Jn_bitCount δ σ (fun r6 => L9 (x2 + r6) (x3 + 1) δ σ) (r3 &&& (r5 ^^^ (-1)))) o4 x3)) o1 x3)))
def xw_S_blinded_9 (K : Int32 → XSh → XSt → Prop) (i0 : Nat) : Nat → Int32 → Int32 → XSh → XSt → Prop
  | 0 => fun _ _ _ _ => False
  | n + 1 => fun x2 x3 δ σ => xw_S_blinded_9_b K i0 (xw_S_blinded_9 K i0 n) x2 x3 δ σ
def xw_S_blinded (K : Int32 → XSh → XSt → Prop) (i0 : Nat) (x1 : Int32) (δ : XSh) (σ : XSt) : Prop :=
  xw_S_raises (fun δ1 σ2 => ∃ n, xw_S_blinded_9 K i0 n 0 0 δ1 σ2) (fun q7 δ4 σ5 => xw_S_refused δ4 (fun r8 σ9 => K r8 δ4 σ9) i0 q7 σ5) i0 x1 δ σ
def xw_S_felled_101 (K : Int32 → XSh → XSt → Prop) (i0 : Nat) (z0 : Nat) (δ : XSh) (σ : XSt) : Prop :=
  xw_S_refused δ (fun r1 σ2 => K ((-1000 : Int32) + r1) δ σ2) i0 z0 σ
def xw_S_felled_21 (K : Int32 → XSh → XSt → Prop) (i0 : Nat) (x1 : Int32) (t0 : Int32) (δ : XSh) (σ : XSt) : Prop :=
  xw_S_need (fun δ1 σ2 => ∃ o4, σ2.2.2 0 i0 3 = some o4 ∧ (∃ o5, σ2.2.2 0 i0 4 = some o5 ∧ (xw_G_take δ1 (fun r6 σ7 => ∃ o9, σ7.2.2 0 i0 4 = some o9 ∧ (vp_in x1 8 ∧ ∃ o11, σ7.2.2 8 o9 x1.toNatClampNeg = some o11 ∧ (vp_in x1 8 ∧ ∃ o13, σ7.2.2 8 o9 x1.toNatClampNeg = some o13 ∧ (∀ q8 δ15 σ16, NewT 5 x1 (σ7.1 7 o11 1) (σ7.1 7 o13 2) 0 δ1 σ7 q8 δ15 σ16 → (vp_in x1 8 ∧ (∀ σ21, σ21 = tP σ16 8 r6 x1.toNatClampNeg (some q8) → (∃ o22, σ21.2.2 0 i0 3 = some o22 ∧ (vp_in x1 8 ∧ (∀ σ24, σ24 = tI σ21 9 o22 x1.toNatClampNeg 0 → (∃ o25, σ24.2.2 0 i0 3 = some o25 ∧ (xw_G_rights δ15 σ24 (fun r26 => ∃ o27, σ24.2.2 0 i0 4 = some o27 ∧ (xw_G_rights δ15 σ24 (fun r28 => K (r26 - r28) δ15 σ24) o27)) o25))))))))))) o4 o5 σ2))) (fun q32 δ29 σ30 => xw_S_felled_101 K i0 q32 δ29 σ30) t0 (-2) δ σ
def xw_S_felled (K : Int32 → XSh → XSt → Prop) (i0 : Nat) (x1 : Int32) (δ : XSh) (σ : XSt) : Prop :=
  xw_S_mustThing (fun δ1 σ2 => ∃ o4, σ2.2.2 0 i0 4 = some o4 ∧ (xw_G_isHouse δ1 σ2 (fun r5 => ((¬ (r5 = 0)) → (xw_S_felled_21 K i0 x1 0 δ1 σ2)) ∧ ((r5 = 0) → (xw_S_felled_21 K i0 x1 1 δ1 σ2))) o4 x1)) (fun q10 δ7 σ8 => xw_S_felled_101 K i0 q10 δ7 σ8) i0 x1 δ σ
def xw_S_back_9_b (K : Int32 → XSh → XSt → Prop) (i0 : Nat) (L9 : Int32 → Int32 → Int32 → XSh → XSt → Prop) (x1 : Int32) (x2 : Int32) (x3 : Int32) (δ : XSh) (σ : XSt) : Prop :=
  ((8 < x3) → (K (-1) δ σ)) ∧ ((¬ (8 < x3)) → (∃ o2, σ.2.2 0 i0 4 = some o2 ∧ (xw_G_seers δ σ (fun r3 => ((¬ (r3 = 0)) → (xw_Jn_numberOfTrailingZeros δ σ (fun r5 => ((¬ (r5 = x1)) → (L9 x1 r5 (x3 + 1) δ σ)) ∧ ((r5 = x1) → (K x3 δ σ))) r3)) ∧ ((r3 = 0) → (K (-1) δ σ))) o2 x2)))
def xw_S_back_9 (K : Int32 → XSh → XSt → Prop) (i0 : Nat) : Nat → Int32 → Int32 → Int32 → XSh → XSt → Prop
  | 0 => fun _ _ _ _ _ => False
  | n + 1 => fun x1 x2 x3 δ σ => xw_S_back_9_b K i0 (xw_S_back_9 K i0 n) x1 x2 x3 δ σ
def xw_S_back (K : Int32 → XSh → XSt → Prop) (i0 : Nat) (x1 : Int32) (δ : XSh) (σ : XSt) : Prop :=
  xw_S_mustHouse (fun δ1 σ2 => ∃ n, xw_S_back_9 K i0 n x1 x1 1 δ1 σ2) (fun q7 δ4 σ5 => xw_S_refused δ4 (fun r8 σ9 => K (r8 - 10) δ4 σ9) i0 q7 σ5) i0 x1 δ σ
def xw_S_most_97 (K : Int32 → XSh → XSt → Prop) (i0 : Nat) (x1 : Int32) (t0 : Int32) (δ : XSh) (σ : XSt) : Prop :=
  xw_S_need (fun δ1 σ2 => K x1 δ1 σ2) (fun q7 δ4 σ5 => xw_S_refused δ4 (fun r8 σ9 => K r8 δ4 σ9) i0 q7 σ5) t0 (-5) δ σ
def xw_S_most_23_b (K : Int32 → XSh → XSt → Prop) (i0 : Nat) (L6 : Int32 → Int32 → Int32 → XSh → XSt → Prop) (L23 : Int32 → Int32 → Int32 → Int32 → Int32 → XSh → XSt → Prop) (x1 : Int32) (x2 : Int32) (x3 : Int32) (x4 : Int32) (x5 : Int32) (δ : XSh) (σ : XSt) : Prop :=
  ∃ o1, σ.2.2 0 i0 4 = some o1 ∧ ((((σ.1 6 o1 0) ≤ x5) → (xw_G_isHouse δ σ (fun r3 => ((r3 = 0) → (L6 x1 x2 (x3 + 1) δ σ)) ∧ ((¬ (r3 = 0)) → (((x4 ≤ x2) → (L6 x1 x2 (x3 + 1) δ σ)) ∧ ((¬ (x4 ≤ x2)) → (L6 x3 x4 (x3 + 1) δ σ))))) o1 x3)) ∧ ((¬ ((σ.1 6 o1 0) ≤ x5)) → (xw_G_into δ σ (fun r6 => L23 x1 x2 x3 (x4 + ((r6 >>> (x3 &&& 31)) &&& 1)) (x5 + 1) δ σ) o1 x5)))
def xw_S_most_23 (K : Int32 → XSh → XSt → Prop) (i0 : Nat) (L6 : Int32 → Int32 → Int32 → XSh → XSt → Prop) : Nat → Int32 → Int32 → Int32 → Int32 → Int32 → XSh → XSt → Prop
  | 0 => fun _ _ _ _ _ _ _ => False
  | n + 1 => fun x1 x2 x3 x4 x5 δ σ => xw_S_most_23_b K i0 L6 (xw_S_most_23 K i0 L6 n) x1 x2 x3 x4 x5 δ σ
def xw_S_most_6_b (K : Int32 → XSh → XSt → Prop) (i0 : Nat) (L6 : Int32 → Int32 → Int32 → XSh → XSt → Prop) (x1 : Int32) (x2 : Int32) (x3 : Int32) (δ : XSh) (σ : XSt) : Prop :=
  ∃ o1, σ.2.2 0 i0 4 = some o1 ∧ ((((σ.1 6 o1 0) ≤ x3) → (((x1 = (-1)) → (xw_S_most_97 K i0 x1 0 δ σ)) ∧ ((¬ (x1 = (-1))) → (xw_S_most_97 K i0 x1 1 δ σ)))) ∧ ((¬ ((σ.1 6 o1 0) ≤ x3)) → (∃ n, xw_S_most_23 K i0 L6 n x1 x2 x3 0 0 δ σ)))
def xw_S_most_6 (K : Int32 → XSh → XSt → Prop) (i0 : Nat) : Nat → Int32 → Int32 → Int32 → XSh → XSt → Prop
  | 0 => fun _ _ _ _ _ => False
  | n + 1 => fun x1 x2 x3 δ σ => xw_S_most_6_b K i0 (xw_S_most_6 K i0 n) x1 x2 x3 δ σ
def xw_S_most (K : Int32 → XSh → XSt → Prop) (i0 : Nat) (δ : XSh) (σ : XSt) : Prop :=
  ∃ n, xw_S_most_6 K i0 n (-1) (-1) 0 δ σ
def xw_S_list_179 (K : Int32 → XSh → XSt → Prop) (i0 : Nat) (z0 : Nat) (δ : XSh) (σ : XSt) : Prop :=
  xw_S_refused δ (fun r1 σ2 => K (r1 - 10) δ σ2) i0 z0 σ
def xw_S_list_149 (K : Int32 → XSh → XSt → Prop) (i0 : Nat) (L89 : Int32 → Nat → Int32 → Int32 → Int32 → XSh → XSt → Prop) (x2 : Int32) (y3 : Nat) (x5 : Int32) (x6 : Int32) (x7 : Int32) (t0 : Int32) (δ : XSh) (σ : XSt) : Prop :=
  xw_Jn_bitCount δ σ (fun r1 => L89 x2 y3 t0 (x5 + r1) (x6 + 1) δ σ) x7
def xw_S_list_147 (K : Int32 → XSh → XSt → Prop) (i0 : Nat) (L89 : Int32 → Nat → Int32 → Int32 → Int32 → XSh → XSt → Prop) (x2 : Int32) (y3 : Nat) (x4 : Int32) (x5 : Int32) (x6 : Int32) (x7 : Int32) (δ : XSh) (σ : XSt) : Prop :=
  xw_S_list_149 K i0 L89 x2 y3 x5 x6 x7 x4 δ σ
def xw_S_list_89_b (K : Int32 → XSh → XSt → Prop) (i0 : Nat) (L89 : Int32 → Nat → Int32 → Int32 → Int32 → XSh → XSt → Prop) (x2 : Int32) (y3 : Nat) (x4 : Int32) (x5 : Int32) (x6 : Int32) (δ : XSh) (σ : XSt) : Prop :=
  ∃ o1, σ.2.2 0 i0 4 = some o1 ∧ ((((σ.1 6 o1 0) ≤ x6) → (((¬ (x2 = 0)) → (K x5 δ σ)) ∧ ((x2 = 0) → (K x4 δ σ)))) ∧ ((¬ ((σ.1 6 o1 0) ≤ x6)) → (xv_R_asInt δ σ (fun r4 => xw_G_into δ σ (fun r5 => ∀ r6, r6 = (r4 ^^^ r5) &&& (((1 : Int32) <<< ((σ.1 6 o1 0) &&& 31)) - 1) → (((¬ (x4 = (-1))) → (xw_S_list_147 K i0 L89 x2 y3 x4 x5 x6 r6 δ σ)) ∧ ((x4 = (-1)) → (((r6 = 0) → (xw_S_list_147 K i0 L89 x2 y3 x4 x5 x6 r6 δ σ)) ∧ ((¬ (r6 = 0)) → (xw_S_list_149 K i0 L89 x2 y3 x5 x6 r6 x6 δ σ)))))) o1 x6) y3 x6)))
def xw_S_list_89 (K : Int32 → XSh → XSt → Prop) (i0 : Nat) : Nat → Int32 → Nat → Int32 → Int32 → Int32 → XSh → XSt → Prop
  | 0 => fun _ _ _ _ _ _ _ => False
  | n + 1 => fun x2 y3 x4 x5 x6 δ σ => xw_S_list_89_b K i0 (xw_S_list_89 K i0 n) x2 y3 x4 x5 x6 δ σ
def xw_S_list_64 (K : Int32 → XSh → XSt → Prop) (i0 : Nat) (y3 : Nat) (t0 : Int32) (δ : XSh) (σ : XSt) : Prop :=
  xw_S_fitsIn δ (fun r1 σ2 => ((r1 = 0) → (K (t0 + 0) δ σ2)) ∧ ((¬ (r1 = 0)) → (K (t0 + 2) δ σ2))) i0 y3 0 σ
def xw_S_list_40 (K : Int32 → XSh → XSt → Prop) (i0 : Nat) (x2 : Int32) (y3 : Nat) (t0 : Int32) (δ : XSh) (σ : XSt) : Prop :=
  xw_S_need (fun δ1 σ2 => ((¬ (x2 = 2)) → (∃ n, xw_S_list_89 K i0 n x2 y3 (-1) 0 0 δ1 σ2)) ∧ ((x2 = 2) → (xw_S_fitsIn δ1 (fun r7 σ8 => ((r7 = 0) → (xw_S_list_64 K i0 y3 0 δ1 σ8)) ∧ ((¬ (r7 = 0)) → (xw_S_list_64 K i0 y3 1 δ1 σ8))) i0 y3 1 σ2))) (fun q13 δ10 σ11 => xw_S_list_179 K i0 q13 δ10 σ11) t0 (-5) δ σ
def xw_S_list_39 (K : Int32 → XSh → XSt → Prop) (i0 : Nat) (x2 : Int32) (y3 : Nat) (δ : XSh) (σ : XSt) : Prop :=
  xw_S_list_40 K i0 x2 y3 0 δ σ
def xw_S_list (K : Int32 → XSh → XSt → Prop) (i0 : Nat) (x1 : Int32) (x2 : Int32) (δ : XSh) (σ : XSt) : Prop :=
  xw_S_shelf (fun r1 δ2 σ3 => xw_Sh_row (fun r5 δ6 σ7 => xv_R_length δ6 σ7 (fun r9 => ∃ o10, σ7.2.2 0 i0 4 = some o10 ∧ (((r9 < (σ7.1 6 o10 0)) → (xw_S_list_39 K i0 x2 r5 δ6 σ7)) ∧ ((¬ (r9 < (σ7.1 6 o10 0))) → (xw_S_in δ6 σ7 (fun r12 => ((r12 = 0) → (xw_S_list_39 K i0 x2 r5 δ6 σ7)) ∧ ((¬ (r12 = 0)) → (xw_S_list_40 K i0 x2 r5 1 δ6 σ7))) x2.toInt64 0 2)))) r5) (fun q17 δ14 σ15 => xw_S_list_179 K i0 q17 δ14 σ15) r1 δ2 σ3) (fun q21 δ18 σ19 => xw_S_list_179 K i0 q21 δ18 σ19) i0 x1 δ σ
def xw_S_night_28_b (K : Int32 → XSh → XSt → Prop) (i0 : Nat) (L28 : Int32 → Int32 → Int32 → XSh → XSt → Prop) (x1 : Int32) (x2 : Int32) (x3 : Int32) (δ : XSh) (σ : XSt) : Prop :=
  ∃ o1, σ.2.2 0 i0 4 = some o1 ∧ ((((σ.1 6 o1 0) ≤ x3) → (K x2 δ σ)) ∧ ((¬ ((σ.1 6 o1 0) ≤ x3)) → (xw_G_isHouse δ σ (fun r3 => ((r3 = 0) → (L28 x1 x2 (x3 + 1) δ σ)) ∧ ((¬ (r3 = 0)) → (∃ o5, σ.2.2 0 i0 3 = some o5 ∧ (xw_G_take δ (fun r6 σ7 => ∀ σ8, σ8 = tI σ7 6 r6 3 ((σ7.1 6 r6 3) ^^^ ((1 : Int32) <<< (x3 &&& 31))) → (∃ o9, σ8.2.2 0 i0 3 = some o9 ∧ (xw_G_right δ σ8 (fun r10 => ((¬ (r10 = x1)) → (L28 x1 (x2 ||| 0) (x3 + 1) δ σ8)) ∧ ((r10 = x1) → (L28 x1 (x2 ||| ((1 : Int32) <<< (x3 &&& 31))) (x3 + 1) δ σ8))) o9))) o5 o1 σ)))) o1 x3)))
def xw_S_night_28 (K : Int32 → XSh → XSt → Prop) (i0 : Nat) : Nat → Int32 → Int32 → Int32 → XSh → XSt → Prop
  | 0 => fun _ _ _ _ _ => False
  | n + 1 => fun x1 x2 x3 δ σ => xw_S_night_28_b K i0 (xw_S_night_28 K i0 n) x1 x2 x3 δ σ
def xw_S_night_19 (K : Int32 → XSh → XSt → Prop) (i0 : Nat) (x1 : Int32) (t0 : Int32) (δ : XSh) (σ : XSt) : Prop :=
  xw_S_need (fun δ1 σ2 => ∃ n, xw_S_night_28 K i0 n x1 0 0 δ1 σ2) (fun q7 δ4 σ5 => xw_S_refused δ4 (fun r8 σ9 => K r8 δ4 σ9) i0 q7 σ5) t0 (-6) δ σ
def xw_S_night (K : Int32 → XSh → XSt → Prop) (i0 : Nat) (x1 : Int32) (δ : XSh) (σ : XSt) : Prop :=
  ∃ o1, σ.2.2 0 i0 4 = some o1 ∧ (xw_G_houses δ σ (fun r2 => ((¬ ((x1 &&& (r2 ^^^ (-1))) = 0)) → (xw_S_night_19 K i0 x1 0 δ σ)) ∧ (((x1 &&& (r2 ^^^ (-1))) = 0) → (xw_S_night_19 K i0 x1 1 δ σ))) o1)
def xw_S_years_18_b (K : Int32 → XSh → XSt → Prop) (i0 : Nat) (L18 : Int32 → Int32 → Int32 → XSh → XSt → Prop) (x1 : Int32) (x2 : Int32) (x3 : Int32) (δ : XSh) (σ : XSt) : Prop :=
  ((x1 ≤ x3) → (K x2 δ σ)) ∧ ((¬ (x1 ≤ x3)) → (∃ o2, σ.2.2 0 i0 4 = some o2 ∧ (xw_G_year δ (fun r3 σ4 => L18 x1 (x2 + r3) (x3 + 1) δ σ4) o2 σ)))
def xw_S_years_18 (K : Int32 → XSh → XSt → Prop) (i0 : Nat) : Nat → Int32 → Int32 → Int32 → XSh → XSt → Prop
  | 0 => fun _ _ _ _ _ => False
  | n + 1 => fun x1 x2 x3 δ σ => xw_S_years_18_b K i0 (xw_S_years_18 K i0 n) x1 x2 x3 δ σ
def xw_S_years (K : Int32 → XSh → XSt → Prop) (i0 : Nat) (x1 : Int32) (δ : XSh) (σ : XSt) : Prop :=
  xw_S_in δ σ (fun r1 => xw_S_need (fun δ2 σ3 => ∃ n, xw_S_years_18 K i0 n x1 0 0 δ2 σ3) (fun q8 δ5 σ6 => xw_S_refused δ5 (fun r9 σ10 => K r9 δ5 σ10) i0 q8 σ6) r1 (-6) δ σ) x1.toInt64 1 30
def xw_S_image (K : Int32 → XSh → XSt → Prop) (i0 : Nat) (δ : XSh) (σ : XSt) : Prop :=
  ∀ q1 δ2 σ3, NewG δ σ q1 δ2 σ3 → (∃ o5, σ3.2.2 0 i0 4 = some o5 ∧ (xw_G_take δ2 (fun r6 σ7 => ∀ σ8, σ8 = tP σ7 0 i0 5 (some r6) → (∃ o9, σ8.2.2 0 i0 4 = some o9 ∧ (K (σ8.1 6 o9 0) δ2 σ8))) q1 o5 σ3))
def xw_S_restore_12 (K : Int32 → XSh → XSt → Prop) (i0 : Nat) (t0 : Int32) (δ : XSh) (σ : XSt) : Prop :=
  xw_S_need (fun δ1 σ2 => ∀ q4 δ5 σ6, NewG δ1 σ2 q4 δ5 σ6 → ((σ6.2.2 0 i0 5 = none → (False)) ∧ (∀ o8, σ6.2.2 0 i0 5 = some o8 → (xw_G_take δ5 (fun r9 σ10 => ∀ σ11, σ11 = tP σ10 0 i0 4 (some r9) → (xw_S_shelvesFollow δ5 (fun σ12 => ∃ o13, σ12.2.2 0 i0 4 = some o13 ∧ (K (σ12.1 6 o13 0) δ5 σ12)) i0 σ11)) q4 o8 σ6)))) (fun q17 δ14 σ15 => xw_S_refused δ14 (fun r18 σ19 => K r18 δ14 σ19) i0 q17 σ15) t0 (-6) δ σ
def xw_S_restore (K : Int32 → XSh → XSt → Prop) (i0 : Nat) (δ : XSh) (σ : XSt) : Prop :=
  (σ.2.2 0 i0 5 = none → (xw_S_restore_12 K i0 0 δ σ)) ∧ (∀ o1, σ.2.2 0 i0 5 = some o1 → (xw_S_restore_12 K i0 1 δ σ))
