def mw_firstOf_2_b (σ : MSt) (K : Int32 → Prop) (L2 : Int32 → Int32 → Prop) (x1 : Int32) (x2 : Int32) : Prop :=
  ((8 ≤ x2) → (K (-1))) ∧ ((¬ (8 ≤ x2)) → (((¬ (((x1 >>> (x2 &&& 31)) &&& 1) = 1)) → (L2 x1 (x2 + 1))) ∧ ((((x1 >>> (x2 &&& 31)) &&& 1) = 1) → (K x2))))
def mw_firstOf_2 (σ : MSt) (K : Int32 → Prop) : Nat → Int32 → Int32 → Prop
  | 0 => fun _ _ => False
  | n + 1 => fun x1 x2 => mw_firstOf_2_b σ K (mw_firstOf_2 σ K n) x1 x2
def mw_firstOf (σ : MSt) (K : Int32 → Prop) (x1 : Int32) : Prop :=
  ∃ n, mw_firstOf_2 σ K n x1 0
def mw_noTen (K : Int32 → MSt → Prop) (x1 : Int32) (σ : MSt) : Prop :=
  vp_in (-x1) (lenM 6) ∧ (vp_in (-x1) (lenM 6) ∧ (∀ σ3, σ3 = sI σ 6 (-x1).toNatClampNeg ((σ.2.1 6 (-x1).toNatClampNeg) + 1) → (K (x1 - 10) σ3)))
def mw_back_21_b (K : Int32 → MSt → Prop) (L21 : Int32 → Int32 → Int32 → MSt → Prop) (x1 : Int32) (x3 : Int32) (x4 : Int32) (σ : MSt) : Prop :=
  ((8 < x4) → (K (-1) σ)) ∧ ((¬ (8 < x4)) → (mw_seersOf σ (fun r2 => mw_firstOf σ (fun r3 => ((¬ (r3 = (-1))) → (((¬ (r3 = x1)) → (L21 x1 r3 (x4 + 1) σ)) ∧ ((r3 = x1) → (K x4 σ)))) ∧ ((r3 = (-1)) → (K (-1) σ))) r2) x3))
def mw_back_21 (K : Int32 → MSt → Prop) : Nat → Int32 → Int32 → Int32 → MSt → Prop
  | 0 => fun _ _ _ _ => False
  | n + 1 => fun x1 x3 x4 σ => mw_back_21_b K (mw_back_21 K n) x1 x3 x4 σ
def mw_back (K : Int32 → MSt → Prop) (x1 : Int32) (σ : MSt) : Prop :=
  mw_barred σ (fun r1 => ((r1 = 0) → (∃ n, mw_back_21 K n x1 x1 1 σ)) ∧ ((¬ (r1 = 0)) → (mw_noTen (fun r3 σ4 => K r3 σ4) r1 σ))) x1
def mw_barredTwo (σ : MSt) (K : Int32 → Prop) (x1 : Int32) (x2 : Int32) : Prop :=
  mw_isThing σ (fun r1 => ((r1 = 0) → (K (-1))) ∧ ((¬ (r1 = 0)) → (mw_isThing σ (fun r3 => ((¬ (r3 = 0)) → (mw_isHouse σ (fun r5 => ((r5 = 0) → (K (-2))) ∧ ((¬ (r5 = 0)) → (mw_isHouse σ (fun r7 => ((r7 = 0) → (K (-2))) ∧ ((¬ (r7 = 0)) → (K 0))) x2))) x1)) ∧ ((r3 = 0) → (K (-1)))) x2))) x1
def mw_bars_19 (K : Int32 → MSt → Prop) (x1 : Int32) (x2 : Int32) (x3 : Int32) (σ : MSt) : Prop :=
  ((x3 = 0) → (mw_inWay σ (fun r2 => K r2 σ) x1 x2)) ∧ ((¬ (x3 = 0)) → (mw_noTen (fun r3 σ4 => K r3 σ4) x3 σ))
def mw_bars (K : Int32 → MSt → Prop) (x1 : Int32) (x2 : Int32) (σ : MSt) : Prop :=
  mw_barredTwo σ (fun r1 => ((¬ (r1 = 0)) → (mw_bars_19 K x1 x2 r1 σ)) ∧ ((r1 = 0) → (((¬ (x1 = x2)) → (mw_bars_19 K x1 x2 r1 σ)) ∧ ((x1 = x2) → (mw_bars_19 K x1 x2 (-6) σ))))) x1 x2
def mw_blinded_88_b (K : Int32 → MSt → Prop) (L88 : Int32 → Int32 → Int32 → MSt → Prop) (x1 : Int32) (x3 : Int32) (x4 : Int32) (σ : MSt) : Prop :=
  (((σ.1 0) ≤ x4) → (vp_in x1 (lenM 10) ∧ (vp_in x1 (lenM 10) ∧ (∀ σ4, σ4 = sI σ 10 x1.toNatClampNeg ((σ.2.1 10 x1.toNatClampNeg) - 1) → (K x3 σ4))))) ∧ ((¬ ((σ.1 0) ≤ x4)) → (mw_isHouse σ (fun r5 => ((r5 = 0) → (L88 x1 x3 (x4 + 1) σ)) ∧ ((¬ (r5 = 0)) → (vp_in x4 (lenM 32) ∧ (mw_seesInto σ (fun r8 => mw_many σ (fun r9 => L88 x1 (x3 + r9) (x4 + 1) σ) ((σ.2.1 32 x4.toNatClampNeg) &&& (r8 ^^^ (-1)))) x4)))) x4))
def mw_blinded_88 (K : Int32 → MSt → Prop) : Nat → Int32 → Int32 → Int32 → MSt → Prop
  | 0 => fun _ _ _ _ => False
  | n + 1 => fun x1 x3 x4 σ => mw_blinded_88_b K (mw_blinded_88 K n) x1 x3 x4 σ
def mw_blinded_66 (K : Int32 → MSt → Prop) (L36 : Int32 → Int32 → MSt → Prop) (x1 : Int32) (x3 : Int32) (t0 : Int32) (t1 : Int32) (σ : MSt) : Prop :=
  vp_in t1 (lenM 32) ∧ (∀ σ2, σ2 = sI σ 32 t1.toNatClampNeg t0 → (L36 x1 (x3 + 1) σ2))
def mw_blinded_36_b (K : Int32 → MSt → Prop) (L36 : Int32 → Int32 → MSt → Prop) (x1 : Int32) (x3 : Int32) (σ : MSt) : Prop :=
  (((σ.1 0) ≤ x3) → (vp_in x1 (lenM 10) ∧ (vp_in x1 (lenM 10) ∧ (∀ σ4, σ4 = sI σ 10 x1.toNatClampNeg ((σ.2.1 10 x1.toNatClampNeg) + 1) → (∃ n, mw_blinded_88 K n x1 0 0 σ4))))) ∧ ((¬ ((σ.1 0) ≤ x3)) → (mw_isHouse σ (fun r5 => ((r5 = 0) → (mw_blinded_66 K L36 x1 x3 0 x3 σ)) ∧ ((¬ (r5 = 0)) → (mw_seesInto σ (fun r7 => mw_blinded_66 K L36 x1 x3 r7 x3 σ) x3))) x3))
def mw_blinded_36 (K : Int32 → MSt → Prop) : Nat → Int32 → Int32 → MSt → Prop
  | 0 => fun _ _ _ => False
  | n + 1 => fun x1 x3 σ => mw_blinded_36_b K (mw_blinded_36 K n) x1 x3 σ
def mw_blinded_24 (K : Int32 → MSt → Prop) (x1 : Int32) (x2 : Int32) (σ : MSt) : Prop :=
  ((x2 = 0) → (∃ n, mw_blinded_36 K n x1 0 σ)) ∧ ((¬ (x2 = 0)) → (mw_no (fun r2 σ3 => K r2 σ3) x2 σ))
def mw_blinded (K : Int32 → MSt → Prop) (x1 : Int32) (σ : MSt) : Prop :=
  mw_barred σ (fun r1 => ((¬ (r1 = 0)) → (mw_blinded_24 K x1 r1 σ)) ∧ ((r1 = 0) → (vp_in x1 (lenM 10) ∧ (((¬ ((σ.2.1 10 x1.toNatClampNeg) = 20)) → (mw_blinded_24 K x1 r1 σ)) ∧ (((σ.2.1 10 x1.toNatClampNeg) = 20) → (mw_blinded_24 K x1 (-6) σ)))))) x1
def mw_costOf (σ : MSt) (K : Int32 → Prop) (x1 : Int32) (x2 : Int32) : Prop :=
  mw_distance σ (fun r1 => vp_in x2 (lenM 11) ∧ (K (r1 + (σ.2.1 11 x2.toNatClampNeg)))) x1 x2
def mw_keptOf_23_b (σ : MSt) (K : Int32 → Prop) (L23 : Int32 → Int32 → Int32 → Int32 → Prop) (x1 : Int32) (x2 : Int32) (x3 : Int32) (x4 : Int32) : Prop :=
  (((σ.1 0) ≤ x4) → (K x3)) ∧ ((¬ ((σ.1 0) ≤ x4)) → (((¬ (((x2 >>> (x4 &&& 31)) &&& 1) = 1)) → (L23 x1 x2 x3 (x4 + 1))) ∧ ((((x2 >>> (x4 &&& 31)) &&& 1) = 1) → (((x3 = (-1)) → (L23 x1 x2 x4 (x4 + 1))) ∧ ((¬ (x3 = (-1))) → (mw_costOf σ (fun r4 => mw_costOf σ (fun r5 => ((r4 ≤ r5) → (L23 x1 x2 x3 (x4 + 1))) ∧ ((¬ (r4 ≤ r5)) → (L23 x1 x2 x4 (x4 + 1)))) x3 x1) x4 x1))))))
def mw_keptOf_23 (σ : MSt) (K : Int32 → Prop) : Nat → Int32 → Int32 → Int32 → Int32 → Prop
  | 0 => fun _ _ _ _ => False
  | n + 1 => fun x1 x2 x3 x4 => mw_keptOf_23_b σ K (mw_keptOf_23 σ K n) x1 x2 x3 x4
def mw_keptOf (σ : MSt) (K : Int32 → Prop) (x1 : Int32) : Prop :=
  mw_seersOf σ (fun r1 => vp_in x1 (lenM 7) ∧ (((¬ ((σ.2.1 7 x1.toNatClampNeg) = 4)) → (∃ n, mw_keptOf_23 σ K n x1 r1 (-1) 0)) ∧ (((σ.2.1 7 x1.toNatClampNeg) = 4) → (K (-1))))) x1
def mw_shutters_80_b (K : MSt → Prop) (L17 : Int32 → Int32 → MSt → Prop) (L80 : Int32 → Int32 → Int32 → Int32 → Int32 → MSt → Prop) (x1 : Int32) (x2 : Int32) (x3 : Int32) (x4 : Int32) (x5 : Int32) (σ : MSt) : Prop :=
  (((σ.1 0) ≤ x5) → (L17 x1 (x2 + 1) σ)) ∧ ((¬ ((σ.1 0) ≤ x5)) → (((((x3 >>> (x5 &&& 31)) &&& 1) = 0) → (L80 x1 x2 x3 x4 (x5 + 1) σ)) ∧ ((¬ (((x3 >>> (x5 &&& 31)) &&& 1) = 0)) → (((¬ (x5 = x4)) → (mw_costOf σ (fun r4 => ∀ σ5, σ5 = sF σ 29 ((σ.1 29) + r4) → (∀ σ6, σ6 = sF σ5 31 ((σ5.1 31) + 1) → (((x1 = 0) → (L80 x1 x2 x3 x4 (x5 + 1) σ6)) ∧ ((¬ (x1 = 0)) → (vp_in x5 (lenM 13) ∧ (vp_in x5 (lenM 13) ∧ (∀ σ10, σ10 = sI σ6 13 x5.toNatClampNeg ((σ6.2.1 13 x5.toNatClampNeg) ||| (1 <<< (x2 &&& 31))) → (L80 x1 x2 x3 x4 (x5 + 1) σ10)))))))) x5 x2)) ∧ ((x5 = x4) → (L80 x1 x2 x3 x4 (x5 + 1) σ))))))
def mw_shutters_80 (K : MSt → Prop) (L17 : Int32 → Int32 → MSt → Prop) : Nat → Int32 → Int32 → Int32 → Int32 → Int32 → MSt → Prop
  | 0 => fun _ _ _ _ _ _ => False
  | n + 1 => fun x1 x2 x3 x4 x5 σ => mw_shutters_80_b K L17 (mw_shutters_80 K L17 n) x1 x2 x3 x4 x5 σ
def mw_shutters_17_b (K : MSt → Prop) (L17 : Int32 → Int32 → MSt → Prop) (x1 : Int32) (x2 : Int32) (σ : MSt) : Prop :=
  (((σ.1 0) ≤ x2) → (K σ)) ∧ ((¬ ((σ.1 0) ≤ x2)) → (mw_isHouse σ (fun r2 => ((¬ (r2 = 0)) → (mw_seersOf σ (fun r4 => mw_keptOf σ (fun r5 => vp_in x2 (lenM 7) ∧ ((((σ.2.1 7 x2.toNatClampNeg) = 4) → (∃ n, mw_shutters_80 K L17 n x1 x2 r4 r5 0 σ)) ∧ ((¬ ((σ.2.1 7 x2.toNatClampNeg) = 4)) → (((¬ (r5 = (-1))) → (∃ n, mw_shutters_80 K L17 n x1 x2 r4 r5 0 σ)) ∧ ((r5 = (-1)) → (∀ σ9, σ9 = sF σ 30 ((σ.1 30) ||| (1 <<< (x2 &&& 31))) → (∃ n, mw_shutters_80 K L17 n x1 x2 r4 r5 0 σ9))))))) x2) x2)) ∧ ((r2 = 0) → (L17 x1 (x2 + 1) σ))) x2))
def mw_shutters_17 (K : MSt → Prop) : Nat → Int32 → Int32 → MSt → Prop
  | 0 => fun _ _ _ => False
  | n + 1 => fun x1 x2 σ => mw_shutters_17_b K (mw_shutters_17 K n) x1 x2 σ
def mw_shutters (K : MSt → Prop) (x1 : Int32) (σ : MSt) : Prop :=
  ∀ σ1, σ1 = sF σ 29 0 → (∀ σ2, σ2 = sF σ1 30 0 → (∀ σ3, σ3 = sF σ2 31 0 → (∃ n, mw_shutters_17 K n x1 0 σ3)))
def mw_cheapest_9 (K : Int32 → MSt → Prop) (σ : MSt) : Prop :=
  mw_no (fun r1 σ2 => K r1 σ2) (-5) σ
def mw_cheapest (K : Int32 → MSt → Prop) (x1 : Int32) (σ : MSt) : Prop :=
  ((x1 < 0) → (mw_cheapest_9 K σ)) ∧ ((¬ (x1 < 0)) → (((x1 ≤ 2) → (mw_shutters (fun σ3 => ((¬ (x1 = 0)) → (((¬ (x1 = 1)) → (K (σ3.1 31) σ3)) ∧ ((x1 = 1) → (K (σ3.1 30) σ3)))) ∧ ((x1 = 0) → (K (σ3.1 29) σ3))) 0 σ)) ∧ ((¬ (x1 ≤ 2)) → (mw_cheapest_9 K σ))))
def mw_isShelf (σ : MSt) (K : Int32 → Prop) (x1 : Int32) : Prop :=
  ((x1 < 0) → (K 0)) ∧ ((¬ (x1 < 0)) → (((8 ≤ x1) → (K 0)) ∧ ((¬ (8 ≤ x1)) → (K 1))))
def mw_copy_16 (K : Int32 → MSt → Prop) (σ : MSt) : Prop :=
  mw_no (fun r1 σ2 => K r1 σ2) (-1) σ
def mw_copy_77 (K : Int32 → MSt → Prop) (σ : MSt) : Prop :=
  mw_no (fun r1 σ2 => K r1 σ2) (-2) σ
def mw_copy_205_b (K : Int32 → MSt → Prop) (L205 : Int32 → Int32 → Int32 → Int32 → MSt → Prop) (x2 : Int32) (x4 : Int32) (x5 : Int32) (x6 : Int32) (σ : MSt) : Prop :=
  ((x5 ≤ x6) → (K 1 σ)) ∧ ((¬ (x5 ≤ x6)) → (vp_in x6 (lenM 19) ∧ (vp_in (((160 * x2) + x4) + x6) (lenM 18) ∧ (∀ σ4, σ4 = sJ σ 18 (((160 * x2) + x4) + x6).toNatClampNeg (σ.2.2 19 x6.toNatClampNeg) → (L205 x2 x4 x5 (x6 + 1) σ4)))))
def mw_copy_205 (K : Int32 → MSt → Prop) : Nat → Int32 → Int32 → Int32 → Int32 → MSt → Prop
  | 0 => fun _ _ _ _ _ => False
  | n + 1 => fun x2 x4 x5 x6 σ => mw_copy_205_b K (mw_copy_205 K n) x2 x4 x5 x6 σ
def mw_copy_167_b (K : Int32 → MSt → Prop) (L167 : Int32 → Int32 → Int32 → Int32 → Int32 → Int32 → MSt → Prop) (x1 : Int32) (x2 : Int32) (x3 : Int32) (x4 : Int32) (x5 : Int32) (x6 : Int32) (σ : MSt) : Prop :=
  ((x5 ≤ x6) → (∃ n, mw_copy_205 K n x2 x4 x5 0 σ)) ∧ ((¬ (x5 ≤ x6)) → (vp_in (((160 * x1) + x3) + x6) (lenM 18) ∧ (vp_in x6 (lenM 19) ∧ (∀ σ4, σ4 = sJ σ 19 x6.toNatClampNeg (σ.2.2 18 (((160 * x1) + x3) + x6).toNatClampNeg) → (L167 x1 x2 x3 x4 x5 (x6 + 1) σ4)))))
def mw_copy_167 (K : Int32 → MSt → Prop) : Nat → Int32 → Int32 → Int32 → Int32 → Int32 → Int32 → MSt → Prop
  | 0 => fun _ _ _ _ _ _ _ => False
  | n + 1 => fun x1 x2 x3 x4 x5 x6 σ => mw_copy_167_b K (mw_copy_167 K n) x1 x2 x3 x4 x5 x6 σ
def mw_copy_157 (K : Int32 → MSt → Prop) (σ : MSt) : Prop :=
  mw_no (fun r1 σ2 => K r1 σ2) (-5) σ
def mw_copy_102 (K : Int32 → MSt → Prop) (σ : MSt) : Prop :=
  mw_no (fun r1 σ2 => K r1 σ2) (-3) σ
def mw_copy_84 (K : Int32 → MSt → Prop) (x1 : Int32) (x2 : Int32) (x3 : Int32) (x4 : Int32) (x5 : Int32) (σ : MSt) : Prop :=
  vp_in x1 (lenM 14) ∧ ((((σ.2.1 14 x1.toNatClampNeg) = 0) → (mw_copy_102 K σ)) ∧ ((¬ ((σ.2.1 14 x1.toNatClampNeg) = 0)) → (vp_in x2 (lenM 14) ∧ (((¬ ((σ.2.1 14 x2.toNatClampNeg) = 0)) → (((0 ≤ x5) → (((x3 < 0) → (mw_copy_157 K σ)) ∧ ((¬ (x3 < 0)) → (((x4 < 0) → (mw_copy_157 K σ)) ∧ ((¬ (x4 < 0)) → (vp_in x1 (lenM 16) ∧ (((((σ.2.1 16 x1.toNatClampNeg) - x5) < x3) → (mw_copy_157 K σ)) ∧ ((¬ (((σ.2.1 16 x1.toNatClampNeg) - x5) < x3)) → (vp_in x2 (lenM 16) ∧ (((x4 ≤ ((σ.2.1 16 x2.toNatClampNeg) - x5)) → (∃ n, mw_copy_167 K n x1 x2 x3 x4 x5 0 σ)) ∧ ((¬ (x4 ≤ ((σ.2.1 16 x2.toNatClampNeg) - x5))) → (mw_copy_157 K σ)))))))))))) ∧ ((¬ (0 ≤ x5)) → (mw_no (fun r12 σ13 => K r12 σ13) (-4) σ)))) ∧ (((σ.2.1 14 x2.toNatClampNeg) = 0) → (mw_copy_102 K σ))))))
def mw_copy (K : Int32 → MSt → Prop) (x1 : Int32) (x2 : Int32) (x3 : Int32) (x4 : Int32) (x5 : Int32) (σ : MSt) : Prop :=
  mw_isShelf σ (fun r1 => ((r1 = 0) → (mw_copy_16 K σ)) ∧ ((¬ (r1 = 0)) → (mw_isShelf σ (fun r3 => ((¬ (r3 = 0)) → (vp_in x1 (lenM 14) ∧ ((((σ.2.1 14 x1.toNatClampNeg) = 2) → (mw_copy_77 K σ)) ∧ ((¬ ((σ.2.1 14 x1.toNatClampNeg) = 2)) → (vp_in x2 (lenM 14) ∧ ((((σ.2.1 14 x2.toNatClampNeg) = 2) → (mw_copy_77 K σ)) ∧ ((¬ ((σ.2.1 14 x2.toNatClampNeg) = 2)) → (vp_in x1 (lenM 14) ∧ (((¬ ((σ.2.1 14 x1.toNatClampNeg) = 1)) → (mw_copy_84 K x1 x2 x3 x4 x5 σ)) ∧ (((σ.2.1 14 x1.toNatClampNeg) = 1) → (vp_in x2 (lenM 14) ∧ (((¬ ((σ.2.1 14 x2.toNatClampNeg) = 1)) → (mw_copy_84 K x1 x2 x3 x4 x5 σ)) ∧ (((σ.2.1 14 x2.toNatClampNeg) = 1) → (vp_in x1 (lenM 15) ∧ (vp_in x2 (lenM 15) ∧ ((((σ.2.1 15 x1.toNatClampNeg) = (σ.2.1 15 x2.toNatClampNeg)) → (mw_copy_84 K x1 x2 x3 x4 x5 σ)) ∧ ((¬ ((σ.2.1 15 x1.toNatClampNeg) = (σ.2.1 15 x2.toNatClampNeg))) → (mw_copy_77 K σ)))))))))))))))))) ∧ ((r3 = 0) → (mw_copy_16 K σ))) x2))) x1
def mw_cost_19 (K : Int32 → MSt → Prop) (x1 : Int32) (x2 : Int32) (x3 : Int32) (σ : MSt) : Prop :=
  ((x3 = 0) → (mw_costOf σ (fun r2 => K r2 σ) x1 x2)) ∧ ((¬ (x3 = 0)) → (mw_no (fun r3 σ4 => K r3 σ4) x3 σ))
def mw_cost (K : Int32 → MSt → Prop) (x1 : Int32) (x2 : Int32) (σ : MSt) : Prop :=
  mw_barredTwo σ (fun r1 => ((¬ (r1 = 0)) → (mw_cost_19 K x1 x2 r1 σ)) ∧ ((r1 = 0) → (((¬ (x1 = x2)) → (mw_cost_19 K x1 x2 r1 σ)) ∧ ((x1 = x2) → (mw_cost_19 K x1 x2 (-6) σ))))) x1 x2
def mw_drawnOnes_4_b (σ : MSt) (K : Int32 → Prop) (L4 : Int32 → Int32 → Prop) (x1 : Int32) (x2 : Int32) : Prop :=
  (((σ.1 0) ≤ x2) → (K x1)) ∧ ((¬ ((σ.1 0) ≤ x2)) → (vp_in x2 (lenM 12) ∧ (L4 (x1 ||| ((σ.2.1 12 x2.toNatClampNeg) <<< (x2 &&& 31))) (x2 + 1))))
def mw_drawnOnes_4 (σ : MSt) (K : Int32 → Prop) : Nat → Int32 → Int32 → Prop
  | 0 => fun _ _ => False
  | n + 1 => fun x1 x2 => mw_drawnOnes_4_b σ K (mw_drawnOnes_4 σ K n) x1 x2
def mw_drawnOnes (σ : MSt) (K : Int32 → Prop) : Prop :=
  ∃ n, mw_drawnOnes_4 σ K n 0 0
def mw_draws_2_b (K : MSt → Prop) (L2 : Int32 → Int32 → MSt → Prop) (x1 : Int32) (x2 : Int32) (σ : MSt) : Prop :=
  (((σ.1 0) ≤ x2) → (K σ)) ∧ ((¬ ((σ.1 0) ≤ x2)) → (vp_in x2 (lenM 12) ∧ (∀ σ3, σ3 = sI σ 12 x2.toNatClampNeg ((x1 >>> (x2 &&& 31)) &&& 1) → (L2 x1 (x2 + 1) σ3))))
def mw_draws_2 (K : MSt → Prop) : Nat → Int32 → Int32 → MSt → Prop
  | 0 => fun _ _ _ => False
  | n + 1 => fun x1 x2 σ => mw_draws_2_b K (mw_draws_2 K n) x1 x2 σ
def mw_draws (K : MSt → Prop) (x1 : Int32) (σ : MSt) : Prop :=
  ∃ n, mw_draws_2 K n x1 0 σ
def mw_houses_4_b (σ : MSt) (K : Int32 → Prop) (L4 : Int32 → Int32 → Prop) (x1 : Int32) (x2 : Int32) : Prop :=
  (((σ.1 0) ≤ x2) → (K x1)) ∧ ((¬ ((σ.1 0) ≤ x2)) → (mw_isHouse σ (fun r2 => ((r2 = 0) → (L4 x1 (x2 + 1))) ∧ ((¬ (r2 = 0)) → (L4 (x1 ||| (1 <<< (x2 &&& 31))) (x2 + 1)))) x2))
def mw_houses_4 (σ : MSt) (K : Int32 → Prop) : Nat → Int32 → Int32 → Prop
  | 0 => fun _ _ => False
  | n + 1 => fun x1 x2 => mw_houses_4_b σ K (mw_houses_4 σ K n) x1 x2
def mw_houses (σ : MSt) (K : Int32 → Prop) : Prop :=
  ∃ n, mw_houses_4 σ K n 0 0
def mw_rightInBoth_12_b (K : Int32 → MSt → Prop) (L12 : Int32 → Int32 → MSt → Prop) (x1 : Int32) (x2 : Int32) (σ : MSt) : Prop :=
  ((2 ≤ (σ.1 1)) → (∀ σ2, σ2 = sF σ 1 x1 → (K x2 σ2))) ∧ ((¬ (2 ≤ (σ.1 1))) → (mw_allRight σ (fun r3 => mw_many σ (fun r4 => ∀ σ5, σ5 = sF σ 1 ((σ.1 1) + 1) → (L12 x1 (x2 + r4) σ5)) r3)))
def mw_rightInBoth_12 (K : Int32 → MSt → Prop) : Nat → Int32 → Int32 → MSt → Prop
  | 0 => fun _ _ _ => False
  | n + 1 => fun x1 x2 σ => mw_rightInBoth_12_b K (mw_rightInBoth_12 K n) x1 x2 σ
def mw_rightInBoth (K : Int32 → MSt → Prop) (σ : MSt) : Prop :=
  ∀ σ1, σ1 = sF σ 1 0 → (∃ n, mw_rightInBoth_12 K n (σ.1 1) 0 σ1)
def mw_curtains_9 (K : Int32 → MSt → Prop) (σ : MSt) : Prop :=
  mw_no (fun r1 σ2 => K r1 σ2) (-5) σ
def mw_curtains_121 (K : Int32 → MSt → Prop) (L35 : Int32 → Int32 → Int32 → Int32 → Int32 → Int32 → MSt → Prop) (x1 : Int32) (x2 : Int32) (x3 : Int32) (x6 : Int32) (x7 : Int32) (σ : MSt) : Prop :=
  L35 x1 x2 x3 x6 x7 (x6 + 1) σ
def mw_curtains_81 (K : Int32 → MSt → Prop) (L35 : Int32 → Int32 → Int32 → Int32 → Int32 → Int32 → MSt → Prop) (x1 : Int32) (x2 : Int32) (x3 : Int32) (x4 : Int32) (x5 : Int32) (x6 : Int32) (t0 : Int32) (σ : MSt) : Prop :=
  ((x4 = (-1)) → (mw_curtains_121 K L35 x1 x2 x3 x6 t0 σ)) ∧ ((¬ (x4 = (-1))) → (((t0 < x5) → (L35 x1 x2 x3 x4 x5 (x6 + 1) σ)) ∧ ((¬ (t0 < x5)) → (((¬ (t0 = x5)) → (mw_curtains_121 K L35 x1 x2 x3 x6 t0 σ)) ∧ ((t0 = x5) → (mw_many σ (fun r4 => mw_many σ (fun r5 => ((r4 < r5) → (mw_curtains_121 K L35 x1 x2 x3 x6 t0 σ)) ∧ ((¬ (r4 < r5)) → (L35 x1 x2 x3 x4 x5 (x6 + 1) σ))) x4) x6))))))
def mw_curtains_35_b (K : Int32 → MSt → Prop) (L35 : Int32 → Int32 → Int32 → Int32 → Int32 → Int32 → MSt → Prop) (x1 : Int32) (x2 : Int32) (x3 : Int32) (x4 : Int32) (x5 : Int32) (x6 : Int32) (σ : MSt) : Prop :=
  ((256 ≤ x6) → (mw_draws (fun σ2 => ((¬ ((x1 - x1 / 2 * 2) = 0)) → (K x5 σ2)) ∧ (((x1 - x1 / 2 * 2) = 0) → (K x4 σ2))) x2 σ)) ∧ ((¬ (256 ≤ x6)) → ((((x6 &&& (x3 ^^^ (-1))) = 0) → (mw_draws (fun σ5 => ((2 ≤ x1) → (mw_rightInBoth (fun r7 σ8 => mw_curtains_81 K L35 x1 x2 x3 x4 x5 x6 r7 σ8) σ5)) ∧ ((¬ (2 ≤ x1)) → (mw_allRight σ5 (fun r9 => mw_many σ5 (fun r10 => mw_curtains_81 K L35 x1 x2 x3 x4 x5 x6 r10 σ5) r9)))) x6 σ)) ∧ ((¬ ((x6 &&& (x3 ^^^ (-1))) = 0)) → (L35 x1 x2 x3 x4 x5 (x6 + 1) σ))))
def mw_curtains_35 (K : Int32 → MSt → Prop) : Nat → Int32 → Int32 → Int32 → Int32 → Int32 → Int32 → MSt → Prop
  | 0 => fun _ _ _ _ _ _ _ => False
  | n + 1 => fun x1 x2 x3 x4 x5 x6 σ => mw_curtains_35_b K (mw_curtains_35 K n) x1 x2 x3 x4 x5 x6 σ
def mw_curtains (K : Int32 → MSt → Prop) (x1 : Int32) (σ : MSt) : Prop :=
  ((x1 < 0) → (mw_curtains_9 K σ)) ∧ ((¬ (x1 < 0)) → (((x1 ≤ 3) → (mw_drawnOnes σ (fun r3 => mw_houses σ (fun r4 => ∃ n, mw_curtains_35 K n x1 r3 r4 (-1) 0 0 σ)))) ∧ ((¬ (x1 ≤ 3)) → (mw_curtains_9 K σ))))
def mw_draw_38 (K : Int32 → MSt → Prop) (x1 : Int32) (x4 : Int32) (t0 : Int32) (t1 : Int32) (σ : MSt) : Prop :=
  vp_in t1 (lenM 12) ∧ (∀ σ2, σ2 = sI σ 12 t1.toNatClampNeg t0 → (vp_in x1 (lenM 12) ∧ (((¬ (x4 = (σ2.2.1 12 x1.toNatClampNeg))) → (K 1 σ2)) ∧ ((x4 = (σ2.2.1 12 x1.toNatClampNeg)) → (K 0 σ2)))))
def mw_draw (K : Int32 → MSt → Prop) (x1 : Int32) (x2 : Int32) (σ : MSt) : Prop :=
  mw_barred σ (fun r1 => ((r1 = 0) → (vp_in x1 (lenM 12) ∧ (((x2 = 0) → (mw_draw_38 K x1 (σ.2.1 12 x1.toNatClampNeg) 0 x1 σ)) ∧ ((¬ (x2 = 0)) → (mw_draw_38 K x1 (σ.2.1 12 x1.toNatClampNeg) 1 x1 σ))))) ∧ ((¬ (r1 = 0)) → (mw_no (fun r5 σ6 => K r5 σ6) r1 σ))) x1
def mw_draws3 (K : Int32 → MSt → Prop) (σ : MSt) : Prop :=
  ∀ σ1, σ1 = sF σ 4 (((σ.1 4) * 1103515245) + 12345) → (K ((((σ1.1 4).toUInt32 >>> ((16 : Int32).toUInt32 &&& Int32.toUInt32 31)).toInt32) - (((σ1.1 4).toUInt32 >>> ((16 : Int32).toUInt32 &&& Int32.toUInt32 31)).toInt32) / 3 * 3) σ1)
def mw_element (σ : MSt) (K : Int64 → Prop) (x1 : Int32) (x2 : Int32) : Prop :=
  mw_isShelf σ (fun r1 => ((r1 = 0) → (K 0)) ∧ ((¬ (r1 = 0)) → (vp_in x1 (lenM 14) ∧ (((¬ ((σ.2.1 14 x1.toNatClampNeg) = 1)) → (K 0)) ∧ (((σ.2.1 14 x1.toNatClampNeg) = 1) → (((x2 < 0) → (K 0)) ∧ ((¬ (x2 < 0)) → (vp_in x1 (lenM 16) ∧ ((((σ.2.1 16 x1.toNatClampNeg) ≤ x2) → (K 0)) ∧ ((¬ ((σ.2.1 16 x1.toNatClampNeg) ≤ x2)) → (vp_in ((160 * x1) + x2) (lenM 18) ∧ (K (σ.2.2 18 ((160 * x1) + x2).toNatClampNeg))))))))))))) x1
def mw_fault (σ : MSt) (K : Int32 → Prop) : Prop :=
  K (σ.1 5)
def mw_noMuch (K : Int32 → MSt → Prop) (x1 : Int32) (σ : MSt) : Prop :=
  vp_in (-x1) (lenM 6) ∧ (vp_in (-x1) (lenM 6) ∧ (∀ σ3, σ3 = sI σ 6 (-x1).toNatClampNeg ((σ.2.1 6 (-x1).toNatClampNeg) + 1) → (K (x1 - 1000) σ3)))
def mw_felled (K : Int32 → MSt → Prop) (x1 : Int32) (σ : MSt) : Prop :=
  mw_isThing σ (fun r1 => ((¬ (r1 = 0)) → (mw_isHouse σ (fun r3 => ((r3 = 0) → (mw_allRight σ (fun r5 => mw_many σ (fun r6 => vp_in x1 (lenM 8) ∧ (vp_in x1 (lenM 8) ∧ (∀ σ9, σ9 = sI σ 8 x1.toNatClampNeg (-100) → (mw_allRight σ9 (fun r10 => mw_many σ9 (fun r11 => vp_in x1 (lenM 8) ∧ (∀ σ13, σ13 = sI σ9 8 x1.toNatClampNeg (σ.2.1 8 x1.toNatClampNeg) → (K (r11 - r6) σ13))) r10))))) r5))) ∧ ((¬ (r3 = 0)) → (mw_noMuch (fun r14 σ15 => K r14 σ15) (-2) σ))) x1)) ∧ ((r1 = 0) → (mw_noMuch (fun r16 σ17 => K r16 σ17) (-1) σ))) x1
def mw_first_7_b (σ : MSt) (K : Int32 → Prop) (L7 : Int32 → Int32 → Prop) (x1 : Int32) (x2 : Int32) : Prop :=
  (((σ.1 0) ≤ x2) → (K (-1))) ∧ ((¬ ((σ.1 0) ≤ x2)) → (mw_isHouse σ (fun r2 => ((r2 = 0) → (L7 x1 (x2 + 1))) ∧ ((¬ (r2 = 0)) → (((¬ (((x1 >>> (x2 &&& 31)) &&& 1) = 0)) → (L7 x1 (x2 + 1))) ∧ ((((x1 >>> (x2 &&& 31)) &&& 1) = 0) → (K x2))))) x2))
def mw_first_7 (σ : MSt) (K : Int32 → Prop) : Nat → Int32 → Int32 → Prop
  | 0 => fun _ _ => False
  | n + 1 => fun x1 x2 => mw_first_7_b σ K (mw_first_7 σ K n) x1 x2
def mw_first (σ : MSt) (K : Int32 → Prop) : Prop :=
  mw_allRight σ (fun r1 => ∃ n, mw_first_7 σ K n r1 0)
def mw_isFull (σ : MSt) (K : Int32 → Prop) (x1 : Int32) : Prop :=
  ((¬ (x1 = 0)) → (K 0)) ∧ ((x1 = 0) → (((¬ ((σ.1 0) = 8)) → (K 0)) ∧ (((σ.1 0) = 8) → (K 1))))
def mw_isSo (σ : MSt) (K : Int32 → Prop) (x1 : Int32) (x2 : Int32) : Prop :=
  ((x1 < 0 ∨ 2 < x1) → (mw_isThing σ (fun r2 => ((r2 = 0) → (K 0)) ∧ ((¬ (r2 = 0)) → (mw_isHouse σ (fun r4 => ((r4 = 0) → (K 0)) ∧ ((¬ (r4 = 0)) → (((x2 = 0) → (K 1)) ∧ ((¬ (x2 = 0)) → (vp_in 0 (lenM 21) ∧ ((((σ.1 25) = (σ.2.1 21 (0 : Int32).toNatClampNeg)) → (K 0)) ∧ ((¬ ((σ.1 25) = (σ.2.1 21 (0 : Int32).toNatClampNeg))) → (K 1)))))))) (σ.1 25)))) (σ.1 25))) ∧ (x1 = 0 → (((¬ (x2 = 0)) → (((¬ (x2 = 3)) → (((9 < (σ.1 25)) → (K 0)) ∧ ((¬ (9 < (σ.1 25))) → (((¬ (x2 = 2)) → (K 1)) ∧ ((x2 = 2) → (vp_in 1 (lenM 21) ∧ (mw_at σ (fun r14 => ((¬ (r14 = (-1))) → (K 0)) ∧ ((r14 = (-1)) → (K 1))) (σ.2.1 21 (1 : Int32).toNatClampNeg) (σ.1 25)))))))) ∧ ((x2 = 3) → (((20 < (σ.1 25)) → (K 0)) ∧ ((¬ (20 < (σ.1 25))) → (K 1)))))) ∧ ((x2 = 0) → (((6 < (σ.1 25)) → (K 0)) ∧ ((¬ (6 < (σ.1 25))) → (K 1)))))) ∧ (x1 = 1 → (((1 < (σ.1 25)) → (K 0)) ∧ ((¬ (1 < (σ.1 25))) → (K 1)))) ∧ (x1 = 2 → ((((σ.1 25) < 1) → (K 0)) ∧ ((¬ ((σ.1 25) < 1)) → (((9 < (σ.1 25)) → (K 0)) ∧ ((¬ (9 < (σ.1 25))) → (K 1))))))
