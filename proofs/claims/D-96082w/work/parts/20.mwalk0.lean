def mw_body_19 (K : MSt → Prop) (σ : MSt) : Prop :=
  ∀ σ1, σ1 = sF σ 36 ((σ.1 36) + 1) → (K σ1)
def mw_body (K : MSt → Prop) (x1 : Int32) (σ : MSt) : Prop :=
  ((20 ≤ (σ.1 36)) → (mw_body_19 K σ)) ∧ ((¬ (20 ≤ (σ.1 36))) → (vp_in (σ.1 36) (lenM 35) ∧ (∀ σ3, σ3 = sI σ 35 (σ.1 36).toNatClampNeg x1 → (mw_body_19 K σ3))))
def mw_isHouse (σ : MSt) (K : Int32 → Prop) (x1 : Int32) : Prop :=
  vp_in x1 (lenM 7) ∧ ((((σ.2.1 7 x1.toNatClampNeg) = 0) → (K 0)) ∧ ((¬ ((σ.2.1 7 x1.toNatClampNeg) = 0)) → (vp_in x1 (lenM 7) ∧ ((((σ.2.1 7 x1.toNatClampNeg) = 2) → (K 0)) ∧ ((¬ ((σ.2.1 7 x1.toNatClampNeg) = 2)) → (vp_in x1 (lenM 7) ∧ ((((σ.2.1 7 x1.toNatClampNeg) = 6) → (K 0)) ∧ ((¬ ((σ.2.1 7 x1.toNatClampNeg) = 6)) → (K 1)))))))))
def mw_standing_75 (K : Int32 → MSt → Prop) (x1 : Int32) (x3 : Int32) (t0 : Int32) (σ : MSt) : Prop :=
  ((¬ (x3 = 4)) → (((¬ (x3 = 6)) → (K t0 σ)) ∧ ((x3 = 6) → (K (t0 * 2) σ)))) ∧ ((x3 = 4) → (K (t0 - x1) σ))
def mw_standing_48 (K : Int32 → MSt → Prop) (x1 : Int32) (x2 : Int32) (x3 : Int32) (x4 : Int32) (σ : MSt) : Prop :=
  mw_body (fun σ1 => ((x4 = 0) → (mw_standing_75 K x1 x3 (x2 + x1) σ1)) ∧ ((¬ (x4 = 0)) → (vp_in x1 (lenM 11) ∧ (mw_standing_75 K x1 x3 ((x2 + x1) + (σ1.2.1 11 x1.toNatClampNeg)) σ1)))) 10 σ
def mw_standing_37 (K : Int32 → MSt → Prop) (x1 : Int32) (x2 : Int32) (x3 : Int32) (x4 : Int32) (σ : MSt) : Prop :=
  ((x4 = 0) → (mw_standing_48 K x1 x2 x3 x4 σ)) ∧ ((¬ (x4 = 0)) → (mw_body (fun σ2 => mw_standing_48 K x1 x2 x3 x4 σ2) 20 σ))
def mw_standing_25 (K : Int32 → MSt → Prop) (x1 : Int32) (x2 : Int32) (x3 : Int32) (x4 : Int32) (σ : MSt) : Prop :=
  ((¬ (x3 = 6)) → (mw_standing_37 K x1 x2 x3 x4 σ)) ∧ ((x3 = 6) → (mw_body (fun σ2 => mw_standing_37 K x1 x2 x3 x4 σ2) 70 σ))
def mw_standing (K : Int32 → MSt → Prop) (x1 : Int32) (x2 : Int32) (σ : MSt) : Prop :=
  vp_in x1 (lenM 7) ∧ (mw_isHouse σ (fun r2 => ((¬ ((σ.2.1 7 x1.toNatClampNeg) = 4)) → (mw_standing_25 K x1 x2 (σ.2.1 7 x1.toNatClampNeg) r2 σ)) ∧ (((σ.2.1 7 x1.toNatClampNeg) = 4) → (mw_body (fun σ4 => mw_standing_25 K x1 x2 (σ.2.1 7 x1.toNatClampNeg) r2 σ4) 51 σ))) x1)
def mw_looking_65 (K : Int32 → MSt → Prop) (x1 : Int32) (x3 : Int32) (x4 : Int32) (σ : MSt) : Prop :=
  mw_body (fun σ1 => mw_standing (fun r2 σ3 => ((x3 = 2) → (K ((r2 * 2) * 3) σ3)) ∧ ((¬ (x3 = 2)) → (((¬ (x3 = 6)) → (K (r2 * 2) σ3)) ∧ ((x3 = 6) → (K ((r2 * 2) * 3) σ3))))) x1 x4 σ1) 11 σ
def mw_looking_59 (K : Int32 → MSt → Prop) (x1 : Int32) (x3 : Int32) (x4 : Int32) (σ : MSt) : Prop :=
  mw_body (fun σ1 => mw_looking_65 K x1 x3 x4 σ1) 30 σ
def mw_looking_48 (K : Int32 → MSt → Prop) (x1 : Int32) (x3 : Int32) (x4 : Int32) (σ : MSt) : Prop :=
  ((x3 = 2) → (mw_looking_59 K x1 x3 x4 σ)) ∧ ((¬ (x3 = 2)) → (((¬ (x3 = 6)) → (mw_looking_65 K x1 x3 x4 σ)) ∧ ((x3 = 6) → (mw_looking_59 K x1 x3 x4 σ))))
def mw_looking_26 (K : Int32 → MSt → Prop) (x1 : Int32) (x2 : Int32) (x3 : Int32) (x4 : Int32) (σ : MSt) : Prop :=
  ((¬ (x3 = 6)) → (mw_looking_48 K x1 x3 x4 σ)) ∧ ((x3 = 6) → (mw_body (fun σ2 => vp_in x1 (lenM 11) ∧ (mw_looking_48 K x1 x3 (x2 - (σ2.2.1 11 x1.toNatClampNeg)) σ2)) 71 σ))
def mw_looking (K : Int32 → MSt → Prop) (x1 : Int32) (x2 : Int32) (σ : MSt) : Prop :=
  vp_in x1 (lenM 7) ∧ (((¬ ((σ.2.1 7 x1.toNatClampNeg) = 3)) → (mw_looking_26 K x1 x2 (σ.2.1 7 x1.toNatClampNeg) x2 σ)) ∧ (((σ.2.1 7 x1.toNatClampNeg) = 3) → (mw_body (fun σ3 => mw_looking_26 K x1 x2 (σ.2.1 7 x1.toNatClampNeg) (x2 + 1) σ3) 40 σ)))
def mw_hiding_29 (K : Int32 → MSt → Prop) (x1 : Int32) (x2 : Int32) (x3 : Int32) (σ : MSt) : Prop :=
  mw_body (fun σ1 => mw_looking (fun r2 σ3 => vp_in x1 (lenM 11) ∧ (mw_standing (fun r5 σ6 => ((¬ (x3 = 4)) → (((¬ (x3 = 5)) → (K (r2 ^^^ r5) σ6)) ∧ ((x3 = 5) → (K ((r2 ^^^ r5) ^^^ 5) σ6)))) ∧ ((x3 = 4) → (K (-(r2 ^^^ r5)) σ6))) x1 (x2 - (σ3.2.1 11 x1.toNatClampNeg)) σ3)) x1 x2 σ1) 12 σ
def mw_hiding_18 (K : Int32 → MSt → Prop) (x1 : Int32) (x2 : Int32) (x3 : Int32) (σ : MSt) : Prop :=
  ((¬ (x3 = 5)) → (mw_hiding_29 K x1 x2 x3 σ)) ∧ ((x3 = 5) → (mw_body (fun σ2 => mw_hiding_29 K x1 x2 x3 σ2) 60 σ))
def mw_hiding (K : Int32 → MSt → Prop) (x1 : Int32) (x2 : Int32) (σ : MSt) : Prop :=
  vp_in x1 (lenM 7) ∧ (((¬ ((σ.2.1 7 x1.toNatClampNeg) = 4)) → (mw_hiding_18 K x1 x2 (σ.2.1 7 x1.toNatClampNeg) σ)) ∧ (((σ.2.1 7 x1.toNatClampNeg) = 4) → (mw_body (fun σ3 => mw_hiding_18 K x1 x2 (σ.2.1 7 x1.toNatClampNeg) σ3) 50 σ)))
def mw_isThing (σ : MSt) (K : Int32 → Prop) (x1 : Int32) : Prop :=
  ((x1 < 0) → (K 0)) ∧ ((¬ (x1 < 0)) → ((((σ.1 0) ≤ x1) → (K 0)) ∧ ((¬ ((σ.1 0) ≤ x1)) → (K 1))))
def mw_act (K : Int32 → MSt → Prop) (x1 : Int32) (x2 : Int32) (x3 : Int32) (σ : MSt) : Prop :=
  ∀ σ1, σ1 = sF σ 36 0 → (mw_isThing σ1 (fun r2 => ((r2 = 0) → (K 0 σ1)) ∧ ((¬ (r2 = 0)) → (((x2 < 0) → (K 0 σ1)) ∧ ((¬ (x2 < 0)) → (((x2 ≤ 2) → (((¬ (x2 = 0)) → (((¬ (x2 = 1)) → (mw_hiding (fun r8 σ9 => K r8 σ9) x1 x3 σ1)) ∧ ((x2 = 1) → (mw_looking (fun r10 σ11 => K r10 σ11) x1 x3 σ1)))) ∧ ((x2 = 0) → (mw_standing (fun r12 σ13 => K r12 σ13) x1 x3 σ1)))) ∧ ((¬ (x2 ≤ 2)) → (K 0 σ1))))))) x1)
def mw_adds_75_b (K : Int32 → MSt → Prop) (L75 : Int32 → MSt → Prop) (x6 : Int32) (σ : MSt) : Prop :=
  (((σ.1 0) ≤ x6) → (∀ σ2, σ2 = sF σ 0 ((σ.1 0) + 1) → (K (σ.1 0) σ2))) ∧ ((¬ ((σ.1 0) ≤ x6)) → (vp_in x6 (lenM 13) ∧ (vp_in x6 (lenM 13) ∧ (∀ σ5, σ5 = sI σ 13 x6.toNatClampNeg ((σ.2.1 13 x6.toNatClampNeg) &&& ((1 <<< ((σ.1 0) &&& 31)) ^^^ (-1))) → (L75 (x6 + 1) σ5)))))
def mw_adds_75 (K : Int32 → MSt → Prop) : Nat → Int32 → MSt → Prop
  | 0 => fun _ _ => False
  | n + 1 => fun x6 σ => mw_adds_75_b K (mw_adds_75 K n) x6 σ
def mw_adds (K : Int32 → MSt → Prop) (x1 : Int32) (x2 : Int32) (x3 : Int32) (x4 : Int32) (x5 : Int32) (σ : MSt) : Prop :=
  vp_in (σ.1 0) (lenM 7) ∧ (∀ σ2, σ2 = sI σ 7 (σ.1 0).toNatClampNeg x1 → (vp_in (σ2.1 0) (lenM 8) ∧ (∀ σ4, σ4 = sI σ2 8 (σ2.1 0).toNatClampNeg x2 → (vp_in (σ4.1 0) (lenM 9) ∧ (∀ σ6, σ6 = sI σ4 9 (σ4.1 0).toNatClampNeg x3 → (vp_in (σ6.1 0) (lenM 10) ∧ (∀ σ8, σ8 = sI σ6 10 (σ6.1 0).toNatClampNeg x4 → (vp_in (σ8.1 0) (lenM 11) ∧ (∀ σ10, σ10 = sI σ8 11 (σ8.1 0).toNatClampNeg x5 → (vp_in (σ10.1 0) (lenM 12) ∧ (∀ σ12, σ12 = sI σ10 12 (σ10.1 0).toNatClampNeg 0 → (vp_in (σ12.1 0) (lenM 13) ∧ (∀ σ14, σ14 = sI σ12 13 (σ12.1 0).toNatClampNeg 0 → (∃ n, mw_adds_75 K n 0 σ14))))))))))))))
def mw_carries_3_b (K : Int32 → MSt → Prop) (a1 : Nat) (a2 : Nat) (L3 : Int32 → Int32 → Int32 → MSt → Prop) (x3 : Int32) (x4 : Int32) (x5 : Int32) (σ : MSt) : Prop :=
  ((8 ≤ x5) → (K (x3 + 8) σ)) ∧ ((¬ (8 ≤ x5)) → (((x4 = 0) → (vp_in x5 (lenM a1) ∧ (vp_in (x3 + x5) (lenM a2) ∧ (∀ σ5, σ5 = sI σ a2 (x3 + x5).toNatClampNeg (σ.2.1 a1 x5.toNatClampNeg) → (L3 x3 x4 (x5 + 1) σ5))))) ∧ ((¬ (x4 = 0)) → (vp_in (x3 + x5) (lenM a2) ∧ (vp_in x5 (lenM a1) ∧ (∀ σ8, σ8 = sI σ a1 x5.toNatClampNeg (σ.2.1 a2 (x3 + x5).toNatClampNeg) → (L3 x3 x4 (x5 + 1) σ8)))))))
def mw_carries_3 (K : Int32 → MSt → Prop) (a1 : Nat) (a2 : Nat) : Nat → Int32 → Int32 → Int32 → MSt → Prop
  | 0 => fun _ _ _ _ => False
  | n + 1 => fun x3 x4 x5 σ => mw_carries_3_b K a1 a2 (mw_carries_3 K a1 a2 n) x3 x4 x5 σ
def mw_carries (K : Int32 → MSt → Prop) (a1 : Nat) (a2 : Nat) (x3 : Int32) (x4 : Int32) (σ : MSt) : Prop :=
  ∃ n, mw_carries_3 K a1 a2 n x3 x4 0 σ
def mw_all (K : MSt → Prop) (a1 : Nat) (x2 : Int32) (σ : MSt) : Prop :=
  mw_carries (fun r1 σ2 => mw_carries (fun r3 σ4 => mw_carries (fun r5 σ6 => mw_carries (fun r7 σ8 => mw_carries (fun r9 σ10 => mw_carries (fun r11 σ12 => mw_carries (fun r13 σ14 => ((x2 = 0) → (vp_in r13 (lenM a1) ∧ (∀ σ17, σ17 = sI σ14 a1 r13.toNatClampNeg (σ14.1 0) → (vp_in (r13 + 1) (lenM a1) ∧ (∀ σ19, σ19 = sI σ17 a1 (r13 + 1).toNatClampNeg (σ17.1 1) → (vp_in (r13 + 2) (lenM a1) ∧ (∀ σ21, σ21 = sI σ19 a1 (r13 + 2).toNatClampNeg (σ19.1 2) → (vp_in (r13 + 3) (lenM a1) ∧ (∀ σ23, σ23 = sI σ21 a1 (r13 + 3).toNatClampNeg (σ21.1 3) → (vp_in (r13 + 4) (lenM a1) ∧ (∀ σ25, σ25 = sI σ23 a1 (r13 + 4).toNatClampNeg (σ23.1 4) → (K σ25)))))))))))) ∧ ((¬ (x2 = 0)) → (vp_in r13 (lenM a1) ∧ (∀ σ27, σ27 = sF σ14 0 (σ14.2.1 a1 r13.toNatClampNeg) → (vp_in (r13 + 1) (lenM a1) ∧ (∀ σ29, σ29 = sF σ27 1 (σ27.2.1 a1 (r13 + 1).toNatClampNeg) → (vp_in (r13 + 2) (lenM a1) ∧ (∀ σ31, σ31 = sF σ29 2 (σ29.2.1 a1 (r13 + 2).toNatClampNeg) → (vp_in (r13 + 3) (lenM a1) ∧ (∀ σ33, σ33 = sF σ31 3 (σ31.2.1 a1 (r13 + 3).toNatClampNeg) → (vp_in (r13 + 4) (lenM a1) ∧ (∀ σ35, σ35 = sF σ33 4 (σ33.2.1 a1 (r13 + 4).toNatClampNeg) → (K σ35))))))))))))) 13 a1 r11 x2 σ12) 12 a1 r9 x2 σ10) 11 a1 r7 x2 σ8) 10 a1 r5 x2 σ6) 9 a1 r3 x2 σ4) 8 a1 r1 x2 σ2) 7 a1 0 x2 σ
def mw_many_4_b (σ : MSt) (K : Int32 → Prop) (L4 : Int32 → Int32 → Int32 → Prop) (x1 : Int32) (x2 : Int32) (x3 : Int32) : Prop :=
  ((8 ≤ x3) → (K x2)) ∧ ((¬ (8 ≤ x3)) → (L4 x1 (x2 + ((x1 >>> (x3 &&& 31)) &&& 1)) (x3 + 1)))
def mw_many_4 (σ : MSt) (K : Int32 → Prop) : Nat → Int32 → Int32 → Int32 → Prop
  | 0 => fun _ _ _ => False
  | n + 1 => fun x1 x2 x3 => mw_many_4_b σ K (mw_many_4 σ K n) x1 x2 x3
def mw_many (σ : MSt) (K : Int32 → Prop) (x1 : Int32) : Prop :=
  ∃ n, mw_many_4 σ K n x1 0 0
def mw_sizeOf (σ : MSt) (K : Int32 → Prop) (x1 : Int32) : Prop :=
  ((0 ≤ x1) → (K x1)) ∧ ((¬ (0 ≤ x1)) → (K (-x1)))
def mw_distance (σ : MSt) (K : Int32 → Prop) (x1 : Int32) (x2 : Int32) : Prop :=
  vp_in x1 (lenM 8) ∧ (vp_in x2 (lenM 8) ∧ (mw_sizeOf σ (fun r3 => vp_in x1 (lenM 9) ∧ (vp_in x2 (lenM 9) ∧ (mw_sizeOf σ (fun r6 => ((r3 ≤ r6) → (K r6)) ∧ ((¬ (r3 ≤ r6)) → (K r3))) ((σ.2.1 9 x1.toNatClampNeg) - (σ.2.1 9 x2.toNatClampNeg))))) ((σ.2.1 8 x1.toNatClampNeg) - (σ.2.1 8 x2.toNatClampNeg))))
def mw_at_2_b (σ : MSt) (K : Int32 → Prop) (L2 : Int32 → Int32 → Int32 → Prop) (x1 : Int32) (x2 : Int32) (x3 : Int32) : Prop :=
  (((σ.1 0) ≤ x3) → (K (-1))) ∧ ((¬ ((σ.1 0) ≤ x3)) → (vp_in x3 (lenM 8) ∧ (((¬ ((σ.2.1 8 x3.toNatClampNeg) = x1)) → (L2 x1 x2 (x3 + 1))) ∧ (((σ.2.1 8 x3.toNatClampNeg) = x1) → (vp_in x3 (lenM 9) ∧ (((¬ ((σ.2.1 9 x3.toNatClampNeg) = x2)) → (L2 x1 x2 (x3 + 1))) ∧ (((σ.2.1 9 x3.toNatClampNeg) = x2) → (K x3))))))))
def mw_at_2 (σ : MSt) (K : Int32 → Prop) : Nat → Int32 → Int32 → Int32 → Prop
  | 0 => fun _ _ _ => False
  | n + 1 => fun x1 x2 x3 => mw_at_2_b σ K (mw_at_2 σ K n) x1 x2 x3
def mw_at (σ : MSt) (K : Int32 → Prop) (x1 : Int32) (x2 : Int32) : Prop :=
  ∃ n, mw_at_2 σ K n x1 x2 0
def mw_divides_b (σ : MSt) (L : (Int32 → Prop) → Int32 → Int32 → Prop) (K : Int32 → Prop) (x1 : Int32) (x2 : Int32) : Prop :=
  ((¬ (x2 = 0)) → ((¬ x2 = 0) ∧ (L (fun r3 => K r3) x2 (x1 - x1 / x2 * x2)))) ∧ ((x2 = 0) → (K x1))
def mw_divides (σ : MSt) : Nat → (Int32 → Prop) → Int32 → Int32 → Prop
  | 0 => fun _ _ _ => False
  | n + 1 => fun K x1 x2 => mw_divides_b σ (mw_divides σ n) K x1 x2
def mw_eyes (σ : MSt) (K : Int32 → Prop) (x1 : Int32) : Prop :=
  vp_in x1 (lenM 7) ∧ (((¬ ((σ.2.1 7 x1.toNatClampNeg) = 3)) → (vp_in x1 (lenM 10) ∧ (K (σ.2.1 10 x1.toNatClampNeg)))) ∧ (((σ.2.1 7 x1.toNatClampNeg) = 3) → (vp_in x1 (lenM 10) ∧ (vp_in x1 (lenM 11) ∧ (K ((σ.2.1 10 x1.toNatClampNeg) + (σ.2.1 11 x1.toNatClampNeg)))))))
def mw_tall_29 (σ : MSt) (K : Int32 → Prop) (x1 : Int32) : Prop :=
  vp_in x1 (lenM 10) ∧ (vp_in x1 (lenM 11) ∧ (K ((σ.2.1 10 x1.toNatClampNeg) + (σ.2.1 11 x1.toNatClampNeg))))
def mw_tall_43 (σ : MSt) (K : Int32 → Prop) (x1 : Int32) : Prop :=
  vp_in x1 (lenM 7) ∧ (((¬ ((σ.2.1 7 x1.toNatClampNeg) = 2)) → (vp_in x1 (lenM 10) ∧ (K (σ.2.1 10 x1.toNatClampNeg)))) ∧ (((σ.2.1 7 x1.toNatClampNeg) = 2) → (K 0)))
def mw_tall (σ : MSt) (K : Int32 → Prop) (x1 : Int32) : Prop :=
  vp_in x1 (lenM 7) ∧ ((((σ.2.1 7 x1.toNatClampNeg) = 6) → (mw_tall_29 σ K x1)) ∧ ((¬ ((σ.2.1 7 x1.toNatClampNeg) = 6)) → (vp_in x1 (lenM 7) ∧ (((¬ ((σ.2.1 7 x1.toNatClampNeg) = 2)) → (mw_tall_43 σ K x1)) ∧ (((σ.2.1 7 x1.toNatClampNeg) = 2) → (((¬ ((σ.1 1) = 1)) → (mw_tall_43 σ K x1)) ∧ (((σ.1 1) = 1) → (mw_tall_29 σ K x1))))))))
def mw_inWay_52_b (σ : MSt) (K : Int32 → Prop) (L52 : Int32 → Int32 → Int32 → Int32 → Int32 → Int32 → Int32 → Prop) (x1 : Int32) (x2 : Int32) (x3 : Int32) (x4 : Int32) (x5 : Int32) (x6 : Int32) (x7 : Int32) : Prop :=
  ((x5 ≤ x7) → (K x6)) ∧ ((¬ (x5 ≤ x7)) → (vp_in x1 (lenM 8) ∧ ((¬ x5 = 0) ∧ (vp_in x1 (lenM 9) ∧ ((¬ x5 = 0) ∧ (mw_at σ (fun r6 => ((r6 = (-1)) → (L52 x1 x2 x3 x4 x5 x6 (x7 + 1))) ∧ ((¬ (r6 = (-1))) → (mw_tall σ (fun r8 => mw_eyes σ (fun r9 => vp_in x2 (lenM 10) ∧ (((((r9 * (x5 - x7)) + ((σ.2.1 10 x2.toNatClampNeg) * x7)) < (r8 * x5)) → (((x6 = (-1)) → (L52 x1 x2 x3 x4 x5 r6 (x7 + 1))) ∧ ((¬ (x6 = (-1))) → (((x6 ≤ r6) → (L52 x1 x2 x3 x4 x5 x6 (x7 + 1))) ∧ ((¬ (x6 ≤ r6)) → (L52 x1 x2 x3 x4 x5 r6 (x7 + 1))))))) ∧ ((¬ (((r9 * (x5 - x7)) + ((σ.2.1 10 x2.toNatClampNeg) * x7)) < (r8 * x5))) → (L52 x1 x2 x3 x4 x5 x6 (x7 + 1))))) x1) r6))) ((σ.2.1 8 x1.toNatClampNeg) + ((x3 / x5) * x7)) ((σ.2.1 9 x1.toNatClampNeg) + ((x4 / x5) * x7))))))))
def mw_inWay_52 (σ : MSt) (K : Int32 → Prop) : Nat → Int32 → Int32 → Int32 → Int32 → Int32 → Int32 → Int32 → Prop
  | 0 => fun _ _ _ _ _ _ _ => False
  | n + 1 => fun x1 x2 x3 x4 x5 x6 x7 => mw_inWay_52_b σ K (mw_inWay_52 σ K n) x1 x2 x3 x4 x5 x6 x7
def mw_inWay (σ : MSt) (K : Int32 → Prop) (x1 : Int32) (x2 : Int32) : Prop :=
  vp_in x2 (lenM 8) ∧ (vp_in x1 (lenM 8) ∧ (vp_in x2 (lenM 9) ∧ (vp_in x1 (lenM 9) ∧ (mw_sizeOf σ (fun r5 => mw_sizeOf σ (fun r6 => mw_divides σ 16 (fun r7 => ∃ n, mw_inWay_52 σ K n x1 x2 ((σ.2.1 8 x2.toNatClampNeg) - (σ.2.1 8 x1.toNatClampNeg)) ((σ.2.1 9 x2.toNatClampNeg) - (σ.2.1 9 x1.toNatClampNeg)) r7 (-1) 1) r5 r6) ((σ.2.1 9 x2.toNatClampNeg) - (σ.2.1 9 x1.toNatClampNeg))) ((σ.2.1 8 x2.toNatClampNeg) - (σ.2.1 8 x1.toNatClampNeg))))))
def mw_looks (σ : MSt) (K : Int32 → Prop) (x1 : Int32) (x2 : Int32) : Prop :=
  vp_in x1 (lenM 7) ∧ ((((σ.2.1 7 x1.toNatClampNeg) = 5) → (K 0)) ∧ ((¬ ((σ.2.1 7 x1.toNatClampNeg) = 5)) → (mw_distance σ (fun r3 => (((σ.1 2) < r3) → (K 0)) ∧ ((¬ ((σ.1 2) < r3)) → (mw_inWay σ (fun r5 => ((¬ (r5 = (-1))) → (K 0)) ∧ ((r5 = (-1)) → (K 1))) x1 x2))) x1 x2)))
def mw_isSeen (σ : MSt) (K : Int32 → Prop) (x1 : Int32) (x2 : Int32) : Prop :=
  vp_in x1 (lenM 12) ∧ (((¬ ((σ.2.1 12 x1.toNatClampNeg) = 0)) → (K 0)) ∧ (((σ.2.1 12 x1.toNatClampNeg) = 0) → (vp_in x1 (lenM 13) ∧ (((¬ ((((σ.2.1 13 x1.toNatClampNeg) >>> (x2 &&& 31)) &&& 1) = 0)) → (K 0)) ∧ (((((σ.2.1 13 x1.toNatClampNeg) >>> (x2 &&& 31)) &&& 1) = 0) → (mw_looks σ (fun r5 => ((r5 = 0) → (K 0)) ∧ ((¬ (r5 = 0)) → (K 1))) x1 x2))))))
def mw_seesInto_4_b (σ : MSt) (K : Int32 → Prop) (L4 : Int32 → Int32 → Int32 → Prop) (x1 : Int32) (x2 : Int32) (x3 : Int32) : Prop :=
  (((σ.1 0) ≤ x3) → (K x2)) ∧ ((¬ ((σ.1 0) ≤ x3)) → (((x3 = x1) → (L4 x1 x2 (x3 + 1))) ∧ ((¬ (x3 = x1)) → (mw_isHouse σ (fun r3 => ((r3 = 0) → (L4 x1 x2 (x3 + 1))) ∧ ((¬ (r3 = 0)) → (mw_isSeen σ (fun r5 => ((r5 = 0) → (L4 x1 x2 (x3 + 1))) ∧ ((¬ (r5 = 0)) → (L4 x1 (x2 ||| (1 <<< (x3 &&& 31))) (x3 + 1)))) x3 x1))) x3))))
def mw_seesInto_4 (σ : MSt) (K : Int32 → Prop) : Nat → Int32 → Int32 → Int32 → Prop
  | 0 => fun _ _ _ => False
  | n + 1 => fun x1 x2 x3 => mw_seesInto_4_b σ K (mw_seesInto_4 σ K n) x1 x2 x3
def mw_seesInto (σ : MSt) (K : Int32 → Prop) (x1 : Int32) : Prop :=
  ∃ n, mw_seesInto_4 σ K n x1 0 0
def mw_seersOf_8_b (σ : MSt) (K : Int32 → Prop) (L8 : Int32 → Int32 → Prop) (x2 : Int32) (x3 : Int32) : Prop :=
  (((σ.1 0) ≤ x3) → (K x2)) ∧ ((¬ ((σ.1 0) ≤ x3)) → (vp_in x3 (lenM 7) ∧ (((¬ ((σ.2.1 7 x3.toNatClampNeg) = 3)) → (L8 x2 (x3 + 1))) ∧ (((σ.2.1 7 x3.toNatClampNeg) = 3) → (L8 (x2 &&& ((1 <<< (x3 &&& 31)) ^^^ (-1))) (x3 + 1))))))
def mw_seersOf_8 (σ : MSt) (K : Int32 → Prop) : Nat → Int32 → Int32 → Prop
  | 0 => fun _ _ => False
  | n + 1 => fun x2 x3 => mw_seersOf_8_b σ K (mw_seersOf_8 σ K n) x2 x3
def mw_seersOf (σ : MSt) (K : Int32 → Prop) (x1 : Int32) : Prop :=
  mw_seesInto σ (fun r1 => ∃ n, mw_seersOf_8 σ K n r1 0) x1
def mw_isRight_24 (σ : MSt) (K : Int32 → Prop) (t0 : Int32) (t1 : Int32) : Prop :=
  ((¬ (t1 = t0)) → (K 0)) ∧ ((t1 = t0) → (K 1))
def mw_isRight (σ : MSt) (K : Int32 → Prop) (x1 : Int32) : Prop :=
  mw_seersOf σ (fun r1 => mw_many σ (fun r2 => vp_in x1 (lenM 7) ∧ (((¬ ((σ.2.1 7 x1.toNatClampNeg) = 4)) → (mw_isRight_24 σ K 1 r2)) ∧ (((σ.2.1 7 x1.toNatClampNeg) = 4) → (mw_isRight_24 σ K 0 r2)))) r1) x1
def mw_allRight_4_b (σ : MSt) (K : Int32 → Prop) (L4 : Int32 → Int32 → Prop) (x1 : Int32) (x2 : Int32) : Prop :=
  (((σ.1 0) ≤ x2) → (K x1)) ∧ ((¬ ((σ.1 0) ≤ x2)) → (mw_isHouse σ (fun r2 => ((r2 = 0) → (L4 x1 (x2 + 1))) ∧ ((¬ (r2 = 0)) → (mw_isRight σ (fun r4 => ((r4 = 0) → (L4 x1 (x2 + 1))) ∧ ((¬ (r4 = 0)) → (L4 (x1 ||| (1 <<< (x2 &&& 31))) (x2 + 1)))) x2))) x2))
def mw_allRight_4 (σ : MSt) (K : Int32 → Prop) : Nat → Int32 → Int32 → Prop
  | 0 => fun _ _ => False
  | n + 1 => fun x1 x2 => mw_allRight_4_b σ K (mw_allRight_4 σ K n) x1 x2
def mw_allRight (σ : MSt) (K : Int32 → Prop) : Prop :=
  ∃ n, mw_allRight_4 σ K n 0 0
def mw_no (K : Int32 → MSt → Prop) (x1 : Int32) (σ : MSt) : Prop :=
  vp_in (-x1) (lenM 6) ∧ (vp_in (-x1) (lenM 6) ∧ (∀ σ3, σ3 = sI σ 6 (-x1).toNatClampNeg ((σ.2.1 6 (-x1).toNatClampNeg) + 1) → (K x1 σ3)))
def mw_ask_55 (K : Int32 → MSt → Prop) (σ : MSt) : Prop :=
  mw_no (fun r1 σ2 => K r1 σ2) (-6) σ
def mw_ask_26 (K : Int32 → MSt → Prop) (x1 : Int32) (x2 : Int32) (σ : MSt) : Prop :=
  ((¬ (x1 = 1)) → (mw_ask_55 K σ)) ∧ ((x1 = 1) → (((x2 < 1) → (mw_ask_55 K σ)) ∧ ((¬ (x2 < 1)) → (((9 < x2) → (mw_ask_55 K σ)) ∧ ((¬ (9 < x2)) → (∀ σ4, σ4 = sF σ 2 x2 → (K (σ.1 2) σ4)))))))
def mw_ask (K : Int32 → MSt → Prop) (x1 : Int32) (x2 : Int32) (σ : MSt) : Prop :=
  ((¬ (x1 = 0)) → (mw_ask_26 K x1 x2 σ)) ∧ ((x1 = 0) → (((x2 < 0) → (mw_ask_26 K x1 x2 σ)) ∧ ((¬ (x2 < 0)) → (((1 < x2) → (mw_ask_26 K x1 x2 σ)) ∧ ((¬ (1 < x2)) → (∀ σ4, σ4 = sF σ 1 x2 → (K (σ.1 1) σ4)))))))
def mw_barred (σ : MSt) (K : Int32 → Prop) (x1 : Int32) : Prop :=
  mw_isThing σ (fun r1 => ((¬ (r1 = 0)) → (mw_isHouse σ (fun r3 => ((r3 = 0) → (K (-2))) ∧ ((¬ (r3 = 0)) → (K 0))) x1)) ∧ ((r1 = 0) → (K (-1)))) x1
