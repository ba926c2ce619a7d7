def mw_night_15 (K : Int32 → MSt → Prop) (σ : MSt) : Prop :=
  mw_no (fun r1 σ2 => K r1 σ2) (-6) σ
def mw_night_73 (K : Int32 → MSt → Prop) (L26 : Int32 → Int32 → Int32 → MSt → Prop) (x1 : Int32) (x2 : Int32) (x3 : Int32) (σ : MSt) : Prop :=
  vp_in x3 (lenM 12) ∧ (vp_in x3 (lenM 12) ∧ (∀ σ3, σ3 = sI σ 12 x3.toNatClampNeg (1 - (σ.2.1 12 x3.toNatClampNeg)) → (L26 x1 x2 (x3 + 1) σ3)))
def mw_night_26_b (K : Int32 → MSt → Prop) (L26 : Int32 → Int32 → Int32 → MSt → Prop) (x1 : Int32) (x2 : Int32) (x3 : Int32) (σ : MSt) : Prop :=
  (((σ.1 0) ≤ x3) → (K x2 σ)) ∧ ((¬ ((σ.1 0) ≤ x3)) → (mw_isHouse σ (fun r2 => ((¬ (r2 = 0)) → (vp_in x3 (lenM 12) ∧ (vp_in x3 (lenM 12) ∧ (∀ σ6, σ6 = sI σ 12 x3.toNatClampNeg (1 - (σ.2.1 12 x3.toNatClampNeg)) → (mw_allRight σ6 (fun r7 => ((¬ (r7 = x1)) → (mw_night_73 K L26 x1 x2 x3 σ6)) ∧ ((r7 = x1) → (mw_night_73 K L26 x1 (x2 ||| (1 <<< (x3 &&& 31))) x3 σ6)))))))) ∧ ((r2 = 0) → (L26 x1 x2 (x3 + 1) σ))) x3))
def mw_night_26 (K : Int32 → MSt → Prop) : Nat → Int32 → Int32 → Int32 → MSt → Prop
  | 0 => fun _ _ _ _ => False
  | n + 1 => fun x1 x2 x3 σ => mw_night_26_b K (mw_night_26 K n) x1 x2 x3 σ
def mw_night (K : Int32 → MSt → Prop) (x1 : Int32) (σ : MSt) : Prop :=
  ((x1 < 0) → (mw_night_15 K σ)) ∧ ((¬ (x1 < 0)) → (mw_houses σ (fun r2 => (((x1 &&& (r2 ^^^ (-1))) = 0) → (∃ n, mw_night_26 K n x1 0 0 σ)) ∧ ((¬ ((x1 &&& (r2 ^^^ (-1))) = 0)) → (mw_night_15 K σ)))))
def mw_shutMany_4_b (σ : MSt) (K : Int32 → Prop) (L4 : Int32 → Int32 → Prop) (x1 : Int32) (x2 : Int32) : Prop :=
  (((σ.1 0) ≤ x2) → (K x1)) ∧ ((¬ ((σ.1 0) ≤ x2)) → (vp_in x2 (lenM 13) ∧ (mw_many σ (fun r3 => L4 (x1 + r3) (x2 + 1)) (σ.2.1 13 x2.toNatClampNeg))))
def mw_shutMany_4 (σ : MSt) (K : Int32 → Prop) : Nat → Int32 → Int32 → Prop
  | 0 => fun _ _ => False
  | n + 1 => fun x1 x2 => mw_shutMany_4_b σ K (mw_shutMany_4 σ K n) x1 x2
def mw_shutMany (σ : MSt) (K : Int32 → Prop) : Prop :=
  ∃ n, mw_shutMany_4 σ K n 0 0
def mw_opens_16_b (K : Int32 → MSt → Prop) (L16 : Int32 → Int32 → MSt → Prop) (x1 : Int32) (x2 : Int32) (σ : MSt) : Prop :=
  (((σ.1 0) ≤ x2) → (K x1 σ)) ∧ ((¬ ((σ.1 0) ≤ x2)) → (vp_in x2 (lenM 13) ∧ (∀ σ3, σ3 = sI σ 13 x2.toNatClampNeg 0 → (vp_in x2 (lenM 12) ∧ (∀ σ5, σ5 = sI σ3 12 x2.toNatClampNeg 0 → (L16 x1 (x2 + 1) σ5))))))
def mw_opens_16 (K : Int32 → MSt → Prop) : Nat → Int32 → Int32 → MSt → Prop
  | 0 => fun _ _ _ => False
  | n + 1 => fun x1 x2 σ => mw_opens_16_b K (mw_opens_16 K n) x1 x2 σ
def mw_opens (K : Int32 → MSt → Prop) (σ : MSt) : Prop :=
  mw_shutMany σ (fun r1 => mw_drawnOnes σ (fun r2 => mw_many σ (fun r3 => ∃ n, mw_opens_16 K n (r1 + r3) 0 σ) r2))
def mw_pairs_14_b (σ : MSt) (K : Int32 → Prop) (L4 : Int32 → Int32 → Prop) (L14 : Int32 → Int32 → Int32 → Prop) (x1 : Int32) (x2 : Int32) (x3 : Int32) : Prop :=
  ((x2 ≤ x3) → (L4 x1 (x2 + 1))) ∧ ((¬ (x2 ≤ x3)) → (mw_isHouse σ (fun r2 => ((r2 = 0) → (L14 x1 x2 (x3 + 1))) ∧ ((¬ (r2 = 0)) → (mw_isHouse σ (fun r4 => ((r4 = 0) → (L14 x1 x2 (x3 + 1))) ∧ ((¬ (r4 = 0)) → (mw_isSeen σ (fun r6 => ((r6 = 0) → (L14 x1 x2 (x3 + 1))) ∧ ((¬ (r6 = 0)) → (mw_isSeen σ (fun r8 => ((r8 = 0) → (L14 x1 x2 (x3 + 1))) ∧ ((¬ (r8 = 0)) → (L14 (x1 + 1) x2 (x3 + 1)))) x3 x2))) x2 x3))) x3))) x2))
def mw_pairs_14 (σ : MSt) (K : Int32 → Prop) (L4 : Int32 → Int32 → Prop) : Nat → Int32 → Int32 → Int32 → Prop
  | 0 => fun _ _ _ => False
  | n + 1 => fun x1 x2 x3 => mw_pairs_14_b σ K L4 (mw_pairs_14 σ K L4 n) x1 x2 x3
def mw_pairs_4_b (σ : MSt) (K : Int32 → Prop) (L4 : Int32 → Int32 → Prop) (x1 : Int32) (x2 : Int32) : Prop :=
  (((σ.1 0) ≤ x2) → (K x1)) ∧ ((¬ ((σ.1 0) ≤ x2)) → (∃ n, mw_pairs_14 σ K L4 n x1 x2 0))
def mw_pairs_4 (σ : MSt) (K : Int32 → Prop) : Nat → Int32 → Int32 → Prop
  | 0 => fun _ _ => False
  | n + 1 => fun x1 x2 => mw_pairs_4_b σ K (mw_pairs_4 σ K n) x1 x2
def mw_pairs (σ : MSt) (K : Int32 → Prop) : Prop :=
  ∃ n, mw_pairs_4 σ K n 0 0
def mw_restore_25_b (K : Int32 → MSt → Prop) (L25 : Int32 → MSt → Prop) (x1 : Int32) (σ : MSt) : Prop :=
  ((8 ≤ x1) → (K (σ.1 0) σ)) ∧ ((¬ (8 ≤ x1)) → (vp_in x1 (lenM 14) ∧ (((¬ ((σ.2.1 14 x1.toNatClampNeg) = 2)) → (L25 (x1 + 1) σ)) ∧ (((σ.2.1 14 x1.toNatClampNeg) = 2) → (vp_in x1 (lenM 17) ∧ ((((σ.2.1 17 x1.toNatClampNeg) < (σ.1 0)) → (L25 (x1 + 1) σ)) ∧ ((¬ ((σ.2.1 17 x1.toNatClampNeg) < (σ.1 0))) → (vp_in x1 (lenM 14) ∧ (∀ σ7, σ7 = sI σ 14 x1.toNatClampNeg 0 → (L25 (x1 + 1) σ7))))))))))
def mw_restore_25 (K : Int32 → MSt → Prop) : Nat → Int32 → MSt → Prop
  | 0 => fun _ _ => False
  | n + 1 => fun x1 σ => mw_restore_25_b K (mw_restore_25 K n) x1 σ
def mw_restore (K : Int32 → MSt → Prop) (σ : MSt) : Prop :=
  ((¬ ((σ.1 37) = 0)) → (mw_all (fun σ2 => ∃ n, mw_restore_25 K n 0 σ2) 28 1 σ)) ∧ (((σ.1 37) = 0) → (mw_no (fun r3 σ4 => K r3 σ4) (-6) σ))
def mw_right (σ : MSt) (K : Int32 → Prop) : Prop :=
  mw_allRight σ (fun r1 => K r1)
def mw_row_34 (K : Int32 → MSt → Prop) (σ : MSt) : Prop :=
  mw_no (fun r1 σ2 => K r1 σ2) (-6) σ
def mw_row_79_b (K : Int32 → MSt → Prop) (L79 : Int32 → Int32 → MSt → Prop) (x1 : Int32) (x4 : Int32) (σ : MSt) : Prop :=
  ((160 ≤ x4) → (K 1 σ)) ∧ ((¬ (160 ≤ x4)) → (vp_in ((160 * x1) + x4) (lenM 18) ∧ (∀ σ3, σ3 = sJ σ 18 ((160 * x1) + x4).toNatClampNeg 0 → (L79 x1 (x4 + 1) σ3))))
def mw_row_79 (K : Int32 → MSt → Prop) : Nat → Int32 → Int32 → MSt → Prop
  | 0 => fun _ _ _ => False
  | n + 1 => fun x1 x4 σ => mw_row_79_b K (mw_row_79 K n) x1 x4 σ
def mw_row (K : Int32 → MSt → Prop) (x1 : Int32) (x2 : Int32) (x3 : Int32) (σ : MSt) : Prop :=
  mw_isShelf σ (fun r1 => ((¬ (r1 = 0)) → (((0 ≤ x3) → (((x2 < 0) → (mw_row_34 K σ)) ∧ ((¬ (x2 < 0)) → (((x2 ≤ 3) → (((x3 ≤ 160) → (vp_in x1 (lenM 14) ∧ (∀ σ8, σ8 = sI σ 14 x1.toNatClampNeg 1 → (vp_in x1 (lenM 15) ∧ (∀ σ10, σ10 = sI σ8 15 x1.toNatClampNeg x2 → (vp_in x1 (lenM 16) ∧ (∀ σ12, σ12 = sI σ10 16 x1.toNatClampNeg x3 → (∃ n, mw_row_79 K n x1 0 σ12)))))))) ∧ ((¬ (x3 ≤ 160)) → (mw_no (fun r13 σ14 => K r13 σ14) (-7) σ)))) ∧ ((¬ (x2 ≤ 3)) → (mw_row_34 K σ)))))) ∧ ((¬ (0 ≤ x3)) → (mw_no (fun r15 σ16 => K r15 σ16) (-4) σ)))) ∧ ((r1 = 0) → (mw_no (fun r17 σ18 => K r17 σ18) (-1) σ))) x1
def mw_says_18 (K : Int32 → MSt → Prop) (σ : MSt) : Prop :=
  mw_no (fun r1 σ2 => K r1 σ2) (-1) σ
def mw_says_114 (K : Int32 → MSt → Prop) (x2 : Int32) (x3 : Int32) (σ : MSt) : Prop :=
  ((x2 < 0 ∨ 5 < x2) → (vp_in x3 (lenM 11) ∧ (K (σ.2.1 11 x3.toNatClampNeg) σ))) ∧ (x2 = 0 → (mw_tall σ (fun r3 => K r3 σ) x3)) ∧ (x2 = 1 → (mw_seersOf σ (fun r4 => mw_many σ (fun r5 => K r5 σ) r4) x3)) ∧ (x2 = 2 → (mw_tall σ (fun r6 => vp_in x3 (lenM 10) ∧ (((r6 ≤ (σ.2.1 10 x3.toNatClampNeg)) → (K 0 σ)) ∧ ((¬ (r6 ≤ (σ.2.1 10 x3.toNatClampNeg))) → (mw_tall σ (fun r9 => vp_in x3 (lenM 10) ∧ (K (r9 - (σ.2.1 10 x3.toNatClampNeg)) σ)) x3)))) x3)) ∧ (x2 = 3 → (mw_eyes σ (fun r11 => K r11 σ) x3)) ∧ (x2 = 4 → (mw_isRight σ (fun r12 => ((r12 = 0) → (K 0 σ)) ∧ ((¬ (r12 = 0)) → (K 1 σ))) x3)) ∧ (x2 = 5 → (K 0 σ))
def mw_says_107 (K : Int32 → MSt → Prop) (σ : MSt) : Prop :=
  mw_no (fun r1 σ2 => K r1 σ2) (-2) σ
def mw_says_95 (K : Int32 → MSt → Prop) (x2 : Int32) (x3 : Int32) (x4 : Int32) (σ : MSt) : Prop :=
  ((¬ (x2 = 2)) → (mw_says_107 K σ)) ∧ ((x2 = 2) → (((x4 = 6) → (mw_says_114 K x2 x3 σ)) ∧ ((¬ (x4 = 6)) → (mw_says_107 K σ))))
def mw_says (K : Int32 → MSt → Prop) (x1 : Int32) (x2 : Int32) (σ : MSt) : Prop :=
  mw_isShelf σ (fun r1 => ((r1 = 0) → (mw_says_18 K σ)) ∧ ((¬ (r1 = 0)) → (((x2 < 0) → (mw_says_18 K σ)) ∧ ((¬ (x2 < 0)) → (((x2 ≤ 6) → (vp_in x1 (lenM 14) ∧ (((¬ ((σ.2.1 14 x1.toNatClampNeg) = 1)) → (vp_in x1 (lenM 14) ∧ (((¬ ((σ.2.1 14 x1.toNatClampNeg) = 0)) → (vp_in x1 (lenM 17) ∧ (vp_in (σ.2.1 17 x1.toNatClampNeg) (lenM 7) ∧ (((x2 = 0) → (mw_says_114 K x2 (σ.2.1 17 x1.toNatClampNeg) σ)) ∧ ((¬ (x2 = 0)) → (((x2 = (σ.2.1 7 (σ.2.1 17 x1.toNatClampNeg).toNatClampNeg)) → (mw_says_114 K x2 (σ.2.1 17 x1.toNatClampNeg) σ)) ∧ ((¬ (x2 = (σ.2.1 7 (σ.2.1 17 x1.toNatClampNeg).toNatClampNeg))) → (((¬ (x2 = 1)) → (mw_says_95 K x2 (σ.2.1 17 x1.toNatClampNeg) (σ.2.1 7 (σ.2.1 17 x1.toNatClampNeg).toNatClampNeg) σ)) ∧ ((x2 = 1) → (mw_isHouse σ (fun r14 => ((¬ (r14 = 0)) → (mw_says_114 K x2 (σ.2.1 17 x1.toNatClampNeg) σ)) ∧ ((r14 = 0) → (mw_says_95 K x2 (σ.2.1 17 x1.toNatClampNeg) (σ.2.1 7 (σ.2.1 17 x1.toNatClampNeg).toNatClampNeg) σ))) (σ.2.1 17 x1.toNatClampNeg))))))))))) ∧ (((σ.2.1 14 x1.toNatClampNeg) = 0) → (mw_no (fun r16 σ17 => K r16 σ17) (-3) σ))))) ∧ (((σ.2.1 14 x1.toNatClampNeg) = 1) → (mw_no (fun r18 σ19 => K r18 σ19) (-2) σ))))) ∧ ((¬ (x2 ≤ 6)) → (mw_says_18 K σ))))))) x1
def mw_seed (K : Int32 → MSt → Prop) (x1 : Int32) (σ : MSt) : Prop :=
  ∀ σ1, σ1 = sF σ 4 x1 → (K (σ.1 4) σ1)
def mw_seers (K : Int32 → MSt → Prop) (x1 : Int32) (σ : MSt) : Prop :=
  mw_barred σ (fun r1 => ((r1 = 0) → (mw_seersOf σ (fun r3 => K r3 σ) x1)) ∧ ((¬ (r1 = 0)) → (mw_no (fun r4 σ5 => K r4 σ5) r1 σ))) x1
def mw_sees_40 (K : Int32 → MSt → Prop) (x1 : Int32) (x2 : Int32) (x3 : Int32) (x4 : Int32) (σ : MSt) : Prop :=
  ((x4 = 0) → (((¬ (x3 = 0)) → (mw_isSeen σ (fun r3 => ((r3 = 0) → (K 0 σ)) ∧ ((¬ (r3 = 0)) → (K 1 σ))) x1 x2)) ∧ ((x3 = 0) → (mw_looks σ (fun r5 => ((r5 = 0) → (K 0 σ)) ∧ ((¬ (r5 = 0)) → (K 1 σ))) x1 x2)))) ∧ ((¬ (x4 = 0)) → (mw_no (fun r7 σ8 => K r7 σ8) x4 σ))
def mw_sees_26 (K : Int32 → MSt → Prop) (x1 : Int32) (x2 : Int32) (x3 : Int32) (x4 : Int32) (σ : MSt) : Prop :=
  ((¬ (x4 = 0)) → (mw_sees_40 K x1 x2 x3 x4 σ)) ∧ ((x4 = 0) → (((¬ (x1 = x2)) → (mw_sees_40 K x1 x2 x3 x4 σ)) ∧ ((x1 = x2) → (mw_sees_40 K x1 x2 x3 (-6) σ))))
def mw_sees_22 (K : Int32 → MSt → Prop) (x1 : Int32) (x2 : Int32) (x3 : Int32) (σ : MSt) : Prop :=
  mw_sees_26 K x1 x2 x3 (-5) σ
def mw_sees (K : Int32 → MSt → Prop) (x1 : Int32) (x2 : Int32) (x3 : Int32) (σ : MSt) : Prop :=
  mw_barredTwo σ (fun r1 => ((¬ (r1 = 0)) → (mw_sees_26 K x1 x2 x3 r1 σ)) ∧ ((r1 = 0) → (((x3 < 0) → (mw_sees_22 K x1 x2 x3 σ)) ∧ ((¬ (x3 < 0)) → (((x3 ≤ 1) → (mw_sees_26 K x1 x2 x3 r1 σ)) ∧ ((¬ (x3 ≤ 1)) → (mw_sees_22 K x1 x2 x3 σ))))))) x1 x2
def mw_set_61 (K : Int32 → MSt → Prop) (σ : MSt) : Prop :=
  mw_no (fun r1 σ2 => K r1 σ2) (-5) σ
def mw_set_129 (K : Int32 → MSt → Prop) (t0 : Int64) (t1 : Int32) (σ : MSt) : Prop :=
  vp_in t1 (lenM 18) ∧ (∀ σ2, σ2 = sJ σ 18 t1.toNatClampNeg t0 → (K 1 σ2))
def mw_set (K : Int32 → MSt → Prop) (x1 : Int32) (x2 : Int32) (x3 : Int64) (σ : MSt) : Prop :=
  mw_isShelf σ (fun r1 => ((¬ (r1 = 0)) → (vp_in x1 (lenM 14) ∧ (((¬ ((σ.2.1 14 x1.toNatClampNeg) = 2)) → (vp_in x1 (lenM 14) ∧ (((¬ ((σ.2.1 14 x1.toNatClampNeg) = 0)) → (((x2 < 0) → (mw_set_61 K σ)) ∧ ((¬ (x2 < 0)) → (vp_in x1 (lenM 16) ∧ (((x2 < (σ.2.1 16 x1.toNatClampNeg)) → (vp_in x1 (lenM 15) ∧ (((¬ ((σ.2.1 15 x1.toNatClampNeg) = 0)) → (vp_in x1 (lenM 15) ∧ (((¬ ((σ.2.1 15 x1.toNatClampNeg) = 1)) → (vp_in x1 (lenM 15) ∧ (((¬ ((σ.2.1 15 x1.toNatClampNeg) = 2)) → (mw_set_129 K x3 ((160 * x1) + x2) σ)) ∧ (((σ.2.1 15 x1.toNatClampNeg) = 2) → (mw_set_129 K x3.toInt32.toInt64 ((160 * x1) + x2) σ))))) ∧ (((σ.2.1 15 x1.toNatClampNeg) = 1) → (mw_set_129 K x3.toInt32.toInt16.toInt32.toInt64 ((160 * x1) + x2) σ))))) ∧ (((σ.2.1 15 x1.toNatClampNeg) = 0) → (mw_set_129 K x3.toInt32.toInt8.toInt32.toInt64 ((160 * x1) + x2) σ))))) ∧ ((¬ (x2 < (σ.2.1 16 x1.toNatClampNeg))) → (mw_set_61 K σ))))))) ∧ (((σ.2.1 14 x1.toNatClampNeg) = 0) → (mw_no (fun r16 σ17 => K r16 σ17) (-3) σ))))) ∧ (((σ.2.1 14 x1.toNatClampNeg) = 2) → (mw_no (fun r18 σ19 => K r18 σ19) (-2) σ))))) ∧ ((r1 = 0) → (mw_no (fun r20 σ21 => K r20 σ21) (-1) σ))) x1
def mw_show_21 (K : Int32 → MSt → Prop) (σ : MSt) : Prop :=
  mw_no (fun r1 σ2 => K r1 σ2) (-1) σ
def mw_show_42 (K : Int32 → MSt → Prop) (x1 : Int32) (x2 : Int32) (t0 : Int32) (t1 : Int32) (σ : MSt) : Prop :=
  vp_in t1 (lenM 14) ∧ (∀ σ2, σ2 = sI σ 14 t1.toNatClampNeg t0 → (vp_in x1 (lenM 17) ∧ (∀ σ4, σ4 = sI σ2 17 x1.toNatClampNeg x2 → (((¬ (x2 = (-1))) → (K 1 σ4)) ∧ ((x2 = (-1)) → (K 0 σ4))))))
def mw_show_27 (K : Int32 → MSt → Prop) (x1 : Int32) (x2 : Int32) (σ : MSt) : Prop :=
  ((¬ (x2 = (-1))) → (mw_show_42 K x1 x2 2 x1 σ)) ∧ ((x2 = (-1)) → (mw_show_42 K x1 x2 0 x1 σ))
def mw_show (K : Int32 → MSt → Prop) (x1 : Int32) (x2 : Int32) (σ : MSt) : Prop :=
  mw_isShelf σ (fun r1 => ((r1 = 0) → (mw_show_21 K σ)) ∧ ((¬ (r1 = 0)) → (((x2 = (-1)) → (mw_show_27 K x1 x2 σ)) ∧ ((¬ (x2 = (-1))) → (mw_isThing σ (fun r4 => ((¬ (r4 = 0)) → (mw_show_27 K x1 x2 σ)) ∧ ((r4 = 0) → (mw_show_21 K σ))) x2))))) x1
def mw_shut_66 (K : Int32 → MSt → Prop) (x1 : Int32) (x5 : Int32) (t0 : Int32) (t1 : Int32) (σ : MSt) : Prop :=
  vp_in t1 (lenM 13) ∧ (∀ σ2, σ2 = sI σ 13 t1.toNatClampNeg t0 → (vp_in x1 (lenM 13) ∧ (((¬ (x5 = (σ2.2.1 13 x1.toNatClampNeg))) → (K 1 σ2)) ∧ ((x5 = (σ2.2.1 13 x1.toNatClampNeg)) → (K 0 σ2)))))
def mw_shut (K : Int32 → MSt → Prop) (x1 : Int32) (x2 : Int32) (x3 : Int32) (σ : MSt) : Prop :=
  mw_barredTwo σ (fun r1 => ((r1 = 0) → (((¬ (x1 = x2)) → (vp_in x1 (lenM 13) ∧ (((x3 = 0) → (mw_shut_66 K x1 (σ.2.1 13 x1.toNatClampNeg) ((σ.2.1 13 x1.toNatClampNeg) &&& ((1 <<< (x2 &&& 31)) ^^^ (-1))) x1 σ)) ∧ ((¬ (x3 = 0)) → (mw_shut_66 K x1 (σ.2.1 13 x1.toNatClampNeg) ((σ.2.1 13 x1.toNatClampNeg) ||| (1 <<< (x2 &&& 31))) x1 σ))))) ∧ ((x1 = x2) → (mw_no (fun r6 σ7 => K r6 σ7) (-6) σ)))) ∧ ((¬ (r1 = 0)) → (mw_no (fun r8 σ9 => K r8 σ9) r1 σ))) x1 x2
def mw_shuts (K : Int32 → MSt → Prop) (σ : MSt) : Prop :=
  mw_shutters (fun σ1 => (((σ1.1 30) = 0) → (mw_shutters (fun σ3 => K (σ3.1 29) σ3) 1 σ1)) ∧ ((¬ ((σ1.1 30) = 0)) → (mw_no (fun r4 σ5 => K r4 σ5) (-6) σ1))) 0 σ
def mw_status_22 (σ : MSt) (K : Int32 → Prop) (x1 : Int32) : Prop :=
  ((x1 < 0 ∨ 8 < x1) → (K (-1))) ∧ (x1 = 0 → (K (σ.1 0))) ∧ (x1 = 1 → (mw_houses σ (fun r2 => K r2))) ∧ (x1 = 2 → (K (σ.1 1))) ∧ (x1 = 3 → (K (σ.1 2))) ∧ (x1 = 4 → (mw_shutMany σ (fun r3 => K r3))) ∧ (x1 = 5 → (mw_drawnOnes σ (fun r4 => mw_many σ (fun r5 => K r5) r4))) ∧ (x1 = 6 → (K (σ.1 3))) ∧ (x1 = 7 → (K (σ.1 4))) ∧ (x1 = 8 → (K (σ.1 36)))
def mw_status (σ : MSt) (K : Int32 → Prop) (x1 : Int32) : Prop :=
  ((x1 < 11) → (mw_status_22 σ K x1)) ∧ ((¬ (x1 < 11)) → (((17 < x1) → (mw_status_22 σ K x1)) ∧ ((¬ (17 < x1)) → (vp_in (x1 - 10) (lenM 6) ∧ (K (σ.2.1 6 (x1 - 10).toNatClampNeg))))))
def mw_storey_24 (K : Int32 → MSt → Prop) (x1 : Int32) (x2 : Int32) (σ : MSt) : Prop :=
  ((x2 = 0) → (mw_allRight σ (fun r2 => mw_many σ (fun r3 => vp_in x1 (lenM 10) ∧ (vp_in x1 (lenM 10) ∧ (∀ σ6, σ6 = sI σ 10 x1.toNatClampNeg ((σ.2.1 10 x1.toNatClampNeg) + 1) → (mw_allRight σ6 (fun r7 => mw_many σ6 (fun r8 => vp_in x1 (lenM 10) ∧ (vp_in x1 (lenM 10) ∧ (∀ σ11, σ11 = sI σ6 10 x1.toNatClampNeg ((σ6.2.1 10 x1.toNatClampNeg) - 1) → (K (r8 - r3) σ11)))) r7))))) r2))) ∧ ((¬ (x2 = 0)) → (mw_noMuch (fun r12 σ13 => K r12 σ13) x2 σ))
def mw_storey (K : Int32 → MSt → Prop) (x1 : Int32) (σ : MSt) : Prop :=
  mw_barred σ (fun r1 => ((¬ (r1 = 0)) → (mw_storey_24 K x1 r1 σ)) ∧ ((r1 = 0) → (vp_in x1 (lenM 10) ∧ (((¬ ((σ.2.1 10 x1.toNatClampNeg) = 20)) → (mw_storey_24 K x1 r1 σ)) ∧ (((σ.2.1 10 x1.toNatClampNeg) = 20) → (mw_storey_24 K x1 (-6) σ)))))) x1
def mw_thing_10 (K : Int32 → MSt → Prop) (σ : MSt) : Prop :=
  mw_no (fun r1 σ2 => K r1 σ2) (-1) σ
def mw_thing_70 (K : Int32 → MSt → Prop) (σ : MSt) : Prop :=
  mw_no (fun r1 σ2 => K r1 σ2) (-6) σ
def mw_thing (K : Int32 → MSt → Prop) (x1 : Int32) (x2 : Int32) (x3 : Int32) (x4 : Int32) (x5 : Int32) (σ : MSt) : Prop :=
  ((x1 < 0) → (mw_thing_10 K σ)) ∧ ((¬ (x1 < 0)) → (((x1 ≤ 6) → (((x2 < 0) → (mw_thing_70 K σ)) ∧ ((¬ (x2 < 0)) → (((9 < x2) → (mw_thing_70 K σ)) ∧ ((¬ (9 < x2)) → (((x3 < 0) → (mw_thing_70 K σ)) ∧ ((¬ (x3 < 0)) → (((9 < x3) → (mw_thing_70 K σ)) ∧ ((¬ (9 < x3)) → (((x4 < 0) → (mw_thing_70 K σ)) ∧ ((¬ (x4 < 0)) → (((20 < x4) → (mw_thing_70 K σ)) ∧ ((¬ (20 < x4)) → (((x5 < 0) → (mw_thing_70 K σ)) ∧ ((¬ (x5 < 0)) → (((9 < x5) → (mw_thing_70 K σ)) ∧ ((¬ (9 < x5)) → (mw_at σ (fun r11 => ((r11 = (-1)) → (((¬ ((σ.1 0) = 8)) → (mw_adds (fun r14 σ15 => K r14 σ15) x1 x2 x3 x4 x5 σ)) ∧ (((σ.1 0) = 8) → (mw_no (fun r16 σ17 => K r16 σ17) (-7) σ)))) ∧ ((¬ (r11 = (-1))) → (mw_thing_70 K σ))) x2 x3)))))))))))))))))) ∧ ((¬ (x1 ≤ 6)) → (mw_thing_10 K σ))))
def mw_thingOf_18 (K : Int32 → MSt → Prop) (σ : MSt) : Prop :=
  mw_no (fun r1 σ2 => K r1 σ2) (-5) σ
def mw_thingOf (K : Int32 → MSt → Prop) (x1 : Int32) (x2 : Int32) (σ : MSt) : Prop :=
  mw_isThing σ (fun r1 => ((r1 = 0) → (mw_thingOf_18 K σ)) ∧ ((¬ (r1 = 0)) → (((x2 < 0) → (mw_thingOf_18 K σ)) ∧ ((¬ (x2 < 0)) → (((x2 ≤ 6) → (((x2 < 0 ∨ 5 < x2) → (vp_in x1 (lenM 12) ∧ (K (σ.2.1 12 x1.toNatClampNeg) σ))) ∧ (x2 = 0 → (vp_in x1 (lenM 7) ∧ (K (σ.2.1 7 x1.toNatClampNeg) σ))) ∧ (x2 = 1 → (vp_in x1 (lenM 8) ∧ (K (σ.2.1 8 x1.toNatClampNeg) σ))) ∧ (x2 = 2 → (vp_in x1 (lenM 9) ∧ (K (σ.2.1 9 x1.toNatClampNeg) σ))) ∧ (x2 = 3 → (vp_in x1 (lenM 10) ∧ (K (σ.2.1 10 x1.toNatClampNeg) σ))) ∧ (x2 = 4 → (vp_in x1 (lenM 11) ∧ (K (σ.2.1 11 x1.toNatClampNeg) σ))) ∧ (x2 = 5 → (mw_tall σ (fun r12 => K r12 σ) x1)))) ∧ ((¬ (x2 ≤ 6)) → (mw_thingOf_18 K σ))))))) x1
def mw_trace (σ : MSt) (K : Int32 → Prop) (x1 : Int32) : Prop :=
  ((x1 < 0) → (K (-1))) ∧ ((¬ (x1 < 0)) → (((20 ≤ x1) → (K (-1))) ∧ ((¬ (20 ≤ x1)) → ((((σ.1 36) ≤ x1) → (K (-1))) ∧ ((¬ ((σ.1 36) ≤ x1)) → (vp_in x1 (lenM 35) ∧ (K (σ.2.1 35 x1.toNatClampNeg))))))))
def mw_years_11 (K : Int32 → MSt → Prop) (σ : MSt) : Prop :=
  mw_no (fun r1 σ2 => K r1 σ2) (-6) σ
def mw_years_68 (K : Int32 → MSt → Prop) (L25 : Int32 → Int32 → Int32 → MSt → Prop) (L33 : Int32 → Int32 → Int32 → Int32 → MSt → Prop) (x1 : Int32) (x2 : Int32) (x3 : Int32) (x4 : Int32) (σ : MSt) : Prop :=
  vp_in x4 (lenM 10) ∧ (mw_draws3 (fun r2 σ3 => vp_in x4 (lenM 10) ∧ (∀ σ5, σ5 = sI σ3 10 x4.toNatClampNeg ((σ.2.1 10 x4.toNatClampNeg) + r2) → (vp_in x4 (lenM 10) ∧ ((((σ5.2.1 10 x4.toNatClampNeg) ≤ 20) → (L33 x1 x2 x3 (x4 + 1) σ5)) ∧ ((¬ ((σ5.2.1 10 x4.toNatClampNeg) ≤ 20)) → (vp_in x4 (lenM 10) ∧ (∀ σ9, σ9 = sI σ5 10 x4.toNatClampNeg 20 → (L33 x1 x2 x3 (x4 + 1) σ9)))))))) σ)
def mw_years_33_b (K : Int32 → MSt → Prop) (L25 : Int32 → Int32 → Int32 → MSt → Prop) (L33 : Int32 → Int32 → Int32 → Int32 → MSt → Prop) (x1 : Int32) (x2 : Int32) (x3 : Int32) (x4 : Int32) (σ : MSt) : Prop :=
  (((σ.1 0) ≤ x4) → (∀ σ2, σ2 = sF σ 1 (1 - (σ.1 1)) → (mw_houses σ2 (fun r3 => mw_many σ2 (fun r4 => mw_allRight σ2 (fun r5 => mw_many σ2 (fun r6 => ∀ σ7, σ7 = sF σ2 3 ((σ2.1 3) + (r4 - r6)) → (L25 x1 x2 (x3 + 1) σ7)) r5)) r3)))) ∧ ((¬ ((σ.1 0) ≤ x4)) → (vp_in x4 (lenM 7) ∧ ((((σ.2.1 7 x4.toNatClampNeg) = 2) → (mw_years_68 K L25 L33 x1 x2 x3 x4 σ)) ∧ ((¬ ((σ.2.1 7 x4.toNatClampNeg) = 2)) → (vp_in x4 (lenM 7) ∧ ((((σ.2.1 7 x4.toNatClampNeg) = 6) → (mw_years_68 K L25 L33 x1 x2 x3 x4 σ)) ∧ ((¬ ((σ.2.1 7 x4.toNatClampNeg) = 6)) → (L33 x1 x2 x3 (x4 + 1) σ))))))))
def mw_years_33 (K : Int32 → MSt → Prop) (L25 : Int32 → Int32 → Int32 → MSt → Prop) : Nat → Int32 → Int32 → Int32 → Int32 → MSt → Prop
  | 0 => fun _ _ _ _ _ => False
  | n + 1 => fun x1 x2 x3 x4 σ => mw_years_33_b K L25 (mw_years_33 K L25 n) x1 x2 x3 x4 σ
def mw_years_25_b (K : Int32 → MSt → Prop) (L25 : Int32 → Int32 → Int32 → MSt → Prop) (x1 : Int32) (x2 : Int32) (x3 : Int32) (σ : MSt) : Prop :=
  ((x1 ≤ x3) → (K ((σ.1 3) - x2) σ)) ∧ ((¬ (x1 ≤ x3)) → (∃ n, mw_years_33 K L25 n x1 x2 x3 0 σ))
def mw_years_25 (K : Int32 → MSt → Prop) : Nat → Int32 → Int32 → Int32 → MSt → Prop
  | 0 => fun _ _ _ _ => False
  | n + 1 => fun x1 x2 x3 σ => mw_years_25_b K (mw_years_25 K n) x1 x2 x3 σ
def mw_years (K : Int32 → MSt → Prop) (x1 : Int32) (σ : MSt) : Prop :=
  ((x1 < 1) → (mw_years_11 K σ)) ∧ ((¬ (x1 < 1)) → (((x1 ≤ 30) → (∃ n, mw_years_25 K n x1 (σ.1 3) 0 σ)) ∧ ((¬ (x1 ≤ 30)) → (mw_years_11 K σ))))
