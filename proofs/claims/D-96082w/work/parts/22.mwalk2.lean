def mw_isWordAt_86 (σ : MSt) (K : Int32 → Prop) (x2 : Int32) : Prop :=
  vp_in x2 (lenM 20) ∧ (((32 < (σ.2.1 20 x2.toNatClampNeg)) → (K 0)) ∧ ((¬ (32 < (σ.2.1 20 x2.toNatClampNeg))) → (K 1)))
def mw_isWordAt_37_b (σ : MSt) (K : Int32 → Prop) (L37 : Int32 → Int32 → Prop) (x2 : Int32) (x3 : Int32) : Prop :=
  vp_in x2 (lenM 20) ∧ ((((σ.2.1 20 x2.toNatClampNeg) ≤ 32) → (mw_isWordAt_86 σ K x2)) ∧ ((¬ ((σ.2.1 20 x2.toNatClampNeg) ≤ 32)) → ((((σ.1 24) ≤ x3) → (mw_isWordAt_86 σ K x2)) ∧ ((¬ ((σ.1 24) ≤ x3)) → (vp_in ((σ.1 22) + x3) (lenM 18) ∧ (vp_in x2 (lenM 20) ∧ (((¬ (((σ.2.2 18 ((σ.1 22) + x3).toNatClampNeg).toInt32) = (σ.2.1 20 x2.toNatClampNeg))) → (mw_isWordAt_86 σ K x2)) ∧ ((((σ.2.2 18 ((σ.1 22) + x3).toNatClampNeg).toInt32) = (σ.2.1 20 x2.toNatClampNeg)) → (L37 (x2 + 1) (x3 + 1))))))))))
def mw_isWordAt_37 (σ : MSt) (K : Int32 → Prop) : Nat → Int32 → Int32 → Prop
  | 0 => fun _ _ => False
  | n + 1 => fun x2 x3 => mw_isWordAt_37_b σ K (mw_isWordAt_37 σ K n) x2 x3
def mw_isWordAt_4_b (σ : MSt) (K : Int32 → Prop) (L4 : Int32 → Int32 → Int32 → Prop) (x1 : Int32) (x2 : Int32) (x3 : Int32) : Prop :=
  ((x1 ≤ x3) → (∃ n, mw_isWordAt_37 σ K n x2 (σ.1 23))) ∧ ((¬ (x1 ≤ x3)) → (vp_in x2 (lenM 20) ∧ (((¬ ((σ.2.1 20 x2.toNatClampNeg) = 0)) → (L4 x1 (x2 + 1) (x3 + 0))) ∧ (((σ.2.1 20 x2.toNatClampNeg) = 0) → (L4 x1 (x2 + 1) (x3 + 1))))))
def mw_isWordAt_4 (σ : MSt) (K : Int32 → Prop) : Nat → Int32 → Int32 → Int32 → Prop
  | 0 => fun _ _ _ => False
  | n + 1 => fun x1 x2 x3 => mw_isWordAt_4_b σ K (mw_isWordAt_4 σ K n) x1 x2 x3
def mw_isWordAt (σ : MSt) (K : Int32 → Prop) (x1 : Int32) : Prop :=
  ∃ n, mw_isWordAt_4 σ K n x1 0 0
def mw_isDigit (σ : MSt) (K : Int32 → Prop) : Prop :=
  (((σ.1 24) ≤ (σ.1 23)) → (K 0)) ∧ ((¬ ((σ.1 24) ≤ (σ.1 23))) → (vp_in ((σ.1 22) + (σ.1 23)) (lenM 18) ∧ (((((σ.2.2 18 ((σ.1 22) + (σ.1 23)).toNatClampNeg).toInt32) < 48) → (K 0)) ∧ ((¬ (((σ.2.2 18 ((σ.1 22) + (σ.1 23)).toNatClampNeg).toInt32) < 48)) → (vp_in ((σ.1 22) + (σ.1 23)) (lenM 18) ∧ (((57 < ((σ.2.2 18 ((σ.1 22) + (σ.1 23)).toNatClampNeg).toInt32)) → (K 0)) ∧ ((¬ (57 < ((σ.2.2 18 ((σ.1 22) + (σ.1 23)).toNatClampNeg).toInt32))) → (K 1))))))))
def mw_wrong (K : Int32 → MSt → Prop) (x1 : Int32) (σ : MSt) : Prop :=
  ∀ σ1, σ1 = sF σ 26 x1 → (K 0 σ1)
def mw_number (K : Int32 → MSt → Prop) (σ : MSt) : Prop :=
  ∀ σ1, σ1 = sF σ 25 0 → (mw_isDigit σ1 (fun r2 => ((¬ (r2 = 0)) → (vp_in ((σ1.1 22) + (σ1.1 23)) (lenM 18) ∧ (∀ σ5, σ5 = sF σ1 25 (((σ1.2.2 18 ((σ1.1 22) + (σ1.1 23)).toNatClampNeg).toInt32) - 48) → (∀ σ6, σ6 = sF σ5 23 ((σ5.1 23) + 1) → (mw_isDigit σ6 (fun r7 => ((r7 = 0) → (K 1 σ6)) ∧ ((¬ (r7 = 0)) → (vp_in ((σ6.1 22) + (σ6.1 23)) (lenM 18) ∧ (∀ σ10, σ10 = sF σ6 25 (((10 * (σ6.1 25)) + ((σ6.2.2 18 ((σ6.1 22) + (σ6.1 23)).toNatClampNeg).toInt32)) - 48) → (∀ σ11, σ11 = sF σ10 23 ((σ10.1 23) + 1) → (K 1 σ11))))))))))) ∧ ((r2 = 0) → (mw_wrong (fun r12 σ13 => (r12 = 0 ∨ r12 = 1) ∧ K r12 σ13) (σ1.1 23) σ1))))
def mw_word_105_b (K : Int32 → MSt → Prop) (L9 : Int32 → Int32 → Int32 → MSt → Prop) (L105 : Int32 → Int32 → Int32 → MSt → Prop) (x1 : Int32) (x2 : Int32) (x3 : Int32) (σ : MSt) : Prop :=
  vp_in x1 (lenM 20) ∧ ((((σ.2.1 20 x1.toNatClampNeg) = 0) → (L9 (x1 + 1) x2 (x3 + 1) σ)) ∧ ((¬ ((σ.2.1 20 x1.toNatClampNeg) = 0)) → (L105 (x1 + 1) x2 x3 σ)))
def mw_word_105 (K : Int32 → MSt → Prop) (L9 : Int32 → Int32 → Int32 → MSt → Prop) : Nat → Int32 → Int32 → Int32 → MSt → Prop
  | 0 => fun _ _ _ _ => False
  | n + 1 => fun x1 x2 x3 σ => mw_word_105_b K L9 (mw_word_105 K L9 n) x1 x2 x3 σ
def mw_word_74 (K : Int32 → MSt → Prop) (L9 : Int32 → Int32 → Int32 → MSt → Prop) (x1 : Int32) (x2 : Int32) (x3 : Int32) (x4 : Int32) (x5 : Int32) (σ : MSt) : Prop :=
  vp_in x5 (lenM 20) ∧ (((¬ ((σ.2.1 20 x5.toNatClampNeg) = 0)) → (((x4 ≤ x2) → (∃ n, mw_word_105 K L9 n x1 x2 x3 σ)) ∧ ((¬ (x4 ≤ x2)) → (∃ n, mw_word_105 K L9 n x1 x4 x3 σ)))) ∧ (((σ.2.1 20 x5.toNatClampNeg) = 0) → (∀ σ4, σ4 = sF σ 23 x4 → (K x3 σ4))))
def mw_word_23_b (K : Int32 → MSt → Prop) (L9 : Int32 → Int32 → Int32 → MSt → Prop) (L23 : Int32 → Int32 → Int32 → Int32 → Int32 → MSt → Prop) (x1 : Int32) (x2 : Int32) (x3 : Int32) (x4 : Int32) (x5 : Int32) (σ : MSt) : Prop :=
  vp_in x5 (lenM 20) ∧ ((((σ.2.1 20 x5.toNatClampNeg) = 0) → (mw_word_74 K L9 x1 x2 x3 x4 x5 σ)) ∧ ((¬ ((σ.2.1 20 x5.toNatClampNeg) = 0)) → ((((σ.1 24) ≤ x4) → (mw_word_74 K L9 x1 x2 x3 x4 x5 σ)) ∧ ((¬ ((σ.1 24) ≤ x4)) → (vp_in ((σ.1 22) + x4) (lenM 18) ∧ (vp_in x5 (lenM 20) ∧ (((¬ (((σ.2.2 18 ((σ.1 22) + x4).toNatClampNeg).toInt32) = (σ.2.1 20 x5.toNatClampNeg))) → (mw_word_74 K L9 x1 x2 x3 x4 x5 σ)) ∧ ((((σ.2.2 18 ((σ.1 22) + x4).toNatClampNeg).toInt32) = (σ.2.1 20 x5.toNatClampNeg)) → (L23 x1 x2 x3 (x4 + 1) (x5 + 1) σ)))))))))
def mw_word_23 (K : Int32 → MSt → Prop) (L9 : Int32 → Int32 → Int32 → MSt → Prop) : Nat → Int32 → Int32 → Int32 → Int32 → Int32 → MSt → Prop
  | 0 => fun _ _ _ _ _ _ => False
  | n + 1 => fun x1 x2 x3 x4 x5 σ => mw_word_23_b K L9 (mw_word_23 K L9 n) x1 x2 x3 x4 x5 σ
def mw_word_9_b (K : Int32 → MSt → Prop) (L9 : Int32 → Int32 → Int32 → MSt → Prop) (x1 : Int32) (x2 : Int32) (x3 : Int32) (σ : MSt) : Prop :=
  ((5 ≤ x3) → (∀ σ2, σ2 = sF σ 26 x2 → (K (-1) σ2))) ∧ ((¬ (5 ≤ x3)) → (∃ n, mw_word_23 K L9 n x1 x2 x3 (σ.1 23) x1 σ))
def mw_word_9 (K : Int32 → MSt → Prop) : Nat → Int32 → Int32 → Int32 → MSt → Prop
  | 0 => fun _ _ _ _ => False
  | n + 1 => fun x1 x2 x3 σ => mw_word_9_b K (mw_word_9 K n) x1 x2 x3 σ
def mw_word (K : Int32 → MSt → Prop) (σ : MSt) : Prop :=
  ∃ n, mw_word_9 K n 0 (σ.1 23) 0 σ
def mw_item_157 (K : Int32 → MSt → Prop) (L96 : Int32 → Int32 → Int32 → MSt → Prop) (x2 : Int32) (x3 : Int32) (x4 : Int32) (σ : MSt) : Prop :=
  mw_number (fun r1 σ2 => ((¬ (r1 = 0)) → (mw_isSo σ2 (fun r4 => ((¬ (r4 = 0)) → (vp_in x4 (lenM 21) ∧ (∀ σ7, σ7 = sI σ2 21 x4.toNatClampNeg (σ2.1 25) → (L96 x2 x3 (x4 + 1) σ7)))) ∧ ((r4 = 0) → (mw_wrong (fun r8 σ9 => (r8 = 0 ∨ r8 = 1) ∧ K r8 σ9) (σ.1 23) σ2))) x2 x4)) ∧ ((r1 = 0) → (K 0 σ2))) σ
def mw_item_138 (K : Int32 → MSt → Prop) (L96 : Int32 → Int32 → Int32 → MSt → Prop) (σ : MSt) : Prop :=
  mw_wrong (fun r1 σ2 => (r1 = 0 ∨ r1 = 1) ∧ K r1 σ2) (σ.1 23) σ
def mw_item_96_b (K : Int32 → MSt → Prop) (L96 : Int32 → Int32 → Int32 → MSt → Prop) (x2 : Int32) (x3 : Int32) (x4 : Int32) (σ : MSt) : Prop :=
  ((x3 ≤ x4) → (((x2 < 0 ∨ 3 < x2) → (vp_in 0 (lenM 21) ∧ (vp_in (σ.2.1 21 (0 : Int32).toNatClampNeg) (lenM 12) ∧ (∀ σ5, σ5 = sI σ 12 (σ.2.1 21 (0 : Int32).toNatClampNeg).toNatClampNeg 1 → (K 1 σ5))))) ∧ (x2 = 0 → (vp_in 0 (lenM 21) ∧ (vp_in 1 (lenM 21) ∧ (vp_in 2 (lenM 21) ∧ (vp_in 3 (lenM 21) ∧ (vp_in 4 (lenM 21) ∧ (mw_adds (fun r11 σ12 => K 1 σ12) (σ.2.1 21 (0 : Int32).toNatClampNeg) (σ.2.1 21 (1 : Int32).toNatClampNeg) (σ.2.1 21 (2 : Int32).toNatClampNeg) (σ.2.1 21 (3 : Int32).toNatClampNeg) (σ.2.1 21 (4 : Int32).toNatClampNeg) σ))))))) ∧ (x2 = 1 → (vp_in 0 (lenM 21) ∧ (∀ σ14, σ14 = sF σ 1 (σ.2.1 21 (0 : Int32).toNatClampNeg) → (K 1 σ14)))) ∧ (x2 = 2 → (vp_in 0 (lenM 21) ∧ (∀ σ16, σ16 = sF σ 2 (σ.2.1 21 (0 : Int32).toNatClampNeg) → (K 1 σ16)))) ∧ (x2 = 3 → (vp_in 0 (lenM 21) ∧ (vp_in (σ.2.1 21 (0 : Int32).toNatClampNeg) (lenM 13) ∧ (vp_in 1 (lenM 21) ∧ (vp_in (σ.2.1 21 (0 : Int32).toNatClampNeg) (lenM 13) ∧ (∀ σ21, σ21 = sI σ 13 (σ.2.1 21 (0 : Int32).toNatClampNeg).toNatClampNeg ((σ.2.1 13 (σ.2.1 21 (0 : Int32).toNatClampNeg).toNatClampNeg) ||| (1 <<< ((σ.2.1 21 (1 : Int32).toNatClampNeg) &&& 31))) → (K 1 σ21))))))))) ∧ ((¬ (x3 ≤ x4)) → (((x4 ≤ 0) → (mw_item_157 K L96 x2 x3 x4 σ)) ∧ ((¬ (x4 ≤ 0)) → ((((σ.1 24) ≤ (σ.1 23)) → (mw_item_138 K L96 σ)) ∧ ((¬ ((σ.1 24) ≤ (σ.1 23))) → (vp_in ((σ.1 22) + (σ.1 23)) (lenM 18) ∧ (((((σ.2.2 18 ((σ.1 22) + (σ.1 23)).toNatClampNeg).toInt32) = 32) → (∀ σ26, σ26 = sF σ 23 ((σ.1 23) + 1) → (mw_item_157 K L96 x2 x3 x4 σ26))) ∧ ((¬ (((σ.2.2 18 ((σ.1 22) + (σ.1 23)).toNatClampNeg).toInt32) = 32)) → (mw_item_138 K L96 σ)))))))))
def mw_item_96 (K : Int32 → MSt → Prop) : Nat → Int32 → Int32 → Int32 → MSt → Prop
  | 0 => fun _ _ _ _ => False
  | n + 1 => fun x2 x3 x4 σ => mw_item_96_b K (mw_item_96 K n) x2 x3 x4 σ
def mw_item_74 (K : Int32 → MSt → Prop) (x2 : Int32) (σ : MSt) : Prop :=
  ((¬ (x2 = 0)) → (((¬ (x2 = 3)) → (∃ n, mw_item_96 K n x2 1 0 σ)) ∧ ((x2 = 3) → (∃ n, mw_item_96 K n x2 2 0 σ)))) ∧ ((x2 = 0) → (∃ n, mw_item_96 K n x2 5 0 σ))
def mw_item_2_b (K : Int32 → MSt → Prop) (L2 : Int32 → MSt → Prop) (x1 : Int32) (σ : MSt) : Prop :=
  ((5 ≤ x1) → (mw_word (fun r2 σ3 => ((¬ (r2 = (-1))) → (((¬ (r2 = 0)) → (mw_item_74 K r2 σ3)) ∧ ((r2 = 0) → (((¬ ((σ3.1 0) = 8)) → (mw_item_74 K r2 σ3)) ∧ (((σ3.1 0) = 8) → (mw_wrong (fun r7 σ8 => (r7 = 0 ∨ r7 = 1) ∧ K r7 σ8) (σ.1 23) σ3)))))) ∧ ((r2 = (-1)) → (K 0 σ3))) σ)) ∧ ((¬ (5 ≤ x1)) → (mw_isWordAt σ (fun r9 => ((r9 = 0) → (L2 (x1 + 1) σ)) ∧ ((¬ (r9 = 0)) → (mw_isFull σ (fun r11 => ((r11 = 0) → (L2 (x1 + 1) σ)) ∧ ((¬ (r11 = 0)) → (mw_wrong (fun r13 σ14 => (r13 = 0 ∨ r13 = 1) ∧ K r13 σ14) (σ.1 23) σ))) x1))) x1))
def mw_item_2 (K : Int32 → MSt → Prop) : Nat → Int32 → MSt → Prop
  | 0 => fun _ _ => False
  | n + 1 => fun x1 σ => mw_item_2_b K (mw_item_2 K n) x1 σ
def mw_item (K : Int32 → MSt → Prop) (σ : MSt) : Prop :=
  ∃ n, mw_item_2 K n 0 σ
def mw_wants (σ : MSt) (K : Int32 → Prop) (x1 : Int32) : Prop :=
  mw_isShelf σ (fun r1 => ((¬ (r1 = 0)) → (vp_in x1 (lenM 14) ∧ (((¬ ((σ.2.1 14 x1.toNatClampNeg) = 2)) → (vp_in x1 (lenM 14) ∧ (((¬ ((σ.2.1 14 x1.toNatClampNeg) = 0)) → (K 0)) ∧ (((σ.2.1 14 x1.toNatClampNeg) = 0) → (K (-3)))))) ∧ (((σ.2.1 14 x1.toNatClampNeg) = 2) → (K (-2)))))) ∧ ((r1 = 0) → (K (-1)))) x1
def mw_ground_133 (K : Int32 → MSt → Prop) (x3 : Int32) (x4 : Int32) (σ : MSt) : Prop :=
  ((x4 = 0) → (mw_all (fun σ2 => ∀ σ3, σ3 = sF σ2 5 (σ2.1 26) → (mw_no (fun r4 σ5 => K r4 σ5) (-6) σ3)) 27 1 σ)) ∧ ((¬ (x4 = 0)) → (K x3 σ))
def mw_ground_62_b (K : Int32 → MSt → Prop) (L62 : Int32 → Int32 → MSt → Prop) (x3 : Int32) (x4 : Int32) (σ : MSt) : Prop :=
  ((x4 = 0) → (mw_ground_133 K x3 x4 σ)) ∧ ((¬ (x4 = 0)) → ((((σ.1 24) ≤ (σ.1 23)) → (mw_ground_133 K x3 x4 σ)) ∧ ((¬ ((σ.1 24) ≤ (σ.1 23))) → (vp_in ((σ.1 22) + (σ.1 23)) (lenM 18) ∧ (((((σ.2.2 18 ((σ.1 22) + (σ.1 23)).toNatClampNeg).toInt32) = 59) → (∀ σ5, σ5 = sF σ 23 ((σ.1 23) + 1) → (mw_item (fun r6 σ7 => L62 (x3 + 1) r6 σ7) σ5))) ∧ ((¬ (((σ.2.2 18 ((σ.1 22) + (σ.1 23)).toNatClampNeg).toInt32) = 59)) → (mw_wrong (fun r8 σ9 => L62 x3 r8 σ9) (σ.1 23) σ)))))))
def mw_ground_62 (K : Int32 → MSt → Prop) : Nat → Int32 → Int32 → MSt → Prop
  | 0 => fun _ _ _ => False
  | n + 1 => fun x3 x4 σ => mw_ground_62_b K (mw_ground_62 K n) x3 x4 σ
def mw_ground (K : Int32 → MSt → Prop) (x1 : Int32) (σ : MSt) : Prop :=
  mw_wants σ (fun r1 => ((r1 = 0) → (mw_all (fun σ3 => ∀ σ4, σ4 = sF σ3 22 (160 * x1) → (∀ σ5, σ5 = sF σ4 23 0 → (vp_in x1 (lenM 16) ∧ (∀ σ7, σ7 = sF σ5 24 (σ5.2.1 16 x1.toNatClampNeg) → (∀ σ8, σ8 = sF σ7 5 (-1) → (mw_item (fun r9 σ10 => ∃ n, mw_ground_62 K n 1 r9 σ10) σ8)))))) 27 0 σ)) ∧ ((¬ (r1 = 0)) → (mw_no (fun r11 σ12 => K r11 σ12) r1 σ))) x1
def mw_height_24 (K : Int32 → MSt → Prop) (σ : MSt) : Prop :=
  mw_no (fun r1 σ2 => K r1 σ2) (-6) σ
def mw_height (K : Int32 → MSt → Prop) (x1 : Int32) (x2 : Int32) (σ : MSt) : Prop :=
  mw_isThing σ (fun r1 => ((¬ (r1 = 0)) → (((x2 < 0) → (mw_height_24 K σ)) ∧ ((¬ (x2 < 0)) → (((x2 ≤ 20) → (vp_in x1 (lenM 10) ∧ (vp_in x1 (lenM 10) ∧ (∀ σ7, σ7 = sI σ 10 x1.toNatClampNeg x2 → (K (σ.2.1 10 x1.toNatClampNeg) σ7))))) ∧ ((¬ (x2 ≤ 20)) → (mw_height_24 K σ)))))) ∧ ((r1 = 0) → (mw_no (fun r8 σ9 => K r8 σ9) (-1) σ))) x1
def mw_holds (σ : MSt) (K : Int32 → Prop) (x1 : Int32) : Prop :=
  mw_isShelf σ (fun r1 => ((r1 = 0) → (K (-1))) ∧ ((¬ (r1 = 0)) → (vp_in x1 (lenM 14) ∧ (((¬ ((σ.2.1 14 x1.toNatClampNeg) = 0)) → (vp_in x1 (lenM 14) ∧ (((¬ ((σ.2.1 14 x1.toNatClampNeg) = 1)) → (vp_in x1 (lenM 17) ∧ (K (σ.2.1 17 x1.toNatClampNeg)))) ∧ (((σ.2.1 14 x1.toNatClampNeg) = 1) → (vp_in x1 (lenM 15) ∧ (K (100 + (σ.2.1 15 x1.toNatClampNeg)))))))) ∧ (((σ.2.1 14 x1.toNatClampNeg) = 0) → (K (-1))))))) x1
def mw_image (K : Int32 → MSt → Prop) (σ : MSt) : Prop :=
  ∀ σ1, σ1 = sF σ 37 1 → (mw_all (fun σ2 => K (σ2.1 0) σ2) 28 0 σ1)
def mw_intAt (σ : MSt) (K : Int32 → Prop) (x1 : Int32) (x2 : Int32) : Prop :=
  vp_in ((160 * x1) + x2) (lenM 18) ∧ (K ((σ.2.2 18 ((160 * x1) + x2).toNatClampNeg).toInt32))
def mw_keeps (K : Int32 → MSt → Prop) (x1 : Int32) (σ : MSt) : Prop :=
  mw_barred σ (fun r1 => ((r1 = 0) → (mw_keptOf σ (fun r3 => K r3 σ) x1)) ∧ ((¬ (r1 = 0)) → (mw_noTen (fun r4 σ5 => K r4 σ5) r1 σ))) x1
def mw_lists_75 (K : MSt → Prop) (L12 : Int32 → Int32 → MSt → Prop) (x1 : Int32) (x2 : Int32) (x3 : Int32) (σ : MSt) : Prop :=
  ∀ σ1, σ1 = sF σ 34 ((σ.1 34) + x3) → (L12 x1 (x2 + 1) σ1)
def mw_lists_44 (K : MSt → Prop) (L12 : Int32 → Int32 → MSt → Prop) (x1 : Int32) (x2 : Int32) (t0 : Int32) (t1 : Int32) (σ : MSt) : Prop :=
  mw_many σ (fun r1 => ((r1 ≤ 0) → (mw_lists_75 K L12 x1 x2 r1 σ)) ∧ ((¬ (r1 ≤ 0)) → (((¬ ((σ.1 33) = (-1))) → (mw_lists_75 K L12 x1 x2 r1 σ)) ∧ (((σ.1 33) = (-1)) → (∀ σ4, σ4 = sF σ 33 x2 → (mw_lists_75 K L12 x1 x2 r1 σ4)))))) ((t1 ^^^ t0) &&& ((1 <<< ((σ.1 0) &&& 31)) - 1))
def mw_lists_12_b (K : MSt → Prop) (L12 : Int32 → Int32 → MSt → Prop) (x1 : Int32) (x2 : Int32) (σ : MSt) : Prop :=
  (((σ.1 0) ≤ x2) → (K σ)) ∧ ((¬ ((σ.1 0) ≤ x2)) → (mw_intAt σ (fun r2 => mw_isHouse σ (fun r3 => ((r3 = 0) → (mw_lists_44 K L12 x1 x2 0 r2 σ)) ∧ ((¬ (r3 = 0)) → (mw_seesInto σ (fun r5 => mw_lists_44 K L12 x1 x2 r5 r2 σ) x2))) x2) x1 x2))
def mw_lists_12 (K : MSt → Prop) : Nat → Int32 → Int32 → MSt → Prop
  | 0 => fun _ _ _ => False
  | n + 1 => fun x1 x2 σ => mw_lists_12_b K (mw_lists_12 K n) x1 x2 σ
def mw_lists (K : MSt → Prop) (x1 : Int32) (σ : MSt) : Prop :=
  ∀ σ1, σ1 = sF σ 33 (-1) → (∀ σ2, σ2 = sF σ1 34 0 → (∃ n, mw_lists_12 K n x1 0 σ2))
def mw_list_102 (K : Int32 → MSt → Prop) (L64 : Int32 → Int32 → Int32 → MSt → Prop) (x1 : Int32) (x4 : Int32) (x5 : Int32) (σ : MSt) : Prop :=
  ∀ σ1, σ1 = sF σ 1 ((σ.1 1) + 1) → (L64 x1 x4 x5 σ1)
def mw_list_99 (K : Int32 → MSt → Prop) (L64 : Int32 → Int32 → Int32 → MSt → Prop) (x1 : Int32) (x4 : Int32) (t0 : Int32) (t1 : Int32) (σ : MSt) : Prop :=
  mw_list_102 K L64 x1 x4 (t1 + t0) σ
def mw_list_64_b (K : Int32 → MSt → Prop) (L64 : Int32 → Int32 → Int32 → MSt → Prop) (x1 : Int32) (x4 : Int32) (x5 : Int32) (σ : MSt) : Prop :=
  ((2 ≤ (σ.1 1)) → (∀ σ2, σ2 = sF σ 1 x4 → (K x5 σ2))) ∧ ((¬ (2 ≤ (σ.1 1))) → (mw_lists (fun σ3 => ((¬ ((σ3.1 34) = 0)) → (mw_list_102 K L64 x1 x4 x5 σ3)) ∧ (((σ3.1 34) = 0) → (((¬ ((σ3.1 1) = 1)) → (mw_list_99 K L64 x1 x4 2 x5 σ3)) ∧ (((σ3.1 1) = 1) → (mw_list_99 K L64 x1 x4 1 x5 σ3))))) x1 σ))
def mw_list_64 (K : Int32 → MSt → Prop) : Nat → Int32 → Int32 → Int32 → MSt → Prop
  | 0 => fun _ _ _ _ => False
  | n + 1 => fun x1 x4 x5 σ => mw_list_64_b K (mw_list_64 K n) x1 x4 x5 σ
def mw_list_35 (K : Int32 → MSt → Prop) (x1 : Int32) (x2 : Int32) (x3 : Int32) (σ : MSt) : Prop :=
  ((x3 = 0) → (((¬ (x2 = 2)) → (mw_lists (fun σ3 => ((¬ (x2 = 0)) → (K (σ3.1 34) σ3)) ∧ ((x2 = 0) → (K (σ3.1 33) σ3))) x1 σ)) ∧ ((x2 = 2) → (∀ σ5, σ5 = sF σ 1 0 → (∃ n, mw_list_64 K n x1 (σ.1 1) 0 σ5))))) ∧ ((¬ (x3 = 0)) → (mw_noTen (fun r6 σ7 => K r6 σ7) x3 σ))
def mw_list_32 (K : Int32 → MSt → Prop) (x1 : Int32) (x2 : Int32) (σ : MSt) : Prop :=
  mw_list_35 K x1 x2 (-5) σ
def mw_list (K : Int32 → MSt → Prop) (x1 : Int32) (x2 : Int32) (σ : MSt) : Prop :=
  mw_wants σ (fun r1 => ((¬ (r1 = 0)) → (mw_list_35 K x1 x2 r1 σ)) ∧ ((r1 = 0) → (vp_in x1 (lenM 16) ∧ ((((σ.2.1 16 x1.toNatClampNeg) < (σ.1 0)) → (mw_list_32 K x1 x2 σ)) ∧ ((¬ ((σ.2.1 16 x1.toNatClampNeg) < (σ.1 0))) → (((x2 < 0) → (mw_list_32 K x1 x2 σ)) ∧ ((¬ (x2 < 0)) → (((x2 ≤ 2) → (mw_list_35 K x1 x2 r1 σ)) ∧ ((¬ (x2 ≤ 2)) → (mw_list_32 K x1 x2 σ)))))))))) x1
def mw_most_88 (K : Int32 → MSt → Prop) (L6 : Int32 → Int32 → Int32 → MSt → Prop) (x3 : Int32) (x4 : Int32) (σ : MSt) : Prop :=
  L6 x3 x4 (x3 + 1) σ
def mw_most_31_b (K : Int32 → MSt → Prop) (L6 : Int32 → Int32 → Int32 → MSt → Prop) (L31 : Int32 → Int32 → Int32 → Int32 → Int32 → MSt → Prop) (x1 : Int32) (x2 : Int32) (x3 : Int32) (x4 : Int32) (x5 : Int32) (σ : MSt) : Prop :=
  (((σ.1 0) ≤ x5) → (((x1 = (-1)) → (mw_most_88 K L6 x3 x4 σ)) ∧ ((¬ (x1 = (-1))) → (((x2 < x4) → (mw_most_88 K L6 x3 x4 σ)) ∧ ((¬ (x2 < x4)) → (L6 x1 x2 (x3 + 1) σ)))))) ∧ ((¬ ((σ.1 0) ≤ x5)) → (((x5 = x3) → (L31 x1 x2 x3 x4 (x5 + 1) σ)) ∧ ((¬ (x5 = x3)) → (mw_isHouse σ (fun r5 => ((r5 = 0) → (L31 x1 x2 x3 x4 (x5 + 1) σ)) ∧ ((¬ (r5 = 0)) → (mw_isSeen σ (fun r7 => ((r7 = 0) → (L31 x1 x2 x3 x4 (x5 + 1) σ)) ∧ ((¬ (r7 = 0)) → (L31 x1 x2 x3 (x4 + 1) (x5 + 1) σ))) x3 x5))) x5))))
def mw_most_31 (K : Int32 → MSt → Prop) (L6 : Int32 → Int32 → Int32 → MSt → Prop) : Nat → Int32 → Int32 → Int32 → Int32 → Int32 → MSt → Prop
  | 0 => fun _ _ _ _ _ _ => False
  | n + 1 => fun x1 x2 x3 x4 x5 σ => mw_most_31_b K L6 (mw_most_31 K L6 n) x1 x2 x3 x4 x5 σ
def mw_most_6_b (K : Int32 → MSt → Prop) (L6 : Int32 → Int32 → Int32 → MSt → Prop) (x1 : Int32) (x2 : Int32) (x3 : Int32) (σ : MSt) : Prop :=
  (((σ.1 0) ≤ x3) → (((¬ (x1 = (-1))) → (K x1 σ)) ∧ ((x1 = (-1)) → (mw_no (fun r3 σ4 => K r3 σ4) (-5) σ)))) ∧ ((¬ ((σ.1 0) ≤ x3)) → (mw_isHouse σ (fun r5 => ((¬ (r5 = 0)) → (∃ n, mw_most_31 K L6 n x1 x2 x3 0 0 σ)) ∧ ((r5 = 0) → (L6 x1 x2 (x3 + 1) σ))) x3))
def mw_most_6 (K : Int32 → MSt → Prop) : Nat → Int32 → Int32 → Int32 → MSt → Prop
  | 0 => fun _ _ _ _ => False
  | n + 1 => fun x1 x2 x3 σ => mw_most_6_b K (mw_most_6 K n) x1 x2 x3 σ
def mw_most (K : Int32 → MSt → Prop) (σ : MSt) : Prop :=
  ∃ n, mw_most_6 K n (-1) 0 0 σ
def mw_newly_10 (K : Int32 → MSt → Prop) (σ : MSt) : Prop :=
  mw_no (fun r1 σ2 => K r1 σ2) (-6) σ
def mw_newly_120 (K : Int32 → MSt → Prop) (L40 : Int32 → Int32 → Int32 → Int32 → MSt → Prop) (x1 : Int32) (x4 : Int32) (x5 : Int32) (σ : MSt) : Prop :=
  L40 x1 x4 x5 (x4 + 1) σ
def mw_newly_40_b (K : Int32 → MSt → Prop) (L40 : Int32 → Int32 → Int32 → Int32 → MSt → Prop) (x1 : Int32) (x2 : Int32) (x3 : Int32) (x4 : Int32) (σ : MSt) : Prop :=
  ((100 ≤ x4) → (K x2 σ)) ∧ ((¬ (100 ≤ x4)) → (mw_at σ (fun r2 => ((r2 = (-1)) → (mw_adds (fun r4 σ5 => mw_allRight σ5 (fun r6 => mw_many σ5 (fun r7 => ∀ σ8, σ8 = sF σ5 0 ((σ5.1 0) - 1) → (((x2 = (-1)) → (mw_newly_120 K L40 x1 x4 r7 σ8)) ∧ ((¬ (x2 = (-1))) → (((x3 < r7) → (mw_newly_120 K L40 x1 x4 r7 σ8)) ∧ ((¬ (x3 < r7)) → (L40 x1 x2 x3 (x4 + 1) σ8)))))) r6)) 1 (x4 - x4 / 10 * 10) (x4 / 10) x1 0 σ)) ∧ ((¬ (r2 = (-1))) → (L40 x1 x2 x3 (x4 + 1) σ))) (x4 - x4 / 10 * 10) (x4 / 10)))
def mw_newly_40 (K : Int32 → MSt → Prop) : Nat → Int32 → Int32 → Int32 → Int32 → MSt → Prop
  | 0 => fun _ _ _ _ _ => False
  | n + 1 => fun x1 x2 x3 x4 σ => mw_newly_40_b K (mw_newly_40 K n) x1 x2 x3 x4 σ
def mw_newly (K : Int32 → MSt → Prop) (x1 : Int32) (σ : MSt) : Prop :=
  ((x1 < 0) → (mw_newly_10 K σ)) ∧ ((¬ (x1 < 0)) → (((x1 ≤ 20) → (((¬ ((σ.1 0) = 8)) → (∃ n, mw_newly_40 K n x1 (-1) 0 0 σ)) ∧ (((σ.1 0) = 8) → (mw_no (fun r4 σ5 => K r4 σ5) (-7) σ)))) ∧ ((¬ (x1 ≤ 20)) → (mw_newly_10 K σ))))
