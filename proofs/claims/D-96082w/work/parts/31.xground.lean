def xw_G_isThing (δ : XSh) (σ : XSt) (K : Int32 → Prop) (i0 : Nat) (x1 : Int32) : Prop :=
  xw_S_in δ σ (fun r1 => (r1 = 0 ∨ r1 = 1) ∧ K r1) x1.toInt64 0 (((σ.1 6 i0 0) - 1).toInt64)
def xw_G_isHouse (δ : XSh) (σ : XSt) (K : Int32 → Prop) (i0 : Nat) (x1 : Int32) : Prop :=
  xw_G_isThing δ σ (fun r1 => ((r1 = 0) → (K 0)) ∧ ((¬ (r1 = 0)) → (vp_in x1 8 ∧ ∃ o4, σ.2.2 8 i0 x1.toNatClampNeg = some o4 ∧ (xv_T_isHouse δ σ (fun r5 => ((r5 = 0) → (K 0)) ∧ ((¬ (r5 = 0)) → (K 1))) o4)))) i0 x1
def xw_G_houses_4_b (δ : XSh) (σ : XSt) (K : Int32 → Prop) (i0 : Nat) (L4 : Int32 → Int32 → Prop) (x1 : Int32) (x2 : Int32) : Prop :=
  (((σ.1 6 i0 0) ≤ x2) → (K x1)) ∧ ((¬ ((σ.1 6 i0 0) ≤ x2)) → (vp_in x2 8 ∧ ∃ o3, σ.2.2 8 i0 x2.toNatClampNeg = some o3 ∧ (xv_T_isHouse δ σ (fun r4 => ((r4 = 0) → (L4 (x1 ||| 0) (x2 + 1))) ∧ ((¬ (r4 = 0)) → (L4 (x1 ||| ((1 : Int32) <<< (x2 &&& 31))) (x2 + 1)))) o3)))
def xw_G_houses_4 (δ : XSh) (σ : XSt) (K : Int32 → Prop) (i0 : Nat) : Nat → Int32 → Int32 → Prop
  | 0 => fun _ _ => False
  | n + 1 => fun x1 x2 => xw_G_houses_4_b δ σ K i0 (xw_G_houses_4 δ σ K i0 n) x1 x2
def xw_G_houses (δ : XSh) (σ : XSt) (K : Int32 → Prop) (i0 : Nat) : Prop :=
  ∃ n, xw_G_houses_4 δ σ K i0 n 0 0
def xw_G_isFree_2_b (δ : XSh) (σ : XSt) (K : Int32 → Prop) (i0 : Nat) (L2 : Int32 → Int32 → Int32 → Prop) (x1 : Int32) (x2 : Int32) (x3 : Int32) : Prop :=
  (((σ.1 6 i0 0) ≤ x3) → (K 1)) ∧ ((¬ ((σ.1 6 i0 0) ≤ x3)) → (vp_in x3 8 ∧ ∃ o3, σ.2.2 8 i0 x3.toNatClampNeg = some o3 ∧ (((¬ ((σ.1 7 o3 1) = x1)) → (L2 x1 x2 (x3 + 1))) ∧ (((σ.1 7 o3 1) = x1) → (vp_in x3 8 ∧ ∃ o6, σ.2.2 8 i0 x3.toNatClampNeg = some o6 ∧ (((¬ ((σ.1 7 o6 2) = x2)) → (L2 x1 x2 (x3 + 1))) ∧ (((σ.1 7 o6 2) = x2) → (K 0))))))))
def xw_G_isFree_2 (δ : XSh) (σ : XSt) (K : Int32 → Prop) (i0 : Nat) : Nat → Int32 → Int32 → Int32 → Prop
  | 0 => fun _ _ _ => False
  | n + 1 => fun x1 x2 x3 => xw_G_isFree_2_b δ σ K i0 (xw_G_isFree_2 δ σ K i0 n) x1 x2 x3
def xw_G_isFree (δ : XSh) (σ : XSt) (K : Int32 → Prop) (i0 : Nat) (x1 : Int32) (x2 : Int32) : Prop :=
  ∃ n, xw_G_isFree_2 δ σ K i0 n x1 x2 0
def xw_G_tall (δ : XSh) (σ : XSt) (K : Int32 → Prop) (i0 : Nat) (x1 : Int32) : Prop :=
  vp_in x1 8 ∧ ∃ o2, σ.2.2 8 i0 x1.toNatClampNeg = some o2 ∧ (vp_in x1 8 ∧ (xv_T_tall δ σ (fun r4 => K r4) o2 (σ.1 9 i0 x1.toNatClampNeg) (σ.1 6 i0 1)))
def xw_G_distance (δ : XSh) (σ : XSt) (K : Int32 → Prop) (i0 : Nat) (x1 : Int32) (x2 : Int32) : Prop :=
  vp_in x1 8 ∧ ∃ o2, σ.2.2 8 i0 x1.toNatClampNeg = some o2 ∧ (vp_in x2 8 ∧ ∃ o4, σ.2.2 8 i0 x2.toNatClampNeg = some o4 ∧ (∀ r5, r5 = (if 0 ≤ ((σ.1 7 o2 1) - (σ.1 7 o4 1)) then ((σ.1 7 o2 1) - (σ.1 7 o4 1)) else 0 - ((σ.1 7 o2 1) - (σ.1 7 o4 1))) → (vp_in x1 8 ∧ ∃ o7, σ.2.2 8 i0 x1.toNatClampNeg = some o7 ∧ (vp_in x2 8 ∧ ∃ o9, σ.2.2 8 i0 x2.toNatClampNeg = some o9 ∧ (∀ r10, r10 = (if 0 ≤ ((σ.1 7 o7 2) - (σ.1 7 o9 2)) then ((σ.1 7 o7 2) - (σ.1 7 o9 2)) else 0 - ((σ.1 7 o7 2) - (σ.1 7 o9 2))) → (∀ r11, r11 = (if r5 < r10 then r10 else r5) → (K r11)))))))
def xw_G_common_b (δ : XSh) (σ : XSt) (L : (Int32 → Prop) → Int32 → Int32 → Prop) (K : Int32 → Prop) (x0 : Int32) (x1 : Int32) : Prop :=
  ((¬ (x1 = 0)) → ((¬ x1 = 0) ∧ (L (fun r3 => K r3) x1 (x0 - x0 / x1 * x1)))) ∧ ((x1 = 0) → (K x0))
def xw_G_common (δ : XSh) (σ : XSt) : Nat → (Int32 → Prop) → Int32 → Int32 → Prop
  | 0 => fun _ _ _ => False
  | n + 1 => fun K x0 x1 => xw_G_common_b δ σ (xw_G_common δ σ n) K x0 x1
def xw_G_isInWay_132 (δ : XSh) (σ : XSt) (K : Int32 → Prop) (i0 : Nat) (L60 : Int32 → Int32 → Int32 → Int32 → Int32 → Int32 → Int32 → Int32 → Prop) (x1 : Int32) (x2 : Int32) (x3 : Int32) (x4 : Int32) (x5 : Int32) (x6 : Int32) (x7 : Int32) (x8 : Int32) (t0 : Int32) : Prop :=
  ((t0 = 0) → (L60 x1 x2 x3 x4 x5 x6 x7 (x8 + 1))) ∧ ((¬ (t0 = 0)) → (xw_G_tall δ σ (fun r2 => vp_in x3 8 ∧ ((((r2 * x7) ≤ ((x4 * (x7 - x8)) + ((σ.1 9 i0 x3.toNatClampNeg) * x8))) → (K 0)) ∧ ((¬ ((r2 * x7) ≤ ((x4 * (x7 - x8)) + ((σ.1 9 i0 x3.toNatClampNeg) * x8)))) → (K 1)))) i0 x1))
def xw_G_isInWay_131 (δ : XSh) (σ : XSt) (K : Int32 → Prop) (i0 : Nat) (L60 : Int32 → Int32 → Int32 → Int32 → Int32 → Int32 → Int32 → Int32 → Prop) (x1 : Int32) (x2 : Int32) (x3 : Int32) (x4 : Int32) (x5 : Int32) (x6 : Int32) (x7 : Int32) (x8 : Int32) : Prop :=
  xw_G_isInWay_132 δ σ K i0 L60 x1 x2 x3 x4 x5 x6 x7 x8 0
def xw_G_isInWay_60_b (δ : XSh) (σ : XSt) (K : Int32 → Prop) (i0 : Nat) (L60 : Int32 → Int32 → Int32 → Int32 → Int32 → Int32 → Int32 → Int32 → Prop) (x1 : Int32) (x2 : Int32) (x3 : Int32) (x4 : Int32) (x5 : Int32) (x6 : Int32) (x7 : Int32) (x8 : Int32) : Prop :=
  ((x7 ≤ x8) → (K 0)) ∧ ((¬ (x7 ≤ x8)) → (vp_in x1 8 ∧ ∃ o3, σ.2.2 8 i0 x1.toNatClampNeg = some o3 ∧ (vp_in x2 8 ∧ ∃ o5, σ.2.2 8 i0 x2.toNatClampNeg = some o5 ∧ ((¬ x7 = 0) ∧ (((¬ ((σ.1 7 o3 1) = ((σ.1 7 o5 1) + ((x5 / x7) * x8)))) → (xw_G_isInWay_131 δ σ K i0 L60 x1 x2 x3 x4 x5 x6 x7 x8)) ∧ (((σ.1 7 o3 1) = ((σ.1 7 o5 1) + ((x5 / x7) * x8))) → (vp_in x1 8 ∧ ∃ o9, σ.2.2 8 i0 x1.toNatClampNeg = some o9 ∧ (vp_in x2 8 ∧ ∃ o11, σ.2.2 8 i0 x2.toNatClampNeg = some o11 ∧ ((¬ x7 = 0) ∧ (((¬ ((σ.1 7 o9 2) = ((σ.1 7 o11 2) + ((x6 / x7) * x8)))) → (xw_G_isInWay_131 δ σ K i0 L60 x1 x2 x3 x4 x5 x6 x7 x8)) ∧ (((σ.1 7 o9 2) = ((σ.1 7 o11 2) + ((x6 / x7) * x8))) → (xw_G_isInWay_132 δ σ K i0 L60 x1 x2 x3 x4 x5 x6 x7 x8 1))))))))))))
def xw_G_isInWay_60 (δ : XSh) (σ : XSt) (K : Int32 → Prop) (i0 : Nat) : Nat → Int32 → Int32 → Int32 → Int32 → Int32 → Int32 → Int32 → Int32 → Prop
  | 0 => fun _ _ _ _ _ _ _ _ => False
  | n + 1 => fun x1 x2 x3 x4 x5 x6 x7 x8 => xw_G_isInWay_60_b δ σ K i0 (xw_G_isInWay_60 δ σ K i0 n) x1 x2 x3 x4 x5 x6 x7 x8
def xw_G_isInWay (δ : XSh) (σ : XSt) (K : Int32 → Prop) (i0 : Nat) (x1 : Int32) (x2 : Int32) (x3 : Int32) (x4 : Int32) : Prop :=
  vp_in x3 8 ∧ ∃ o2, σ.2.2 8 i0 x3.toNatClampNeg = some o2 ∧ (vp_in x2 8 ∧ ∃ o4, σ.2.2 8 i0 x2.toNatClampNeg = some o4 ∧ (vp_in x3 8 ∧ ∃ o6, σ.2.2 8 i0 x3.toNatClampNeg = some o6 ∧ (vp_in x2 8 ∧ ∃ o8, σ.2.2 8 i0 x2.toNatClampNeg = some o8 ∧ (∀ r9, r9 = (if 0 ≤ ((σ.1 7 o2 1) - (σ.1 7 o4 1)) then ((σ.1 7 o2 1) - (σ.1 7 o4 1)) else 0 - ((σ.1 7 o2 1) - (σ.1 7 o4 1))) → (∀ r10, r10 = (if 0 ≤ ((σ.1 7 o6 2) - (σ.1 7 o8 2)) then ((σ.1 7 o6 2) - (σ.1 7 o8 2)) else 0 - ((σ.1 7 o6 2) - (σ.1 7 o8 2))) → (xw_G_common δ σ 16 (fun r11 => ∃ n, xw_G_isInWay_60 δ σ K i0 n x1 x2 x3 x4 ((σ.1 7 o2 1) - (σ.1 7 o4 1)) ((σ.1 7 o6 2) - (σ.1 7 o8 2)) r11 1) r9 r10))))))
def xw_G_bars_47_b (δ : XSh) (σ : XSt) (K : Int32 → Prop) (i0 : Nat) (L47 : Int32 → Int32 → Int32 → Int32 → Prop) (x1 : Int32) (x2 : Int32) (x3 : Int32) (x4 : Int32) : Prop :=
  (((σ.1 6 i0 0) ≤ x4) → (K (-1))) ∧ ((¬ ((σ.1 6 i0 0) ≤ x4)) → (((x4 = x1) → (L47 x1 x2 x3 (x4 + 1))) ∧ ((¬ (x4 = x1)) → (((x4 = x2) → (L47 x1 x2 x3 (x4 + 1))) ∧ ((¬ (x4 = x2)) → (xw_G_isInWay δ σ (fun r4 => ((r4 = 0) → (L47 x1 x2 x3 (x4 + 1))) ∧ ((¬ (r4 = 0)) → (K x4))) i0 x4 x1 x2 x3))))))
def xw_G_bars_47 (δ : XSh) (σ : XSt) (K : Int32 → Prop) (i0 : Nat) : Nat → Int32 → Int32 → Int32 → Int32 → Prop
  | 0 => fun _ _ _ _ => False
  | n + 1 => fun x1 x2 x3 x4 => xw_G_bars_47_b δ σ K i0 (xw_G_bars_47 δ σ K i0 n) x1 x2 x3 x4
def xw_G_bars (δ : XSh) (σ : XSt) (K : Int32 → Prop) (i0 : Nat) (x1 : Int32) (x2 : Int32) : Prop :=
  vp_in x1 8 ∧ ∃ o2, σ.2.2 8 i0 x1.toNatClampNeg = some o2 ∧ (vp_in x1 8 ∧ (xv_T_eyes δ σ (fun r4 => ((¬ (r4 = (-1))) → (vp_in x1 8 ∧ ∃ o7, σ.2.2 8 i0 x1.toNatClampNeg = some o7 ∧ (vp_in x1 8 ∧ (xv_T_eyes δ σ (fun r9 => ∃ n, xw_G_bars_47 δ σ K i0 n x1 x2 r9 0) o7 (σ.1 9 i0 x1.toNatClampNeg))))) ∧ ((r4 = (-1)) → (vp_in x1 8 ∧ (∃ n, xw_G_bars_47 δ σ K i0 n x1 x2 (σ.1 9 i0 x1.toNatClampNeg) 0)))) o2 (σ.1 9 i0 x1.toNatClampNeg)))
def xw_G_looksInto (δ : XSh) (σ : XSt) (K : Int32 → Prop) (i0 : Nat) (x1 : Int32) (x2 : Int32) : Prop :=
  vp_in x1 8 ∧ ∃ o2, σ.2.2 8 i0 x1.toNatClampNeg = some o2 ∧ (vp_in x1 8 ∧ (xv_T_eyes δ σ (fun r4 => ((r4 = (-1)) → (K 0)) ∧ ((¬ (r4 = (-1))) → (xw_G_distance δ σ (fun r6 => (((σ.1 6 i0 2) < r6) → (K 0)) ∧ ((¬ ((σ.1 6 i0 2) < r6)) → (xw_G_bars δ σ (fun r8 => ((¬ (r8 = (-1))) → (K 0)) ∧ ((r8 = (-1)) → (K 1))) i0 x1 x2))) i0 x1 x2))) o2 (σ.1 9 i0 x1.toNatClampNeg)))
def xw_G_seesInto (δ : XSh) (σ : XSt) (K : Int32 → Prop) (i0 : Nat) (x1 : Int32) (x2 : Int32) : Prop :=
  ((¬ ((((σ.1 6 i0 3) >>> (x1 &&& 31)) &&& 1) = 0)) → (K 0)) ∧ (((((σ.1 6 i0 3) >>> (x1 &&& 31)) &&& 1) = 0) → (vp_in x2 8 ∧ (((¬ ((((σ.1 10 i0 x2.toNatClampNeg) >>> (x1 &&& 31)) &&& 1) = 0)) → (K 0)) ∧ (((((σ.1 10 i0 x2.toNatClampNeg) >>> (x1 &&& 31)) &&& 1) = 0) → (xw_G_looksInto δ σ (fun r4 => ((r4 = 0) → (K 0)) ∧ ((¬ (r4 = 0)) → (K 1))) i0 x1 x2)))))
def xw_G_into_4_b (δ : XSh) (σ : XSt) (K : Int32 → Prop) (i0 : Nat) (L4 : Int32 → Int32 → Int32 → Prop) (x1 : Int32) (x2 : Int32) (x3 : Int32) : Prop :=
  (((σ.1 6 i0 0) ≤ x3) → (K x2)) ∧ ((¬ ((σ.1 6 i0 0) ≤ x3)) → (((x3 = x1) → (L4 x1 (x2 ||| 0) (x3 + 1))) ∧ ((¬ (x3 = x1)) → (xw_G_isHouse δ σ (fun r3 => ((r3 = 0) → (L4 x1 (x2 ||| 0) (x3 + 1))) ∧ ((¬ (r3 = 0)) → (xw_G_isHouse δ σ (fun r5 => ((r5 = 0) → (L4 x1 (x2 ||| 0) (x3 + 1))) ∧ ((¬ (r5 = 0)) → (xw_G_seesInto δ σ (fun r7 => ((r7 = 0) → (L4 x1 (x2 ||| 0) (x3 + 1))) ∧ ((¬ (r7 = 0)) → (L4 x1 (x2 ||| ((1 : Int32) <<< (x3 &&& 31))) (x3 + 1)))) i0 x3 x1))) i0 x1))) i0 x3))))
def xw_G_into_4 (δ : XSh) (σ : XSt) (K : Int32 → Prop) (i0 : Nat) : Nat → Int32 → Int32 → Int32 → Prop
  | 0 => fun _ _ _ => False
  | n + 1 => fun x1 x2 x3 => xw_G_into_4_b δ σ K i0 (xw_G_into_4 δ σ K i0 n) x1 x2 x3
def xw_G_into (δ : XSh) (σ : XSt) (K : Int32 → Prop) (i0 : Nat) (x1 : Int32) : Prop :=
  ∃ n, xw_G_into_4 δ σ K i0 n x1 0 0
def xw_G_seers_8_b (δ : XSh) (σ : XSt) (K : Int32 → Prop) (i0 : Nat) (L8 : Int32 → Int32 → Prop) (x2 : Int32) (x3 : Int32) : Prop :=
  (((σ.1 6 i0 0) ≤ x3) → (K x2)) ∧ ((¬ ((σ.1 6 i0 0) ≤ x3)) → (vp_in x3 8 ∧ ∃ o3, σ.2.2 8 i0 x3.toNatClampNeg = some o3 ∧ (xv_T_counts δ σ (fun r4 => ((r4 = 0) → (L8 (x2 &&& (((1 : Int32) <<< (x3 &&& 31)) ^^^ (-1))) (x3 + 1))) ∧ ((¬ (r4 = 0)) → (L8 (x2 &&& (-1)) (x3 + 1)))) o3)))
def xw_G_seers_8 (δ : XSh) (σ : XSt) (K : Int32 → Prop) (i0 : Nat) : Nat → Int32 → Int32 → Prop
  | 0 => fun _ _ => False
  | n + 1 => fun x2 x3 => xw_G_seers_8_b δ σ K i0 (xw_G_seers_8 δ σ K i0 n) x2 x3
def xw_G_seers (δ : XSh) (σ : XSt) (K : Int32 → Prop) (i0 : Nat) (x1 : Int32) : Prop :=
  xw_G_into δ σ (fun r1 => ∃ n, xw_G_seers_8 δ σ K i0 n r1 0) i0 x1
def xw_G_isRight (δ : XSh) (σ : XSt) (K : Int32 → Prop) (i0 : Nat) (x1 : Int32) : Prop :=
  xw_G_seers δ σ (fun r1 => xw_Jn_bitCount δ σ (fun r2 => vp_in x1 8 ∧ ∃ o4, σ.2.2 8 i0 x1.toNatClampNeg = some o4 ∧ (xv_T_wanted δ σ (fun r5 => ((¬ (r2 = r5)) → (K 0)) ∧ ((r2 = r5) → (K 1))) o4)) r1) i0 x1
def xw_G_right_4_b (δ : XSh) (σ : XSt) (K : Int32 → Prop) (i0 : Nat) (L4 : Int32 → Int32 → Prop) (x1 : Int32) (x2 : Int32) : Prop :=
  (((σ.1 6 i0 0) ≤ x2) → (K x1)) ∧ ((¬ ((σ.1 6 i0 0) ≤ x2)) → (xw_G_isHouse δ σ (fun r2 => ((r2 = 0) → (L4 (x1 ||| 0) (x2 + 1))) ∧ ((¬ (r2 = 0)) → (xw_G_isRight δ σ (fun r4 => ((r4 = 0) → (L4 (x1 ||| 0) (x2 + 1))) ∧ ((¬ (r4 = 0)) → (L4 (x1 ||| ((1 : Int32) <<< (x2 &&& 31))) (x2 + 1)))) i0 x2))) i0 x2))
def xw_G_right_4 (δ : XSh) (σ : XSt) (K : Int32 → Prop) (i0 : Nat) : Nat → Int32 → Int32 → Prop
  | 0 => fun _ _ => False
  | n + 1 => fun x1 x2 => xw_G_right_4_b δ σ K i0 (xw_G_right_4 δ σ K i0 n) x1 x2
def xw_G_right (δ : XSh) (σ : XSt) (K : Int32 → Prop) (i0 : Nat) : Prop :=
  ∃ n, xw_G_right_4 δ σ K i0 n 0 0
def xw_G_rights (δ : XSh) (σ : XSt) (K : Int32 → Prop) (i0 : Nat) : Prop :=
  xw_G_right δ σ (fun r1 => xw_Jn_bitCount δ σ (fun r2 => K r2) r1) i0
def xw_G_cost (δ : XSh) (σ : XSt) (K : Int32 → Prop) (i0 : Nat) (x1 : Int32) (x2 : Int32) : Prop :=
  xw_G_distance δ σ (fun r1 => vp_in x2 8 ∧ ∃ o3, σ.2.2 8 i0 x2.toNatClampNeg = some o3 ∧ (K (r1 + (σ.1 7 o3 3)))) i0 x1 x2
def xw_G_dearest_34 (δ : XSh) (σ : XSt) (K : Int32 → Prop) (i0 : Nat) (L11 : Int32 → Int32 → Int32 → Int32 → Prop) (x1 : Int32) (x2 : Int32) (x3 : Int32) (x4 : Int32) (t0 : Int32) : Prop :=
  ((t0 = 0) → (L11 x1 x2 x3 (x4 + 1))) ∧ ((¬ (t0 = 0)) → (((x3 = (-1)) → (L11 x1 x2 x4 (x4 + 1))) ∧ ((¬ (x3 = (-1))) → (xw_G_cost δ σ (fun r3 => xw_G_cost δ σ (fun r4 => ((r3 ≤ r4) → (L11 x1 x2 x3 (x4 + 1))) ∧ ((¬ (r3 ≤ r4)) → (L11 x1 x2 x4 (x4 + 1)))) i0 x3 x1) i0 x4 x1))))
def xw_G_dearest_11_b (δ : XSh) (σ : XSt) (K : Int32 → Prop) (i0 : Nat) (L11 : Int32 → Int32 → Int32 → Int32 → Prop) (x1 : Int32) (x2 : Int32) (x3 : Int32) (x4 : Int32) : Prop :=
  (((σ.1 6 i0 0) ≤ x4) → (K x3)) ∧ ((¬ ((σ.1 6 i0 0) ≤ x4)) → (((((x2 >>> (x4 &&& 31)) &&& 1) = 0) → (xw_G_dearest_34 δ σ K i0 L11 x1 x2 x3 x4 0)) ∧ ((¬ (((x2 >>> (x4 &&& 31)) &&& 1) = 0)) → (xw_G_dearest_34 δ σ K i0 L11 x1 x2 x3 x4 1))))
def xw_G_dearest_11 (δ : XSh) (σ : XSt) (K : Int32 → Prop) (i0 : Nat) : Nat → Int32 → Int32 → Int32 → Int32 → Prop
  | 0 => fun _ _ _ _ => False
  | n + 1 => fun x1 x2 x3 x4 => xw_G_dearest_11_b δ σ K i0 (xw_G_dearest_11 δ σ K i0 n) x1 x2 x3 x4
def xw_G_dearest (δ : XSh) (σ : XSt) (K : Int32 → Prop) (i0 : Nat) (x1 : Int32) : Prop :=
  xw_G_seers δ σ (fun r1 => ∃ n, xw_G_dearest_11 δ σ K i0 n x1 r1 (-1) 0) i0 x1
def xw_G_keeps (δ : XSh) (σ : XSt) (K : Int32 → Prop) (i0 : Nat) (x1 : Int32) : Prop :=
  vp_in x1 8 ∧ ∃ o2, σ.2.2 8 i0 x1.toNatClampNeg = some o2 ∧ (xv_T_wanted δ σ (fun r3 => ((¬ (r3 = 0)) → (xw_G_dearest δ σ (fun r5 => K r5) i0 x1)) ∧ ((r3 = 0) → (K (-1)))) o2)
def xw_G_canBe (δ : XSh) (σ : XSt) (K : Int32 → Prop) (i0 : Nat) (x1 : Int32) : Prop :=
  vp_in x1 8 ∧ ∃ o2, σ.2.2 8 i0 x1.toNatClampNeg = some o2 ∧ (xv_T_wanted δ σ (fun r3 => ((r3 = 0) → (K 1)) ∧ ((¬ (r3 = 0)) → (xw_G_seers δ σ (fun r5 => ((r5 = 0) → (K 0)) ∧ ((¬ (r5 = 0)) → (K 1))) i0 x1))) o2)
def xw_G_toShut (δ : XSh) (σ : XSt) (K : Int32 → Prop) (i0 : Nat) (x1 : Int32) : Prop :=
  xw_G_keeps δ σ (fun r1 => xw_G_seers δ σ (fun r2 => ((¬ (r1 = (-1))) → (K (r2 &&& (((1 : Int32) <<< (r1 &&& 31)) ^^^ (-1))))) ∧ ((r1 = (-1)) → (K (r2 &&& ((0 : Int32) ^^^ (-1)))))) i0 x1) i0 x1
def xw_G_shutters_4_b (δ : XSh) (σ : XSt) (K : Int32 → Prop) (i0 : Nat) (L4 : Int32 → Int32 → Prop) (x1 : Int32) (x2 : Int32) : Prop :=
  (((σ.1 6 i0 0) ≤ x2) → (K x1)) ∧ ((¬ ((σ.1 6 i0 0) ≤ x2)) → (vp_in x2 8 ∧ (xw_Jn_bitCount δ σ (fun r3 => L4 (x1 + r3) (x2 + 1)) (σ.1 10 i0 x2.toNatClampNeg))))
def xw_G_shutters_4 (δ : XSh) (σ : XSt) (K : Int32 → Prop) (i0 : Nat) : Nat → Int32 → Int32 → Prop
  | 0 => fun _ _ => False
  | n + 1 => fun x1 x2 => xw_G_shutters_4_b δ σ K i0 (xw_G_shutters_4 δ σ K i0 n) x1 x2
def xw_G_shutters (δ : XSh) (σ : XSt) (K : Int32 → Prop) (i0 : Nat) : Prop :=
  ∃ n, xw_G_shutters_4 δ σ K i0 n 0 0
def xw_G_draw (δ : XSh) (K : Int32 → XSt → Prop) (i0 : Nat) (x1 : Int32) (σ : XSt) : Prop :=
  ∀ σ1, σ1 = tI σ 6 i0 5 (((σ.1 6 i0 5) * 1103515245) + 12345) → ((¬ x1 = 0) ∧ (K ((((σ1.1 6 i0 5).toUInt32 >>> ((16 : Int32).toUInt32 &&& Int32.toUInt32 31)).toInt32) - (((σ1.1 6 i0 5).toUInt32 >>> ((16 : Int32).toUInt32 &&& Int32.toUInt32 31)).toInt32) / x1 * x1) σ1))
def xw_G_year_64 (δ : XSh) (K : Int32 → XSt → Prop) (i0 : Nat) (t0 : Int32) (z1 : Nat) (σ : XSt) : Prop :=
  (t0 = 0 ∨ t0 = 1) ∧ (∀ σ2, σ2 = tI σ 6 z1 1 t0 → (xw_G_houses δ σ2 (fun r3 => xw_Jn_bitCount δ σ2 (fun r4 => xw_G_rights δ σ2 (fun r5 => ∀ σ6, σ6 = tI σ2 6 i0 4 ((σ2.1 6 i0 4) + (r4 - r5)) → (K (r4 - r5) σ6)) i0) r3) i0))
def xw_G_year_2_b (δ : XSh) (K : Int32 → XSt → Prop) (i0 : Nat) (L2 : Int32 → XSt → Prop) (x1 : Int32) (σ : XSt) : Prop :=
  (((σ.1 6 i0 0) ≤ x1) → (((¬ ((σ.1 6 i0 1) = 0)) → (xw_G_year_64 δ K i0 0 i0 σ)) ∧ (((σ.1 6 i0 1) = 0) → (xw_G_year_64 δ K i0 1 i0 σ)))) ∧ ((¬ ((σ.1 6 i0 0) ≤ x1)) → (vp_in x1 8 ∧ ∃ o4, σ.2.2 8 i0 x1.toNatClampNeg = some o4 ∧ (xv_T_grows δ σ (fun r5 => ((r5 = 0) → (L2 (x1 + 1) σ)) ∧ ((¬ (r5 = 0)) → (vp_in x1 8 ∧ (xw_G_draw δ (fun r8 σ9 => ∀ r10, r10 = (if ((σ.1 9 i0 x1.toNatClampNeg) + r8) < (20 : Int32) then ((σ.1 9 i0 x1.toNatClampNeg) + r8) else (20 : Int32)) → (vp_in x1 8 ∧ (∀ σ12, σ12 = tI σ9 9 i0 x1.toNatClampNeg r10 → (L2 (x1 + 1) σ12)))) i0 3 σ)))) o4)))
def xw_G_year_2 (δ : XSh) (K : Int32 → XSt → Prop) (i0 : Nat) : Nat → Int32 → XSt → Prop
  | 0 => fun _ _ => False
  | n + 1 => fun x1 σ => xw_G_year_2_b δ K i0 (xw_G_year_2 δ K i0 n) x1 σ
def xw_G_year (δ : XSh) (K : Int32 → XSt → Prop) (i0 : Nat) (σ : XSt) : Prop :=
  ∃ n, xw_G_year_2 δ K i0 n 0 σ
def xw_G_take (δ : XSh) (K : Nat → XSt → Prop) (i0 : Nat) (i1 : Nat) (σ : XSt) : Prop :=
  ∀ σ1, σ1 = tI σ 6 i0 0 (σ.1 6 i1 0) → (((σ1.1 6 i1 1) = 0 ∨ (σ1.1 6 i1 1) = 1) ∧ (∀ σ3, σ3 = tI σ1 6 i0 1 (σ1.1 6 i1 1) → (∀ σ4, σ4 = tI σ3 6 i0 2 (σ3.1 6 i1 2) → (∀ σ5, σ5 = tI σ4 6 i0 3 (σ4.1 6 i1 3) → (∀ σ6, σ6 = tI σ5 6 i0 4 (σ5.1 6 i1 4) → (∀ σ7, σ7 = tI σ6 6 i0 5 (σ6.1 6 i1 5) → (Cpy (0 : Int32) (0 : Int32) (σ7.1 6 i0 0) 8 8 ∧ (∀ σ9, σ9 = tPa σ7 8 i0 (va_cpy (σ7.2.2 8 i1) (σ7.2.2 8 i0) (0 : Int32).toNatClampNeg (0 : Int32).toNatClampNeg (σ7.1 6 i0 0).toNatClampNeg) → (Cpy (0 : Int32) (0 : Int32) (σ9.1 6 i0 0) 8 8 ∧ (∀ σ11, σ11 = tIa σ9 9 i0 (va_cpy (σ9.1 9 i1) (σ9.1 9 i0) (0 : Int32).toNatClampNeg (0 : Int32).toNatClampNeg (σ9.1 6 i0 0).toNatClampNeg) → (Cpy (0 : Int32) (0 : Int32) (σ11.1 6 i0 0) 8 8 ∧ (∀ σ13, σ13 = tIa σ11 10 i0 (va_cpy (σ11.1 10 i1) (σ11.1 10 i0) (0 : Int32).toNatClampNeg (0 : Int32).toNatClampNeg (σ11.1 6 i0 0).toNatClampNeg) → (K i0 σ13)))))))))))))
