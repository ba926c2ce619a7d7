def xw_S_in (δ : XSh) (σ : XSt) (K : Int32 → Prop) (x0 : Int64) (x2 : Int64) (x4 : Int64) : Prop :=
  (((lg_cmp x0 x2) < 0) → (K 0)) ∧ ((¬ ((lg_cmp x0 x2) < 0)) → (((0 < (lg_cmp x0 x4)) → (K 0)) ∧ ((¬ (0 < (lg_cmp x0 x4))) → (K 1))))
def xw_Jn_bitCount (δ : XSh) (σ : XSt) (K : Int32 → Prop) (x0 : Int32) : Prop :=
  ∀ r1, r1 = x0 - (((x0.toUInt32 >>> ((1 : Int32).toUInt32 &&& Int32.toUInt32 31)).toInt32) &&& 1431655765) → (∀ r2, r2 = (r1 &&& 858993459) + (((r1.toUInt32 >>> ((2 : Int32).toUInt32 &&& Int32.toUInt32 31)).toInt32) &&& 858993459) → (∀ r3, r3 = (r2 + ((r2.toUInt32 >>> ((4 : Int32).toUInt32 &&& Int32.toUInt32 31)).toInt32)) &&& 252645135 → (∀ r4, r4 = r3 + ((r3.toUInt32 >>> ((8 : Int32).toUInt32 &&& Int32.toUInt32 31)).toInt32) → (∀ r5, r5 = r4 + ((r4.toUInt32 >>> ((16 : Int32).toUInt32 &&& Int32.toUInt32 31)).toInt32) → (K (r5 &&& 63))))))
def xw_Jn_numberOfTrailingZeros_62 (δ : XSh) (σ : XSt) (K : Int32 → Prop) (x0 : Int32) (x1 : Int32) : Prop :=
  ((x0 ≤ 4) → (K (x1 + ((x0.toUInt32 >>> ((1 : Int32).toUInt32 &&& Int32.toUInt32 31)).toInt32)))) ∧ ((¬ (x0 ≤ 4)) → (∀ r2, r2 = (x0.toUInt32 >>> ((2 : Int32).toUInt32 &&& Int32.toUInt32 31)).toInt32 → (K ((x1 + 2) + ((r2.toUInt32 >>> ((1 : Int32).toUInt32 &&& Int32.toUInt32 31)).toInt32)))))
def xw_Jn_numberOfTrailingZeros_49 (δ : XSh) (σ : XSt) (K : Int32 → Prop) (x0 : Int32) (x1 : Int32) : Prop :=
  ((x0 ≤ 16) → (xw_Jn_numberOfTrailingZeros_62 δ σ K x0 x1)) ∧ ((¬ (x0 ≤ 16)) → (∀ r2, r2 = (x0.toUInt32 >>> ((4 : Int32).toUInt32 &&& Int32.toUInt32 31)).toInt32 → (xw_Jn_numberOfTrailingZeros_62 δ σ K r2 (x1 + 4))))
def xw_Jn_numberOfTrailingZeros_34 (δ : XSh) (σ : XSt) (K : Int32 → Prop) (x0 : Int32) (x1 : Int32) : Prop :=
  ((x0 ≤ 256) → (xw_Jn_numberOfTrailingZeros_49 δ σ K x0 x1)) ∧ ((¬ (x0 ≤ 256)) → (∀ r2, r2 = (x0.toUInt32 >>> ((8 : Int32).toUInt32 &&& Int32.toUInt32 31)).toInt32 → (xw_Jn_numberOfTrailingZeros_49 δ σ K r2 (x1 + 8))))
def xw_Jn_numberOfTrailingZeros (δ : XSh) (σ : XSt) (K : Int32 → Prop) (x0 : Int32) : Prop :=
  ((0 < ((x0 ^^^ (-1)) &&& (x0 - 1))) → (((((x0 ^^^ (-1)) &&& (x0 - 1)) ≤ 65536) → (xw_Jn_numberOfTrailingZeros_34 δ σ K ((x0 ^^^ (-1)) &&& (x0 - 1)) 1)) ∧ ((¬ (((x0 ^^^ (-1)) &&& (x0 - 1)) ≤ 65536)) → (∀ r3, r3 = (((x0 ^^^ (-1)) &&& (x0 - 1)).toUInt32 >>> ((16 : Int32).toUInt32 &&& Int32.toUInt32 31)).toInt32 → (xw_Jn_numberOfTrailingZeros_34 δ σ K r3 (1 + 16)))))) ∧ ((¬ (0 < ((x0 ^^^ (-1)) &&& (x0 - 1)))) → (K (((x0 ^^^ (-1)) &&& (x0 - 1)) &&& 32)))
def xw_Tr_runs_19 (δ : XSh) (K : XSt → Prop) (i0 : Nat) (σ : XSt) : Prop :=
  ∀ σ1, σ1 = tI σ 3 i0 1 ((σ.1 3 i0 1) + 1) → (K σ1)
def xw_Tr_runs (δ : XSh) (K : XSt → Prop) (i0 : Nat) (x1 : Int32) (σ : XSt) : Prop :=
  ((20 ≤ (σ.1 3 i0 1)) → (xw_Tr_runs_19 δ K i0 σ)) ∧ ((¬ (20 ≤ (σ.1 3 i0 1))) → (vp_in (σ.1 3 i0 1) 20 ∧ (∀ σ3, σ3 = tI σ 4 i0 (σ.1 3 i0 1).toNatClampNeg x1 → (xw_Tr_runs_19 δ K i0 σ3))))
def xw_T_kind (δ : XSh) (σ : XSt) (K : Int32 → Prop) (i0 : Nat) : Prop :=
  K 0
def xw_Ho_kind (δ : XSh) (σ : XSt) (K : Int32 → Prop) (i0 : Nat) : Prop :=
  K 1
def xw_Te_kind (δ : XSh) (σ : XSt) (K : Int32 → Prop) (i0 : Nat) : Prop :=
  K 2
def xw_To_kind (δ : XSh) (σ : XSt) (K : Int32 → Prop) (i0 : Nat) : Prop :=
  K 3
def xw_Sy_kind (δ : XSh) (σ : XSt) (K : Int32 → Prop) (i0 : Nat) : Prop :=
  K 4
def xw_Bl_kind (δ : XSh) (σ : XSt) (K : Int32 → Prop) (i0 : Nat) : Prop :=
  K 5
def xw_Fi_kind (δ : XSh) (σ : XSt) (K : Int32 → Prop) (i0 : Nat) : Prop :=
  K 6
def xv_T_kind (δ : XSh) (σ : XSt) (K : Int32 → Prop) (i0 : Nat) : Prop :=
  (δ.2.2.1 i0 = 5 → xw_T_kind δ σ K i0) ∧ (δ.2.2.1 i0 = 6 → xw_Ho_kind δ σ K i0) ∧ (δ.2.2.1 i0 = 7 → xw_Te_kind δ σ K i0) ∧ (δ.2.2.1 i0 = 8 → xw_To_kind δ σ K i0) ∧ (δ.2.2.1 i0 = 9 → xw_Sy_kind δ σ K i0) ∧ (δ.2.2.1 i0 = 10 → xw_Bl_kind δ σ K i0) ∧ (δ.2.2.1 i0 = 11 → xw_Fi_kind δ σ K i0)
def xw_T_tall (δ : XSh) (σ : XSt) (K : Int32 → Prop) (i0 : Nat) (x1 : Int32) (x2 : Int32) : Prop :=
  K x1
def xw_Te_tall (δ : XSh) (σ : XSt) (K : Int32 → Prop) (i0 : Nat) (x1 : Int32) (x2 : Int32) : Prop :=
  ((x2 = 0) → (K 0)) ∧ ((¬ (x2 = 0)) → (xw_T_tall δ σ (fun r2 => K (r2 + (σ.1 7 i0 3))) i0 x1 1))
def xw_Fi_tall (δ : XSh) (σ : XSt) (K : Int32 → Prop) (i0 : Nat) (x1 : Int32) (x2 : Int32) : Prop :=
  xw_Te_tall δ σ (fun r1 => K r1) i0 x1 1
def xv_T_tall (δ : XSh) (σ : XSt) (K : Int32 → Prop) (i0 : Nat) (x1 : Int32) (x2 : Int32) : Prop :=
  (δ.2.2.1 i0 = 5 → xw_T_tall δ σ K i0 x1 x2) ∧ (δ.2.2.1 i0 = 6 → xw_T_tall δ σ K i0 x1 x2) ∧ (δ.2.2.1 i0 = 7 → xw_Te_tall δ σ K i0 x1 x2) ∧ (δ.2.2.1 i0 = 8 → xw_T_tall δ σ K i0 x1 x2) ∧ (δ.2.2.1 i0 = 9 → xw_T_tall δ σ K i0 x1 x2) ∧ (δ.2.2.1 i0 = 10 → xw_T_tall δ σ K i0 x1 x2) ∧ (δ.2.2.1 i0 = 11 → xw_Fi_tall δ σ K i0 x1 x2)
def xw_T_isHouse (δ : XSh) (σ : XSt) (K : Int32 → Prop) (i0 : Nat) : Prop :=
  K 0
def xw_Ho_isHouse (δ : XSh) (σ : XSt) (K : Int32 → Prop) (i0 : Nat) : Prop :=
  K 1
def xv_T_isHouse (δ : XSh) (σ : XSt) (K : Int32 → Prop) (i0 : Nat) : Prop :=
  (δ.2.2.1 i0 = 5 → xw_T_isHouse δ σ K i0) ∧ (δ.2.2.1 i0 = 6 → xw_Ho_isHouse δ σ K i0) ∧ (δ.2.2.1 i0 = 7 → xw_T_isHouse δ σ K i0) ∧ (δ.2.2.1 i0 = 8 → xw_Ho_isHouse δ σ K i0) ∧ (δ.2.2.1 i0 = 9 → xw_Ho_isHouse δ σ K i0) ∧ (δ.2.2.1 i0 = 10 → xw_Ho_isHouse δ σ K i0) ∧ (δ.2.2.1 i0 = 11 → xw_T_isHouse δ σ K i0)
def xw_T_grows (δ : XSh) (σ : XSt) (K : Int32 → Prop) (i0 : Nat) : Prop :=
  K 0
def xw_Te_grows (δ : XSh) (σ : XSt) (K : Int32 → Prop) (i0 : Nat) : Prop :=
  K 1
def xv_T_grows (δ : XSh) (σ : XSt) (K : Int32 → Prop) (i0 : Nat) : Prop :=
  (δ.2.2.1 i0 = 5 → xw_T_grows δ σ K i0) ∧ (δ.2.2.1 i0 = 6 → xw_T_grows δ σ K i0) ∧ (δ.2.2.1 i0 = 7 → xw_Te_grows δ σ K i0) ∧ (δ.2.2.1 i0 = 8 → xw_T_grows δ σ K i0) ∧ (δ.2.2.1 i0 = 9 → xw_T_grows δ σ K i0) ∧ (δ.2.2.1 i0 = 10 → xw_T_grows δ σ K i0) ∧ (δ.2.2.1 i0 = 11 → xw_Te_grows δ σ K i0)
def xw_T_eyes (δ : XSh) (σ : XSt) (K : Int32 → Prop) (i0 : Nat) (x1 : Int32) : Prop :=
  K (-1)
def xw_Ho_eyes (δ : XSh) (σ : XSt) (K : Int32 → Prop) (i0 : Nat) (x1 : Int32) : Prop :=
  K x1
def xw_To_eyes (δ : XSh) (σ : XSt) (K : Int32 → Prop) (i0 : Nat) (x1 : Int32) : Prop :=
  xw_Ho_eyes δ σ (fun r1 => K (r1 + (σ.1 7 i0 3))) i0 x1
def xw_Bl_eyes (δ : XSh) (σ : XSt) (K : Int32 → Prop) (i0 : Nat) (x1 : Int32) : Prop :=
  K (-1)
def xv_T_eyes (δ : XSh) (σ : XSt) (K : Int32 → Prop) (i0 : Nat) (x1 : Int32) : Prop :=
  (δ.2.2.1 i0 = 5 → xw_T_eyes δ σ K i0 x1) ∧ (δ.2.2.1 i0 = 6 → xw_Ho_eyes δ σ K i0 x1) ∧ (δ.2.2.1 i0 = 7 → xw_T_eyes δ σ K i0 x1) ∧ (δ.2.2.1 i0 = 8 → xw_To_eyes δ σ K i0 x1) ∧ (δ.2.2.1 i0 = 9 → xw_Ho_eyes δ σ K i0 x1) ∧ (δ.2.2.1 i0 = 10 → xw_Bl_eyes δ σ K i0 x1) ∧ (δ.2.2.1 i0 = 11 → xw_T_eyes δ σ K i0 x1)
def xw_T_counts (δ : XSh) (σ : XSt) (K : Int32 → Prop) (i0 : Nat) : Prop :=
  K 1
def xw_To_counts (δ : XSh) (σ : XSt) (K : Int32 → Prop) (i0 : Nat) : Prop :=
  K 0
def xv_T_counts (δ : XSh) (σ : XSt) (K : Int32 → Prop) (i0 : Nat) : Prop :=
  (δ.2.2.1 i0 = 5 → xw_T_counts δ σ K i0) ∧ (δ.2.2.1 i0 = 6 → xw_T_counts δ σ K i0) ∧ (δ.2.2.1 i0 = 7 → xw_T_counts δ σ K i0) ∧ (δ.2.2.1 i0 = 8 → xw_To_counts δ σ K i0) ∧ (δ.2.2.1 i0 = 9 → xw_T_counts δ σ K i0) ∧ (δ.2.2.1 i0 = 10 → xw_T_counts δ σ K i0) ∧ (δ.2.2.1 i0 = 11 → xw_T_counts δ σ K i0)
def xw_T_wanted (δ : XSh) (σ : XSt) (K : Int32 → Prop) (i0 : Nat) : Prop :=
  K 1
def xw_Sy_wanted (δ : XSh) (σ : XSt) (K : Int32 → Prop) (i0 : Nat) : Prop :=
  xw_T_wanted δ σ (fun r1 => K (r1 - 1)) i0
def xv_T_wanted (δ : XSh) (σ : XSt) (K : Int32 → Prop) (i0 : Nat) : Prop :=
  (δ.2.2.1 i0 = 5 → xw_T_wanted δ σ K i0) ∧ (δ.2.2.1 i0 = 6 → xw_T_wanted δ σ K i0) ∧ (δ.2.2.1 i0 = 7 → xw_T_wanted δ σ K i0) ∧ (δ.2.2.1 i0 = 8 → xw_T_wanted δ σ K i0) ∧ (δ.2.2.1 i0 = 9 → xw_Sy_wanted δ σ K i0) ∧ (δ.2.2.1 i0 = 10 → xw_T_wanted δ σ K i0) ∧ (δ.2.2.1 i0 = 11 → xw_T_wanted δ σ K i0)
def xw_T_standing (δ : XSh) (K : Int32 → XSt → Prop) (i0 : Nat) (i2 : Nat) (x1 : Int32) (σ : XSt) : Prop :=
  xw_Tr_runs δ (fun σ1 => K (x1 + (σ1.1 7 i0 0)) σ1) i2 10 σ
def xw_Ho_standing (δ : XSh) (K : Int32 → XSt → Prop) (i0 : Nat) (i2 : Nat) (x1 : Int32) (σ : XSt) : Prop :=
  xw_Tr_runs δ (fun σ1 => xw_T_standing δ (fun r2 σ3 => K (r2 + (σ3.1 7 i0 3)) σ3) i0 i2 x1 σ1) i2 20 σ
def xw_Sy_standing (δ : XSh) (K : Int32 → XSt → Prop) (i0 : Nat) (i2 : Nat) (x1 : Int32) (σ : XSt) : Prop :=
  xw_Tr_runs δ (fun σ1 => xw_Ho_standing δ (fun r2 σ3 => K (r2 - (σ3.1 7 i0 0)) σ3) i0 i2 x1 σ1) i2 51 σ
def xw_Fi_standing (δ : XSh) (K : Int32 → XSt → Prop) (i0 : Nat) (i2 : Nat) (x1 : Int32) (σ : XSt) : Prop :=
  xw_Tr_runs δ (fun σ1 => xw_T_standing δ (fun r2 σ3 => K (r2 * 2) σ3) i0 i2 x1 σ1) i2 70 σ
def xv_T_standing (δ : XSh) (K : Int32 → XSt → Prop) (i0 : Nat) (i2 : Nat) (x1 : Int32) (σ : XSt) : Prop :=
  (δ.2.2.1 i0 = 5 → xw_T_standing δ K i0 i2 x1 σ) ∧ (δ.2.2.1 i0 = 6 → xw_Ho_standing δ K i0 i2 x1 σ) ∧ (δ.2.2.1 i0 = 7 → xw_T_standing δ K i0 i2 x1 σ) ∧ (δ.2.2.1 i0 = 8 → xw_Ho_standing δ K i0 i2 x1 σ) ∧ (δ.2.2.1 i0 = 9 → xw_Sy_standing δ K i0 i2 x1 σ) ∧ (δ.2.2.1 i0 = 10 → xw_Ho_standing δ K i0 i2 x1 σ) ∧ (δ.2.2.1 i0 = 11 → xw_Fi_standing δ K i0 i2 x1 σ)
def xw_T_looking (δ : XSh) (K : Int32 → XSt → Prop) (i0 : Nat) (i2 : Nat) (x1 : Int32) (σ : XSt) : Prop :=
  xw_Tr_runs δ (fun σ1 => xv_T_standing δ (fun r2 σ3 => K (r2 * 2) σ3) i0 i2 x1 σ1) i2 11 σ
def xw_Te_looking (δ : XSh) (K : Int32 → XSt → Prop) (i0 : Nat) (i2 : Nat) (x1 : Int32) (σ : XSt) : Prop :=
  xw_Tr_runs δ (fun σ1 => xw_T_looking δ (fun r2 σ3 => K (r2 * 3) σ3) i0 i2 x1 σ1) i2 30 σ
def xw_To_looking (δ : XSh) (K : Int32 → XSt → Prop) (i0 : Nat) (i2 : Nat) (x1 : Int32) (σ : XSt) : Prop :=
  xw_Tr_runs δ (fun σ1 => xw_T_looking δ (fun r2 σ3 => K r2 σ3) i0 i2 (x1 + 1) σ1) i2 40 σ
def xw_Fi_looking (δ : XSh) (K : Int32 → XSt → Prop) (i0 : Nat) (i2 : Nat) (x1 : Int32) (σ : XSt) : Prop :=
  xw_Tr_runs δ (fun σ1 => xw_Te_looking δ (fun r2 σ3 => K r2 σ3) i0 i2 (x1 - (σ1.1 7 i0 3)) σ1) i2 71 σ
def xv_T_looking (δ : XSh) (K : Int32 → XSt → Prop) (i0 : Nat) (i2 : Nat) (x1 : Int32) (σ : XSt) : Prop :=
  (δ.2.2.1 i0 = 5 → xw_T_looking δ K i0 i2 x1 σ) ∧ (δ.2.2.1 i0 = 6 → xw_T_looking δ K i0 i2 x1 σ) ∧ (δ.2.2.1 i0 = 7 → xw_Te_looking δ K i0 i2 x1 σ) ∧ (δ.2.2.1 i0 = 8 → xw_To_looking δ K i0 i2 x1 σ) ∧ (δ.2.2.1 i0 = 9 → xw_T_looking δ K i0 i2 x1 σ) ∧ (δ.2.2.1 i0 = 10 → xw_T_looking δ K i0 i2 x1 σ) ∧ (δ.2.2.1 i0 = 11 → xw_Fi_looking δ K i0 i2 x1 σ)
def xw_T_hiding (δ : XSh) (K : Int32 → XSt → Prop) (i0 : Nat) (i2 : Nat) (x1 : Int32) (σ : XSt) : Prop :=
  xw_Tr_runs δ (fun σ1 => xv_T_looking δ (fun r2 σ3 => xv_T_standing δ (fun r4 σ5 => K (r2 ^^^ r4) σ5) i0 i2 (x1 - (σ3.1 7 i0 3)) σ3) i0 i2 x1 σ1) i2 12 σ
def xw_Sy_hiding (δ : XSh) (K : Int32 → XSt → Prop) (i0 : Nat) (i2 : Nat) (x1 : Int32) (σ : XSt) : Prop :=
  xw_Tr_runs δ (fun σ1 => xw_T_hiding δ (fun r2 σ3 => K (-r2) σ3) i0 i2 x1 σ1) i2 50 σ
def xw_Bl_hiding (δ : XSh) (K : Int32 → XSt → Prop) (i0 : Nat) (i2 : Nat) (x1 : Int32) (σ : XSt) : Prop :=
  xw_Tr_runs δ (fun σ1 => xw_T_hiding δ (fun r2 σ3 => K (r2 ^^^ 5) σ3) i0 i2 x1 σ1) i2 60 σ
def xv_T_hiding (δ : XSh) (K : Int32 → XSt → Prop) (i0 : Nat) (i2 : Nat) (x1 : Int32) (σ : XSt) : Prop :=
  (δ.2.2.1 i0 = 5 → xw_T_hiding δ K i0 i2 x1 σ) ∧ (δ.2.2.1 i0 = 6 → xw_T_hiding δ K i0 i2 x1 σ) ∧ (δ.2.2.1 i0 = 7 → xw_T_hiding δ K i0 i2 x1 σ) ∧ (δ.2.2.1 i0 = 8 → xw_T_hiding δ K i0 i2 x1 σ) ∧ (δ.2.2.1 i0 = 9 → xw_Sy_hiding δ K i0 i2 x1 σ) ∧ (δ.2.2.1 i0 = 10 → xw_Bl_hiding δ K i0 i2 x1 σ) ∧ (δ.2.2.1 i0 = 11 → xw_T_hiding δ K i0 i2 x1 σ)
def xw_Bl_sight (δ : XSh) (σ : XSt) (K : Int32 → Prop) (i0 : Nat) : Prop :=
  K 0
def xw_Fi_leaves (δ : XSh) (σ : XSt) (K : Int32 → Prop) (i0 : Nat) : Prop :=
  K (σ.1 7 i0 3)
