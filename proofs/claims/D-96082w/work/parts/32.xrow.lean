def xw_By_sort (δ : XSh) (σ : XSt) (K : Int32 → Prop) (i0 : Nat) : Prop :=
  K 0
def xw_So_sort (δ : XSh) (σ : XSt) (K : Int32 → Prop) (i0 : Nat) : Prop :=
  K 1
def xw_In_sort (δ : XSh) (σ : XSt) (K : Int32 → Prop) (i0 : Nat) : Prop :=
  K 2
def xw_Lo_sort (δ : XSh) (σ : XSt) (K : Int32 → Prop) (i0 : Nat) : Prop :=
  K 3
def xv_R_sort (δ : XSh) (σ : XSt) (K : Int32 → Prop) (i0 : Nat) : Prop :=
  (δ.2.2.1 i0 = 12 → xw_By_sort δ σ K i0) ∧ (δ.2.2.1 i0 = 13 → xw_So_sort δ σ K i0) ∧ (δ.2.2.1 i0 = 14 → xw_In_sort δ σ K i0) ∧ (δ.2.2.1 i0 = 15 → xw_Lo_sort δ σ K i0)
def xw_By_length (δ : XSh) (σ : XSt) (K : Int32 → Prop) (i0 : Nat) : Prop :=
  K (nI (δ.2.2.2 i0))
def xw_So_length (δ : XSh) (σ : XSt) (K : Int32 → Prop) (i0 : Nat) : Prop :=
  K (nI (δ.2.2.2 i0))
def xw_In_length (δ : XSh) (σ : XSt) (K : Int32 → Prop) (i0 : Nat) : Prop :=
  K (nI (δ.2.2.2 i0))
def xw_Lo_length (δ : XSh) (σ : XSt) (K : Int32 → Prop) (i0 : Nat) : Prop :=
  K (nI (δ.2.2.2 i0))
def xv_R_length (δ : XSh) (σ : XSt) (K : Int32 → Prop) (i0 : Nat) : Prop :=
  (δ.2.2.1 i0 = 12 → xw_By_length δ σ K i0) ∧ (δ.2.2.1 i0 = 13 → xw_So_length δ σ K i0) ∧ (δ.2.2.1 i0 = 14 → xw_In_length δ σ K i0) ∧ (δ.2.2.1 i0 = 15 → xw_Lo_length δ σ K i0)
def xw_By_get (δ : XSh) (σ : XSt) (K : Int64 → Prop) (i0 : Nat) (x1 : Int32) : Prop :=
  vp_in x1 (δ.2.2.2 i0) ∧ (K ((σ.1 11 i0 x1.toNatClampNeg).toInt64))
def xw_So_get (δ : XSh) (σ : XSt) (K : Int64 → Prop) (i0 : Nat) (x1 : Int32) : Prop :=
  vp_in x1 (δ.2.2.2 i0) ∧ (K ((σ.1 11 i0 x1.toNatClampNeg).toInt64))
def xw_In_get (δ : XSh) (σ : XSt) (K : Int64 → Prop) (i0 : Nat) (x1 : Int32) : Prop :=
  vp_in x1 (δ.2.2.2 i0) ∧ (K ((σ.1 11 i0 x1.toNatClampNeg).toInt64))
def xw_Lo_get (δ : XSh) (σ : XSt) (K : Int64 → Prop) (i0 : Nat) (x1 : Int32) : Prop :=
  vp_in x1 (δ.2.2.2 i0) ∧ (K (σ.2.1 11 i0 x1.toNatClampNeg))
def xv_R_get (δ : XSh) (σ : XSt) (K : Int64 → Prop) (i0 : Nat) (x1 : Int32) : Prop :=
  (δ.2.2.1 i0 = 12 → xw_By_get δ σ K i0 x1) ∧ (δ.2.2.1 i0 = 13 → xw_So_get δ σ K i0 x1) ∧ (δ.2.2.1 i0 = 14 → xw_In_get δ σ K i0 x1) ∧ (δ.2.2.1 i0 = 15 → xw_Lo_get δ σ K i0 x1)
def xw_By_held (δ : XSh) (σ : XSt) (K : Prop) (i0 : Nat) : Prop :=
  K
def xw_So_held (δ : XSh) (σ : XSt) (K : Prop) (i0 : Nat) : Prop :=
  K
def xw_In_held (δ : XSh) (σ : XSt) (K : Prop) (i0 : Nat) : Prop :=
  K
def xw_Lo_held (δ : XSh) (σ : XSt) (K : Prop) (i0 : Nat) : Prop :=
  K
def xv_R_held (δ : XSh) (σ : XSt) (K : Prop) (i0 : Nat) : Prop :=
  (δ.2.2.1 i0 = 12 → xw_By_held δ σ K i0) ∧ (δ.2.2.1 i0 = 13 → xw_So_held δ σ K i0) ∧ (δ.2.2.1 i0 = 14 → xw_In_held δ σ K i0) ∧ (δ.2.2.1 i0 = 15 → xw_Lo_held δ σ K i0)
def xw_Ro_asInt (δ : XSh) (σ : XSt) (K : Int32 → Prop) (i0 : Nat) (x1 : Int32) : Prop :=
  xv_R_get δ σ (fun r1 => K r1.toInt32) i0 x1
def xv_R_asInt (δ : XSh) (σ : XSt) (K : Int32 → Prop) (i0 : Nat) (x1 : Int32) : Prop :=
  xw_Ro_asInt δ σ K i0 x1
def xw_By_put (K : XSh → XSt → Prop) (X : XSh → XSt → Prop) (i0 : Nat) (x1 : Int32) (x2 : Int64) (δ : XSh) (σ : XSt) : Prop :=
  ((vp_in x1 (δ.2.2.2 i0)) → (∀ σ2, σ2 = tI σ 11 i0 x1.toNatClampNeg (vp_nar .byte x2.toInt32.toInt8.toInt32) → (K δ σ2))) ∧ ((¬ vp_in x1 (δ.2.2.2 i0)) → (δ.2.2.2 i0 < 2147483648 ∧ (X δ σ)))
def xw_So_put (K : XSh → XSt → Prop) (X : XSh → XSt → Prop) (i0 : Nat) (x1 : Int32) (x2 : Int64) (δ : XSh) (σ : XSt) : Prop :=
  ((vp_in x1 (δ.2.2.2 i0)) → (∀ σ2, σ2 = tI σ 11 i0 x1.toNatClampNeg (vp_nar .short x2.toInt32.toInt16.toInt32) → (K δ σ2))) ∧ ((¬ vp_in x1 (δ.2.2.2 i0)) → (δ.2.2.2 i0 < 2147483648 ∧ (X δ σ)))
def xw_In_put (K : XSh → XSt → Prop) (X : XSh → XSt → Prop) (i0 : Nat) (x1 : Int32) (x2 : Int64) (δ : XSh) (σ : XSt) : Prop :=
  ((vp_in x1 (δ.2.2.2 i0)) → (∀ σ2, σ2 = tI σ 11 i0 x1.toNatClampNeg x2.toInt32 → (K δ σ2))) ∧ ((¬ vp_in x1 (δ.2.2.2 i0)) → (δ.2.2.2 i0 < 2147483648 ∧ (X δ σ)))
def xw_Lo_put (K : XSh → XSt → Prop) (X : XSh → XSt → Prop) (i0 : Nat) (x1 : Int32) (x2 : Int64) (δ : XSh) (σ : XSt) : Prop :=
  ((vp_in x1 (δ.2.2.2 i0)) → (∀ σ2, σ2 = tJ σ 11 i0 x1.toNatClampNeg x2 → (K δ σ2))) ∧ ((¬ vp_in x1 (δ.2.2.2 i0)) → (δ.2.2.2 i0 < 2147483648 ∧ (X δ σ)))
def xv_R_put (K : XSh → XSt → Prop) (X : XSh → XSt → Prop) (i0 : Nat) (x1 : Int32) (x2 : Int64) (δ : XSh) (σ : XSt) : Prop :=
  (δ.2.2.1 i0 = 12 → xw_By_put K X i0 x1 x2 δ σ) ∧ (δ.2.2.1 i0 = 13 → xw_So_put K X i0 x1 x2 δ σ) ∧ (δ.2.2.1 i0 = 14 → xw_In_put K X i0 x1 x2 δ σ) ∧ (δ.2.2.1 i0 = 15 → xw_Lo_put K X i0 x1 x2 δ σ)
def xw_By_getX (K : Int64 → XSh → XSt → Prop) (X : XSh → XSt → Prop) (i0 : Nat) (x1 : Int32) (δ : XSh) (σ : XSt) : Prop :=
  ((vp_in x1 (δ.2.2.2 i0)) → (K ((σ.1 11 i0 x1.toNatClampNeg).toInt64) δ σ)) ∧ ((¬ vp_in x1 (δ.2.2.2 i0)) → (δ.2.2.2 i0 < 2147483648 ∧ (X δ σ)))
def xw_So_getX (K : Int64 → XSh → XSt → Prop) (X : XSh → XSt → Prop) (i0 : Nat) (x1 : Int32) (δ : XSh) (σ : XSt) : Prop :=
  ((vp_in x1 (δ.2.2.2 i0)) → (K ((σ.1 11 i0 x1.toNatClampNeg).toInt64) δ σ)) ∧ ((¬ vp_in x1 (δ.2.2.2 i0)) → (δ.2.2.2 i0 < 2147483648 ∧ (X δ σ)))
def xw_In_getX (K : Int64 → XSh → XSt → Prop) (X : XSh → XSt → Prop) (i0 : Nat) (x1 : Int32) (δ : XSh) (σ : XSt) : Prop :=
  ((vp_in x1 (δ.2.2.2 i0)) → (K ((σ.1 11 i0 x1.toNatClampNeg).toInt64) δ σ)) ∧ ((¬ vp_in x1 (δ.2.2.2 i0)) → (δ.2.2.2 i0 < 2147483648 ∧ (X δ σ)))
def xw_Lo_getX (K : Int64 → XSh → XSt → Prop) (X : XSh → XSt → Prop) (i0 : Nat) (x1 : Int32) (δ : XSh) (σ : XSt) : Prop :=
  ((vp_in x1 (δ.2.2.2 i0)) → (K (σ.2.1 11 i0 x1.toNatClampNeg) δ σ)) ∧ ((¬ vp_in x1 (δ.2.2.2 i0)) → (δ.2.2.2 i0 < 2147483648 ∧ (X δ σ)))
def xv_R_getX (K : Int64 → XSh → XSt → Prop) (X : XSh → XSt → Prop) (i0 : Nat) (x1 : Int32) (δ : XSh) (σ : XSt) : Prop :=
  (δ.2.2.1 i0 = 12 → xw_By_getX K X i0 x1 δ σ) ∧ (δ.2.2.1 i0 = 13 → xw_So_getX K X i0 x1 δ σ) ∧ (δ.2.2.1 i0 = 14 → xw_In_getX K X i0 x1 δ σ) ∧ (δ.2.2.1 i0 = 15 → xw_Lo_getX K X i0 x1 δ σ)
