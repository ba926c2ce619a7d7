def tyR (n : Nat) : FieldType := if n = 12 then .byte else if n = 13 then .short else if n = 14 then .int else .long
def cpyR (δ : XSh) (σ : XSt) (x y : Nat) (sp dp n : Int32) : XSt := if δ.2.2.1 x = 15 then tJa σ 11 y (va_cpy (σ.2.1 11 x) (σ.2.1 11 y) sp.toNatClampNeg dp.toNatClampNeg n.toNatClampNeg) else tIa σ 11 y (va_cpy (σ.1 11 x) (σ.1 11 y) sp.toNatClampNeg dp.toNatClampNeg n.toNatClampNeg)
def fitR (δ : XSh) (σ : XSt) (x : Nat) (sp n : Int32) : Prop := δ.2.2.1 x < 15 → ∀ i, i < n.toNatClampNeg → fits (tyR (δ.2.2.1 x)) (.int (σ.1 11 x (sp.toNatClampNeg + i))) = true
