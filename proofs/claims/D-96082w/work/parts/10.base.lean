/-! BASE: worlds keyed by roles; the classes and array classes of the whole run -/
abbrev clA : List vw_C := [(RX4, TX4, 38), (RX0, TX0, 7), (RX1, TX1, 2), (RX2, TX2, 9), (RX3, TX3, 1), (RX11, TX11, 4), (RX12, TX12, 4), (RX13, TX13, 4), (RX14, TX14, 4), (RX15, TX15, 4), (RX16, TX16, 4), (RX17, TX17, 4), (RX7, TX7, 1), (RX8, TX8, 1), (RX9, TX9, 1), (RX10, TX10, 1), (RX18, TX18, 4), (RX5, TX5, 7), (RX19, TX19, 7)]
abbrev GA : Type := va_G × (Nat → ClassId)
abbrev tysA (Γ : GA) : List (ClassId × FieldType) := [(Γ.2 0, .int), (Γ.2 1, .long), (Γ.2 2, .byte), (Γ.2 3, .short), (Γ.2 4, .object "SeenByOne$Thing"), (Γ.2 5, .object "SeenByOne$Shelf")]
def KA (Γ : GA) (U : State) : Prop := va_K Γ.1 clA (tysA Γ) U
theorem KA.moved {Γ : GA} {u U : State} (hvm : u.vm.Alike U.vm) (h : KA Γ u) : KA Γ U := va_K.moved hvm h
/-- the cells of the roles dm lie apart, at ad, and may be written -/
def gD {ρ : Type} (dm : List ρ) (ad : ρ → Nat) (A : Nat → Prop) : Prop := (∀ (i j : Nat) (κ κ' : ρ), dm[i]? = some κ → dm[j]? = some κ' → ad κ = ad κ' → i = j) ∧ ∀ κ ∈ dm, A (ad κ)
theorem gD.va {ρ : Type} {dm : List ρ} {ad : ρ → Nat} {A : Nat → Prop} (h : gD dm ad A) {g : ρ → Nat × va_E} (hg : ∀ κ, (g κ).1 = ad κ) : va_D A (dm.map g) := by
  refine ⟨fun i j p q hi hj e => ?_, fun k q hk => ?_⟩
  · rw [List.getElem?_map] at hi hj
    cases hi' : dm[i]? with
    | none => rw [hi'] at hi; cases hi
    | some κ =>
      cases hj' : dm[j]? with
      | none => rw [hj'] at hj; cases hj
      | some κ' =>
        rw [hi'] at hi
        rw [hj'] at hj
        have e1 : g κ = p := Option.some.inj hi
        have e2 : g κ' = q := Option.some.inj hj
        exact h.1 i j κ κ' hi' hj' (by rw [← hg κ, ← hg κ', e1, e2]; exact e)
  · rw [List.getElem?_map] at hk
    cases hk' : dm[k]? with
    | none => rw [hk'] at hk; cases hk
    | some κ =>
      rw [hk'] at hk
      have e1 : g κ = q := Option.some.inj hk
      rw [← e1, hg κ]
      exact h.2 κ (List.mem_of_getElem? hk')
theorem g_at {ρ : Type} {dm : List ρ} (g : ρ → Nat × va_E) {κ : ρ} (h : κ ∈ dm) : ∃ q0 : Nat, dm[q0]? = some κ ∧ (dm.map g)[q0]? = some (g κ) := by
  obtain ⟨i, hi⟩ := List.getElem?_of_mem h
  exact ⟨i, hi, by rw [List.getElem?_map, hi]; rfl⟩
theorem g_set {ρ : Type} {dm : List ρ} {ad : ρ → Nat} {A : Nat → Prop} (hD : gD dm ad A) {g g' : ρ → Nat × va_E} {κ : ρ} {q0 : Nat} (hq : dm[q0]? = some κ) (hne : ∀ κ', κ' ≠ κ → g' κ' = g κ') {x : Nat × va_E} (he : g' κ = x) : (dm.map g).set q0 x = dm.map g' := by
  apply List.ext_getElem?
  intro j
  have hl : q0 < dm.length := (List.getElem?_eq_some_iff.mp hq).1
  by_cases hj : j = q0
  · subst hj
    rw [List.getElem?_set_self (by rw [List.length_map]; exact hl), List.getElem?_map, hq, ← he]
    rfl
  · rw [List.getElem?_set_ne (Ne.symm hj), List.getElem?_map, List.getElem?_map]
    cases hb : dm[j]? with
    | none => rfl
    | some κ' =>
      have : κ' ≠ κ := fun e => hj (hD.1 j q0 κ' κ hb hq (by rw [e]))
      simp [hne κ' this]
def gA {ρ : Type} (dm : List ρ) (ad : ρ → Nat) (sz : Nat) (q : Nat) : Prop := (∃ κ ∈ dm, ad κ = q) ∨ sz ≤ q
theorem gD.self {ρ : Type} {dm : List ρ} {ad : ρ → Nat} {A : Nat → Prop} (h : gD dm ad A) (sz : Nat) : gD dm ad (gA dm ad sz) := ⟨h.1, fun κ hk => Or.inl ⟨κ, hk, rfl⟩⟩
theorem gA.up {ρ : Type} {dm : List ρ} {ad : ρ → Nat} {sz sz' : Nat} (h : sz ≤ sz') {q : Nat} (hq : gA dm ad sz' q) : gA dm ad sz q := hq.elim Or.inl (fun x => Or.inr (Nat.le_trans h x))
theorem zb_in {v : Int32} (h : v = 0 ∨ v = 1) : narrow .boolean (.int v) = .int v := by
  rcases h with rfl | rfl <;> rfl
theorem zb_fit {v : Int32} (h : v = 0 ∨ v = 1) : fits .boolean (.int v) = true := by
  rcases h with rfl | rfl <;> rfl
/-! the switches -/
theorem sw_of {x : Int32} {n : Nat} {M : Int32} (hM : M.toInt = n) (h : ¬ (x < 0 ∨ M < x)) : ∃ j : Nat, j ≤ n ∧ x = nI j := by
  have h1 : ¬ x < 0 := fun q => h (Or.inl q)
  have h2 : ¬ M < x := fun q => h (Or.inr q)
  exact nI_of2 hM h1 (by rw [Int32.le_iff_toInt_le]; rw [Int32.lt_iff_toInt_lt] at h2; omega)
theorem sw_of1 {x : Int32} {n : Nat} {M : Int32} (hM : M.toInt = n) (h : ¬ (x < 1 ∨ M < x)) : ∃ j : Nat, (1 ≤ j ∧ j ≤ n) ∧ x = nI j := by
  have h1 : ¬ x < 1 := fun q => h (Or.inl q)
  have h0 : ¬ x < 0 := fun q => h1 (by rw [Int32.lt_iff_toInt_lt] at q ⊢; have e1 : (1 : Int32).toInt = 1 := by decide
                                       have e0 : (0 : Int32).toInt = 0 := by decide
                                       omega)
  obtain ⟨j, hj, e⟩ := sw_of hM (fun q => q.elim h0 (fun z => h (Or.inr z)))
  refine ⟨j, ⟨?_, hj⟩, e⟩
  cases j with
  | zero => exact absurd (by rw [e]; decide) h1
  | succ j => omega
theorem sw_out {x lo hi : Int32} (h : x < lo ∨ hi < x) : x.toInt < lo.toInt ∨ hi.toInt < x.toInt := by
  rcases h with h | h
  · exact Or.inl (Int32.lt_iff_toInt_lt.mp h)
  · exact Or.inr (Int32.lt_iff_toInt_lt.mp h)
