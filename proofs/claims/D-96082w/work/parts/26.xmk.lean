/-! what a constructor has made gets its roles -/
def NewT (ci : Nat) (a b c d : Int32) (δ : XSh) (σ : XSt) (q : Nat) (δ1 : XSh) (σ1 : XSt) : Prop := Agr δ σ δ1 σ1 ∧ Fr δ q ∧ (7, q) ∈ δ1.1 ∧ δ1.2.2.1 q = ci ∧ σ1.1 7 q 0 = a ∧ σ1.1 7 q 1 = b ∧ σ1.1 7 q 2 = c ∧ σ1.1 7 q 3 = d
def NewB (ci n : Nat) (δ : XSh) (σ : XSt) (q : Nat) (δ1 : XSh) (σ1 : XSt) : Prop := Agr δ σ δ1 σ1 ∧ Fr δ q ∧ (7, q) ∈ δ1.1 ∧ δ1.2.2.1 q = ci ∧ δ1.2.2.2 q = n ∧ (∀ j, σ1.1 11 q j = 0) ∧ (∀ j, σ1.2.1 11 q j = 0) ∧ (11, q) ∈ δ1.1
def NewG (δ : XSh) (σ : XSt) (q : Nat) (δ1 : XSh) (σ1 : XSt) : Prop := Agr δ σ δ1 σ1 ∧ Fr δ q ∧ (6, q) ∈ δ1.1 ∧ (∀ j, σ1.1 6 q j = if j = 1 then 1 else if j = 2 then 9 else if j = 5 then 1 else 0) ∧ (∀ j, σ1.2.2 8 q j = none) ∧ (∀ j, σ1.1 9 q j = 0) ∧ (∀ j, σ1.1 10 q j = 0) ∧ (8, q) ∈ δ1.1 ∧ (9, q) ∈ δ1.1 ∧ (10, q) ∈ δ1.1
def NewRd (t g : Nat) (δ : XSh) (σ : XSt) (q : Nat) (δ1 : XSh) (σ1 : XSt) : Prop := Agr δ σ δ1 σ1 ∧ Fr δ q ∧ (12, q) ∈ δ1.1 ∧ σ1.2.2 12 q 0 = some t ∧ σ1.2.2 12 q 1 = some g ∧ σ1.1 12 q 2 = 0 ∧ σ1.1 12 q 3 = 0
def NewRe (w : Int32) (δ : XSh) (σ : XSt) (q : Nat) (δ1 : XSh) (σ1 : XSt) : Prop := Agr δ σ δ1 σ1 ∧ Fr δ q ∧ (13, q) ∈ δ1.1 ∧ σ1.1 13 q 6 = w
def NewFa (w : Int32) (δ : XSh) (σ : XSt) (q : Nat) (δ1 : XSh) (σ1 : XSt) : Prop := Agr δ σ δ1 σ1 ∧ Fr δ q ∧ (14, q) ∈ δ1.1 ∧ σ1.1 14 q 6 = w
def NewA (δ : XSh) (σ : XSt) (q : Nat) (δ1 : XSh) (σ1 : XSt) : Prop := Agr δ σ δ1 σ1 ∧ Fr δ q ∧ (15, q) ∈ δ1.1 ∧ ∀ j, σ1.1 15 q j = 0
section MK
variable {Γ : GA} {δ : XSh} {σ : XSt} {q : Nat} {H : Heap} {A : Nat → Prop}
theorem mkT {ci : Nat} {a b c d : Int32} (h5 : 5 ≤ ci) (h12 : ci < 12) (hR : va_P Γ.1 clA (Wd Γ [(q, .inr (ci, [.int a, .int b, .int c, .int d]))] δ σ) H) (hRD : va_D A (Wd Γ [(q, .inr (ci, [.int a, .int b, .int c, .int d]))] δ σ)) (hW : XW δ σ) (hO : XO δ) : ∃ (δ1 : XSh) (σ1 : XSt), XH Γ δ1 σ1 H ∧ XO δ1 ∧ gD δ1.1 (adX δ1) A ∧ NewT ci a b c d δ σ q δ1 σ1 := by
  have hF : Fr δ q := fr_of (k := 0) hO hRD rfl
  obtain ⟨h1, h2, h3, h4⟩ := mkX hR hRD hW hO hF [7] (fun _ => 0) ci 0 (fun _ j => if j = 0 then a else if j = 1 then b else if j = 2 then c else d) (fun _ _ => 0) (fun _ _ => none) (by simp [gX, adX, cellX, nδ, nσ, h12]) (fun k _ j t h => by cases h) (by simp [ow]; omega)
  exact ⟨_, _, h1, h2, h3, h4, hF, nδ_in (List.mem_singleton.mpr rfl), by simp [nδ], by simp [nσ], by simp [nσ], by simp [nσ], by simp [nσ]⟩
theorem mkB {ci n t0 a : Nat} (hci : ci = 12 ∧ t0 = 2 ∨ ci = 13 ∧ t0 = 3 ∨ ci = 14 ∧ t0 = 0) (hR : va_P Γ.1 clA (Wd Γ [(a, .inl (Γ.2 t0, n, .inl (fun _ => 0))), (q, .inr (ci, [.ref a]))] δ σ) H) (hRD : va_D A (Wd Γ [(a, .inl (Γ.2 t0, n, .inl (fun _ => 0))), (q, .inr (ci, [.ref a]))] δ σ)) (hW : XW δ σ) (hO : XO δ) : ∃ (δ1 : XSh) (σ1 : XSt), XH Γ δ1 σ1 H ∧ XO δ1 ∧ gD δ1.1 (adX δ1) A ∧ NewB ci n δ σ q δ1 σ1 := by
  have hF : Fr δ q := fr_of (k := 1) hO hRD rfl
  obtain ⟨h1, h2, h3, h4⟩ := mkX hR hRD hW hO hF [11, 7] (fun _ => a) ci n (fun _ _ => 0) (fun _ _ => 0) (fun _ _ => none) (by rcases hci with ⟨rfl, rfl⟩ | ⟨rfl, rfl⟩ | ⟨rfl, rfl⟩ <;> simp [gX, adX, cellX, nδ, nσ]) (fun k _ j t h => by cases h) (by simp [ow]; omega)
  exact ⟨_, _, h1, h2, h3, h4, hF, nδ_in (List.mem_cons_of_mem _ (List.mem_singleton.mpr rfl)), by simp [nδ], by simp [nδ], fun j => by simp [nσ], fun j => by simp [nσ], nδ_in (by simp)⟩
theorem mkBl {n a : Nat} (hR : va_P Γ.1 clA (Wd Γ [(a, .inl (Γ.2 1, n, .inr (.inl (fun _ => 0)))), (q, .inr (15, [.ref a]))] δ σ) H) (hRD : va_D A (Wd Γ [(a, .inl (Γ.2 1, n, .inr (.inl (fun _ => 0)))), (q, .inr (15, [.ref a]))] δ σ)) (hW : XW δ σ) (hO : XO δ) : ∃ (δ1 : XSh) (σ1 : XSt), XH Γ δ1 σ1 H ∧ XO δ1 ∧ gD δ1.1 (adX δ1) A ∧ NewB 15 n δ σ q δ1 σ1 := by
  have hF : Fr δ q := fr_of (k := 1) hO hRD rfl
  obtain ⟨h1, h2, h3, h4⟩ := mkX hR hRD hW hO hF [11, 7] (fun _ => a) 15 n (fun _ _ => 0) (fun _ _ => 0) (fun _ _ => none) (by simp [gX, adX, cellX, nδ, nσ]) (fun k _ j t h => by cases h) (by simp [ow])
  exact ⟨_, _, h1, h2, h3, h4, hF, nδ_in (List.mem_cons_of_mem _ (List.mem_singleton.mpr rfl)), by simp [nδ], by simp [nδ], fun j => by simp [nσ], fun j => by simp [nσ], nδ_in (by simp)⟩
theorem mkG {a8 a9 a10 : Nat} (hR : va_P Γ.1 clA (Wd Γ [(a10, .inl (Γ.2 0, 8, .inl (fun _ => 0))), (a9, .inl (Γ.2 0, 8, .inl (fun _ => 0))), (a8, .inl (Γ.2 4, 8, .inr (.inr (.inr (.inr (fun _ => none)))))), (q, .inr (3, [.int 0, .int 1, .int 9, .int 0, .int 0, .int 1, .ref a8, .ref a9, .ref a10]))] δ σ) H) (hRD : va_D A (Wd Γ [(a10, .inl (Γ.2 0, 8, .inl (fun _ => 0))), (a9, .inl (Γ.2 0, 8, .inl (fun _ => 0))), (a8, .inl (Γ.2 4, 8, .inr (.inr (.inr (.inr (fun _ => none)))))), (q, .inr (3, [.int 0, .int 1, .int 9, .int 0, .int 0, .int 1, .ref a8, .ref a9, .ref a10]))] δ σ)) (hW : XW δ σ) (hO : XO δ) : ∃ (δ1 : XSh) (σ1 : XSt), XH Γ δ1 σ1 H ∧ XO δ1 ∧ gD δ1.1 (adX δ1) A ∧ NewG δ σ q δ1 σ1 := by
  have hF : Fr δ q := fr_of (k := 3) hO hRD rfl
  obtain ⟨h1, h2, h3, h4⟩ := mkX hR hRD hW hO hF [10, 9, 8, 6] (fun k => if k = 8 then a8 else if k = 9 then a9 else a10) 0 0 (fun k j => if k = 6 then (if j = 1 then 1 else if j = 2 then 9 else if j = 5 then 1 else 0) else 0) (fun _ _ => 0) (fun _ _ => none) (by simp [gX, adX, cellX, nδ, nσ]) (fun k _ j t h => by cases h) (by simp [ow])
  exact ⟨_, _, h1, h2, h3, h4, hF, nδ_in (by simp), fun j => by simp [nσ], fun j => by simp [nσ], fun j => by simp [nσ], fun j => by simp [nσ], nδ_in (by simp), nδ_in (by simp), nδ_in (by simp)⟩
theorem mkRd {t g : Nat} (ht : (7, t) ∈ δ.1) (hc : 12 ≤ δ.2.2.1 t) (hg : (6, g) ∈ δ.1) (hR : va_P Γ.1 clA (Wd Γ [(q, .inr (16, [.ref t, .ref g, .int 0, .int 0]))] δ σ) H) (hRD : va_D A (Wd Γ [(q, .inr (16, [.ref t, .ref g, .int 0, .int 0]))] δ σ)) (hW : XW δ σ) (hO : XO δ) : ∃ (δ1 : XSh) (σ1 : XSt), XH Γ δ1 σ1 H ∧ XO δ1 ∧ gD δ1.1 (adX δ1) A ∧ NewRd t g δ σ q δ1 σ1 := by
  have hF : Fr δ q := fr_of (k := 0) hO hRD rfl
  obtain ⟨h1, h2, h3, h4⟩ := mkX hR hRD hW hO hF [12] (fun _ => 0) 0 0 (fun _ _ => 0) (fun _ _ => 0) (fun k j => if j = 0 then some t else if j = 1 then some g else none) (by simp [gX, adX, cellX, nδ, nσ, va_rf]) (fun k hk j t' h => by
    have hk : k = 12 := List.mem_singleton.mp hk
    subst hk
    by_cases j0 : j = 0
    · subst j0
      rw [if_pos rfl] at h
      cases h
      have ne : t ≠ q := (hF _ ht).1
      refine ⟨nδ_old ht, fun h => absurd h (by decide), fun _ => ?_⟩
      simp only [nδ]
      rw [if_neg ne]
      exact hc
    · rw [if_neg j0] at h
      by_cases j1 : j = 1
      · subst j1
        rw [if_pos rfl] at h
        cases h
        exact ⟨nδ_old hg, fun h => absurd h (by decide), fun h => absurd h.2 (by decide)⟩
      · rw [if_neg j1] at h
        cases h) (by simp [ow])
  exact ⟨_, _, h1, h2, h3, h4, hF, nδ_in (List.mem_singleton.mpr rfl), by simp [nσ], by simp [nσ], by simp [nσ], by simp [nσ]⟩
theorem mkRe {w : Int32} (hR : va_P Γ.1 clA (Wd Γ [(q, .inr (17, [.null, .null, .null, .null, .null, .int 0, .int w]))] δ σ) H) (hRD : va_D A (Wd Γ [(q, .inr (17, [.null, .null, .null, .null, .null, .int 0, .int w]))] δ σ)) (hW : XW δ σ) (hO : XO δ) : ∃ (δ1 : XSh) (σ1 : XSt), XH Γ δ1 σ1 H ∧ XO δ1 ∧ gD δ1.1 (adX δ1) A ∧ NewRe w δ σ q δ1 σ1 := by
  have hF : Fr δ q := fr_of (k := 0) hO hRD rfl
  obtain ⟨h1, h2, h3, h4⟩ := mkX hR hRD hW hO hF [13] (fun _ => 0) 0 0 (fun _ _ => w) (fun _ _ => 0) (fun _ _ => none) (by simp [gX, adX, cellX, nδ, nσ]) (fun k _ j t h => by cases h) (by simp [ow])
  exact ⟨_, _, h1, h2, h3, h4, hF, nδ_in (List.mem_singleton.mpr rfl), by simp [nσ]⟩
theorem mkFa {w : Int32} (hR : va_P Γ.1 clA (Wd Γ [(q, .inr (18, [.null, .null, .null, .null, .null, .int 0, .int w]))] δ σ) H) (hRD : va_D A (Wd Γ [(q, .inr (18, [.null, .null, .null, .null, .null, .int 0, .int w]))] δ σ)) (hW : XW δ σ) (hO : XO δ) : ∃ (δ1 : XSh) (σ1 : XSt), XH Γ δ1 σ1 H ∧ XO δ1 ∧ gD δ1.1 (adX δ1) A ∧ NewFa w δ σ q δ1 σ1 := by
  have hF : Fr δ q := fr_of (k := 0) hO hRD rfl
  obtain ⟨h1, h2, h3, h4⟩ := mkX hR hRD hW hO hF [14] (fun _ => 0) 0 0 (fun _ _ => w) (fun _ _ => 0) (fun _ _ => none) (by simp [gX, adX, cellX, nδ, nσ]) (fun k _ j t h => by cases h) (by simp [ow])
  exact ⟨_, _, h1, h2, h3, h4, hF, nδ_in (List.mem_singleton.mpr rfl), by simp [nσ]⟩
theorem mkA (hR : va_P Γ.1 clA (Wd Γ [(q, .inl (Γ.2 0, 8, .inl (fun _ => 0)))] δ σ) H) (hRD : va_D A (Wd Γ [(q, .inl (Γ.2 0, 8, .inl (fun _ => 0)))] δ σ)) (hW : XW δ σ) (hO : XO δ) : ∃ (δ1 : XSh) (σ1 : XSt), XH Γ δ1 σ1 H ∧ XO δ1 ∧ gD δ1.1 (adX δ1) A ∧ NewA δ σ q δ1 σ1 := by
  have hF : Fr δ q := fr_of (k := 0) hO hRD rfl
  obtain ⟨h1, h2, h3, h4⟩ := mkX hR hRD hW hO hF [15] (fun _ => 0) 0 0 (fun _ _ => 0) (fun _ _ => 0) (fun _ _ => none) (by simp [gX, adX, cellX, nδ, nσ]) (fun k _ j t h => by cases h) (by simp [ow])
  exact ⟨_, _, h1, h2, h3, h4, hF, nδ_in (List.mem_singleton.mpr rfl), fun j => by simp [nσ]⟩
end MK
