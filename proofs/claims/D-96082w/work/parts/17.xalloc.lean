/-! what is made: fresh roles, raw objects beside the roles, statics and texts that nobody writes -/
def Fr (δ : XSh) (q : Nat) : Prop := ∀ κ ∈ δ.1, κ.2 ≠ q ∧ adX δ κ ≠ q
/-- nothing that is there has changed -/
def Agr (δ : XSh) (σ : XSt) (δ1 : XSh) (σ1 : XSt) : Prop := Ext δ δ1 ∧ ∀ κ ∈ δ.1, σ1.1 κ.1 κ.2 = σ.1 κ.1 κ.2 ∧ σ1.2.1 κ.1 κ.2 = σ.2.1 κ.1 κ.2 ∧ σ1.2.2 κ.1 κ.2 = σ.2.2 κ.1 κ.2
theorem Agr.rf {δ : XSh} {σ : XSt} : Agr δ σ δ σ := ⟨Ext.rf, fun _ _ => ⟨rfl, rfl, rfl⟩⟩
theorem Agr.tr {a b c : XSh} {x y z : XSt} (h : Agr a x b y) (g : Agr b y c z) : Agr a x c z := ⟨h.1.tr g.1, fun κ hk => by
  obtain ⟨a1, a2, a3⟩ := h.2 κ hk
  obtain ⟨b1, b2, b3⟩ := g.2 κ (h.1.1 κ hk).1
  exact ⟨b1.trans a1, b2.trans a2, b3.trans a3⟩⟩
theorem Ext.m {δ δ1 : XSh} (h : Ext δ δ1) {κ : Nat × Nat} (hk : κ ∈ δ.1) : κ ∈ δ1.1 := (h.1 κ hk).1
theorem Ext.lt {δ δ1 : XSh} (h : Ext δ δ1) {t : Nat} (ht : (7, t) ∈ δ.1) {n : Nat} (hc : δ.2.2.1 t < n) : δ1.2.2.1 t < n := by rw [(h.2 t ht).1]; exact hc
theorem Ext.ge {δ δ1 : XSh} (h : Ext δ δ1) {t : Nat} (ht : (7, t) ∈ δ.1) {n : Nat} (hc : n ≤ δ.2.2.1 t) : n ≤ δ1.2.2.1 t := by rw [(h.2 t ht).1]; exact hc
theorem Ext.eq {δ δ1 : XSh} (h : Ext δ δ1) {t : Nat} (ht : (7, t) ∈ δ.1) {n : Nat} (hc : δ.2.2.1 t = n) : δ1.2.2.1 t = n := by rw [(h.2 t ht).1]; exact hc
theorem adX_ow {δ : XSh} {k i : Nat} : adX δ (ow k, i) = i := by
  unfold ow
  split
  · rfl
  · split
    · rfl
    · split
      · rfl
      · rename_i h1 h2 h3
        unfold adX
        simp only
        split <;> first | rfl | (exfalso; omega)
theorem Fr.of {δ : XSh} {q : Nat} (hO : XO δ) (h : ∀ κ ∈ δ.1, adX δ κ ≠ q) : Fr δ q := fun κ hk => ⟨fun e => h _ (hO.2.2.2.2 κ hk) (by rw [adX_ow]; exact e), h κ hk⟩
theorem cell_off {Γ : GA} {δ δ1 : XSh} {i : Nat} (h1 : ∀ k, δ1.2.1 k i = δ.2.1 k i) (h2 : δ1.2.2.1 i = δ.2.2.1 i) (h3 : δ1.2.2.2 i = δ.2.2.2 i) (k : Nat) (f : Nat → Int32) (g : Nat → Int64) (h : Nat → Option Nat) : cellX Γ δ1 k i f g h = cellX Γ δ k i f g h := by
  unfold cellX
  rw [h1 1, h1 2, h1 3, h1 4, h1 8, h1 9, h1 10, h1 11, h2, h3]
theorem ad_off {δ δ1 : XSh} {i : Nat} (h1 : ∀ k, δ1.2.1 k i = δ.2.1 k i) (k : Nat) : adX δ1 (k, i) = adX δ (k, i) := by
  unfold adX
  simp only [h1]
theorem g_off {Γ : GA} {δ δ1 : XSh} {σ σ1 : XSt} {κ : Nat × Nat} (h1 : ∀ k, δ1.2.1 k κ.2 = δ.2.1 k κ.2) (h2 : δ1.2.2.1 κ.2 = δ.2.2.1 κ.2) (h3 : δ1.2.2.2 κ.2 = δ.2.2.2 κ.2) (h4 : σ1.1 κ.1 κ.2 = σ.1 κ.1 κ.2 ∧ σ1.2.1 κ.1 κ.2 = σ.2.1 κ.1 κ.2 ∧ σ1.2.2 κ.1 κ.2 = σ.2.2 κ.1 κ.2) : gX Γ δ1 σ1 κ = gX Γ δ σ κ := by
  obtain ⟨k, i⟩ := κ
  unfold gX
  rw [ad_off h1, h4.1, h4.2.1, h4.2.2, cell_off h1 h2 h3]
theorem gD.of {Γ : GA} {A : Nat → Prop} {δ : XSh} {σ : XSt} (h : va_D A (δ.1.map (gX Γ δ σ))) : gD δ.1 (adX δ) A := by
  refine ⟨fun i j κ κ' hi hj e => ?_, fun κ hk => ?_⟩
  · exact h.1 i j (gX Γ δ σ κ) (gX Γ δ σ κ') (by rw [List.getElem?_map, hi]; rfl) (by rw [List.getElem?_map, hj]; rfl) e
  · obtain ⟨i, hi⟩ := List.getElem?_of_mem hk
    exact h.2 i (gX Γ δ σ κ) (by rw [List.getElem?_map, hi]; rfl)
/-- raw cells beside the roles -/
abbrev Wd (Γ : GA) (ex : va_W) (δ : XSh) (σ : XSt) : va_W := ex ++ δ.1.map (gX Γ δ σ)
theorem reX {Γ : GA} {δ δ1 : XSh} {σ σ1 : XSt} {ex : va_W} {ks : List (Nat × Nat)} {H : Heap} {A : Nat → Prop} (hP : va_P Γ.1 clA (Wd Γ ex δ σ) H) (hD : va_D A (Wd Γ ex δ σ)) (h1 : δ1.1 = ks ++ δ.1) (hex : ks.map (gX Γ δ1 σ1) = ex) (hs : ∀ κ ∈ δ.1, gX Γ δ1 σ1 κ = gX Γ δ σ κ) : WX Γ δ1 σ1 H ∧ gD δ1.1 (adX δ1) A := by
  have e : δ1.1.map (gX Γ δ1 σ1) = Wd Γ ex δ σ := by
    rw [h1, List.map_append, hex]
    congr 1
    exact List.map_congr_left hs
  refine ⟨?_, gD.of (Γ := Γ) (σ := σ1) ?_⟩
  · unfold WX
    rw [e]
    exact hP
  · rw [e]
    exact hD
theorem rotP {Γ : GA} {X : va_W} {x : Nat × va_E} {H : Heap} (h : va_P Γ.1 clA (X ++ [x]) H) : va_P Γ.1 clA (x :: X) H := by
  refine h.by (fun k => match k with | 0 => X.length | k + 1 => k) (fun k q hk => ?_)
  match k with
  | 0 => simp at hk ⊢; exact hk
  | k + 1 =>
    have hk : X[k]? = some q := hk
    show (X ++ [x])[k]? = some q
    rw [List.getElem?_append_left (List.getElem?_eq_some_iff.mp hk).1]
    exact hk
theorem rotD {A : Nat → Prop} {X : va_W} {x : Nat × va_E} (h : va_D A (X ++ [x])) : va_D A (x :: X) := by
  have go : ∀ (k : Nat) (q : Nat × va_E), (x :: X)[k]? = some q → ∃ j, (X ++ [x])[j]? = some q ∧ (k = 0 → j = X.length) ∧ (∀ k', k = k' + 1 → j = k' ∧ k' < X.length) := by
    intro k q hk
    match k with
    | 0 => exact ⟨X.length, by simp at hk ⊢; exact hk, fun _ => rfl, fun k' h => by omega⟩
    | k + 1 =>
      have hk : X[k]? = some q := hk
      have hl := (List.getElem?_eq_some_iff.mp hk).1
      exact ⟨k, by rw [List.getElem?_append_left hl]; exact hk, fun h => by omega, fun k' h => ⟨by omega, by omega⟩⟩
  refine ⟨fun i j p q hi hj e => ?_, fun k q hk => ?_⟩
  · obtain ⟨i', a1, a2, a3⟩ := go i p hi
    obtain ⟨j', b1, b2, b3⟩ := go j q hj
    have e2 := h.1 i' j' p q a1 b1 e
    match i, j with
    | 0, 0 => rfl
    | 0, j + 1 => have x1 := a2 rfl; have x2 := b3 j rfl; omega
    | i + 1, 0 => have x1 := b2 rfl; have x2 := a3 i rfl; omega
    | i + 1, j + 1 => have x1 := a3 i rfl; have x2 := b3 j rfl; omega
  · obtain ⟨j, a1, -, -⟩ := go k q hk
    exact h.2 j q a1
theorem tailP {Γ : GA} {X ex : va_W} {H : Heap} (h : va_P Γ.1 clA (ex ++ X) H) : va_P Γ.1 clA X H := fun k q hk => h (ex.length + k) q (by rw [List.getElem?_append_right (by omega)]; rw [show ex.length + k - ex.length = k by omega]; exact hk)
theorem tailD {A : Nat → Prop} {X ex : va_W} (h : va_D A (ex ++ X)) : va_D A X := by
  have go : ∀ (k : Nat) (q : Nat × va_E), X[k]? = some q → (ex ++ X)[ex.length + k]? = some q := fun k q hk => by rw [List.getElem?_append_right (by omega)]; rw [show ex.length + k - ex.length = k by omega]; exact hk
  exact ⟨fun i j p q hi hj e => by have := h.1 _ _ p q (go i p hi) (go j q hj) e; omega, fun k q hk => h.2 _ q (go k q hk)⟩
theorem fr_of {Γ : GA} {A : Nat → Prop} {δ : XSh} {σ : XSt} {ex : va_W} {q : Nat × va_E} (hO : XO δ) (h : va_D A (Wd Γ ex δ σ)) {k : Nat} (hq : ex[k]? = some q) : Fr δ q.1 := by
  refine Fr.of hO (fun κ hκ e => ?_)
  obtain ⟨i, hi⟩ := List.getElem?_of_mem hκ
  have hl := (List.getElem?_eq_some_iff.mp hq).1
  have := h.1 k (ex.length + i) q (gX Γ δ σ κ) (by rw [List.getElem?_append_left hl]; exact hq) (by rw [List.getElem?_append_right (by omega), show ex.length + i - ex.length = i by omega, List.getElem?_map, hi]; rfl) e.symm
  omega
/-- one class for all arrays of a type -/
theorem ka_same {Γ : GA} {s : State} {cA c0 : ClassId} {ty : FieldType} {t0 : Nat} (h : va_K Γ.1 clA (tysA Γ ++ [(cA, ty)]) s) (h0 : (tysA Γ)[t0]? = some (c0, ty)) : cA = c0 := by
  have l0 := (List.getElem?_eq_some_iff.mp h0).1
  have a := (h.2 6 (cA, ty) rfl).2
  have b := (h.2 t0 (c0, ty) (by rw [List.getElem?_append_left l0]; exact h0)).2
  unfold va_RA at a b
  cases ty with
  | object C =>
    obtain ⟨_, _, _, _, _, a4⟩ := a
    obtain ⟨_, _, _, _, _, b4⟩ := b
    exact Option.some.inj (a4.symm.trans b4)
  | _ => exact Option.some.inj (a.symm.trans b)
def lenS : List Nat := [5, 5, 3, 3, 4]
def bytS : List (List Int32) := [[116, 104, 105, 110, 103], [117, 109, 109, 101, 114], [104, 117, 116], [102, 97, 114], [100, 114, 97, 119]]
def idxS : List Nat := [93, 101, 107, 116, 120]
def txtS : List String := ["thing", "ummer", "hut", "far", "draw"]
/-- statics and texts that nobody writes -/
def ZS (Γ : GA) (A : Nat → Prop) (U : State) (H : Heap) : Prop := vx_Zq Bundle.tN "UNASSIGNED_STACK" Bundle.steD A U H ∧ vx_Zq Bundle.tN "SUPPRESSED_SENTINEL" Bundle.listD A U H ∧ (vk_S 5 lenS bytS (fun i => Γ.2 (10 + i)) (fun i => Γ.2 (20 + i)) A U H ∧ ∀ i, i < 5 → vk_R RX18 (idxS.getD i 0) (txtS.getD i "") (Γ.2 (10 + i)) U) ∧ va_Z "java/lang/String" "COMPACT_STRINGS" "Z" (.int 1) A U H ∧ va_Zq "jdk/internal/util/Preconditions" "SIOOBE_FORMATTER" "Ljava/util/function/BiFunction;" A U H
theorem ZS.kept {Γ : GA} {A : Nat → Prop} {U : State} {H H1 : Heap} (h : ZS Γ A U H) (hq : ∀ a : Nat, a < H.size → ¬ A a → H1[a]? = H[a]?) : ZS Γ A U H1 := ⟨h.1.kept hq, h.2.1.kept hq, ⟨h.2.2.1.1.kept hq, h.2.2.1.2⟩, h.2.2.2.1.kept hq, h.2.2.2.2.kept hq⟩
theorem ZS.narrow {Γ : GA} {A B : Nat → Prop} {U : State} {H : Heap} (h : ZS Γ A U H) (hAB : ∀ q, B q → A q) : ZS Γ B U H := ⟨h.1.narrow hAB, h.2.1.narrow hAB, ⟨h.2.2.1.1.narrow hAB, h.2.2.1.2⟩, h.2.2.2.1.narrow hAB, h.2.2.2.2.narrow hAB⟩
theorem ZS.warm {Γ : GA} {A : Nat → Prop} {s U : State} {H : Heap} (hW : s.WarmedH U.vm) (h : ZS Γ A s H) : ZS Γ A U H := ⟨h.1.moved hW.alike, h.2.1.moved hW.alike, ⟨h.2.2.1.1.moved hW.alike, fun i hi => (h.2.2.1.2 i hi).warm hW⟩, h.2.2.2.1.moved hW.alike, h.2.2.2.2.moved hW.alike⟩
theorem ZS.same {Γ : GA} {A : Nat → Prop} {s U : State} {H : Heap} (hv : U.vm = s.vm) (h : ZS Γ A s H) : ZS Γ A U H := by
  have ha : s.vm.Alike U.vm := by rw [hv]; exact Vm.Alike.refl _
  exact ⟨h.1.moved ha, h.2.1.moved ha, ⟨h.2.2.1.1.moved ha, fun i hi => (h.2.2.1.2 i hi).same hv⟩, h.2.2.2.1.moved ha, h.2.2.2.2.moved ha⟩
