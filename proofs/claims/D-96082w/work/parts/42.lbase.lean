/-! THE LAW's OWN WALK: both worlds beside each other -/
def LB (Γ : GA) (A : Nat → Prop) (δ : XSh) (σ : XSt) (α : Nat → Nat) (σm : MSt) (H : Heap) : Prop := XH Γ δ σ H ∧ XO δ ∧ gD δ.1 (adX δ) A ∧ WM Γ α σm H ∧ gD dmM α A ∧ ∀ κ ∈ δ.1, ∀ k ∈ dmM, adX δ κ ≠ α k
theorem WM.lt {Γ : GA} {α : Nat → Nat} {σm : MSt} {H : Heap} (h : WM Γ α σm H) {k : Nat} (hk : k ∈ dmM) : α k < H.size := by
  obtain ⟨q0, -, h2⟩ := g_at (gM Γ α σm) hk
  exact (h q0 _ h2).lt
theorem WX.lt {Γ : GA} {δ : XSh} {σ : XSt} {H : Heap} (h : WX Γ δ σ H) {κ : Nat × Nat} (hk : κ ∈ δ.1) : adX δ κ < H.size := by
  obtain ⟨q0, -, h2⟩ := g_at (gX Γ δ σ) hk
  exact (h q0 _ h2).lt
theorem l_x {Γ : GA} {A : Nat → Prop} {δ : XSh} {σ : XSt} {α : Nat → Nat} {σm : MSt} {H H1 : Heap} (hB : LB Γ A δ σ α σm H) {u : XU} (kept : ∀ q : Nat, q < H.size → ¬ AX δ H.size q → H1[q]? = H[q]?) (hX : XH Γ u.1 u.2 H1) (hO : XO u.1) (hD : gD u.1.1 (adX u.1) (AX δ H.size)) (hA : ∀ q, AX δ H.size q → A q) : LB Γ A u.1 u.2 α σm H1 := by
  obtain ⟨b1, b2, b3, b4, b5, b6⟩ := hB
  refine ⟨hX, hO, ⟨hD.1, fun κ h => hA _ (hD.2 κ h)⟩, b4.kept (fun k q hk => ?_), b5, fun κ hκ k hk e => ?_⟩
  · rw [List.getElem?_map] at hk
    cases hk' : dmM[k]? with
    | none => rw [hk'] at hk; cases hk
    | some κ =>
      rw [hk'] at hk
      have e1 : gM Γ α σm κ = q := Option.some.inj hk
      subst e1
      have hm := List.mem_of_getElem? hk'
      refine kept (α κ) (b4.lt hm) ?_
      rintro (⟨κ', h1, h2⟩ | h)
      · exact b6 κ' h1 κ hm h2
      · exact Nat.lt_irrefl _ (Nat.lt_of_lt_of_le (b4.lt hm) h)
  · rcases hD.2 κ hκ with ⟨κ', h1, h2⟩ | h
    · exact b6 κ' h1 k hk (h2.trans e)
    · rw [e] at h
      exact Nat.lt_irrefl _ (Nat.lt_of_lt_of_le (b4.lt hk) h)
theorem l_m {Γ : GA} {A : Nat → Prop} {δ : XSh} {σ : XSt} {α : Nat → Nat} {σm u : MSt} {H H1 : Heap} (hB : LB Γ A δ σ α σm H) (kept : ∀ q : Nat, q < H.size → ¬ AM α H.size q → H1[q]? = H[q]?) (hM : WM Γ α u H1) : LB Γ A δ σ α u H1 := by
  obtain ⟨b1, b2, b3, b4, b5, b6⟩ := hB
  refine ⟨⟨b1.1.kept (fun k q hk => ?_), b1.2⟩, b2, b3, hM, b5, b6⟩
  rw [List.getElem?_map] at hk
  cases hk' : δ.1[k]? with
  | none => rw [hk'] at hk; cases hk
  | some κ =>
    rw [hk'] at hk
    have e1 : gX Γ δ σ κ = q := Option.some.inj hk
    subst e1
    have hm := List.mem_of_getElem? hk'
    refine kept (adX δ κ) (WX.lt b1.1 hm) ?_
    rintro (⟨k', h1, h2⟩ | h)
    · exact b6 κ hm k' h1 h2.symm
    · exact Nat.lt_irrefl _ (Nat.lt_of_lt_of_le (WX.lt b1.1 hm) h)
section LC
variable {p : Program} {l : Launch} {e : Env} {R : Room} {s : State} {m : MethodId} {args : Array Value} {below : List Frame} {meth : Method} {c : Code} {H : Heap} {locs : List Loc} {cells slots mc ms : Nat} {Q : State → Prop}
variable {cc : ByteArray} {pc nL : Nat} {ls : Array Slot} {rest st avs : List Value} {Γ : GA} {δ : XSh} {σ : XSt} {α : Nat → Nat} {σm : MSt} {A : Nat → Prop} {own : String} {a : Array Value}
theorem l_goi {K : Int32 → XU → Prop} (hr : va_Run p l e R s m args below meth c H locs cells slots mc ms (F0 m pc ls st) rest (va_Qi K (xB Γ δ H.size) (AX δ H.size) a) (AX δ H.size)) (hB : LB Γ A δ σ α σm H) (hA : ∀ q, s.heap.size ≤ q → A q) (hS : va_S A s.heap H locs)
    (kk : ∀ (r : Int32) (u : XU) (H1 : Heap) (locs1 : List Loc), K r u → LB Γ A u.1 u.2 α σm H1 → va_S A s.heap H1 locs1 → W p l e R s m args below meth c H1 locs1 (cells + mc) (slots + ms) Q (F0 m (pc + 3) ls (.int r :: rest))) : W p l e R s m args below meth c H locs cells slots Q (F0 m pc ls st) := by
  have hFc := x_free hB.2.2.1 hS hA
  exact va_calli hr hS (fun q _ h => hFc q h) hFc (fun r u t H1 locs1 ht _ hk hB1 _ kept hS1 => kk r u H1 locs1 hk (l_x hB kept (ht ▸ hB1.1) hB1.2.1 hB1.2.2 hFc) hS1)
theorem l_ygoi {K : Int32 → XU → Prop} (hr : vx_Run p l e R s m args below meth c H locs cells slots mc ms (F0 m pc ls st) rest (va_Qi K (xB Γ δ H.size) (AX δ H.size) a) (yX Γ δ H.size (fun _ _ _ => False)) (AX δ H.size)) (hB : LB Γ A δ σ α σm H) (hA : ∀ q, s.heap.size ≤ q → A q) (hS : va_S A s.heap H locs)
    (kk : ∀ (r : Int32) (u : XU) (H1 : Heap) (locs1 : List Loc), K r u → LB Γ A u.1 u.2 α σm H1 → va_S A s.heap H1 locs1 → W p l e R s m args below meth c H1 locs1 (cells + mc) (slots + ms) Q (F0 m (pc + 3) ls (.int r :: rest))) : W p l e R s m args below meth c H locs cells slots Q (F0 m pc ls st) := by
  have hFc := x_free hB.2.2.1 hS hA
  exact vx_calli hr hS (fun q _ h => hFc q h) hFc (fun q _ h => hFc q h) (fun E ce q9 u t H1 locs1 ht _ _ hB1 _ _ hS1 hce hcv hcl => hB1.1.elim)
    (fun r u t H1 locs1 ht _ hk hB1 _ kept hS1 => kk r u H1 locs1 hk (l_x hB kept (ht ▸ hB1.1) hB1.2.1 hB1.2.2 hFc) hS1)
theorem l_ygol {K : Int64 → XU → Prop} (hr : vx_Run p l e R s m args below meth c H locs cells slots mc ms (F0 m pc ls st) rest (va_Ql K (xB Γ δ H.size) (AX δ H.size) a) (yX Γ δ H.size (fun _ _ _ => False)) (AX δ H.size)) (hB : LB Γ A δ σ α σm H) (hA : ∀ q, s.heap.size ≤ q → A q) (hS : va_S A s.heap H locs)
    (kk : ∀ (r : Int64) (u : XU) (H1 : Heap) (locs1 : List Loc), K r u → LB Γ A u.1 u.2 α σm H1 → va_S A s.heap H1 locs1 → W p l e R s m args below meth c H1 locs1 (cells + mc) (slots + ms) Q (F0 m (pc + 3) ls (.long r :: rest))) : W p l e R s m args below meth c H locs cells slots Q (F0 m pc ls st) := by
  have hFc := x_free hB.2.2.1 hS hA
  exact vx_calll hr hS (fun q _ h => hFc q h) hFc (fun q _ h => hFc q h) (fun E ce q9 u t H1 locs1 ht _ _ hB1 _ _ hS1 hce hcv hcl => hB1.1.elim)
    (fun r u t H1 locs1 ht _ hk hB1 _ kept hS1 => kk r u H1 locs1 hk (l_x hB kept (ht ▸ hB1.1) hB1.2.1 hB1.2.2 hFc) hS1)
variable {y : MethodName} {bytes : ByteArray} {maxL n index : Nat} {ret : Option FieldType} {rm : Room}
theorem l_mi (S : CallFix p m c cc nL s args lw_all own) (hK : KA Γ s) (hB : LB Γ A δ σ α σm H) (hA : ∀ q, s.heap.size ≤ q → A q) (hS : va_S A s.heap H locs) {K : Int32 → MSt → Prop} (hM : mI l y bytes maxL ret rm Γ α avs σm K) (cw : CallW R s args own RX4 index y bytes maxL ret (ws_ y bytes maxL ret) rm 0 0 n) (hn : avs.length = n) (hsize : ls.size = nL) (hst : st = avs.reverse ++ .ref (α 50) :: rest) (hW : (rest.map fun v => v.category).sum ≤ 8) (hd : decode cc pc = .ok (.invokevirtual index, 3)) (hf : cells ≤ R.cells ∧ slots ≤ R.slots)
    (kk : ∀ (r : Int32) (u : MSt) (H1 : Heap) (locs1 : List Loc), K r u → LB Γ A δ σ α u H1 → va_S A s.heap H1 locs1 → W p l e R s m args below meth c H1 locs1 cells slots Q (F0 m (pc + 3) ls (.int r :: rest))) : W p l e R s m args below meth c H locs cells slots Q (F0 m pc ls st) := by
  subst hst
  have hFc := m_free hB.2.2.2.2.1 hS hA
  exact va_calli (va_runV (As := avs) (rest := rest) S (hM H.size) cw (m_preV hK hB.2.2.2.2.1 hB.2.2.2.1) rfl hn hsize rfl (lv_room (pc := pc) (ls := ls) (rest := avs.reverse ++ .ref (α 50) :: rest) hW) hd hf) hS (fun q _ h => hFc q h) hFc (fun r u t H1 locs1 ht _ hk hB1 _ kept hS1 => kk r u H1 locs1 hk (l_m hB kept (ht ▸ hB1.1)) hS1)
theorem l_ml (S : CallFix p m c cc nL s args lw_all own) (hK : KA Γ s) (hB : LB Γ A δ σ α σm H) (hA : ∀ q, s.heap.size ≤ q → A q) (hS : va_S A s.heap H locs) {K : Int64 → MSt → Prop} (hM : mL l y bytes maxL ret rm Γ α avs σm K) (cw : CallW R s args own RX4 index y bytes maxL ret (ws_ y bytes maxL ret) rm 0 0 n) (hn : avs.length = n) (hsize : ls.size = nL) (hst : st = avs.reverse ++ .ref (α 50) :: rest) (hW : (rest.map fun v => v.category).sum ≤ 8) (hd : decode cc pc = .ok (.invokevirtual index, 3)) (hf : cells ≤ R.cells ∧ slots ≤ R.slots)
    (kk : ∀ (r : Int64) (u : MSt) (H1 : Heap) (locs1 : List Loc), K r u → LB Γ A δ σ α u H1 → va_S A s.heap H1 locs1 → W p l e R s m args below meth c H1 locs1 cells slots Q (F0 m (pc + 3) ls (.long r :: rest))) : W p l e R s m args below meth c H locs cells slots Q (F0 m pc ls st) := by
  subst hst
  have hFc := m_free hB.2.2.2.2.1 hS hA
  exact va_calll (va_runV (As := avs) (rest := rest) S (hM H.size) cw (m_preV hK hB.2.2.2.2.1 hB.2.2.2.1) rfl hn hsize rfl (lv_room (pc := pc) (ls := ls) (rest := avs.reverse ++ .ref (α 50) :: rest) hW) hd hf) hS (fun q _ h => hFc q h) hFc (fun r u t H1 locs1 ht _ hk hB1 _ kept hS1 => kk r u H1 locs1 hk (l_m hB kept (ht ▸ hB1.1)) hS1)
end LC
