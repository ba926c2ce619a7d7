/-! methods that answer a reference -/
abbrev xR (l : Launch) (y : MethodName) (b : ByteArray) (L : Nat) (ret : Option FieldType) (rm : Room) (mc ms : Nat) (Γ : GA) (δ : XSh) (avs : List Value) (σ : XSt) (K : Nat → XU → Prop) : Prop := ∀ sz : Nat, Met l y (ws_ y b L ret) rm (xPre Γ δ σ sz avs) (va_Qr (fun _ : XU => True) (fun u a t => K a u ∧ xB Γ δ sz u t) (AX δ sz)) mc ms (AX δ sz)
abbrev YR (below : List Frame) (K : Nat → XU → Prop) (mc ms : Nat) (Γ : GA) (δ : XSh) (s : State) (args : Array Value) : State → Prop := MQ below (va_Qr (fun _ : XU => True) (fun u a t => K a u ∧ xB Γ δ s.heap.size u t) (AX δ s.heap.size)) args s mc ms (AX δ s.heap.size)
section XRR
variable {p : Program} {l : Launch} {e : Env} {R : Room} {s : State} {m : MethodId} {args : Array Value} {below : List Frame} {meth : Method} {c : Code} {H : Heap} {locs : List Loc} {cells slots mc ms : Nat} {Q : State → Prop}
variable {cc : ByteArray} {pc nL : Nat} {ls : Array Slot} {rest st avs : List Value} {Γ : GA} {δ0 δ : XSh} {σ : XSt} {A : Nat → Prop} {own : String} {a : Array Value}
theorem x_gor {K : Nat → XU → Prop} (hr : va_Run p l e R s m args below meth c H locs cells slots mc ms (F0 m pc ls st) rest (va_Qr (fun _ : XU => True) (fun u a t => K a u ∧ xB Γ δ H.size u t) (AX δ H.size) a) (AX δ H.size)) (hD : gD δ.1 (adX δ) A) (hA : ∀ q, s.heap.size ≤ q → A q) (hS : va_S A s.heap H locs)
    (kk : ∀ (r : Nat) (u : XU) (H1 : Heap) (locs1 : List Loc), K r u → XH Γ u.1 u.2 H1 → XO u.1 → gD u.1.1 (adX u.1) A → va_S A s.heap H1 locs1 → W p l e R s m args below meth c H1 locs1 (cells + mc) (slots + ms) Q (F0 m (pc + 3) ls (.ref r :: rest))) : W p l e R s m args below meth c H locs cells slots Q (F0 m pc ls st) := by
  have hFc := x_free hD hS hA
  exact va_callr hr hS (fun q _ h => hFc q h) hFc (fun u r t H1 locs1 ht _ _ hB _ _ hS1 => kk r u H1 locs1 hB.1 (ht ▸ hB.2.1) hB.2.2.1 ⟨hB.2.2.2.1, fun κ h => hFc _ (hB.2.2.2.2 κ h)⟩ hS1)
theorem x_aret {v : Nat} {rt : FieldType} {K : Nat → XU → Prop} (hx : p.tables.exec = Jvm.exec) (hb : c.code = cc) (hr : meth.sig.returnType = some rt) (hrt : (∃ n, rt = .object n) ∨ ∃ t, rt = .array t) (hlk : meth.locks = false) (hP : XH Γ δ σ H) (hO : XO δ) (hD : gD δ.1 (adX δ) (AX δ0 s.heap.size)) (hS : va_S (AX δ0 s.heap.size) s.heap H locs) (hk : K v (δ, σ)) (hd : decode cc pc = .ok (.areturn, 1)) : W p l e R s m args below meth c H locs mc ms (YR below K mc ms Γ δ0 s args) (F0 m pc ls [.ref v]) :=
  W.aret (v := .ref v) hx hb hr hrt (Or.inr ⟨v, rfl⟩) (fun t ht hW => ⟨⟨(δ, σ), v, rfl, trivial, hk, by rw [ht]; exact hP, hO, hD⟩, hS.F ht⟩) hS.2.2 hd
end XRR
