/-! Rd_word -/
def xw_Rd_word_2_b (K : XSh → XSt → Prop) (X : Nat → XSh → XSt → Prop) (i0 : Nat) (i1 : Nat) (L2 : Int32 → XSh → XSt → Prop) (x2 : Int32) (δ : XSh) (σ : XSt) : Prop :=
  (((nI (lenS.getD i1 0)) ≤ x2) → (K δ σ)) ∧ ((¬ ((nI (lenS.getD i1 0)) ≤ x2)) → (vp_in x2 (lenS.getD i1 0) ∧ (xw_Rd_must (fun δ3 σ4 => L2 (x2 + 1) δ3 σ4) (fun q9 δ6 σ7 => X q9 δ6 σ7) i0 ((bytS.getD i1 []).getD x2.toNatClampNeg 0) δ σ)))
def xw_Rd_word_2 (K : XSh → XSt → Prop) (X : Nat → XSh → XSt → Prop) (i0 : Nat) (i1 : Nat) : Nat → Int32 → XSh → XSt → Prop
  | 0 => fun _ _ _ => False
  | n + 1 => fun x2 δ σ => xw_Rd_word_2_b K X i0 i1 (xw_Rd_word_2 K X i0 i1 n) x2 δ σ
set_option maxHeartbeats 4000000 in
set_option maxRecDepth 100000 in
theorem xk_Rd_word_2_b {p : Program} {l : Launch} {e : Env} {s : State} {m : MethodId} {args : Array Value} {below : List Frame} {meth : Method} {c : Code} {Γ : GA} {δ0 : XSh} {K : XSh → XSt → Prop} {X : Nat → XSh → XSt → Prop} {i0 : Nat} {i1 : Nat} (hst : l.stackTraces = false) (Xc : CY p s m args meth c cX18_word 3 none RX18 Γ δ0 (tableOf [])) (h0 : (12, i0) ∈ δ0.1) (h1 : i1 < 5) {c0 s0 : Nat} (hc0 : c0 + 1 ≤ 8) (hs0 : s0 + 7 ≤ 56) {L2 : Int32 → XSh → XSt → Prop} (hL2 : ∀ (x2 : Int32) (δ : XSh) (σ : XSt), Ext δ0 δ → L2 x2 δ σ → TX p l e ({ frames := 6, cells := 9, slots := 63, locals := 400 } : Room) s m args below meth c 3 (c0 + 1) (s0 + 7) (VV below (fun u => K u.1 u.2 ∧ Ext δ0 u.1) (fun E q u => (E = RX19 ∧ (14, q) ∈ u.1.1) ∧ X q u.1 u.2 ∧ Ext δ0 u.1) 9 63 Γ δ0 s args) Γ δ0 δ σ 2 [(0, .ref i0), (1, .ref (Γ.2 (10 + i1))), (2, .int x2)] []) : ∀ (x2 : Int32) (δ : XSh) (σ : XSt), Ext δ0 δ → xw_Rd_word_2_b K X i0 i1 L2 x2 δ σ → TX p l e ({ frames := 6, cells := 9, slots := 63, locals := 400 } : Room) s m args below meth c 3 (c0) (s0) (VV below (fun u => K u.1 u.2 ∧ Ext δ0 u.1) (fun E q u => (E = RX19 ∧ (14, q) ∈ u.1.1) ∧ X q u.1 u.2 ∧ Ext δ0 u.1) 9 63 Γ δ0 s args) Γ δ0 δ σ 2 [(0, .ref i0), (1, .ref (Γ.2 (10 + i1))), (2, .int x2)] [] := by
  obtain ⟨⟨hx, hb, hml, hown, hts, hK, hr, hlk⟩, hZ, htb⟩ := id Xc
  have hA : ∀ q, s.heap.size ≤ q → AX δ0 s.heap.size q := fun q h => Or.inr h
  intro x2 δ σ hE hwp H locs ls hP hO hD hS hl
  unfold xw_Rd_word_2_b at hwp
  refine lv_iload_n hx hb dX18_word_2 rfl (lv_at hl 2 rfl) ?_
  refine lv_aload_n hx hb dX18_word_3 rfl (lv_at hl 1 rfl) ?_
  refine x_goi (va_runV (As := []) (rest := [.int x2]) ⟨hx, hb, hml, hown, hts⟩ (st_length h1 H.size) (cwV 0 hts (lw_V q941 q942 q943 q85 q944) rfl rfl rfl (by decide +kernel) ⟨(Nat.le_of_ble_eq_true rfl), (Nat.le_of_ble_eq_true rfl)⟩) (s_preV hK hO hD hA hZ hP hS h1) rfl rfl hl.1 rfl (lv_room (Nat.le_of_ble_eq_true rfl)) dX18_word_4 ⟨(by first | omega | (dsimp only; omega)), (by first | omega | (dsimp only; omega))⟩) hD hA hS (fun r9 u H locs hk hP hO hD hS => ?_)
  obtain ⟨er, eu⟩ := hk
  subst eu
  subst er
  dsimp only at hP hO hD
  refine lv_icmp_ge (tgt := 25) hx hb dX18_word_7 (by decide) (fun c1 => ?_) (fun c1 => ?_)
  · replace hwp := hwp.1 c1
    refine W.widen (k := 9) (n := 63) (by first | omega | (dsimp only; omega)) (by first | omega | (dsimp only; omega)) ?_
    refine vx_ret ?_
    exact x_vret hx hb hr hlk hP hO hD hS ⟨hwp, hE⟩ dX18_word_25
  · replace hwp := hwp.2 c1
    refine lv_aload_n hx hb dX18_word_10 rfl (lv_at hl 0 rfl) ?_
    refine lv_aload_n hx hb dX18_word_11 rfl (lv_at hl 1 rfl) ?_
    refine lv_iload_n hx hb dX18_word_12 rfl (lv_at hl 2 rfl) ?_
    obtain ⟨hi2, hwp⟩ := hwp
    refine x_goi (va_runV (As := [.int x2]) (rest := [.ref i0]) ⟨hx, hb, hml, hown, hts⟩ (st_charAt h1 hi2 H.size) (cwV 1 hts (lw_V q951 q952 q953 q85 q954) rfl rfl rfl (by decide +kernel) ⟨(Nat.le_of_ble_eq_true rfl), (Nat.le_of_ble_eq_true rfl)⟩) (s_preV hK hO hD hA hZ hP hS h1) rfl rfl hl.1 rfl (lv_room (Nat.le_of_ble_eq_true rfl)) dX18_word_13 ⟨(by first | omega | (dsimp only; omega)), (by first | omega | (dsimp only; omega))⟩) hD hA hS (fun r9 u H locs hk hP hO hD hS => ?_)
    obtain ⟨er, eu⟩ := hk
    subst eu
    subst er
    dsimp only at hP hO hD
    refine y_gov (vx_runV (As := [.int ((bytS.getD i1 []).getD x2.toNatClampNeg 0)]) (rest := []) ⟨hx, hb, hml, hown, hts⟩ (xt_Rd_must hst (hE.m h0) hwp H.size) (cwV 1 hts (lw_V q989 q991 qs12 q104 q992) rfl rfl rfl (by decide +kernel) ⟨(Nat.le_of_ble_eq_true rfl), (Nat.le_of_ble_eq_true rfl)⟩) (y_preV hK hO hD hA hZ hP hS 12 i0 (hE.m h0) rfl rfl) rfl rfl hl.1 rfl (lv_room (Nat.le_of_ble_eq_true rfl)) dX18_word_16 ⟨(by first | omega | (dsimp only; omega)), (by first | omega | (dsimp only; omega))⟩) hD hA hS (fun E ce q9 u H locs hk hP hO hD hS k1 k2 k3 => ?_) (fun u H locs hk hP hO hD hS => ?_)
    · obtain ⟨δ6, σ7⟩ := u
      obtain ⟨⟨rfl, hq9⟩, hwp, hF8⟩ := hk
      dsimp only at hP hO hD hwp hF8 hq9
      replace hE := hE.tr hF8
      exact y_out hown hlk (fun z hz => by rw [htb] at hz; exact nomatch hz) hP hO hD hS k1 k2 k3 ⟨⟨rfl, hq9⟩, hwp, hE⟩ (by first | omega | (dsimp only; omega)) (by first | omega | (dsimp only; omega))
    · obtain ⟨δ3, σ4⟩ := u
      obtain ⟨hwp, hF5⟩ := hk
      dsimp only at hP hO hD hwp hF5
      replace hE := hE.tr hF5
      refine lv_iinc (v := x2 + 1) (lv' := [(2, .int (x2 + 1)), (0, .ref i0), (1, .ref (Γ.2 (10 + i1)))]) hx hb dX18_word_19 hl (k := 2) rfl rfl (by decide) rfl (fun ls hl => ?_)
      refine lv_goto (tgt := 2) hx hb dX18_word_22 (by decide) ?_
      refine W.widen (k := c0 + 1) (n := s0 + 7) (by first | omega | (dsimp only; omega)) (by first | omega | (dsimp only; omega)) ?_
      exact hL2 _ δ3 σ4 hE hwp H locs ls hP hO hD hS (lv_sub hl [1, 2, 0] rfl)
set_option maxHeartbeats 4000000 in
set_option maxRecDepth 100000 in
theorem xk_Rd_word_2 {p : Program} {l : Launch} {e : Env} {s : State} {m : MethodId} {args : Array Value} {below : List Frame} {meth : Method} {c : Code} {Γ : GA} {δ0 : XSh} {K : XSh → XSt → Prop} {X : Nat → XSh → XSt → Prop} {i0 : Nat} {i1 : Nat} (hst : l.stackTraces = false) (Xc : CY p s m args meth c cX18_word 3 none RX18 Γ δ0 (tableOf [])) (h0 : (12, i0) ∈ δ0.1) (h1 : i1 < 5) : ∀ n, n ≤ 8 → ∀ (x2 : Int32) (δ : XSh) (σ : XSt), Ext δ0 δ → xw_Rd_word_2 K X i0 i1 n x2 δ σ → TX p l e ({ frames := 6, cells := 9, slots := 63, locals := 400 } : Room) s m args below meth c 3 (0 + (8 - n) * 1) (0 + (8 - n) * 7) (VV below (fun u => K u.1 u.2 ∧ Ext δ0 u.1) (fun E q u => (E = RX19 ∧ (14, q) ∈ u.1.1) ∧ X q u.1 u.2 ∧ Ext δ0 u.1) 9 63 Γ δ0 s args) Γ δ0 δ σ 2 [(0, .ref i0), (1, .ref (Γ.2 (10 + i1))), (2, .int x2)] [] := by
  intro n
  induction n with
  | zero => intro _ _ _ _ _ hwp; exact hwp.elim
  | succ n ih =>
    intro hn x2 δ σ hE hwp
    refine xk_Rd_word_2_b hst Xc h0 h1 (c0 := 0 + (8 - (n + 1)) * 1) (s0 := 0 + (8 - (n + 1)) * 7) (by omega) (by omega) (fun x2 δ σ hE hwp => ?_) x2 δ σ hE hwp
    have h9 := ih (by omega) x2 δ σ hE hwp
    rw [show 0 + (8 - (n + 1)) * 1 + 1 = 0 + (8 - n) * 1 by omega, show 0 + (8 - (n + 1)) * 7 + 7 = 0 + (8 - n) * 7 by omega]
    exact h9
def xw_Rd_word (K : XSh → XSt → Prop) (X : Nat → XSh → XSt → Prop) (i0 : Nat) (i1 : Nat) (δ : XSh) (σ : XSt) : Prop :=
  ∃ n, n ≤ 8 ∧ xw_Rd_word_2 K X i0 i1 n 0 δ σ
set_option maxHeartbeats 4000000 in
set_option maxRecDepth 100000 in
theorem xk_Rd_word_e {p : Program} {l : Launch} {e : Env} {s : State} {m : MethodId} {args : Array Value} {below : List Frame} {meth : Method} {c : Code} {Γ : GA} {δ0 : XSh} {K : XSh → XSt → Prop} {X : Nat → XSh → XSt → Prop} {i0 : Nat} {i1 : Nat} (hst : l.stackTraces = false) (Xc : CY p s m args meth c cX18_word 3 none RX18 Γ δ0 (tableOf [])) (h0 : (12, i0) ∈ δ0.1) (h1 : i1 < 5) : ∀ (δ : XSh) (σ : XSt), Ext δ0 δ → xw_Rd_word K X i0 i1  δ σ → TX p l e ({ frames := 6, cells := 9, slots := 63, locals := 400 } : Room) s m args below meth c 3 0 0 (VV below (fun u => K u.1 u.2 ∧ Ext δ0 u.1) (fun E q u => (E = RX19 ∧ (14, q) ∈ u.1.1) ∧ X q u.1 u.2 ∧ Ext δ0 u.1) 9 63 Γ δ0 s args) Γ δ0 δ σ 0 [(0, .ref i0), (1, .ref (Γ.2 (10 + i1)))] [] := by
  obtain ⟨⟨hx, hb, hml, hown, hts, hK, hr, hlk⟩, hZ, htb⟩ := id Xc
  have hA : ∀ q, s.heap.size ≤ q → AX δ0 s.heap.size q := fun q h => Or.inr h
  intro δ σ hE hwp H locs ls hP hO hD hS hl
  unfold xw_Rd_word at hwp
  refine lv_iconst (v := 0) hx hb dX18_word_0 (by decide) ?_
  refine lv_istore_n (lv' := [(2, .int 0), (0, .ref i0), (1, .ref (Γ.2 (10 + i1)))]) hx hb dX18_word_1 rfl hl (by decide) rfl (fun ls hl => ?_)
  obtain ⟨n, hn, hwp⟩ := hwp
  refine W.widen (k := 0 + (8 - n) * 1) (n := 0 + (8 - n) * 7) (Nat.le_trans (Nat.le_of_ble_eq_true rfl) (Nat.le_add_right _ _)) (Nat.le_trans (Nat.le_of_ble_eq_true rfl) (Nat.le_add_right _ _)) ?_
  exact xk_Rd_word_2 hst Xc h0 h1 n hn _ δ σ hE hwp H locs ls hP hO hD hS (lv_sub hl [1, 2, 0] rfl)
set_option maxHeartbeats 4000000 in
set_option maxRecDepth 100000 in
theorem xt_Rd_word {l : Launch} (hst : l.stackTraces = false) {Γ : GA} {δ0 : XSh} {σ : XSt} {K : XSh → XSt → Prop} {X : Nat → XSh → XSt → Prop} {i0 : Nat} {i1 : Nat} (h0 : (12, i0) ∈ δ0.1) (h1 : i1 < 5) (hwp : xw_Rd_word K X i0 i1  δ0 σ) : yV l yX18_word (ws_ yX18_word cX18_word 3 none) ({ frames := 6, cells := 9, slots := 63, locals := 400 } : Room) 9 63 Γ δ0 [.ref i0, .ref (Γ.2 (10 + i1))] σ (fun u => K u.1 u.2 ∧ Ext δ0 u.1) (fun E q u => (E = RX19 ∧ (14, q) ∈ u.1.1) ∧ X q u.1 u.2 ∧ Ext δ0 u.1) := by
  intro sz
  refine y_of (by decide) [(0, .ref i0), (1, .ref (Γ.2 (10 + i1)))] (fun _ h => h) (Nat.le_of_ble_eq_true rfl) ?_
  intro p e s m args below meth c hsz Xc
  subst hsz
  exact xk_Rd_word_e hst Xc h0 h1 δ0 σ Ext.rf hwp
/-! Rd_item -/
def xw_Rd_item_77 (K : XSh → XSt → Prop) (X : Nat → XSh → XSt → Prop) (i0 : Nat) (t0 : Int32) (z1 : Nat) (δ : XSh) (σ : XSt) : Prop :=
  (t0 = 0 ∨ t0 = 1) ∧ (∀ σ2, σ2 = tI σ 6 z1 1 t0 → (K δ σ2))
set_option maxHeartbeats 4000000 in
set_option maxRecDepth 100000 in
theorem xk_Rd_item_77 {p : Program} {l : Launch} {e : Env} {s : State} {m : MethodId} {args : Array Value} {below : List Frame} {meth : Method} {c : Code} {Γ : GA} {δ0 : XSh} {K : XSh → XSt → Prop} {X : Nat → XSh → XSt → Prop} {i0 : Nat} (hst : l.stackTraces = false) (Xc : CY p s m args meth c cX18_item 4 none RX18 Γ δ0 (tableOf [])) (h0 : (12, i0) ∈ δ0.1) : ∀ (t0 : Int32) (z1 : Nat) (δ : XSh) (σ : XSt), Ext δ0 δ → (6, z1) ∈ δ.1 → xw_Rd_item_77 K X i0 t0 z1 δ σ → TX p l e ({ frames := 7, cells := 22, slots := 151, locals := 422 } : Room) s m args below meth c 4 12 84 (VV below (fun u => K u.1 u.2 ∧ Ext δ0 u.1) (fun E q u => (E = RX19 ∧ (14, q) ∈ u.1.1) ∧ X q u.1 u.2 ∧ Ext δ0 u.1) 22 151 Γ δ0 s args) Γ δ0 δ σ 77 [] [.int t0, .ref z1] := by
  obtain ⟨⟨hx, hb, hml, hown, hts, hK, hr, hlk⟩, hZ, htb⟩ := id Xc
  have hA : ∀ q, s.heap.size ≤ q → AX δ0 s.heap.size q := fun q h => Or.inr h
  intro t0 z1 δ σ hE hz1 hwp H locs ls hP hO hD hS hl
  unfold xw_Rd_item_77 at hwp
  obtain ⟨hv1, hwp⟩ := hwp
  refine x_puti hx hb hts hown hK hD hP hS 6 z1 hz1 rfl rfl in_X2 tyX2 tyX2_ok nmX2 1 (by decide) q147 rfl rfl (zb_in hv1) (zb_fit hv1) (Nat.le_of_ble_eq_true rfl) rfl dX18_item_77 (fun H locs hP hS => ?_)
  obtain ⟨σ2, eσ2⟩ : ∃ z, z = tI σ 6 z1 1 t0 := ⟨_, rfl⟩
  replace hP : XH Γ δ σ2 H := by rw [eσ2]; exact hP
  replace hwp := hwp σ2 eσ2
  refine W.widen (k := 22) (n := 151) (Nat.le_of_ble_eq_true rfl) (Nat.le_of_ble_eq_true rfl) ?_
  refine vx_ret ?_
  exact x_vret hx hb hr hlk hP hO hD hS ⟨hwp, hE⟩ dX18_item_80
def xw_Rd_item_108 (K : XSh → XSt → Prop) (X : Nat → XSh → XSt → Prop) (i0 : Nat) (x2 : Int32) (x3 : Int32) (t0 : Int32) (z1 : Nat) (δ : XSh) (σ : XSt) : Prop :=
  xw_Rd_hasRoom (fun δ1 σ2 => ∃ o4, σ2.2.2 12 i0 1 = some o4 ∧ (vp_in x3 8 ∧ (vp_in x3 8 ∧ (∀ σ7, σ7 = tI σ2 10 o4 x3.toNatClampNeg ((σ2.1 10 o4 x3.toNatClampNeg) ||| ((1 : Int32) <<< (x2 &&& 31))) → (K δ1 σ7))))) (fun q11 δ8 σ9 => X q11 δ8 σ9) z1 t0 (σ.1 12 i0 3) δ σ
set_option maxHeartbeats 4000000 in
set_option maxRecDepth 100000 in
theorem xk_Rd_item_108 {p : Program} {l : Launch} {e : Env} {s : State} {m : MethodId} {args : Array Value} {below : List Frame} {meth : Method} {c : Code} {Γ : GA} {δ0 : XSh} {K : XSh → XSt → Prop} {X : Nat → XSh → XSt → Prop} {i0 : Nat} (hst : l.stackTraces = false) (Xc : CY p s m args meth c cX18_item 4 none RX18 Γ δ0 (tableOf [])) (h0 : (12, i0) ∈ δ0.1) : ∀ (x2 : Int32) (x3 : Int32) (t0 : Int32) (z1 : Nat) (δ : XSh) (σ : XSt), Ext δ0 δ → (12, z1) ∈ δ.1 → xw_Rd_item_108 K X i0 x2 x3 t0 z1 δ σ → TX p l e ({ frames := 7, cells := 22, slots := 151, locals := 422 } : Room) s m args below meth c 4 16 112 (VV below (fun u => K u.1 u.2 ∧ Ext δ0 u.1) (fun E q u => (E = RX19 ∧ (14, q) ∈ u.1.1) ∧ X q u.1 u.2 ∧ Ext δ0 u.1) 22 151 Γ δ0 s args) Γ δ0 δ σ 108 [(0, .ref i0), (2, .int x2), (3, .int x3)] [.int t0, .ref z1] := by
  obtain ⟨⟨hx, hb, hml, hown, hts, hK, hr, hlk⟩, hZ, htb⟩ := id Xc
  have hA : ∀ q, s.heap.size ≤ q → AX δ0 s.heap.size q := fun q h => Or.inr h
  intro x2 x3 t0 z1 δ σ hE hz1 hwp H locs ls hP hO hD hS hl
  unfold xw_Rd_item_108 at hwp
  refine lv_aload_n hx hb dX18_item_108 rfl (lv_at hl 0 rfl) ?_
  refine x_get hx hb hts hown hK hP 12 i0 (hE.m h0) rfl rfl in_X18 3 (by decide) q886 rfl (v := .int (σ.1 12 i0 3)) rfl dX18_item_109 ?_
  refine y_gov (vx_runV (As := [.int t0, .int (σ.1 12 i0 3)]) (rest := []) ⟨hx, hb, hml, hown, hts⟩ (xt_Rd_hasRoom hst hz1 hwp H.size) (cwV 2 hts (lw_V q1016 q1018 qs14 q104 q1019) rfl rfl rfl (by decide +kernel) ⟨(Nat.le_of_ble_eq_true rfl), (Nat.le_of_ble_eq_true rfl)⟩) (y_preV hK hO hD hA hZ hP hS 12 z1 hz1 rfl rfl) rfl rfl hl.1 rfl (lv_room (Nat.le_of_ble_eq_true rfl)) dX18_item_112 ⟨(Nat.le_of_ble_eq_true rfl), (Nat.le_of_ble_eq_true rfl)⟩) hD hA hS (fun E ce q11 u H locs hk hP hO hD hS k1 k2 k3 => ?_) (fun u H locs hk hP hO hD hS => ?_)
  · obtain ⟨δ8, σ9⟩ := u
    obtain ⟨⟨rfl, hq11⟩, hwp, hF10⟩ := hk
    dsimp only at hP hO hD hwp hF10 hq11
    replace hE := hE.tr hF10
    exact y_out hown hlk (fun z hz => by rw [htb] at hz; exact nomatch hz) hP hO hD hS k1 k2 k3 ⟨⟨rfl, hq11⟩, hwp, hE⟩ (Nat.le_of_ble_eq_true rfl) (Nat.le_of_ble_eq_true rfl)
  · obtain ⟨δ1, σ2⟩ := u
    obtain ⟨hwp, hF3⟩ := hk
    dsimp only at hP hO hD hwp hF3
    replace hE := hE.tr hF3
    refine lv_aload_n hx hb dX18_item_115 rfl (lv_at hl 0 rfl) ?_
    obtain ⟨o4, eo4, hwp⟩ := hwp
    refine x_getr hx hb hts hown hK hP 12 i0 (hE.m h0) rfl rfl in_X18 1 (by decide) q884 rfl rfl eo4 dX18_item_116 (fun ho4 co4 => ?_)
    refine x_get hx hb hts hown hK hP 6 o4 ho4 rfl rfl in_X2 8 (by decide) q165 rfl (v := .ref (δ1.2.1 10 o4)) rfl dX18_item_119 ?_
    refine lv_iload_n hx hb dX18_item_122 rfl (lv_at hl 2 rfl) ?_
    refine lv_dup2_11 hx hb dX18_item_123 rfl rfl ?_
    obtain ⟨hi5, hwp⟩ := hwp
    refine x_iald hx hb hK hP 10 o4 ((hO.1 _ ho4).2.2) rfl hi5 dX18_item_124 ?_
    refine lv_iconst (v := 1) hx hb dX18_item_125 (by decide) ?_
    refine lv_iload_n hx hb dX18_item_126 rfl (lv_at hl 1 rfl) ?_
    refine lv_ishl hx hb dX18_item_127 ?_
    refine lv_ior hx hb dX18_item_128 ?_
    obtain ⟨hi6, hwp⟩ := hwp
    refine x_iast hx hb hK hD hP hS 10 o4 ((hO.1 _ ho4).2.2) (fun _ => rfl) hi6 dX18_item_129 (fun H locs hP hS => ?_)
    obtain ⟨σ7, eσ7⟩ : ∃ z, z = tI σ2 10 o4 x3.toNatClampNeg ((σ2.1 10 o4 x3.toNatClampNeg) ||| ((1 : Int32) <<< (x2 &&& 31))) := ⟨_, rfl⟩
    replace hP : XH Γ δ1 σ7 H := by rw [eσ7]; exact hP
    replace hwp := hwp σ7 eσ7
    refine lv_goto (tgt := 189) hx hb dX18_item_130 (by decide) ?_
    refine W.widen (k := 22) (n := 151) (Nat.le_of_ble_eq_true rfl) (Nat.le_of_ble_eq_true rfl) ?_
    refine vx_ret ?_
    exact x_vret hx hb hr hlk hP hO hD hS ⟨hwp, hE⟩ dX18_item_189
def xw_Rd_item (K : XSh → XSt → Prop) (X : Nat → XSh → XSt → Prop) (i0 : Nat) (δ : XSh) (σ : XSt) : Prop :=
  xw_Rd_sees δ σ (fun r1 => ((r1 = 0) → (xw_Rd_sees δ σ (fun r3 => ((r3 = 0) → (xw_Rd_sees δ σ (fun r5 => ((r5 = 0) → (xw_Rd_word (fun δ7 σ8 => ∃ o10, σ8.2.2 12 i0 1 = some o10 ∧ (xw_Rd_house (fun r11 δ12 σ13 => ∀ σ17, σ17 = tI σ13 6 o10 3 ((σ8.1 6 o10 3) ||| ((1 : Int32) <<< (r11 &&& 31))) → (K δ12 σ17)) (fun q21 δ18 σ19 => X q21 δ18 σ19) i0 δ7 σ8)) (fun q27 δ24 σ25 => X q27 δ24 σ25) i0 4 δ σ)) ∧ ((¬ (r5 = 0)) → (xw_Rd_word (fun δ28 σ29 => ∃ o31, σ29.2.2 12 i0 1 = some o31 ∧ (xw_Rd_number (fun r32 δ33 σ34 => ∀ σ38, σ38 = tI σ34 6 o31 2 r32 → (K δ33 σ38)) (fun q42 δ39 σ40 => X q42 δ39 σ40) i0 1 9 δ28 σ29)) (fun q48 δ45 σ46 => X q48 δ45 σ46) i0 3 δ σ))) i0 102)) ∧ ((¬ (r3 = 0)) → (xw_Rd_must (fun δ49 σ50 => xw_Rd_sees δ49 σ50 (fun r52 => ((r52 = 0) → (xw_Rd_word (fun δ54 σ55 => xw_Rd_house (fun r57 δ58 σ59 => xw_Rd_house (fun r61 δ62 σ63 => ((r57 = r61) → (xw_Rd_item_108 K X i0 r57 r61 0 i0 δ62 σ63)) ∧ ((¬ (r57 = r61)) → (xw_Rd_item_108 K X i0 r57 r61 1 i0 δ62 σ63))) (fun q69 δ66 σ67 => X q69 δ66 σ67) i0 δ58 σ59) (fun q73 δ70 σ71 => X q73 δ70 σ71) i0 δ54 σ55) (fun q77 δ74 σ75 => X q77 δ74 σ75) i0 2 δ49 σ50)) ∧ ((¬ (r52 = 0)) → (xw_Rd_word (fun δ78 σ79 => ∃ o81, σ79.2.2 12 i0 1 = some o81 ∧ (xw_Rd_number (fun r82 δ83 σ84 => ((¬ (r82 = 1)) → (xw_Rd_item_77 K X i0 0 o81 δ83 σ84)) ∧ ((r82 = 1) → (xw_Rd_item_77 K X i0 1 o81 δ83 σ84))) (fun q92 δ89 σ90 => X q92 δ89 σ90) i0 0 1 δ78 σ79)) (fun q98 δ95 σ96 => X q98 δ95 σ96) i0 1 δ49 σ50))) i0 117) (fun q102 δ99 σ100 => X q102 δ99 σ100) i0 115 δ σ))) i0 115)) ∧ ((¬ (r1 = 0)) → (xw_Rd_word (fun δ103 σ104 => xw_Rd_thing (fun δ106 σ107 => K δ106 σ107) (fun q112 δ109 σ110 => X q112 δ109 σ110) i0 (σ.1 12 i0 2) δ103 σ104) (fun q116 δ113 σ114 => X q116 δ113 σ114) i0 0 δ σ))) i0 116
set_option maxHeartbeats 4000000 in
set_option maxRecDepth 100000 in
theorem xk_Rd_item_e {p : Program} {l : Launch} {e : Env} {s : State} {m : MethodId} {args : Array Value} {below : List Frame} {meth : Method} {c : Code} {Γ : GA} {δ0 : XSh} {K : XSh → XSt → Prop} {X : Nat → XSh → XSt → Prop} {i0 : Nat} (hst : l.stackTraces = false) (Xc : CY p s m args meth c cX18_item 4 none RX18 Γ δ0 (tableOf [])) (h0 : (12, i0) ∈ δ0.1) : ∀ (δ : XSh) (σ : XSt), Ext δ0 δ → xw_Rd_item K X i0  δ σ → TX p l e ({ frames := 7, cells := 22, slots := 151, locals := 422 } : Room) s m args below meth c 4 0 0 (VV below (fun u => K u.1 u.2 ∧ Ext δ0 u.1) (fun E q u => (E = RX19 ∧ (14, q) ∈ u.1.1) ∧ X q u.1 u.2 ∧ Ext δ0 u.1) 22 151 Γ δ0 s args) Γ δ0 δ σ 0 [(0, .ref i0)] [] := by
  obtain ⟨⟨hx, hb, hml, hown, hts, hK, hr, hlk⟩, hZ, htb⟩ := id Xc
  have hA : ∀ q, s.heap.size ≤ q → AX δ0 s.heap.size q := fun q h => Or.inr h
  intro δ σ hE hwp H locs ls hP hO hD hS hl
  unfold xw_Rd_item at hwp
  refine lv_aload_n hx hb dX18_item_0 rfl (lv_at hl 0 rfl) ?_
  refine x_get hx hb hts hown hK hP 12 i0 (hE.m h0) rfl rfl in_X18 2 (by decide) q885 rfl (v := .int (σ.1 12 i0 2)) rfl dX18_item_1 ?_
  refine lv_istore_n (lv' := [(1, .int (σ.1 12 i0 2)), (0, .ref i0)]) hx hb dX18_item_4 rfl hl (by decide) rfl (fun ls hl => ?_)
  refine lv_aload_n hx hb dX18_item_5 rfl (lv_at hl 1 rfl) ?_
  refine lv_bipush (v := 116) hx hb dX18_item_6 (by decide) ?_
  refine x_goi (va_runV (As := [.int 116]) (rest := []) ⟨hx, hb, hml, hown, hts⟩ (xt_Rd_sees (hE.m h0) hwp H.size) (cwV 1 hts (lw_V q904 q906 qs9 q104 q907) rfl rfl rfl (by decide +kernel) ⟨Nat.le_of_ble_eq_true rfl, Nat.le_of_ble_eq_true rfl⟩) (x_preV hK hO hD hP 12 i0 (hE.m h0) rfl rfl) rfl rfl hl.1 rfl (lv_room (Nat.le_of_ble_eq_true rfl)) dX18_item_8 ⟨(Nat.le_of_ble_eq_true rfl), (Nat.le_of_ble_eq_true rfl)⟩) hD hA hS (fun r1 u H locs hk hP hO hD hS => ?_)
  obtain ⟨hwp, eu⟩ := hk
  subst eu
  dsimp only at hP hO hD
  refine lv_if_eq (tgt := 28) hx hb dX18_item_11 (by decide) (fun c2 => ?_) (fun c2 => ?_)
  · replace hwp := hwp.1 c2
    refine lv_aload_n hx hb dX18_item_28 rfl (lv_at hl 1 rfl) ?_
    refine lv_bipush (v := 115) hx hb dX18_item_29 (by decide) ?_
    refine x_goi (va_runV (As := [.int 115]) (rest := []) ⟨hx, hb, hml, hown, hts⟩ (xt_Rd_sees (hE.m h0) hwp H.size) (cwV 1 hts (lw_V q904 q906 qs9 q104 q907) rfl rfl rfl (by decide +kernel) ⟨Nat.le_of_ble_eq_true rfl, Nat.le_of_ble_eq_true rfl⟩) (x_preV hK hO hD hP 12 i0 (hE.m h0) rfl rfl) rfl rfl hl.1 rfl (lv_room (Nat.le_of_ble_eq_true rfl)) dX18_item_31 ⟨(Nat.le_of_ble_eq_true rfl), (Nat.le_of_ble_eq_true rfl)⟩) hD hA hS (fun r3 u H locs hk hP hO hD hS => ?_)
    obtain ⟨hwp, eu⟩ := hk
    subst eu
    dsimp only at hP hO hD
    refine lv_if_eq (tgt := 133) hx hb dX18_item_34 (by decide) (fun c4 => ?_) (fun c4 => ?_)
    · replace hwp := hwp.1 c4
      refine lv_aload_n hx hb dX18_item_133 rfl (lv_at hl 1 rfl) ?_
      refine lv_bipush (v := 102) hx hb dX18_item_134 (by decide) ?_
      refine x_goi (va_runV (As := [.int 102]) (rest := []) ⟨hx, hb, hml, hown, hts⟩ (xt_Rd_sees (hE.m h0) hwp H.size) (cwV 1 hts (lw_V q904 q906 qs9 q104 q907) rfl rfl rfl (by decide +kernel) ⟨Nat.le_of_ble_eq_true rfl, Nat.le_of_ble_eq_true rfl⟩) (x_preV hK hO hD hP 12 i0 (hE.m h0) rfl rfl) rfl rfl hl.1 rfl (lv_room (Nat.le_of_ble_eq_true rfl)) dX18_item_136 ⟨(Nat.le_of_ble_eq_true rfl), (Nat.le_of_ble_eq_true rfl)⟩) hD hA hS (fun r5 u H locs hk hP hO hD hS => ?_)
      obtain ⟨hwp, eu⟩ := hk
      subst eu
      dsimp only at hP hO hD
      refine lv_if_eq (tgt := 165) hx hb dX18_item_139 (by decide) (fun c6 => ?_) (fun c6 => ?_)
      · replace hwp := hwp.1 c6
        refine lv_aload_n hx hb dX18_item_165 rfl (lv_at hl 1 rfl) ?_
        refine va_ldcS hx hb hown (hZ.2.2.1.2 4 (by decide)) dX18_item_166 ?_
        refine y_gov (vx_runV (As := [.ref (Γ.2 (10 + 4))]) (rest := []) ⟨hx, hb, hml, hown, hts⟩ (xt_Rd_word hst (hE.m h0) (by decide) hwp H.size) (cwV 1 hts (lw_V q937 q939 qs11 q104 q940) rfl rfl rfl (by decide +kernel) ⟨(Nat.le_of_ble_eq_true rfl), (Nat.le_of_ble_eq_true rfl)⟩) (y_preV hK hO hD hA hZ hP hS 12 i0 (hE.m h0) rfl rfl) rfl rfl hl.1 rfl (lv_room (Nat.le_of_ble_eq_true rfl)) dX18_item_168 ⟨(Nat.le_of_ble_eq_true rfl), (Nat.le_of_ble_eq_true rfl)⟩) hD hA hS (fun E ce q27 u H locs hk hP hO hD hS k1 k2 k3 => ?_) (fun u H locs hk hP hO hD hS => ?_)
        · obtain ⟨δ24, σ25⟩ := u
          obtain ⟨⟨rfl, hq27⟩, hwp, hF26⟩ := hk
          dsimp only at hP hO hD hwp hF26 hq27
          replace hE := hE.tr hF26
          exact y_out hown hlk (fun z hz => by rw [htb] at hz; exact nomatch hz) hP hO hD hS k1 k2 k3 ⟨⟨rfl, hq27⟩, hwp, hE⟩ (Nat.le_of_ble_eq_true rfl) (Nat.le_of_ble_eq_true rfl)
        · obtain ⟨δ7, σ8⟩ := u
          obtain ⟨hwp, hF9⟩ := hk
          dsimp only at hP hO hD hwp hF9
          replace hE := hE.tr hF9
          refine lv_aload_n hx hb dX18_item_171 rfl (lv_at hl 1 rfl) ?_
          obtain ⟨o10, eo10, hwp⟩ := hwp
          refine x_getr hx hb hts hown hK hP 12 i0 (hE.m h0) rfl rfl in_X18 1 (by decide) q884 rfl rfl eo10 dX18_item_172 (fun ho10 co10 => ?_)
          refine lv_dup hx hb dX18_item_175 rfl ?_
          refine x_get hx hb hts hown hK hP 6 o10 ho10 rfl rfl in_X2 3 (by decide) q153 rfl (v := .int (σ8.1 6 o10 3)) rfl dX18_item_176 ?_
          refine lv_iconst (v := 1) hx hb dX18_item_179 (by decide) ?_
          refine lv_aload_n hx hb dX18_item_180 rfl (lv_at hl 1 rfl) ?_
          refine y_goi (vx_runV (As := []) (rest := [.int 1, .int (σ8.1 6 o10 3), .ref o10]) ⟨hx, hb, hml, hown, hts⟩ (xt_Rd_house hst (hE.m h0) hwp H.size) (cwV 0 hts (lw_V q1033 q1035 qs17 q104 q1036) rfl rfl rfl (by decide +kernel) ⟨(Nat.le_of_ble_eq_true rfl), (Nat.le_of_ble_eq_true rfl)⟩) (y_preV hK hO hD hA hZ hP hS 12 i0 (hE.m h0) rfl rfl) rfl rfl hl.1 rfl (lv_room (Nat.le_of_ble_eq_true rfl)) dX18_item_181 ⟨(Nat.le_of_ble_eq_true rfl), (Nat.le_of_ble_eq_true rfl)⟩) hD hA hS (fun E ce q21 u H locs hk hP hO hD hS k1 k2 k3 => ?_) (fun r11 u H locs hk hP hO hD hS => ?_)
          · obtain ⟨δ18, σ19⟩ := u
            obtain ⟨⟨rfl, hq21⟩, hwp, hF20⟩ := hk
            dsimp only at hP hO hD hwp hF20 hq21
            have hh22 := hF20.m ho10
            replace hE := hE.tr hF20
            exact y_out hown hlk (fun z hz => by rw [htb] at hz; exact nomatch hz) hP hO hD hS k1 k2 k3 ⟨⟨rfl, hq21⟩, hwp, hE⟩ (Nat.le_of_ble_eq_true rfl) (Nat.le_of_ble_eq_true rfl)
          · obtain ⟨δ12, σ13⟩ := u
            obtain ⟨hwp, hF14⟩ := hk
            dsimp only at hP hO hD hwp hF14
            have hh15 := hF14.m ho10
            replace hE := hE.tr hF14
            refine lv_ishl hx hb dX18_item_184 ?_
            refine lv_ior hx hb dX18_item_185 ?_
            refine x_puti hx hb hts hown hK hD hP hS 6 o10 hh15 rfl rfl in_X2 tyX2 tyX2_ok nmX2 3 (by decide) q153 rfl rfl rfl rfl (Nat.le_of_ble_eq_true rfl) rfl dX18_item_186 (fun H locs hP hS => ?_)
            obtain ⟨σ17, eσ17⟩ : ∃ z, z = tI σ13 6 o10 3 ((σ8.1 6 o10 3) ||| ((1 : Int32) <<< (r11 &&& 31))) := ⟨_, rfl⟩
            replace hP : XH Γ δ12 σ17 H := by rw [eσ17]; exact hP
            replace hwp := hwp σ17 eσ17
            refine W.widen (k := 22) (n := 151) (Nat.le_of_ble_eq_true rfl) (Nat.le_of_ble_eq_true rfl) ?_
            refine vx_ret ?_
            exact x_vret hx hb hr hlk hP hO hD hS ⟨hwp, hE⟩ dX18_item_189
      · replace hwp := hwp.2 c6
        refine lv_aload_n hx hb dX18_item_142 rfl (lv_at hl 1 rfl) ?_
        refine va_ldcS hx hb hown (hZ.2.2.1.2 3 (by decide)) dX18_item_143 ?_
        refine y_gov (vx_runV (As := [.ref (Γ.2 (10 + 3))]) (rest := []) ⟨hx, hb, hml, hown, hts⟩ (xt_Rd_word hst (hE.m h0) (by decide) hwp H.size) (cwV 1 hts (lw_V q937 q939 qs11 q104 q940) rfl rfl rfl (by decide +kernel) ⟨(Nat.le_of_ble_eq_true rfl), (Nat.le_of_ble_eq_true rfl)⟩) (y_preV hK hO hD hA hZ hP hS 12 i0 (hE.m h0) rfl rfl) rfl rfl hl.1 rfl (lv_room (Nat.le_of_ble_eq_true rfl)) dX18_item_145 ⟨(Nat.le_of_ble_eq_true rfl), (Nat.le_of_ble_eq_true rfl)⟩) hD hA hS (fun E ce q48 u H locs hk hP hO hD hS k1 k2 k3 => ?_) (fun u H locs hk hP hO hD hS => ?_)
        · obtain ⟨δ45, σ46⟩ := u
          obtain ⟨⟨rfl, hq48⟩, hwp, hF47⟩ := hk
          dsimp only at hP hO hD hwp hF47 hq48
          replace hE := hE.tr hF47
          exact y_out hown hlk (fun z hz => by rw [htb] at hz; exact nomatch hz) hP hO hD hS k1 k2 k3 ⟨⟨rfl, hq48⟩, hwp, hE⟩ (Nat.le_of_ble_eq_true rfl) (Nat.le_of_ble_eq_true rfl)
        · obtain ⟨δ28, σ29⟩ := u
          obtain ⟨hwp, hF30⟩ := hk
          dsimp only at hP hO hD hwp hF30
          replace hE := hE.tr hF30
          refine lv_aload_n hx hb dX18_item_148 rfl (lv_at hl 1 rfl) ?_
          obtain ⟨o31, eo31, hwp⟩ := hwp
          refine x_getr hx hb hts hown hK hP 12 i0 (hE.m h0) rfl rfl in_X18 1 (by decide) q884 rfl rfl eo31 dX18_item_149 (fun ho31 co31 => ?_)
          refine lv_aload_n hx hb dX18_item_152 rfl (lv_at hl 1 rfl) ?_
          refine lv_iconst (v := 1) hx hb dX18_item_153 (by decide) ?_
          refine lv_bipush (v := 9) hx hb dX18_item_154 (by decide) ?_
          refine y_goi (vx_runV (As := [.int 1, .int 9]) (rest := [.ref o31]) ⟨hx, hb, hml, hown, hts⟩ (xt_Rd_number hst (hE.m h0) hwp H.size) (cwV 2 hts (lw_V q1020 q1022 qs15 q104 q1023) rfl rfl rfl (by decide +kernel) ⟨(Nat.le_of_ble_eq_true rfl), (Nat.le_of_ble_eq_true rfl)⟩) (y_preV hK hO hD hA hZ hP hS 12 i0 (hE.m h0) rfl rfl) rfl rfl hl.1 rfl (lv_room (Nat.le_of_ble_eq_true rfl)) dX18_item_156 ⟨(Nat.le_of_ble_eq_true rfl), (Nat.le_of_ble_eq_true rfl)⟩) hD hA hS (fun E ce q42 u H locs hk hP hO hD hS k1 k2 k3 => ?_) (fun r32 u H locs hk hP hO hD hS => ?_)
          · obtain ⟨δ39, σ40⟩ := u
            obtain ⟨⟨rfl, hq42⟩, hwp, hF41⟩ := hk
            dsimp only at hP hO hD hwp hF41 hq42
            have hh43 := hF41.m ho31
            replace hE := hE.tr hF41
            exact y_out hown hlk (fun z hz => by rw [htb] at hz; exact nomatch hz) hP hO hD hS k1 k2 k3 ⟨⟨rfl, hq42⟩, hwp, hE⟩ (Nat.le_of_ble_eq_true rfl) (Nat.le_of_ble_eq_true rfl)
          · obtain ⟨δ33, σ34⟩ := u
            obtain ⟨hwp, hF35⟩ := hk
            dsimp only at hP hO hD hwp hF35
            have hh36 := hF35.m ho31
            replace hE := hE.tr hF35
            refine x_puti hx hb hts hown hK hD hP hS 6 o31 hh36 rfl rfl in_X2 tyX2 tyX2_ok nmX2 2 (by decide) q150 rfl rfl rfl rfl (Nat.le_of_ble_eq_true rfl) rfl dX18_item_159 (fun H locs hP hS => ?_)
            obtain ⟨σ38, eσ38⟩ : ∃ z, z = tI σ34 6 o31 2 r32 := ⟨_, rfl⟩
            replace hP : XH Γ δ33 σ38 H := by rw [eσ38]; exact hP
            replace hwp := hwp σ38 eσ38
            refine lv_goto (tgt := 189) hx hb dX18_item_162 (by decide) ?_
            refine W.widen (k := 22) (n := 151) (Nat.le_of_ble_eq_true rfl) (Nat.le_of_ble_eq_true rfl) ?_
            refine vx_ret ?_
            exact x_vret hx hb hr hlk hP hO hD hS ⟨hwp, hE⟩ dX18_item_189
    · replace hwp := hwp.2 c4
      refine lv_aload_n hx hb dX18_item_37 rfl (lv_at hl 1 rfl) ?_
      refine lv_bipush (v := 115) hx hb dX18_item_38 (by decide) ?_
      refine y_gov (vx_runV (As := [.int 115]) (rest := []) ⟨hx, hb, hml, hown, hts⟩ (xt_Rd_must hst (hE.m h0) hwp H.size) (cwV 1 hts (lw_V q989 q991 qs12 q104 q992) rfl rfl rfl (by decide +kernel) ⟨(Nat.le_of_ble_eq_true rfl), (Nat.le_of_ble_eq_true rfl)⟩) (y_preV hK hO hD hA hZ hP hS 12 i0 (hE.m h0) rfl rfl) rfl rfl hl.1 rfl (lv_room (Nat.le_of_ble_eq_true rfl)) dX18_item_40 ⟨(Nat.le_of_ble_eq_true rfl), (Nat.le_of_ble_eq_true rfl)⟩) hD hA hS (fun E ce q102 u H locs hk hP hO hD hS k1 k2 k3 => ?_) (fun u H locs hk hP hO hD hS => ?_)
      · obtain ⟨δ99, σ100⟩ := u
        obtain ⟨⟨rfl, hq102⟩, hwp, hF101⟩ := hk
        dsimp only at hP hO hD hwp hF101 hq102
        replace hE := hE.tr hF101
        exact y_out hown hlk (fun z hz => by rw [htb] at hz; exact nomatch hz) hP hO hD hS k1 k2 k3 ⟨⟨rfl, hq102⟩, hwp, hE⟩ (Nat.le_of_ble_eq_true rfl) (Nat.le_of_ble_eq_true rfl)
      · obtain ⟨δ49, σ50⟩ := u
        obtain ⟨hwp, hF51⟩ := hk
        dsimp only at hP hO hD hwp hF51
        replace hE := hE.tr hF51
        refine lv_aload_n hx hb dX18_item_43 rfl (lv_at hl 1 rfl) ?_
        refine lv_bipush (v := 117) hx hb dX18_item_44 (by decide) ?_
        refine x_goi (va_runV (As := [.int 117]) (rest := []) ⟨hx, hb, hml, hown, hts⟩ (xt_Rd_sees (hE.m h0) hwp H.size) (cwV 1 hts (lw_V q904 q906 qs9 q104 q907) rfl rfl rfl (by decide +kernel) ⟨Nat.le_of_ble_eq_true rfl, Nat.le_of_ble_eq_true rfl⟩) (x_preV hK hO hD hP 12 i0 (hE.m h0) rfl rfl) rfl rfl hl.1 rfl (lv_room (Nat.le_of_ble_eq_true rfl)) dX18_item_46 ⟨(Nat.le_of_ble_eq_true rfl), (Nat.le_of_ble_eq_true rfl)⟩) hD hA hS (fun r52 u H locs hk hP hO hD hS => ?_)
        obtain ⟨hwp, eu⟩ := hk
        subst eu
        dsimp only at hP hO hD
        refine lv_if_eq (tgt := 81) hx hb dX18_item_49 (by decide) (fun c53 => ?_) (fun c53 => ?_)
        · replace hwp := hwp.1 c53
          refine lv_aload_n hx hb dX18_item_81 rfl (lv_at hl 1 rfl) ?_
          refine va_ldcS hx hb hown (hZ.2.2.1.2 2 (by decide)) dX18_item_82 ?_
          refine y_gov (vx_runV (As := [.ref (Γ.2 (10 + 2))]) (rest := []) ⟨hx, hb, hml, hown, hts⟩ (xt_Rd_word hst (hE.m h0) (by decide) hwp H.size) (cwV 1 hts (lw_V q937 q939 qs11 q104 q940) rfl rfl rfl (by decide +kernel) ⟨(Nat.le_of_ble_eq_true rfl), (Nat.le_of_ble_eq_true rfl)⟩) (y_preV hK hO hD hA hZ hP hS 12 i0 (hE.m h0) rfl rfl) rfl rfl hl.1 rfl (lv_room (Nat.le_of_ble_eq_true rfl)) dX18_item_84 ⟨(Nat.le_of_ble_eq_true rfl), (Nat.le_of_ble_eq_true rfl)⟩) hD hA hS (fun E ce q77 u H locs hk hP hO hD hS k1 k2 k3 => ?_) (fun u H locs hk hP hO hD hS => ?_)
          · obtain ⟨δ74, σ75⟩ := u
            obtain ⟨⟨rfl, hq77⟩, hwp, hF76⟩ := hk
            dsimp only at hP hO hD hwp hF76 hq77
            replace hE := hE.tr hF76
            exact y_out hown hlk (fun z hz => by rw [htb] at hz; exact nomatch hz) hP hO hD hS k1 k2 k3 ⟨⟨rfl, hq77⟩, hwp, hE⟩ (Nat.le_of_ble_eq_true rfl) (Nat.le_of_ble_eq_true rfl)
          · obtain ⟨δ54, σ55⟩ := u
            obtain ⟨hwp, hF56⟩ := hk
            dsimp only at hP hO hD hwp hF56
            replace hE := hE.tr hF56
            refine lv_aload_n hx hb dX18_item_87 rfl (lv_at hl 1 rfl) ?_
            refine y_goi (vx_runV (As := []) (rest := []) ⟨hx, hb, hml, hown, hts⟩ (xt_Rd_house hst (hE.m h0) hwp H.size) (cwV 0 hts (lw_V q1033 q1035 qs17 q104 q1036) rfl rfl rfl (by decide +kernel) ⟨(Nat.le_of_ble_eq_true rfl), (Nat.le_of_ble_eq_true rfl)⟩) (y_preV hK hO hD hA hZ hP hS 12 i0 (hE.m h0) rfl rfl) rfl rfl hl.1 rfl (lv_room (Nat.le_of_ble_eq_true rfl)) dX18_item_88 ⟨(Nat.le_of_ble_eq_true rfl), (Nat.le_of_ble_eq_true rfl)⟩) hD hA hS (fun E ce q73 u H locs hk hP hO hD hS k1 k2 k3 => ?_) (fun r57 u H locs hk hP hO hD hS => ?_)
            · obtain ⟨δ70, σ71⟩ := u
              obtain ⟨⟨rfl, hq73⟩, hwp, hF72⟩ := hk
              dsimp only at hP hO hD hwp hF72 hq73
              replace hE := hE.tr hF72
              exact y_out hown hlk (fun z hz => by rw [htb] at hz; exact nomatch hz) hP hO hD hS k1 k2 k3 ⟨⟨rfl, hq73⟩, hwp, hE⟩ (Nat.le_of_ble_eq_true rfl) (Nat.le_of_ble_eq_true rfl)
            · obtain ⟨δ58, σ59⟩ := u
              obtain ⟨hwp, hF60⟩ := hk
              dsimp only at hP hO hD hwp hF60
              replace hE := hE.tr hF60
              refine lv_istore_n (lv' := [(2, .int r57), (1, .int (σ.1 12 i0 2)), (0, .ref i0)]) hx hb dX18_item_91 rfl hl (by decide) rfl (fun ls hl => ?_)
              refine lv_aload_n hx hb dX18_item_92 rfl (lv_at hl 2 rfl) ?_
              refine y_goi (vx_runV (As := []) (rest := []) ⟨hx, hb, hml, hown, hts⟩ (xt_Rd_house hst (hE.m h0) hwp H.size) (cwV 0 hts (lw_V q1033 q1035 qs17 q104 q1036) rfl rfl rfl (by decide +kernel) ⟨(Nat.le_of_ble_eq_true rfl), (Nat.le_of_ble_eq_true rfl)⟩) (y_preV hK hO hD hA hZ hP hS 12 i0 (hE.m h0) rfl rfl) rfl rfl hl.1 rfl (lv_room (Nat.le_of_ble_eq_true rfl)) dX18_item_93 ⟨(Nat.le_of_ble_eq_true rfl), (Nat.le_of_ble_eq_true rfl)⟩) hD hA hS (fun E ce q69 u H locs hk hP hO hD hS k1 k2 k3 => ?_) (fun r61 u H locs hk hP hO hD hS => ?_)
              · obtain ⟨δ66, σ67⟩ := u
                obtain ⟨⟨rfl, hq69⟩, hwp, hF68⟩ := hk
                dsimp only at hP hO hD hwp hF68 hq69
                replace hE := hE.tr hF68
                exact y_out hown hlk (fun z hz => by rw [htb] at hz; exact nomatch hz) hP hO hD hS k1 k2 k3 ⟨⟨rfl, hq69⟩, hwp, hE⟩ (Nat.le_of_ble_eq_true rfl) (Nat.le_of_ble_eq_true rfl)
              · obtain ⟨δ62, σ63⟩ := u
                obtain ⟨hwp, hF64⟩ := hk
                dsimp only at hP hO hD hwp hF64
                replace hE := hE.tr hF64
                refine lv_istore_n (lv' := [(3, .int r61), (2, .int r57), (1, .int (σ.1 12 i0 2)), (0, .ref i0)]) hx hb dX18_item_96 rfl hl (by decide) rfl (fun ls hl => ?_)
                refine lv_aload_n hx hb dX18_item_97 rfl (lv_at hl 3 rfl) ?_
                refine lv_iload_n hx hb dX18_item_98 rfl (lv_at hl 1 rfl) ?_
                refine lv_iload_n hx hb dX18_item_99 rfl (lv_at hl 0 rfl) ?_
                refine lv_icmp_eq (tgt := 107) hx hb dX18_item_100 (by decide) (fun c65 => ?_) (fun c65 => ?_)
                · replace hwp := hwp.1 c65
                  refine lv_iconst (v := 0) hx hb dX18_item_107 (by decide) ?_
                  refine W.widen (k := 16) (n := 112) (Nat.le_of_ble_eq_true rfl) (Nat.le_of_ble_eq_true rfl) ?_
                  exact xk_Rd_item_108 hst Xc h0 _ _ _ _ δ62 σ63 hE (hE.m h0) hwp H locs ls hP hO hD hS (lv_sub hl [3, 1, 0] rfl)
                · replace hwp := hwp.2 c65
                  refine lv_iconst (v := 1) hx hb dX18_item_103 (by decide) ?_
                  refine lv_goto (tgt := 108) hx hb dX18_item_104 (by decide) ?_
                  refine W.widen (k := 16) (n := 112) (Nat.le_of_ble_eq_true rfl) (Nat.le_of_ble_eq_true rfl) ?_
                  exact xk_Rd_item_108 hst Xc h0 _ _ _ _ δ62 σ63 hE (hE.m h0) hwp H locs ls hP hO hD hS (lv_sub hl [3, 1, 0] rfl)
        · replace hwp := hwp.2 c53
          refine lv_aload_n hx hb dX18_item_52 rfl (lv_at hl 1 rfl) ?_
          refine va_ldcS hx hb hown (hZ.2.2.1.2 1 (by decide)) dX18_item_53 ?_
          refine y_gov (vx_runV (As := [.ref (Γ.2 (10 + 1))]) (rest := []) ⟨hx, hb, hml, hown, hts⟩ (xt_Rd_word hst (hE.m h0) (by decide) hwp H.size) (cwV 1 hts (lw_V q937 q939 qs11 q104 q940) rfl rfl rfl (by decide +kernel) ⟨(Nat.le_of_ble_eq_true rfl), (Nat.le_of_ble_eq_true rfl)⟩) (y_preV hK hO hD hA hZ hP hS 12 i0 (hE.m h0) rfl rfl) rfl rfl hl.1 rfl (lv_room (Nat.le_of_ble_eq_true rfl)) dX18_item_55 ⟨(Nat.le_of_ble_eq_true rfl), (Nat.le_of_ble_eq_true rfl)⟩) hD hA hS (fun E ce q98 u H locs hk hP hO hD hS k1 k2 k3 => ?_) (fun u H locs hk hP hO hD hS => ?_)
          · obtain ⟨δ95, σ96⟩ := u
            obtain ⟨⟨rfl, hq98⟩, hwp, hF97⟩ := hk
            dsimp only at hP hO hD hwp hF97 hq98
            replace hE := hE.tr hF97
            exact y_out hown hlk (fun z hz => by rw [htb] at hz; exact nomatch hz) hP hO hD hS k1 k2 k3 ⟨⟨rfl, hq98⟩, hwp, hE⟩ (Nat.le_of_ble_eq_true rfl) (Nat.le_of_ble_eq_true rfl)
          · obtain ⟨δ78, σ79⟩ := u
            obtain ⟨hwp, hF80⟩ := hk
            dsimp only at hP hO hD hwp hF80
            replace hE := hE.tr hF80
            refine lv_aload_n hx hb dX18_item_58 rfl (lv_at hl 1 rfl) ?_
            obtain ⟨o81, eo81, hwp⟩ := hwp
            refine x_getr hx hb hts hown hK hP 12 i0 (hE.m h0) rfl rfl in_X18 1 (by decide) q884 rfl rfl eo81 dX18_item_59 (fun ho81 co81 => ?_)
            refine lv_aload_n hx hb dX18_item_62 rfl (lv_at hl 1 rfl) ?_
            refine lv_iconst (v := 0) hx hb dX18_item_63 (by decide) ?_
            refine lv_iconst (v := 1) hx hb dX18_item_64 (by decide) ?_
            refine y_goi (vx_runV (As := [.int 0, .int 1]) (rest := [.ref o81]) ⟨hx, hb, hml, hown, hts⟩ (xt_Rd_number hst (hE.m h0) hwp H.size) (cwV 2 hts (lw_V q1020 q1022 qs15 q104 q1023) rfl rfl rfl (by decide +kernel) ⟨(Nat.le_of_ble_eq_true rfl), (Nat.le_of_ble_eq_true rfl)⟩) (y_preV hK hO hD hA hZ hP hS 12 i0 (hE.m h0) rfl rfl) rfl rfl hl.1 rfl (lv_room (Nat.le_of_ble_eq_true rfl)) dX18_item_65 ⟨(Nat.le_of_ble_eq_true rfl), (Nat.le_of_ble_eq_true rfl)⟩) hD hA hS (fun E ce q92 u H locs hk hP hO hD hS k1 k2 k3 => ?_) (fun r82 u H locs hk hP hO hD hS => ?_)
            · obtain ⟨δ89, σ90⟩ := u
              obtain ⟨⟨rfl, hq92⟩, hwp, hF91⟩ := hk
              dsimp only at hP hO hD hwp hF91 hq92
              have hh93 := hF91.m ho81
              replace hE := hE.tr hF91
              exact y_out hown hlk (fun z hz => by rw [htb] at hz; exact nomatch hz) hP hO hD hS k1 k2 k3 ⟨⟨rfl, hq92⟩, hwp, hE⟩ (Nat.le_of_ble_eq_true rfl) (Nat.le_of_ble_eq_true rfl)
            · obtain ⟨δ83, σ84⟩ := u
              obtain ⟨hwp, hF85⟩ := hk
              dsimp only at hP hO hD hwp hF85
              have hh86 := hF85.m ho81
              replace hE := hE.tr hF85
              refine lv_iconst (v := 1) hx hb dX18_item_68 (by decide) ?_
              refine lv_icmp_ne (tgt := 76) hx hb dX18_item_69 (by decide) (fun c88 => ?_) (fun c88 => ?_)
              · replace hwp := hwp.1 c88
                refine lv_iconst (v := 0) hx hb dX18_item_76 (by decide) ?_
                refine W.widen (k := 12) (n := 84) (Nat.le_of_ble_eq_true rfl) (Nat.le_of_ble_eq_true rfl) ?_
                exact xk_Rd_item_77 hst Xc h0 _ _ δ83 σ84 hE hh86 hwp H locs ls hP hO hD hS (lv_sub hl [] rfl)
              · replace hwp := hwp.2 c88
                refine lv_iconst (v := 1) hx hb dX18_item_72 (by decide) ?_
                refine lv_goto (tgt := 77) hx hb dX18_item_73 (by decide) ?_
                refine W.widen (k := 12) (n := 84) (Nat.le_of_ble_eq_true rfl) (Nat.le_of_ble_eq_true rfl) ?_
                exact xk_Rd_item_77 hst Xc h0 _ _ δ83 σ84 hE hh86 hwp H locs ls hP hO hD hS (lv_sub hl [] rfl)
  · replace hwp := hwp.2 c2
    refine lv_aload_n hx hb dX18_item_14 rfl (lv_at hl 1 rfl) ?_
    refine va_ldcS hx hb hown (hZ.2.2.1.2 0 (by decide)) dX18_item_15 ?_
    refine y_gov (vx_runV (As := [.ref (Γ.2 (10 + 0))]) (rest := []) ⟨hx, hb, hml, hown, hts⟩ (xt_Rd_word hst (hE.m h0) (by decide) hwp H.size) (cwV 1 hts (lw_V q937 q939 qs11 q104 q940) rfl rfl rfl (by decide +kernel) ⟨(Nat.le_of_ble_eq_true rfl), (Nat.le_of_ble_eq_true rfl)⟩) (y_preV hK hO hD hA hZ hP hS 12 i0 (hE.m h0) rfl rfl) rfl rfl hl.1 rfl (lv_room (Nat.le_of_ble_eq_true rfl)) dX18_item_17 ⟨(Nat.le_of_ble_eq_true rfl), (Nat.le_of_ble_eq_true rfl)⟩) hD hA hS (fun E ce q116 u H locs hk hP hO hD hS k1 k2 k3 => ?_) (fun u H locs hk hP hO hD hS => ?_)
    · obtain ⟨δ113, σ114⟩ := u
      obtain ⟨⟨rfl, hq116⟩, hwp, hF115⟩ := hk
      dsimp only at hP hO hD hwp hF115 hq116
      replace hE := hE.tr hF115
      exact y_out hown hlk (fun z hz => by rw [htb] at hz; exact nomatch hz) hP hO hD hS k1 k2 k3 ⟨⟨rfl, hq116⟩, hwp, hE⟩ (Nat.le_of_ble_eq_true rfl) (Nat.le_of_ble_eq_true rfl)
    · obtain ⟨δ103, σ104⟩ := u
      obtain ⟨hwp, hF105⟩ := hk
      dsimp only at hP hO hD hwp hF105
      replace hE := hE.tr hF105
      refine lv_aload_n hx hb dX18_item_20 rfl (lv_at hl 1 rfl) ?_
      refine lv_iload_n hx hb dX18_item_21 rfl (lv_at hl 0 rfl) ?_
      refine y_gov (vx_runV (As := [.int (σ.1 12 i0 2)]) (rest := []) ⟨hx, hb, hml, hown, hts⟩ (xt_Rd_thing hst (hE.m h0) hwp H.size) (cwV 1 hts (lw_V q1012 q1014 qs13 q104 q1015) rfl rfl rfl (by decide +kernel) ⟨(Nat.le_of_ble_eq_true rfl), (Nat.le_of_ble_eq_true rfl)⟩) (y_preV hK hO hD hA hZ hP hS 12 i0 (hE.m h0) rfl rfl) rfl rfl hl.1 rfl (lv_room (Nat.le_of_ble_eq_true rfl)) dX18_item_22 ⟨(Nat.le_of_ble_eq_true rfl), (Nat.le_of_ble_eq_true rfl)⟩) hD hA hS (fun E ce q112 u H locs hk hP hO hD hS k1 k2 k3 => ?_) (fun u H locs hk hP hO hD hS => ?_)
      · obtain ⟨δ109, σ110⟩ := u
        obtain ⟨⟨rfl, hq112⟩, hwp, hF111⟩ := hk
        dsimp only at hP hO hD hwp hF111 hq112
        replace hE := hE.tr hF111
        exact y_out hown hlk (fun z hz => by rw [htb] at hz; exact nomatch hz) hP hO hD hS k1 k2 k3 ⟨⟨rfl, hq112⟩, hwp, hE⟩ (Nat.le_of_ble_eq_true rfl) (Nat.le_of_ble_eq_true rfl)
      · obtain ⟨δ106, σ107⟩ := u
        obtain ⟨hwp, hF108⟩ := hk
        dsimp only at hP hO hD hwp hF108
        replace hE := hE.tr hF108
        refine lv_goto (tgt := 189) hx hb dX18_item_25 (by decide) ?_
        refine W.widen (k := 22) (n := 151) (Nat.le_of_ble_eq_true rfl) (Nat.le_of_ble_eq_true rfl) ?_
        refine vx_ret ?_
        exact x_vret hx hb hr hlk hP hO hD hS ⟨hwp, hE⟩ dX18_item_189
set_option maxHeartbeats 4000000 in
set_option maxRecDepth 100000 in
theorem xt_Rd_item {l : Launch} (hst : l.stackTraces = false) {Γ : GA} {δ0 : XSh} {σ : XSt} {K : XSh → XSt → Prop} {X : Nat → XSh → XSt → Prop} {i0 : Nat} (h0 : (12, i0) ∈ δ0.1) (hwp : xw_Rd_item K X i0  δ0 σ) : yV l yX18_item (ws_ yX18_item cX18_item 4 none) ({ frames := 7, cells := 22, slots := 151, locals := 422 } : Room) 22 151 Γ δ0 [.ref i0] σ (fun u => K u.1 u.2 ∧ Ext δ0 u.1) (fun E q u => (E = RX19 ∧ (14, q) ∈ u.1.1) ∧ X q u.1 u.2 ∧ Ext δ0 u.1) := by
  intro sz
  refine y_of (by decide) [(0, .ref i0)] (fun _ h => h) (Nat.le_of_ble_eq_true rfl) ?_
  intro p e s m args below meth c hsz Xc
  subst hsz
  exact xk_Rd_item_e hst Xc h0 δ0 σ Ext.rf hwp
/-! Rd_items -/
def xw_Rd_items_6_b (K : Int32 → XSh → XSt → Prop) (X : Nat → XSh → XSt → Prop) (i0 : Nat) (L6 : Int32 → XSh → XSt → Prop) (x1 : Int32) (δ : XSh) (σ : XSt) : Prop :=
  xw_Rd_ends δ σ (fun r1 => ((¬ (r1 = 0)) → (K x1 δ σ)) ∧ ((r1 = 0) → (xw_Rd_must (fun δ3 σ4 => xw_Rd_item (fun δ6 σ7 => L6 (x1 + 1) δ6 σ7) (fun q12 δ9 σ10 => X q12 δ9 σ10) i0 δ3 σ4) (fun q16 δ13 σ14 => X q16 δ13 σ14) i0 59 δ σ))) i0
def xw_Rd_items_6 (K : Int32 → XSh → XSt → Prop) (X : Nat → XSh → XSt → Prop) (i0 : Nat) : Nat → Int32 → XSh → XSt → Prop
  | 0 => fun _ _ _ => False
  | n + 1 => fun x1 δ σ => xw_Rd_items_6_b K X i0 (xw_Rd_items_6 K X i0 n) x1 δ σ
set_option maxHeartbeats 4000000 in
set_option maxRecDepth 100000 in
theorem xk_Rd_items_6_b {p : Program} {l : Launch} {e : Env} {s : State} {m : MethodId} {args : Array Value} {below : List Frame} {meth : Method} {c : Code} {Γ : GA} {δ0 : XSh} {K : Int32 → XSh → XSt → Prop} {X : Nat → XSh → XSt → Prop} {i0 : Nat} (hst : l.stackTraces = false) (Xc : CY p s m args meth c cX18_items 2 (some .int) RX18 Γ δ0 (tableOf [])) (h0 : (12, i0) ∈ δ0.1) {c0 s0 : Nat} (hc0 : c0 + 23 ≤ 4622) (hs0 : s0 + 158 ≤ 31751) {L6 : Int32 → XSh → XSt → Prop} (hL6 : ∀ (x1 : Int32) (δ : XSh) (σ : XSt), Ext δ0 δ → L6 x1 δ σ → TX p l e ({ frames := 8, cells := 4645, slots := 31909, locals := 445 } : Room) s m args below meth c 2 (c0 + 23) (s0 + 158) (VI below (fun r u => K r u.1 u.2 ∧ Ext δ0 u.1) (fun E q u => (E = RX19 ∧ (14, q) ∈ u.1.1) ∧ X q u.1 u.2 ∧ Ext δ0 u.1) 4645 31909 Γ δ0 s args) Γ δ0 δ σ 6 [(0, .ref i0), (1, .int x1)] []) : ∀ (x1 : Int32) (δ : XSh) (σ : XSt), Ext δ0 δ → xw_Rd_items_6_b K X i0 L6 x1 δ σ → TX p l e ({ frames := 8, cells := 4645, slots := 31909, locals := 445 } : Room) s m args below meth c 2 (c0) (s0) (VI below (fun r u => K r u.1 u.2 ∧ Ext δ0 u.1) (fun E q u => (E = RX19 ∧ (14, q) ∈ u.1.1) ∧ X q u.1 u.2 ∧ Ext δ0 u.1) 4645 31909 Γ δ0 s args) Γ δ0 δ σ 6 [(0, .ref i0), (1, .int x1)] [] := by
  obtain ⟨⟨hx, hb, hml, hown, hts, hK, hr, hlk⟩, hZ, htb⟩ := id Xc
  have hA : ∀ q, s.heap.size ≤ q → AX δ0 s.heap.size q := fun q h => Or.inr h
  intro x1 δ σ hE hwp H locs ls hP hO hD hS hl
  unfold xw_Rd_items_6_b at hwp
  refine lv_aload_n hx hb dX18_items_6 rfl (lv_at hl 0 rfl) ?_
  refine x_goi (va_runV (As := []) (rest := []) ⟨hx, hb, hml, hown, hts⟩ (xt_Rd_ends (hE.m h0) hwp H.size) (cwV 0 hts (lw_V q908 q910 qs10 q104 q911) rfl rfl rfl (by decide +kernel) ⟨Nat.le_of_ble_eq_true rfl, Nat.le_of_ble_eq_true rfl⟩) (x_preV hK hO hD hP 12 i0 (hE.m h0) rfl rfl) rfl rfl hl.1 rfl (lv_room (Nat.le_of_ble_eq_true rfl)) dX18_items_7 ⟨(by first | omega | (dsimp only; omega)), (by first | omega | (dsimp only; omega))⟩) hD hA hS (fun r1 u H locs hk hP hO hD hS => ?_)
  obtain ⟨hwp, eu⟩ := hk
  subst eu
  dsimp only at hP hO hD
  refine lv_if_ne (tgt := 29) hx hb dX18_items_10 (by decide) (fun c2 => ?_) (fun c2 => ?_)
  · replace hwp := hwp.1 c2
    refine lv_iload_n hx hb dX18_items_29 rfl (lv_at hl 1 rfl) ?_
    refine W.widen (k := 4645) (n := 31909) (by first | omega | (dsimp only; omega)) (by first | omega | (dsimp only; omega)) ?_
    refine vx_ret ?_
    exact x_iret hx hb hr hlk hP hO hD hS ⟨hwp, hE⟩ dX18_items_30
  · replace hwp := hwp.2 c2
    refine lv_aload_n hx hb dX18_items_13 rfl (lv_at hl 0 rfl) ?_
    refine lv_bipush (v := 59) hx hb dX18_items_14 (by decide) ?_
    refine y_gov (vx_runV (As := [.int 59]) (rest := []) ⟨hx, hb, hml, hown, hts⟩ (xt_Rd_must hst (hE.m h0) hwp H.size) (cwV 1 hts (lw_V q989 q991 qs12 q104 q992) rfl rfl rfl (by decide +kernel) ⟨(Nat.le_of_ble_eq_true rfl), (Nat.le_of_ble_eq_true rfl)⟩) (y_preV hK hO hD hA hZ hP hS 12 i0 (hE.m h0) rfl rfl) rfl rfl hl.1 rfl (lv_room (Nat.le_of_ble_eq_true rfl)) dX18_items_16 ⟨(by first | omega | (dsimp only; omega)), (by first | omega | (dsimp only; omega))⟩) hD hA hS (fun E ce q16 u H locs hk hP hO hD hS k1 k2 k3 => ?_) (fun u H locs hk hP hO hD hS => ?_)
    · obtain ⟨δ13, σ14⟩ := u
      obtain ⟨⟨rfl, hq16⟩, hwp, hF15⟩ := hk
      dsimp only at hP hO hD hwp hF15 hq16
      replace hE := hE.tr hF15
      exact y_out hown hlk (fun z hz => by rw [htb] at hz; exact nomatch hz) hP hO hD hS k1 k2 k3 ⟨⟨rfl, hq16⟩, hwp, hE⟩ (by first | omega | (dsimp only; omega)) (by first | omega | (dsimp only; omega))
    · obtain ⟨δ3, σ4⟩ := u
      obtain ⟨hwp, hF5⟩ := hk
      dsimp only at hP hO hD hwp hF5
      replace hE := hE.tr hF5
      refine lv_aload_n hx hb dX18_items_19 rfl (lv_at hl 0 rfl) ?_
      refine y_gov (vx_runV (As := []) (rest := []) ⟨hx, hb, hml, hown, hts⟩ (xt_Rd_item hst (hE.m h0) hwp H.size) (cwV 0 hts (lw_V q900 q902 qs8 q104 q903) rfl rfl rfl (by decide +kernel) ⟨(Nat.le_of_ble_eq_true rfl), (Nat.le_of_ble_eq_true rfl)⟩) (y_preV hK hO hD hA hZ hP hS 12 i0 (hE.m h0) rfl rfl) rfl rfl hl.1 rfl (lv_room (Nat.le_of_ble_eq_true rfl)) dX18_items_20 ⟨(by first | omega | (dsimp only; omega)), (by first | omega | (dsimp only; omega))⟩) hD hA hS (fun E ce q12 u H locs hk hP hO hD hS k1 k2 k3 => ?_) (fun u H locs hk hP hO hD hS => ?_)
      · obtain ⟨δ9, σ10⟩ := u
        obtain ⟨⟨rfl, hq12⟩, hwp, hF11⟩ := hk
        dsimp only at hP hO hD hwp hF11 hq12
        replace hE := hE.tr hF11
        exact y_out hown hlk (fun z hz => by rw [htb] at hz; exact nomatch hz) hP hO hD hS k1 k2 k3 ⟨⟨rfl, hq12⟩, hwp, hE⟩ (by first | omega | (dsimp only; omega)) (by first | omega | (dsimp only; omega))
      · obtain ⟨δ6, σ7⟩ := u
        obtain ⟨hwp, hF8⟩ := hk
        dsimp only at hP hO hD hwp hF8
        replace hE := hE.tr hF8
        refine lv_iinc (v := x1 + 1) (lv' := [(1, .int (x1 + 1)), (0, .ref i0)]) hx hb dX18_items_23 hl (k := 1) rfl rfl (by decide) rfl (fun ls hl => ?_)
        refine lv_goto (tgt := 6) hx hb dX18_items_26 (by decide) ?_
        refine W.widen (k := c0 + 23) (n := s0 + 158) (by first | omega | (dsimp only; omega)) (by first | omega | (dsimp only; omega)) ?_
        exact hL6 _ δ6 σ7 hE hwp H locs ls hP hO hD hS (lv_sub hl [1, 0] rfl)
set_option maxHeartbeats 4000000 in
set_option maxRecDepth 100000 in
theorem xk_Rd_items_6 {p : Program} {l : Launch} {e : Env} {s : State} {m : MethodId} {args : Array Value} {below : List Frame} {meth : Method} {c : Code} {Γ : GA} {δ0 : XSh} {K : Int32 → XSh → XSt → Prop} {X : Nat → XSh → XSt → Prop} {i0 : Nat} (hst : l.stackTraces = false) (Xc : CY p s m args meth c cX18_items 2 (some .int) RX18 Γ δ0 (tableOf [])) (h0 : (12, i0) ∈ δ0.1) : ∀ n, n ≤ 200 → ∀ (x1 : Int32) (δ : XSh) (σ : XSt), Ext δ0 δ → xw_Rd_items_6 K X i0 n x1 δ σ → TX p l e ({ frames := 8, cells := 4645, slots := 31909, locals := 445 } : Room) s m args below meth c 2 (22 + (200 - n) * 23) (151 + (200 - n) * 158) (VI below (fun r u => K r u.1 u.2 ∧ Ext δ0 u.1) (fun E q u => (E = RX19 ∧ (14, q) ∈ u.1.1) ∧ X q u.1 u.2 ∧ Ext δ0 u.1) 4645 31909 Γ δ0 s args) Γ δ0 δ σ 6 [(0, .ref i0), (1, .int x1)] [] := by
  intro n
  induction n with
  | zero => intro _ _ _ _ _ hwp; exact hwp.elim
  | succ n ih =>
    intro hn x1 δ σ hE hwp
    refine xk_Rd_items_6_b hst Xc h0 (c0 := 22 + (200 - (n + 1)) * 23) (s0 := 151 + (200 - (n + 1)) * 158) (by omega) (by omega) (fun x1 δ σ hE hwp => ?_) x1 δ σ hE hwp
    have h9 := ih (by omega) x1 δ σ hE hwp
    rw [show 22 + (200 - (n + 1)) * 23 + 23 = 22 + (200 - n) * 23 by omega, show 151 + (200 - (n + 1)) * 158 + 158 = 151 + (200 - n) * 158 by omega]
    exact h9
def xw_Rd_items (K : Int32 → XSh → XSt → Prop) (X : Nat → XSh → XSt → Prop) (i0 : Nat) (δ : XSh) (σ : XSt) : Prop :=
  xw_Rd_item (fun δ1 σ2 => ∃ n, n ≤ 200 ∧ xw_Rd_items_6 K X i0 n 1 δ1 σ2) (fun q7 δ4 σ5 => X q7 δ4 σ5) i0 δ σ
set_option maxHeartbeats 4000000 in
set_option maxRecDepth 100000 in
theorem xk_Rd_items_e {p : Program} {l : Launch} {e : Env} {s : State} {m : MethodId} {args : Array Value} {below : List Frame} {meth : Method} {c : Code} {Γ : GA} {δ0 : XSh} {K : Int32 → XSh → XSt → Prop} {X : Nat → XSh → XSt → Prop} {i0 : Nat} (hst : l.stackTraces = false) (Xc : CY p s m args meth c cX18_items 2 (some .int) RX18 Γ δ0 (tableOf [])) (h0 : (12, i0) ∈ δ0.1) : ∀ (δ : XSh) (σ : XSt), Ext δ0 δ → xw_Rd_items K X i0  δ σ → TX p l e ({ frames := 8, cells := 4645, slots := 31909, locals := 445 } : Room) s m args below meth c 2 0 0 (VI below (fun r u => K r u.1 u.2 ∧ Ext δ0 u.1) (fun E q u => (E = RX19 ∧ (14, q) ∈ u.1.1) ∧ X q u.1 u.2 ∧ Ext δ0 u.1) 4645 31909 Γ δ0 s args) Γ δ0 δ σ 0 [(0, .ref i0)] [] := by
  obtain ⟨⟨hx, hb, hml, hown, hts, hK, hr, hlk⟩, hZ, htb⟩ := id Xc
  have hA : ∀ q, s.heap.size ≤ q → AX δ0 s.heap.size q := fun q h => Or.inr h
  intro δ σ hE hwp H locs ls hP hO hD hS hl
  unfold xw_Rd_items at hwp
  refine lv_iconst (v := 1) hx hb dX18_items_0 (by decide) ?_
  refine lv_istore_n (lv' := [(1, .int 1), (0, .ref i0)]) hx hb dX18_items_1 rfl hl (by decide) rfl (fun ls hl => ?_)
  refine lv_aload_n hx hb dX18_items_2 rfl (lv_at hl 1 rfl) ?_
  refine y_gov (vx_runV (As := []) (rest := []) ⟨hx, hb, hml, hown, hts⟩ (xt_Rd_item hst (hE.m h0) hwp H.size) (cwV 0 hts (lw_V q900 q902 qs8 q104 q903) rfl rfl rfl (by decide +kernel) ⟨(Nat.le_of_ble_eq_true rfl), (Nat.le_of_ble_eq_true rfl)⟩) (y_preV hK hO hD hA hZ hP hS 12 i0 (hE.m h0) rfl rfl) rfl rfl hl.1 rfl (lv_room (Nat.le_of_ble_eq_true rfl)) dX18_items_3 ⟨(Nat.le_of_ble_eq_true rfl), (Nat.le_of_ble_eq_true rfl)⟩) hD hA hS (fun E ce q7 u H locs hk hP hO hD hS k1 k2 k3 => ?_) (fun u H locs hk hP hO hD hS => ?_)
  · obtain ⟨δ4, σ5⟩ := u
    obtain ⟨⟨rfl, hq7⟩, hwp, hF6⟩ := hk
    dsimp only at hP hO hD hwp hF6 hq7
    replace hE := hE.tr hF6
    exact y_out hown hlk (fun z hz => by rw [htb] at hz; exact nomatch hz) hP hO hD hS k1 k2 k3 ⟨⟨rfl, hq7⟩, hwp, hE⟩ (Nat.le_of_ble_eq_true rfl) (Nat.le_of_ble_eq_true rfl)
  · obtain ⟨δ1, σ2⟩ := u
    obtain ⟨hwp, hF3⟩ := hk
    dsimp only at hP hO hD hwp hF3
    replace hE := hE.tr hF3
    obtain ⟨n, hn, hwp⟩ := hwp
    refine W.widen (k := 22 + (200 - n) * 23) (n := 151 + (200 - n) * 158) (Nat.le_trans (Nat.le_of_ble_eq_true rfl) (Nat.le_add_right _ _)) (Nat.le_trans (Nat.le_of_ble_eq_true rfl) (Nat.le_add_right _ _)) ?_
    exact xk_Rd_items_6 hst Xc h0 n hn _ δ1 σ2 hE hwp H locs ls hP hO hD hS (lv_sub hl [1, 0] rfl)
set_option maxHeartbeats 4000000 in
set_option maxRecDepth 100000 in
theorem xt_Rd_items {l : Launch} (hst : l.stackTraces = false) {Γ : GA} {δ0 : XSh} {σ : XSt} {K : Int32 → XSh → XSt → Prop} {X : Nat → XSh → XSt → Prop} {i0 : Nat} (h0 : (12, i0) ∈ δ0.1) (hwp : xw_Rd_items K X i0  δ0 σ) : yI l yX18_items (ws_ yX18_items cX18_items 2 (some .int)) ({ frames := 8, cells := 4645, slots := 31909, locals := 445 } : Room) 4645 31909 Γ δ0 [.ref i0] σ (fun r u => K r u.1 u.2 ∧ Ext δ0 u.1) (fun E q u => (E = RX19 ∧ (14, q) ∈ u.1.1) ∧ X q u.1 u.2 ∧ Ext δ0 u.1) := by
  intro sz
  refine y_of (by decide) [(0, .ref i0)] (fun _ h => h) (Nat.le_of_ble_eq_true rfl) ?_
  intro p e s m args below meth c hsz Xc
  subst hsz
  exact xk_Rd_items_e hst Xc h0 δ0 σ Ext.rf hwp
/-! S_ground -/
def xw_S_ground_72 (K : Int32 → XSh → XSt → Prop) (i0 : Nat) (z0 : Nat) (δ : XSh) (σ : XSt) : Prop :=
  xw_S_refused δ (fun r1 σ2 => K r1 δ σ2) i0 z0 σ
set_option maxHeartbeats 4000000 in
set_option maxRecDepth 100000 in
theorem xk_S_ground_72 {p : Program} {l : Launch} {e : Env} {s : State} {m : MethodId} {args : Array Value} {below : List Frame} {meth : Method} {c : Code} {Γ : GA} {δ0 : XSh} {K : Int32 → XSh → XSt → Prop} {i0 : Nat} (hst : l.stackTraces = false) (Xc : CY p s m args meth c cX0_ground 5 (some .int) RX0 Γ δ0 (tableOf [(29, 50, 51, 245), (0, 50, 72, 21), (51, 72, 72, 21)])) (h0 : (0, i0) ∈ δ0.1) : ∀ (z0 : Nat) (δ : XSh) (σ : XSt), Ext δ0 δ → (13, z0) ∈ δ.1 → xw_S_ground_72 K i0 z0 δ σ → TX p l e ({ frames := 10, cells := 4659, slots := 33787, locals := 10322 } : Room) s m args below meth c 5 4659 33787 (VI below (fun r u => K r u.1 u.2 ∧ Ext δ0 u.1) (fun _ _ _ => False) 4659 33787 Γ δ0 s args) Γ δ0 δ σ 72 [(0, .ref i0)] [.ref z0] := by
  obtain ⟨⟨hx, hb, hml, hown, hts, hK, hr, hlk⟩, hZ, htb⟩ := id Xc
  have hA : ∀ q, s.heap.size ≤ q → AX δ0 s.heap.size q := fun q h => Or.inr h
  intro z0 δ σ hE hz0 hwp H locs ls hP hO hD hS hl
  unfold xw_S_ground_72 at hwp
  refine lv_astore_n (lv' := [(2, .ref z0), (0, .ref i0)]) hx hb dX0_ground_72 rfl hl (by decide) rfl (fun ls hl => ?_)
  refine lv_aload_n hx hb dX0_ground_73 rfl (lv_at hl 1 rfl) ?_
  refine lv_aload_n hx hb dX0_ground_74 rfl (lv_at hl 0 rfl) ?_
  refine x_goi (va_runV (As := [.ref z0]) (rest := []) ⟨hx, hb, hml, hown, hts⟩ (xt_S_refused (hE.m h0) hz0 hwp H.size) (cwV 1 hts (lw_V q397 q399 qs2 q75 q400) rfl rfl rfl (by decide +kernel) ⟨Nat.le_of_ble_eq_true rfl, Nat.le_of_ble_eq_true rfl⟩) (x_preV hK hO hD hP 0 i0 (hE.m h0) rfl rfl) rfl rfl hl.1 rfl (lv_room (Nat.le_of_ble_eq_true rfl)) dX0_ground_75 ⟨(Nat.le_of_ble_eq_true rfl), (Nat.le_of_ble_eq_true rfl)⟩) hD hA hS (fun r1 u H locs hk hP hO hD hS => ?_)
  obtain ⟨u1, σ2⟩ := u
  obtain ⟨hwp, eu⟩ := hk
  have eu : δ = u1 := eu.symm
  subst eu
  dsimp only at hP hO hD hwp
  refine W.widen (k := 4659) (n := 33787) (Nat.le_of_ble_eq_true rfl) (Nat.le_of_ble_eq_true rfl) ?_
  refine vx_ret ?_
  exact x_iret hx hb hr hlk hP hO hD hS ⟨hwp, hE⟩ dX0_ground_78
def xw_S_ground (K : Int32 → XSh → XSt → Prop) (i0 : Nat) (x1 : Int32) (δ : XSh) (σ : XSt) : Prop :=
  xw_S_shelf (fun r1 δ2 σ3 => xw_Sh_row (fun r5 δ6 σ7 => ∀ σ9, σ9 = tI σ7 0 i0 6 (-1) → (∀ q10 δ11 σ12, NewG δ6 σ9 q10 δ11 σ12 → (∃ o16, σ12.2.2 0 i0 4 = some o16 ∧ (xw_G_take δ11 (fun r17 σ18 => ∀ q19 δ20 σ21, NewRd r5 r17 δ11 σ18 q19 δ20 σ21 → (xw_Rd_items (fun r28 δ29 σ30 => ∀ σ36, σ36 = tP σ30 0 i0 4 (some r17) → (K r28 δ29 σ36)) (fun q40 δ37 σ38 => ∀ σ45, σ45 = tI σ38 0 i0 6 (σ38.1 14 q40 6) → (∀ q46 δ47 σ48, NewRe (-6) δ37 σ45 q46 δ47 σ48 → (xw_S_ground_72 K i0 q46 δ47 σ48))) q19 δ20 σ21)) q10 o16 σ12)))) (fun q59 δ56 σ57 => xw_S_ground_72 K i0 q59 δ56 σ57) r1 δ2 σ3) (fun q63 δ60 σ61 => xw_S_ground_72 K i0 q63 δ60 σ61) i0 x1 δ σ
set_option maxHeartbeats 4000000 in
set_option maxRecDepth 100000 in
theorem xk_S_ground_e {p : Program} {l : Launch} {e : Env} {s : State} {m : MethodId} {args : Array Value} {below : List Frame} {meth : Method} {c : Code} {Γ : GA} {δ0 : XSh} {K : Int32 → XSh → XSt → Prop} {i0 : Nat} (hst : l.stackTraces = false) (Xc : CY p s m args meth c cX0_ground 5 (some .int) RX0 Γ δ0 (tableOf [(29, 50, 51, 245), (0, 50, 72, 21), (51, 72, 72, 21)])) (h0 : (0, i0) ∈ δ0.1) {x1 : Int32} : ∀ (δ : XSh) (σ : XSt), Ext δ0 δ → xw_S_ground K i0 x1 δ σ → TX p l e ({ frames := 10, cells := 4659, slots := 33787, locals := 10322 } : Room) s m args below meth c 5 0 0 (VI below (fun r u => K r u.1 u.2 ∧ Ext δ0 u.1) (fun _ _ _ => False) 4659 33787 Γ δ0 s args) Γ δ0 δ σ 0 [(0, .ref i0), (1, .int x1)] [] := by
  obtain ⟨⟨hx, hb, hml, hown, hts, hK, hr, hlk⟩, hZ, htb⟩ := id Xc
  have hA : ∀ q, s.heap.size ≤ q → AX δ0 s.heap.size q := fun q h => Or.inr h
  intro δ σ hE hwp H locs ls hP hO hD hS hl
  unfold xw_S_ground at hwp
  refine lv_aload_n hx hb dX0_ground_0 rfl (lv_at hl 0 rfl) ?_
  refine lv_iload_n hx hb dX0_ground_1 rfl (lv_at hl 1 rfl) ?_
  refine y_gor (vx_runVX (As := [.int x1]) (rest := []) ⟨hx, hb, hml, hown, hts⟩ (xt_S_shelf hst (hE.m h0) hwp H.size) (vx_cwVW 1 hts (lw_VW q223 q225 qs0 q75 q226) rfl rfl rfl (by decide +kernel) ⟨(Nat.le_of_ble_eq_true rfl), (Nat.le_of_ble_eq_true rfl)⟩) (y_preV hK hO hD hA hZ hP hS 0 i0 (hE.m h0) rfl rfl) rfl rfl hl.1 rfl (lv_room (Nat.le_of_ble_eq_true rfl)) dX0_ground_2 ⟨(Nat.le_of_ble_eq_true rfl), (Nat.le_of_ble_eq_true rfl)⟩) hD hA hS (fun E ce q63 u H locs hk hP hO hD hS k1 k2 k3 => ?_) (fun r1 u H locs hk hP hO hD hS => ?_)
  · obtain ⟨δ60, σ61⟩ := u
    obtain ⟨⟨rfl, hq63⟩, hwp, hF62⟩ := hk
    dsimp only at hP hO hD hwp hF62 hq63
    replace hE := hE.tr hF62
    refine vx_catch (E := RX5) (name := RX5) hown [⟨29, 50, 51, 245⟩] ⟨0, 50, 72, 21⟩ [⟨51, 72, 72, 21⟩] (htb.trans rfl) (fun z hz => by simp only [List.mem_cons, List.not_mem_nil, or_false] at hz; rcases hz with rfl <;> first | exact Or.inl rfl) rfl (by decide) (hts _ q222) ((hK.2.1 (.castable RX5 RX5) (by simp [nwL])).use rfl) k1 k2 k3 ?_
    refine W.eq (g2 := F0 m 72 ls [.ref q63]) rfl ?_
    refine W.widen (k := 4659) (n := 33787) (Nat.le_of_ble_eq_true rfl) (Nat.le_of_ble_eq_true rfl) ?_
    exact xk_S_ground_72 hst Xc h0 _ δ60 σ61 hE hq63 hwp H locs ls hP hO hD hS (lv_sub hl [0] rfl)
  · obtain ⟨δ2, σ3⟩ := u
    obtain ⟨⟨hwp, hF4⟩, hr1, cr1⟩ := hk
    dsimp only at hP hO hD hwp hF4 hr1 cr1
    replace hE := hE.tr hF4
    refine y_gor (vx_runVX (As := []) (rest := []) ⟨hx, hb, hml, hown, hts⟩ (xt_Sh_row hst hr1 hwp H.size) (vx_cwVW 0 hts (lw_VW q405 q406 q407 q78 q408) rfl rfl rfl (by decide +kernel) ⟨(Nat.le_of_ble_eq_true rfl), (Nat.le_of_ble_eq_true rfl)⟩) (y_preV hK hO hD hA hZ hP hS 5 r1 hr1 rfl rfl) rfl rfl hl.1 rfl (lv_room (Nat.le_of_ble_eq_true rfl)) dX0_ground_5 ⟨(Nat.le_of_ble_eq_true rfl), (Nat.le_of_ble_eq_true rfl)⟩) hD hA hS (fun E ce q59 u H locs hk hP hO hD hS k1 k2 k3 => ?_) (fun r5 u H locs hk hP hO hD hS => ?_)
    · obtain ⟨δ56, σ57⟩ := u
      obtain ⟨⟨rfl, hq59⟩, hwp, hF58⟩ := hk
      dsimp only at hP hO hD hwp hF58 hq59
      replace hE := hE.tr hF58
      refine vx_catch (E := RX5) (name := RX5) hown [⟨29, 50, 51, 245⟩] ⟨0, 50, 72, 21⟩ [⟨51, 72, 72, 21⟩] (htb.trans rfl) (fun z hz => by simp only [List.mem_cons, List.not_mem_nil, or_false] at hz; rcases hz with rfl <;> first | exact Or.inl rfl) rfl (by decide) (hts _ q222) ((hK.2.1 (.castable RX5 RX5) (by simp [nwL])).use rfl) k1 k2 k3 ?_
      refine W.eq (g2 := F0 m 72 ls [.ref q59]) rfl ?_
      refine W.widen (k := 4659) (n := 33787) (Nat.le_of_ble_eq_true rfl) (Nat.le_of_ble_eq_true rfl) ?_
      exact xk_S_ground_72 hst Xc h0 _ δ56 σ57 hE hq59 hwp H locs ls hP hO hD hS (lv_sub hl [0] rfl)
    · obtain ⟨δ6, σ7⟩ := u
      obtain ⟨⟨hwp, hF8⟩, hr5, cr5⟩ := hk
      dsimp only at hP hO hD hwp hF8 hr5 cr5
      replace hE := hE.tr hF8
      refine lv_astore_n (lv' := [(2, .ref r5), (0, .ref i0), (1, .int x1)]) hx hb dX0_ground_8 rfl hl (by decide) rfl (fun ls hl => ?_)
      refine lv_aload_n hx hb dX0_ground_9 rfl (lv_at hl 1 rfl) ?_
      refine lv_iconst (v := (-1)) hx hb dX0_ground_10 (by decide) ?_
      refine x_puti hx hb hts hown hK hD hP hS 0 i0 (hE.m h0) rfl rfl in_X0 tyX0 tyX0_ok nmX0 6 (by decide) q202 rfl rfl rfl rfl (Nat.le_of_ble_eq_true rfl) rfl dX0_ground_11 (fun H locs hP hS => ?_)
      obtain ⟨σ9, eσ9⟩ : ∃ z, z = tI σ7 0 i0 6 (-1) := ⟨_, rfl⟩
      replace hP : XH Γ δ6 σ9 H := by rw [eσ9]; exact hP
      replace hwp := hwp σ9 eσ9
      refine va_new (D := Γ.1) (ci := 3) (fs := [.int 0, .int 0, .int 0, .int 0, .int 0, .int 0, .null, .null, .null]) (C := RX2) (T := TX2) (N := 9) hx hb hts in_X2 tyX2 tyX2_ok hown (hts _ q135) (hts _ q136) (hts _ q77) hK.1 hP.1 (hD.va (fun _ => rfl)) hS hA rfl (fun j hj => by rcases (show j = 0 ∨ j = 1 ∨ j = 2 ∨ j = 3 ∨ j = 4 ∨ j = 5 ∨ j = 6 ∨ j = 7 ∨ j = 8 by omega) with rfl | rfl | rfl | rfl | rfl | rfl | rfl | rfl | rfl <;> rfl) (Nat.le_of_ble_eq_true rfl) (Nat.le_of_ble_eq_true rfl) dX0_ground_14 (fun q10 H hR hRD hS => ?_)
      replace hR := rotP hR
      replace hRD := rotD hRD
      replace hP : XH Γ δ6 σ9 H := ⟨tailP (ex := [_]) hR, hP.2⟩
      refine lv_dup hx hb dX0_ground_17 rfl ?_
      refine r_go (X := δ6.1.map (gX Γ δ6 σ9)) (va_runI (As := []) (rest := [.ref q10]) ⟨hx, hb, hml, hown, hts⟩ (ct_G H.size) (cwI 0 hts (lw_meth q139) rfl rfl rfl (hts _ q77) (hts _ q137) (hts _ q138) rfl (by decide +kernel) ⟨(Nat.le_of_ble_eq_true rfl), (Nat.le_of_ble_eq_true rfl)⟩) (r_pre hK hA hZ hR hRD hS) rfl rfl hl.1 rfl (lv_room (Nat.le_of_ble_eq_true rfl)) dX0_ground_18 ⟨(Nat.le_of_ble_eq_true rfl), (Nat.le_of_ble_eq_true rfl)⟩) hA hR hRD hS (fun ex H locs hk hR hRD hS => ?_)
      obtain ⟨a7, a8, a9, rfl⟩ := hk
      obtain ⟨δ11, σ12, hP, hO, hD, hN13⟩ := mkG hR hRD hP.2 hO
      have hh14 := hN13.1.1.m hr5
      have cc15 := Ext.cl hN13.1.1 hr5 cr5
      replace hE := hE.tr hN13.1.1
      replace hwp := hwp q10 δ11 σ12 hN13
      refine lv_aload_n hx hb dX0_ground_21 rfl (lv_at hl 1 rfl) ?_
      obtain ⟨o16, eo16, hwp⟩ := hwp
      refine x_getr hx hb hts hown hK hP 0 i0 (hE.m h0) rfl rfl in_X0 4 (by decide) q200 rfl rfl eo16 dX0_ground_22 (fun ho16 co16 => ?_)
      refine x_gor (va_runV (As := [.ref o16]) (rest := []) ⟨hx, hb, hml, hown, hts⟩ (xt_G_take hN13.2.2.1 ho16 hwp H.size) (cwV 1 hts (lw_V q872 q873 q874 q77 q875) rfl rfl rfl (by decide +kernel) ⟨Nat.le_of_ble_eq_true rfl, Nat.le_of_ble_eq_true rfl⟩) (x_preV hK hO hD hP 6 q10 hN13.2.2.1 rfl rfl) rfl rfl hl.1 rfl (lv_room (Nat.le_of_ble_eq_true rfl)) dX0_ground_25 ⟨(Nat.le_of_ble_eq_true rfl), (Nat.le_of_ble_eq_true rfl)⟩) hD hA hS (fun r17 u H locs hk hP hO hD hS => ?_)
      obtain ⟨u1, σ18⟩ := u
      obtain ⟨⟨hwp, eu⟩, hr17⟩ := hk
      have eu : δ11 = u1 := eu.symm
      subst eu
      dsimp only at hP hO hD hwp hr17
      refine lv_astore_n (lv' := [(3, .ref r17), (2, .ref r5), (0, .ref i0), (1, .int x1)]) hx hb dX0_ground_28 rfl hl (by decide) rfl (fun ls hl => ?_)
      refine va_new (D := Γ.1) (ci := 16) (fs := [.null, .null, .int 0, .int 0]) (C := RX18) (T := TX18) (N := 4) hx hb hts in_X18 tyX18 tyX18_ok hown (hts _ q877) (hts _ q878) (hts _ q104) hK.1 hP.1 (hD.va (fun _ => rfl)) hS hA rfl (fun j hj => by rcases (show j = 0 ∨ j = 1 ∨ j = 2 ∨ j = 3 by omega) with rfl | rfl | rfl | rfl <;> rfl) (Nat.le_of_ble_eq_true rfl) (Nat.le_of_ble_eq_true rfl) dX0_ground_29 (fun q19 H hR hRD hS => ?_)
      replace hR := rotP hR
      replace hRD := rotD hRD
      replace hP : XH Γ δ11 σ18 H := ⟨tailP (ex := [_]) hR, hP.2⟩
      refine lv_dup hx hb dX0_ground_32 rfl ?_
      refine lv_aload_n hx hb dX0_ground_33 rfl (lv_at hl 1 rfl) ?_
      refine lv_aload_n hx hb dX0_ground_34 rfl (lv_at hl 0 rfl) ?_
      refine r_go (X := δ11.1.map (gX Γ δ11 σ18)) (va_runI (As := [.ref r5, .ref r17]) (rest := [.ref q19]) ⟨hx, hb, hml, hown, hts⟩ (ct_Rd H.size) (cwI 2 hts (lw_meth q881) rfl rfl rfl (hts _ q104) (hts _ q879) (hts _ q880) rfl (by decide +kernel) ⟨(Nat.le_of_ble_eq_true rfl), (Nat.le_of_ble_eq_true rfl)⟩) (r_pre hK hA hZ hR hRD hS) rfl rfl hl.1 rfl (lv_room (Nat.le_of_ble_eq_true rfl)) dX0_ground_35 ⟨(Nat.le_of_ble_eq_true rfl), (Nat.le_of_ble_eq_true rfl)⟩) hA hR hRD hS (fun ex H locs hk hR hRD hS => ?_)
      subst hk
      obtain ⟨δ20, σ21, hP, hO, hD, hN22⟩ := mkRd hh14 cc15 hr17 hR hRD hP.2 hO
      have hh23 := hN22.1.1.m hr17
      have hh25 := hN22.1.1.m hh14
      have cc26 := Ext.cl hN22.1.1 hh14 cc15
      replace hE := hE.tr hN22.1.1
      replace hwp := hwp q19 δ20 σ21 hN22
      have hp27 := hN22.2.2.1
      refine y_goi (vx_runV (As := []) (rest := []) ⟨hx, hb, hml, hown, hts⟩ (xt_Rd_items hst hp27 hwp H.size) (cwV 0 hts (lw_V q896 q897 q898 q104 q899) rfl rfl rfl (by decide +kernel) ⟨(Nat.le_of_ble_eq_true rfl), (Nat.le_of_ble_eq_true rfl)⟩) (y_preV hK hO hD hA hZ hP hS 12 q19 hp27 rfl rfl) rfl rfl hl.1 rfl (lv_room (Nat.le_of_ble_eq_true rfl)) dX0_ground_38 ⟨(Nat.le_of_ble_eq_true rfl), (Nat.le_of_ble_eq_true rfl)⟩) hD hA hS (fun E ce q40 u H locs hk hP hO hD hS k1 k2 k3 => ?_) (fun r28 u H locs hk hP hO hD hS => ?_)
      · obtain ⟨δ37, σ38⟩ := u
        obtain ⟨⟨rfl, hq40⟩, hwp, hF39⟩ := hk
        dsimp only at hP hO hD hwp hF39 hq40
        have hh41 := hF39.m hh23
        have hh43 := hF39.m hh25
        have cc44 := Ext.cl hF39 hh25 cc26
        replace hE := hE.tr hF39
        refine vx_catch (E := RX19) (name := RX19) hown [] ⟨29, 50, 51, 245⟩ [⟨0, 50, 72, 21⟩, ⟨51, 72, 72, 21⟩] (htb.trans rfl) (fun z hz => nomatch hz) rfl (by decide) (hts _ q871) ((hK.2.1 (.castable RX19 RX19) (by simp [nwL])).use rfl) k1 k2 k3 ?_
        refine W.eq (g2 := F0 m 51 ls [.ref q40]) rfl ?_
        refine lv_astore (lv' := [(4, .ref q40), (3, .ref r17), (2, .ref r5), (0, .ref i0), (1, .int x1)]) hx hb dX0_ground_51 hl (by decide) rfl (fun ls hl => ?_)
        refine lv_aload_n hx hb dX0_ground_53 rfl (lv_at hl 3 rfl) ?_
        refine lv_aload hx hb dX0_ground_54 (lv_at hl 0 rfl) ?_
        refine x_get hx hb hts hown hK hP 14 q40 hq40 rfl rfl in_X19 6 (by decide) q1007 rfl (v := .int (σ38.1 14 q40 6)) rfl dX0_ground_56 ?_
        refine x_puti hx hb hts hown hK hD hP hS 0 i0 (hE.m h0) rfl rfl in_X0 tyX0 tyX0_ok nmX0 6 (by decide) q202 rfl rfl rfl rfl (Nat.le_of_ble_eq_true rfl) rfl dX0_ground_59 (fun H locs hP hS => ?_)
        obtain ⟨σ45, eσ45⟩ : ∃ z, z = tI σ38 0 i0 6 (σ38.1 14 q40 6) := ⟨_, rfl⟩
        replace hP : XH Γ δ37 σ45 H := by rw [eσ45]; exact hP
        replace hwp := hwp σ45 eσ45
        refine va_new (D := Γ.1) (ci := 17) (fs := [.null, .null, .null, .null, .null, .int 0, .int 0]) (C := RX5) (T := TX5) (N := 7) hx hb hts in_X5 tyX5 tyX5_ok hown (hts _ q222) (hts _ q305) (hts _ q86) hK.1 hP.1 (hD.va (fun _ => rfl)) hS hA rfl (fun j hj => by rcases (show j = 0 ∨ j = 1 ∨ j = 2 ∨ j = 3 ∨ j = 4 ∨ j = 5 ∨ j = 6 by omega) with rfl | rfl | rfl | rfl | rfl | rfl | rfl <;> rfl) (Nat.le_of_ble_eq_true rfl) (Nat.le_of_ble_eq_true rfl) dX0_ground_62 (fun q46 H hR hRD hS => ?_)
        replace hR := rotP hR
        replace hRD := rotD hRD
        replace hP : XH Γ δ37 σ45 H := ⟨tailP (ex := [_]) hR, hP.2⟩
        refine lv_dup hx hb dX0_ground_65 rfl ?_
        refine lv_bipush (v := (-6)) hx hb dX0_ground_66 (by decide) ?_
        refine r_go (X := δ37.1.map (gX Γ δ37 σ45)) (va_runI (As := [.int (-6)]) (rest := [.ref q46]) ⟨hx, hb, hml, hown, hts⟩ (ct_Re H.size) (cwI 1 hts (lw_meth q315) rfl rfl rfl (hts _ q86) (hts _ q313) (hts _ q314) rfl (by decide +kernel) ⟨(Nat.le_of_ble_eq_true rfl), (Nat.le_of_ble_eq_true rfl)⟩) (r_pre hK hA hZ hR hRD hS) rfl rfl hl.1 rfl (lv_room (Nat.le_of_ble_eq_true rfl)) dX0_ground_68 ⟨(Nat.le_of_ble_eq_true rfl), (Nat.le_of_ble_eq_true rfl)⟩) hA hR hRD hS (fun ex H locs hk hR hRD hS => ?_)
        subst hk
        obtain ⟨δ47, σ48, hP, hO, hD, hN49⟩ := mkRe hR hRD hP.2 hO
        have hh50 := hN49.1.1.m hq40
        have hh52 := hN49.1.1.m hh41
        have hh54 := hN49.1.1.m hh43
        have cc55 := Ext.cl hN49.1.1 hh43 cc44
        replace hE := hE.tr hN49.1.1
        replace hwp := hwp q46 δ47 σ48 hN49
        obtain ⟨ce, k1, k2, k3⟩ := x_cell hK hP 13 q46 hN49.2.2.1 rfl (q := (RX5, TX5, 7)) rfl
        refine vx_athrow hx hb dX0_ground_71 ?_
        refine vx_catch (E := RX5) (name := RX5) hown [⟨29, 50, 51, 245⟩, ⟨0, 50, 72, 21⟩] ⟨51, 72, 72, 21⟩ [] (htb.trans rfl) (fun z hz => by simp only [List.mem_cons, List.not_mem_nil, or_false] at hz; rcases hz with rfl | rfl <;> first | exact Or.inl rfl) rfl (by decide) (hts _ q222) ((hK.2.1 (.castable RX5 RX5) (by simp [nwL])).use rfl) k1 k2 k3 ?_
        refine W.eq (g2 := F0 m 72 ls [.ref q46]) rfl ?_
        refine W.widen (k := 4659) (n := 33787) (Nat.le_of_ble_eq_true rfl) (Nat.le_of_ble_eq_true rfl) ?_
        exact xk_S_ground_72 hst Xc h0 _ δ47 σ48 hE hN49.2.2.1 hwp H locs ls hP hO hD hS (lv_sub hl [3] rfl)
      · obtain ⟨δ29, σ30⟩ := u
        obtain ⟨hwp, hF31⟩ := hk
        dsimp only at hP hO hD hwp hF31
        have hh32 := hF31.m hh23
        have hh34 := hF31.m hh25
        have cc35 := Ext.cl hF31 hh25 cc26
        replace hE := hE.tr hF31
        refine lv_istore (lv' := [(4, .int r28), (3, .ref r17), (2, .ref r5), (0, .ref i0), (1, .int x1)]) hx hb dX0_ground_41 hl (by decide) rfl (fun ls hl => ?_)
        refine lv_aload_n hx hb dX0_ground_43 rfl (lv_at hl 3 rfl) ?_
        refine lv_aload_n hx hb dX0_ground_44 rfl (lv_at hl 1 rfl) ?_
        refine x_putr (v := (some r17)) hx hb hts hown hK hD hP hS 0 i0 (hE.m h0) rfl rfl in_X0 tyX0 tyX0_ok nmX0 4 (by decide) q200 rfl rfl rfl rfl (Nat.le_of_ble_eq_true rfl) rfl (fun t9 h9 => by cases h9; exact ⟨hh32, fun z => absurd z (by decide), fun z => absurd z.1 (by decide)⟩) dX0_ground_45 (fun H locs hP hS => ?_)
        obtain ⟨σ36, eσ36⟩ : ∃ z, z = tP σ30 0 i0 4 (some r17) := ⟨_, rfl⟩
        replace hP : XH Γ δ29 σ36 H := by rw [eσ36]; exact hP
        replace hwp := hwp σ36 eσ36
        refine lv_iload hx hb dX0_ground_48 (lv_at hl 0 rfl) ?_
        refine W.widen (k := 4659) (n := 33787) (Nat.le_of_ble_eq_true rfl) (Nat.le_of_ble_eq_true rfl) ?_
        refine vx_ret ?_
        exact x_iret hx hb hr hlk hP hO hD hS ⟨hwp, hE⟩ dX0_ground_50
set_option maxHeartbeats 4000000 in
set_option maxRecDepth 100000 in
theorem xt_S_ground {l : Launch} (hst : l.stackTraces = false) {Γ : GA} {δ0 : XSh} {σ : XSt} {K : Int32 → XSh → XSt → Prop} {i0 : Nat} (h0 : (0, i0) ∈ δ0.1) {x1 : Int32} (hwp : xw_S_ground K i0 x1 δ0 σ) : yI l yX0_ground (wsW_ yX0_ground cX0_ground 5 (some .int) [(29, 50, 51, 245), (0, 50, 72, 21), (51, 72, 72, 21)]) ({ frames := 10, cells := 4659, slots := 33787, locals := 10322 } : Room) 4659 33787 Γ δ0 [.ref i0, .int x1] σ (fun r u => K r u.1 u.2 ∧ Ext δ0 u.1) (fun _ _ _ => False) := by
  intro sz
  refine yW_of (by decide) [(0, .ref i0), (1, .int x1)] (fun _ h => h) (Nat.le_of_ble_eq_true rfl) ?_
  intro p e s m args below meth c hsz Xc
  subst hsz
  exact xk_S_ground_e hst Xc h0 δ0 σ Ext.rf hwp
