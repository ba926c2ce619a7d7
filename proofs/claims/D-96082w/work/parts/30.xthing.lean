/-! S_in -/
def xw_S_in (δ : XSh) (σ : XSt) (K : Int32 → Prop) (x0 : Int64) (x2 : Int64) (x4 : Int64) : Prop :=
  (((lg_cmp x0 x2) < 0) → (K 0)) ∧ ((¬ ((lg_cmp x0 x2) < 0)) → (((0 < (lg_cmp x0 x4)) → (K 0)) ∧ ((¬ (0 < (lg_cmp x0 x4))) → (K 1))))
set_option maxHeartbeats 4000000 in
set_option maxRecDepth 100000 in
theorem xt_S_in {l : Launch} {Γ : GA} {δ : XSh} {σ : XSt} {K : Int32 → Prop} {x0 : Int64} {x2 : Int64} {x4 : Int64} (hwp : xw_S_in δ σ K x0 x2 x4) : xI l yX0_in cX0_in 6 (some .boolean) ({ frames := 0, cells := 0, slots := 0, locals := 0 } : Room) 0 0 Γ δ [.long x0, .long x2, .long x4] σ (fun r u => K r ∧ u = (δ, σ)) := by
  intro sz
  refine x_of (by decide) [(0, .long x0), (2, .long x2), (4, .long x4)] (fun _ h => h) (Nat.le_of_ble_eq_true rfl) ?_
  intro p e s m args below meth c hsz X H locs ls hP hO hD hS hl
  subst hsz
  obtain ⟨hx, hb, hml, hown, hts, hK, hr, hlk⟩ := id X
  have hA : ∀ q, s.heap.size ≤ q → AX δ s.heap.size q := fun q h => Or.inr h
  unfold xw_S_in at hwp
  refine lv_lload_n hx hb dX0_in_0 rfl (lv_at hl 0 rfl) ?_
  refine lv_lload_n hx hb dX0_in_1 rfl (lv_at hl 1 rfl) ?_
  refine W.lcmp hx hb dX0_in_2 ?_
  refine lv_if_lt (tgt := 17) hx hb dX0_in_3 (by decide) (fun c1 => ?_) (fun c1 => ?_)
  · replace hwp := hwp.1 c1
    refine lv_iconst (v := 0) hx hb dX0_in_17 (by decide) ?_
    exact x_zret (v := 0) hx hb hr hlk hP hO hD hS (Or.inl rfl) ⟨hwp, rfl⟩ dX0_in_18
  · replace hwp := hwp.2 c1
    refine lv_lload_n hx hb dX0_in_6 rfl (lv_at hl 0 rfl) ?_
    refine lv_lload hx hb dX0_in_7 (lv_at hl 2 rfl) ?_
    refine W.lcmp hx hb dX0_in_9 ?_
    refine lv_if_gt (tgt := 17) hx hb dX0_in_10 (by decide) (fun c2 => ?_) (fun c2 => ?_)
    · replace hwp := hwp.1 c2
      refine lv_iconst (v := 0) hx hb dX0_in_17 (by decide) ?_
      exact x_zret (v := 0) hx hb hr hlk hP hO hD hS (Or.inl rfl) ⟨hwp, rfl⟩ dX0_in_18
    · replace hwp := hwp.2 c2
      refine lv_iconst (v := 1) hx hb dX0_in_13 (by decide) ?_
      refine lv_goto (tgt := 18) hx hb dX0_in_14 (by decide) ?_
      exact x_zret (v := 1) hx hb hr hlk hP hO hD hS (Or.inr rfl) ⟨hwp, rfl⟩ dX0_in_18
/-! Jn_bitCount -/
def xw_Jn_bitCount (δ : XSh) (σ : XSt) (K : Int32 → Prop) (x0 : Int32) : Prop :=
  ∀ r1, r1 = x0 - (((x0.toUInt32 >>> ((1 : Int32).toUInt32 &&& Int32.toUInt32 31)).toInt32) &&& 1431655765) → (∀ r2, r2 = (r1 &&& 858993459) + (((r1.toUInt32 >>> ((2 : Int32).toUInt32 &&& Int32.toUInt32 31)).toInt32) &&& 858993459) → (∀ r3, r3 = (r2 + ((r2.toUInt32 >>> ((4 : Int32).toUInt32 &&& Int32.toUInt32 31)).toInt32)) &&& 252645135 → (∀ r4, r4 = r3 + ((r3.toUInt32 >>> ((8 : Int32).toUInt32 &&& Int32.toUInt32 31)).toInt32) → (∀ r5, r5 = r4 + ((r4.toUInt32 >>> ((16 : Int32).toUInt32 &&& Int32.toUInt32 31)).toInt32) → (K (r5 &&& 63))))))
set_option maxHeartbeats 4000000 in
set_option maxRecDepth 100000 in
theorem xt_Jn_bitCount {l : Launch} {Γ : GA} {δ : XSh} {σ : XSt} {K : Int32 → Prop} {x0 : Int32} (hwp : xw_Jn_bitCount δ σ K x0) : xI l yJ9_bitCount cJ9_bitCount 1 (some .int) ({ frames := 0, cells := 0, slots := 0, locals := 0 } : Room) 0 0 Γ δ [.int x0] σ (fun r u => K r ∧ u = (δ, σ)) := by
  intro sz
  refine x_of (by decide) [(0, .int x0)] (fun _ h => h) (Nat.le_of_ble_eq_true rfl) ?_
  intro p e s m args below meth c hsz X H locs ls hP hO hD hS hl
  subst hsz
  obtain ⟨hx, hb, hml, hown, hts, hK, hr, hlk⟩ := id X
  have hA : ∀ q, s.heap.size ≤ q → AX δ s.heap.size q := fun q h => Or.inr h
  unfold xw_Jn_bitCount at hwp
  refine lv_iload_n hx hb dJ9_bitCount_0 rfl (lv_at hl 0 rfl) ?_
  refine lv_iload_n hx hb dJ9_bitCount_1 rfl (lv_at hl 0 rfl) ?_
  refine lv_iconst (v := 1) hx hb dJ9_bitCount_2 (by decide) ?_
  refine lv_iushr (v := (x0.toUInt32 >>> ((1 : Int32).toUInt32 &&& Int32.toUInt32 31)).toInt32) hx hb dJ9_bitCount_3 rfl ?_
  refine lv_ldcw hx hb hown (hts _ q646) dJ9_bitCount_4 ?_
  refine lv_iand hx hb dJ9_bitCount_7 ?_
  refine lv_isub hx hb dJ9_bitCount_8 ?_
  refine lv_topi (fun r1 er1 => ?_)
  replace hwp := hwp r1 er1
  refine lv_istore_n (lv' := [(0, .int r1)]) hx hb dJ9_bitCount_9 rfl hl (by decide) rfl (fun ls hl => ?_)
  refine lv_iload_n hx hb dJ9_bitCount_10 rfl (lv_at hl 0 rfl) ?_
  refine lv_ldcw hx hb hown (hts _ q647) dJ9_bitCount_11 ?_
  refine lv_iand hx hb dJ9_bitCount_14 ?_
  refine lv_iload_n hx hb dJ9_bitCount_15 rfl (lv_at hl 0 rfl) ?_
  refine lv_iconst (v := 2) hx hb dJ9_bitCount_16 (by decide) ?_
  refine lv_iushr (v := (r1.toUInt32 >>> ((2 : Int32).toUInt32 &&& Int32.toUInt32 31)).toInt32) hx hb dJ9_bitCount_17 rfl ?_
  refine lv_ldcw hx hb hown (hts _ q647) dJ9_bitCount_18 ?_
  refine lv_iand hx hb dJ9_bitCount_21 ?_
  refine lv_iadd hx hb dJ9_bitCount_22 ?_
  refine lv_topi (fun r2 er2 => ?_)
  replace hwp := hwp r2 er2
  refine lv_istore_n (lv' := [(0, .int r2)]) hx hb dJ9_bitCount_23 rfl hl (by decide) rfl (fun ls hl => ?_)
  refine lv_iload_n hx hb dJ9_bitCount_24 rfl (lv_at hl 0 rfl) ?_
  refine lv_iload_n hx hb dJ9_bitCount_25 rfl (lv_at hl 0 rfl) ?_
  refine lv_iconst (v := 4) hx hb dJ9_bitCount_26 (by decide) ?_
  refine lv_iushr (v := (r2.toUInt32 >>> ((4 : Int32).toUInt32 &&& Int32.toUInt32 31)).toInt32) hx hb dJ9_bitCount_27 rfl ?_
  refine lv_iadd hx hb dJ9_bitCount_28 ?_
  refine lv_ldcw hx hb hown (hts _ q648) dJ9_bitCount_29 ?_
  refine lv_iand hx hb dJ9_bitCount_32 ?_
  refine lv_topi (fun r3 er3 => ?_)
  replace hwp := hwp r3 er3
  refine lv_istore_n (lv' := [(0, .int r3)]) hx hb dJ9_bitCount_33 rfl hl (by decide) rfl (fun ls hl => ?_)
  refine lv_iload_n hx hb dJ9_bitCount_34 rfl (lv_at hl 0 rfl) ?_
  refine lv_iload_n hx hb dJ9_bitCount_35 rfl (lv_at hl 0 rfl) ?_
  refine lv_bipush (v := 8) hx hb dJ9_bitCount_36 (by decide) ?_
  refine lv_iushr (v := (r3.toUInt32 >>> ((8 : Int32).toUInt32 &&& Int32.toUInt32 31)).toInt32) hx hb dJ9_bitCount_38 rfl ?_
  refine lv_iadd hx hb dJ9_bitCount_39 ?_
  refine lv_topi (fun r4 er4 => ?_)
  replace hwp := hwp r4 er4
  refine lv_istore_n (lv' := [(0, .int r4)]) hx hb dJ9_bitCount_40 rfl hl (by decide) rfl (fun ls hl => ?_)
  refine lv_iload_n hx hb dJ9_bitCount_41 rfl (lv_at hl 0 rfl) ?_
  refine lv_iload_n hx hb dJ9_bitCount_42 rfl (lv_at hl 0 rfl) ?_
  refine lv_bipush (v := 16) hx hb dJ9_bitCount_43 (by decide) ?_
  refine lv_iushr (v := (r4.toUInt32 >>> ((16 : Int32).toUInt32 &&& Int32.toUInt32 31)).toInt32) hx hb dJ9_bitCount_45 rfl ?_
  refine lv_iadd hx hb dJ9_bitCount_46 ?_
  refine lv_topi (fun r5 er5 => ?_)
  replace hwp := hwp r5 er5
  refine lv_istore_n (lv' := [(0, .int r5)]) hx hb dJ9_bitCount_47 rfl hl (by decide) rfl (fun ls hl => ?_)
  refine lv_iload_n hx hb dJ9_bitCount_48 rfl (lv_at hl 0 rfl) ?_
  refine lv_bipush (v := 63) hx hb dJ9_bitCount_49 (by decide) ?_
  refine lv_iand hx hb dJ9_bitCount_51 ?_
  exact x_iret hx hb hr hlk hP hO hD hS ⟨hwp, rfl⟩ dJ9_bitCount_52
/-! Jn_numberOfTrailingZeros -/
def xw_Jn_numberOfTrailingZeros_62 (δ : XSh) (σ : XSt) (K : Int32 → Prop) (x0 : Int32) (x1 : Int32) : Prop :=
  ((x0 ≤ 4) → (K (x1 + ((x0.toUInt32 >>> ((1 : Int32).toUInt32 &&& Int32.toUInt32 31)).toInt32)))) ∧ ((¬ (x0 ≤ 4)) → (∀ r2, r2 = (x0.toUInt32 >>> ((2 : Int32).toUInt32 &&& Int32.toUInt32 31)).toInt32 → (K ((x1 + 2) + ((r2.toUInt32 >>> ((1 : Int32).toUInt32 &&& Int32.toUInt32 31)).toInt32)))))
set_option maxHeartbeats 4000000 in
set_option maxRecDepth 100000 in
theorem xk_Jn_numberOfTrailingZeros_62 {p : Program} {l : Launch} {e : Env} {s : State} {m : MethodId} {args : Array Value} {below : List Frame} {meth : Method} {c : Code} {Γ : GA} {δ : XSh} {σ : XSt} {K : Int32 → Prop} (X : CX p s m args meth c cJ9_numberOfTrailingZeros 2 (some .int) RJ9 Γ) : ∀ (x0 : Int32) (x1 : Int32), xw_Jn_numberOfTrailingZeros_62 δ σ K x0 x1 → TX p l e ({ frames := 0, cells := 0, slots := 0, locals := 0 } : Room) s m args below meth c 2 0 0 (YI below (fun r u => K r ∧ u = (δ, σ)) 0 0 Γ δ s args) Γ δ δ σ 62 [(0, .int x0), (1, .int x1)] [] := by
  obtain ⟨hx, hb, hml, hown, hts, hK, hr, hlk⟩ := id X
  have hA : ∀ q, s.heap.size ≤ q → AX δ s.heap.size q := fun q h => Or.inr h
  intro x0 x1 hwp H locs ls hP hO hD hS hl
  unfold xw_Jn_numberOfTrailingZeros_62 at hwp
  refine lv_iload_n hx hb dJ9_numberOfTrailingZeros_62 rfl (lv_at hl 0 rfl) ?_
  refine lv_iconst (v := 4) hx hb dJ9_numberOfTrailingZeros_63 (by decide) ?_
  refine lv_icmp_le (tgt := 74) hx hb dJ9_numberOfTrailingZeros_64 (by decide) (fun c1 => ?_) (fun c1 => ?_)
  · replace hwp := hwp.1 c1
    refine lv_iload_n hx hb dJ9_numberOfTrailingZeros_74 rfl (lv_at hl 1 rfl) ?_
    refine lv_iload_n hx hb dJ9_numberOfTrailingZeros_75 rfl (lv_at hl 0 rfl) ?_
    refine lv_iconst (v := 1) hx hb dJ9_numberOfTrailingZeros_76 (by decide) ?_
    refine lv_iushr (v := (x0.toUInt32 >>> ((1 : Int32).toUInt32 &&& Int32.toUInt32 31)).toInt32) hx hb dJ9_numberOfTrailingZeros_77 rfl ?_
    refine lv_iadd hx hb dJ9_numberOfTrailingZeros_78 ?_
    exact x_iret hx hb hr hlk hP hO hD hS ⟨hwp, rfl⟩ dJ9_numberOfTrailingZeros_79
  · replace hwp := hwp.2 c1
    refine lv_iinc (v := x1 + 2) (lv' := [(1, .int (x1 + 2)), (0, .int x0)]) hx hb dJ9_numberOfTrailingZeros_67 hl (k := 1) rfl rfl (by decide) rfl (fun ls hl => ?_)
    refine lv_iload_n hx hb dJ9_numberOfTrailingZeros_70 rfl (lv_at hl 1 rfl) ?_
    refine lv_iconst (v := 2) hx hb dJ9_numberOfTrailingZeros_71 (by decide) ?_
    refine lv_iushr (v := (x0.toUInt32 >>> ((2 : Int32).toUInt32 &&& Int32.toUInt32 31)).toInt32) hx hb dJ9_numberOfTrailingZeros_72 rfl ?_
    refine lv_topi (fun r2 er2 => ?_)
    replace hwp := hwp r2 er2
    refine lv_istore_n (lv' := [(0, .int r2), (1, .int (x1 + 2))]) hx hb dJ9_numberOfTrailingZeros_73 rfl hl (by decide) rfl (fun ls hl => ?_)
    refine lv_iload_n hx hb dJ9_numberOfTrailingZeros_74 rfl (lv_at hl 1 rfl) ?_
    refine lv_iload_n hx hb dJ9_numberOfTrailingZeros_75 rfl (lv_at hl 0 rfl) ?_
    refine lv_iconst (v := 1) hx hb dJ9_numberOfTrailingZeros_76 (by decide) ?_
    refine lv_iushr (v := (r2.toUInt32 >>> ((1 : Int32).toUInt32 &&& Int32.toUInt32 31)).toInt32) hx hb dJ9_numberOfTrailingZeros_77 rfl ?_
    refine lv_iadd hx hb dJ9_numberOfTrailingZeros_78 ?_
    exact x_iret hx hb hr hlk hP hO hD hS ⟨hwp, rfl⟩ dJ9_numberOfTrailingZeros_79
def xw_Jn_numberOfTrailingZeros_49 (δ : XSh) (σ : XSt) (K : Int32 → Prop) (x0 : Int32) (x1 : Int32) : Prop :=
  ((x0 ≤ 16) → (xw_Jn_numberOfTrailingZeros_62 δ σ K x0 x1)) ∧ ((¬ (x0 ≤ 16)) → (∀ r2, r2 = (x0.toUInt32 >>> ((4 : Int32).toUInt32 &&& Int32.toUInt32 31)).toInt32 → (xw_Jn_numberOfTrailingZeros_62 δ σ K r2 (x1 + 4))))
set_option maxHeartbeats 4000000 in
set_option maxRecDepth 100000 in
theorem xk_Jn_numberOfTrailingZeros_49 {p : Program} {l : Launch} {e : Env} {s : State} {m : MethodId} {args : Array Value} {below : List Frame} {meth : Method} {c : Code} {Γ : GA} {δ : XSh} {σ : XSt} {K : Int32 → Prop} (X : CX p s m args meth c cJ9_numberOfTrailingZeros 2 (some .int) RJ9 Γ) : ∀ (x0 : Int32) (x1 : Int32), xw_Jn_numberOfTrailingZeros_49 δ σ K x0 x1 → TX p l e ({ frames := 0, cells := 0, slots := 0, locals := 0 } : Room) s m args below meth c 2 0 0 (YI below (fun r u => K r ∧ u = (δ, σ)) 0 0 Γ δ s args) Γ δ δ σ 49 [(0, .int x0), (1, .int x1)] [] := by
  obtain ⟨hx, hb, hml, hown, hts, hK, hr, hlk⟩ := id X
  have hA : ∀ q, s.heap.size ≤ q → AX δ s.heap.size q := fun q h => Or.inr h
  intro x0 x1 hwp H locs ls hP hO hD hS hl
  unfold xw_Jn_numberOfTrailingZeros_49 at hwp
  refine lv_iload_n hx hb dJ9_numberOfTrailingZeros_49 rfl (lv_at hl 0 rfl) ?_
  refine lv_bipush (v := 16) hx hb dJ9_numberOfTrailingZeros_50 (by decide) ?_
  refine lv_icmp_le (tgt := 62) hx hb dJ9_numberOfTrailingZeros_52 (by decide) (fun c1 => ?_) (fun c1 => ?_)
  · replace hwp := hwp.1 c1
    exact xk_Jn_numberOfTrailingZeros_62 X _ _ hwp H locs ls hP hO hD hS (lv_sub hl [0, 1] rfl)
  · replace hwp := hwp.2 c1
    refine lv_iinc (v := x1 + 4) (lv' := [(1, .int (x1 + 4)), (0, .int x0)]) hx hb dJ9_numberOfTrailingZeros_55 hl (k := 1) rfl rfl (by decide) rfl (fun ls hl => ?_)
    refine lv_iload_n hx hb dJ9_numberOfTrailingZeros_58 rfl (lv_at hl 1 rfl) ?_
    refine lv_iconst (v := 4) hx hb dJ9_numberOfTrailingZeros_59 (by decide) ?_
    refine lv_iushr (v := (x0.toUInt32 >>> ((4 : Int32).toUInt32 &&& Int32.toUInt32 31)).toInt32) hx hb dJ9_numberOfTrailingZeros_60 rfl ?_
    refine lv_topi (fun r2 er2 => ?_)
    replace hwp := hwp r2 er2
    refine lv_istore_n (lv' := [(0, .int r2), (1, .int (x1 + 4))]) hx hb dJ9_numberOfTrailingZeros_61 rfl hl (by decide) rfl (fun ls hl => ?_)
    exact xk_Jn_numberOfTrailingZeros_62 X _ _ hwp H locs ls hP hO hD hS (lv_sub hl [0, 1] rfl)
def xw_Jn_numberOfTrailingZeros_34 (δ : XSh) (σ : XSt) (K : Int32 → Prop) (x0 : Int32) (x1 : Int32) : Prop :=
  ((x0 ≤ 256) → (xw_Jn_numberOfTrailingZeros_49 δ σ K x0 x1)) ∧ ((¬ (x0 ≤ 256)) → (∀ r2, r2 = (x0.toUInt32 >>> ((8 : Int32).toUInt32 &&& Int32.toUInt32 31)).toInt32 → (xw_Jn_numberOfTrailingZeros_49 δ σ K r2 (x1 + 8))))
set_option maxHeartbeats 4000000 in
set_option maxRecDepth 100000 in
theorem xk_Jn_numberOfTrailingZeros_34 {p : Program} {l : Launch} {e : Env} {s : State} {m : MethodId} {args : Array Value} {below : List Frame} {meth : Method} {c : Code} {Γ : GA} {δ : XSh} {σ : XSt} {K : Int32 → Prop} (X : CX p s m args meth c cJ9_numberOfTrailingZeros 2 (some .int) RJ9 Γ) : ∀ (x0 : Int32) (x1 : Int32), xw_Jn_numberOfTrailingZeros_34 δ σ K x0 x1 → TX p l e ({ frames := 0, cells := 0, slots := 0, locals := 0 } : Room) s m args below meth c 2 0 0 (YI below (fun r u => K r ∧ u = (δ, σ)) 0 0 Γ δ s args) Γ δ δ σ 34 [(0, .int x0), (1, .int x1)] [] := by
  obtain ⟨hx, hb, hml, hown, hts, hK, hr, hlk⟩ := id X
  have hA : ∀ q, s.heap.size ≤ q → AX δ s.heap.size q := fun q h => Or.inr h
  intro x0 x1 hwp H locs ls hP hO hD hS hl
  unfold xw_Jn_numberOfTrailingZeros_34 at hwp
  refine lv_iload_n hx hb dJ9_numberOfTrailingZeros_34 rfl (lv_at hl 0 rfl) ?_
  refine lv_sipush (v := 256) hx hb dJ9_numberOfTrailingZeros_35 (by decide) ?_
  refine lv_icmp_le (tgt := 49) hx hb dJ9_numberOfTrailingZeros_38 (by decide) (fun c1 => ?_) (fun c1 => ?_)
  · replace hwp := hwp.1 c1
    exact xk_Jn_numberOfTrailingZeros_49 X _ _ hwp H locs ls hP hO hD hS (lv_sub hl [0, 1] rfl)
  · replace hwp := hwp.2 c1
    refine lv_iinc (v := x1 + 8) (lv' := [(1, .int (x1 + 8)), (0, .int x0)]) hx hb dJ9_numberOfTrailingZeros_41 hl (k := 1) rfl rfl (by decide) rfl (fun ls hl => ?_)
    refine lv_iload_n hx hb dJ9_numberOfTrailingZeros_44 rfl (lv_at hl 1 rfl) ?_
    refine lv_bipush (v := 8) hx hb dJ9_numberOfTrailingZeros_45 (by decide) ?_
    refine lv_iushr (v := (x0.toUInt32 >>> ((8 : Int32).toUInt32 &&& Int32.toUInt32 31)).toInt32) hx hb dJ9_numberOfTrailingZeros_47 rfl ?_
    refine lv_topi (fun r2 er2 => ?_)
    replace hwp := hwp r2 er2
    refine lv_istore_n (lv' := [(0, .int r2), (1, .int (x1 + 8))]) hx hb dJ9_numberOfTrailingZeros_48 rfl hl (by decide) rfl (fun ls hl => ?_)
    exact xk_Jn_numberOfTrailingZeros_49 X _ _ hwp H locs ls hP hO hD hS (lv_sub hl [0, 1] rfl)
def xw_Jn_numberOfTrailingZeros (δ : XSh) (σ : XSt) (K : Int32 → Prop) (x0 : Int32) : Prop :=
  ((0 < ((x0 ^^^ (-1)) &&& (x0 - 1))) → (((((x0 ^^^ (-1)) &&& (x0 - 1)) ≤ 65536) → (xw_Jn_numberOfTrailingZeros_34 δ σ K ((x0 ^^^ (-1)) &&& (x0 - 1)) 1)) ∧ ((¬ (((x0 ^^^ (-1)) &&& (x0 - 1)) ≤ 65536)) → (∀ r3, r3 = (((x0 ^^^ (-1)) &&& (x0 - 1)).toUInt32 >>> ((16 : Int32).toUInt32 &&& Int32.toUInt32 31)).toInt32 → (xw_Jn_numberOfTrailingZeros_34 δ σ K r3 (1 + 16)))))) ∧ ((¬ (0 < ((x0 ^^^ (-1)) &&& (x0 - 1)))) → (K (((x0 ^^^ (-1)) &&& (x0 - 1)) &&& 32)))
set_option maxHeartbeats 4000000 in
set_option maxRecDepth 100000 in
theorem xt_Jn_numberOfTrailingZeros {l : Launch} {Γ : GA} {δ : XSh} {σ : XSt} {K : Int32 → Prop} {x0 : Int32} (hwp : xw_Jn_numberOfTrailingZeros δ σ K x0) : xI l yJ9_numberOfTrailingZeros cJ9_numberOfTrailingZeros 2 (some .int) ({ frames := 0, cells := 0, slots := 0, locals := 0 } : Room) 0 0 Γ δ [.int x0] σ (fun r u => K r ∧ u = (δ, σ)) := by
  intro sz
  refine x_of (by decide) [(0, .int x0)] (fun _ h => h) (Nat.le_of_ble_eq_true rfl) ?_
  intro p e s m args below meth c hsz X H locs ls hP hO hD hS hl
  subst hsz
  obtain ⟨hx, hb, hml, hown, hts, hK, hr, hlk⟩ := id X
  have hA : ∀ q, s.heap.size ≤ q → AX δ s.heap.size q := fun q h => Or.inr h
  unfold xw_Jn_numberOfTrailingZeros at hwp
  refine lv_iload_n hx hb dJ9_numberOfTrailingZeros_0 rfl (lv_at hl 0 rfl) ?_
  refine lv_iconst (v := (-1)) hx hb dJ9_numberOfTrailingZeros_1 (by decide) ?_
  refine lv_ixor hx hb dJ9_numberOfTrailingZeros_2 ?_
  refine lv_iload_n hx hb dJ9_numberOfTrailingZeros_3 rfl (lv_at hl 0 rfl) ?_
  refine lv_iconst (v := 1) hx hb dJ9_numberOfTrailingZeros_4 (by decide) ?_
  refine lv_isub hx hb dJ9_numberOfTrailingZeros_5 ?_
  refine lv_iand hx hb dJ9_numberOfTrailingZeros_6 ?_
  refine lv_istore_n (lv' := [(0, .int ((x0 ^^^ (-1)) &&& (x0 - 1)))]) hx hb dJ9_numberOfTrailingZeros_7 rfl hl (by decide) rfl (fun ls hl => ?_)
  refine lv_iload_n hx hb dJ9_numberOfTrailingZeros_8 rfl (lv_at hl 0 rfl) ?_
  refine lv_if_gt (tgt := 17) hx hb dJ9_numberOfTrailingZeros_9 (by decide) (fun c1 => ?_) (fun c1 => ?_)
  · replace hwp := hwp.1 c1
    refine lv_iconst (v := 1) hx hb dJ9_numberOfTrailingZeros_17 (by decide) ?_
    refine lv_istore_n (lv' := [(1, .int 1), (0, .int ((x0 ^^^ (-1)) &&& (x0 - 1)))]) hx hb dJ9_numberOfTrailingZeros_18 rfl hl (by decide) rfl (fun ls hl => ?_)
    refine lv_iload_n hx hb dJ9_numberOfTrailingZeros_19 rfl (lv_at hl 1 rfl) ?_
    refine lv_ldcw hx hb hown (hts _ q1080) dJ9_numberOfTrailingZeros_20 ?_
    refine lv_icmp_le (tgt := 34) hx hb dJ9_numberOfTrailingZeros_23 (by decide) (fun c2 => ?_) (fun c2 => ?_)
    · replace hwp := hwp.1 c2
      exact xk_Jn_numberOfTrailingZeros_34 X _ _ hwp H locs ls hP hO hD hS (lv_sub hl [1, 0] rfl)
    · replace hwp := hwp.2 c2
      refine lv_iinc (v := 1 + 16) (lv' := [(1, .int (1 + 16)), (0, .int ((x0 ^^^ (-1)) &&& (x0 - 1)))]) hx hb dJ9_numberOfTrailingZeros_26 hl (k := 0) rfl rfl (by decide) rfl (fun ls hl => ?_)
      refine lv_iload_n hx hb dJ9_numberOfTrailingZeros_29 rfl (lv_at hl 1 rfl) ?_
      refine lv_bipush (v := 16) hx hb dJ9_numberOfTrailingZeros_30 (by decide) ?_
      refine lv_iushr (v := (((x0 ^^^ (-1)) &&& (x0 - 1)).toUInt32 >>> ((16 : Int32).toUInt32 &&& Int32.toUInt32 31)).toInt32) hx hb dJ9_numberOfTrailingZeros_32 rfl ?_
      refine lv_topi (fun r3 er3 => ?_)
      replace hwp := hwp r3 er3
      refine lv_istore_n (lv' := [(0, .int r3), (1, .int (1 + 16))]) hx hb dJ9_numberOfTrailingZeros_33 rfl hl (by decide) rfl (fun ls hl => ?_)
      exact xk_Jn_numberOfTrailingZeros_34 X _ _ hwp H locs ls hP hO hD hS (lv_sub hl [0, 1] rfl)
  · replace hwp := hwp.2 c1
    refine lv_iload_n hx hb dJ9_numberOfTrailingZeros_12 rfl (lv_at hl 0 rfl) ?_
    refine lv_bipush (v := 32) hx hb dJ9_numberOfTrailingZeros_13 (by decide) ?_
    refine lv_iand hx hb dJ9_numberOfTrailingZeros_15 ?_
    exact x_iret hx hb hr hlk hP hO hD hS ⟨hwp, rfl⟩ dJ9_numberOfTrailingZeros_16
/-! Tr_runs -/
def xw_Tr_runs_19 (δ : XSh) (K : XSt → Prop) (i0 : Nat) (σ : XSt) : Prop :=
  ∀ σ1, σ1 = tI σ 3 i0 1 ((σ.1 3 i0 1) + 1) → (K σ1)
set_option maxHeartbeats 4000000 in
set_option maxRecDepth 100000 in
theorem xk_Tr_runs_19 {p : Program} {l : Launch} {e : Env} {s : State} {m : MethodId} {args : Array Value} {below : List Frame} {meth : Method} {c : Code} {Γ : GA} {δ : XSh} {K : XSt → Prop} {i0 : Nat} (X : CX p s m args meth c cX1_runs 2 none RX1 Γ) (h0 : (3, i0) ∈ δ.1) : ∀ (σ : XSt), xw_Tr_runs_19 δ K i0  σ → TX p l e ({ frames := 0, cells := 0, slots := 0, locals := 0 } : Room) s m args below meth c 2 0 0 (YV below (fun u => K u.2 ∧ u.1 = δ) 0 0 Γ δ s args) Γ δ δ σ 19 [(0, .ref (δ.2.1 3 i0))] [] := by
  obtain ⟨hx, hb, hml, hown, hts, hK, hr, hlk⟩ := id X
  have hA : ∀ q, s.heap.size ≤ q → AX δ s.heap.size q := fun q h => Or.inr h
  intro  σ hwp H locs ls hP hO hD hS hl
  unfold xw_Tr_runs_19 at hwp
  refine lv_aload_n hx hb dX1_runs_19 rfl (lv_at hl 0 rfl) ?_
  refine lv_dup hx hb dX1_runs_20 rfl ?_
  refine x_get hx hb hts hown hK hP 3 i0 h0 rfl rfl in_X1 1 (by decide) q127 rfl (v := .int (σ.1 3 i0 1)) rfl dX1_runs_21 ?_
  refine lv_iconst (v := 1) hx hb dX1_runs_24 (by decide) ?_
  refine lv_iadd hx hb dX1_runs_25 ?_
  refine x_puti hx hb hts hown hK hD hP hS 3 i0 h0 rfl rfl in_X1 tyX1 tyX1_ok nmX1 1 (by decide) q127 rfl rfl rfl rfl (Nat.le_of_ble_eq_true rfl) rfl dX1_runs_26 (fun H locs hP hS => ?_)
  obtain ⟨σ1, eσ1⟩ : ∃ z, z = tI σ 3 i0 1 ((σ.1 3 i0 1) + 1) := ⟨_, rfl⟩
  replace hP : XH Γ δ σ1 H := by rw [eσ1]; exact hP
  replace hwp := hwp σ1 eσ1
  exact x_vret hx hb hr hlk hP hO hD hS ⟨hwp, rfl⟩ dX1_runs_29
def xw_Tr_runs (δ : XSh) (K : XSt → Prop) (i0 : Nat) (x1 : Int32) (σ : XSt) : Prop :=
  ((20 ≤ (σ.1 3 i0 1)) → (xw_Tr_runs_19 δ K i0 σ)) ∧ ((¬ (20 ≤ (σ.1 3 i0 1))) → (vp_in (σ.1 3 i0 1) 20 ∧ (∀ σ3, σ3 = tI σ 4 i0 (σ.1 3 i0 1).toNatClampNeg x1 → (xw_Tr_runs_19 δ K i0 σ3))))
set_option maxHeartbeats 4000000 in
set_option maxRecDepth 100000 in
theorem xt_Tr_runs {l : Launch} {Γ : GA} {δ : XSh} {σ : XSt} {K : XSt → Prop} {i0 : Nat} (h0 : (3, i0) ∈ δ.1) {x1 : Int32} (hwp : xw_Tr_runs δ K i0 x1 σ) : xV l yX1_runs cX1_runs 2 none ({ frames := 0, cells := 0, slots := 0, locals := 0 } : Room) 0 0 Γ δ [.ref (δ.2.1 3 i0), .int x1] σ (fun u => K u.2 ∧ u.1 = δ) := by
  intro sz
  refine x_of (by decide) [(0, .ref (δ.2.1 3 i0)), (1, .int x1)] (fun _ h => h) (Nat.le_of_ble_eq_true rfl) ?_
  intro p e s m args below meth c hsz X H locs ls hP hO hD hS hl
  subst hsz
  obtain ⟨hx, hb, hml, hown, hts, hK, hr, hlk⟩ := id X
  have hA : ∀ q, s.heap.size ≤ q → AX δ s.heap.size q := fun q h => Or.inr h
  unfold xw_Tr_runs at hwp
  refine lv_aload_n hx hb dX1_runs_0 rfl (lv_at hl 0 rfl) ?_
  refine x_get hx hb hts hown hK hP 3 i0 h0 rfl rfl in_X1 1 (by decide) q127 rfl (v := .int (σ.1 3 i0 1)) rfl dX1_runs_1 ?_
  refine lv_bipush (v := 20) hx hb dX1_runs_4 (by decide) ?_
  refine lv_icmp_ge (tgt := 19) hx hb dX1_runs_6 (by decide) (fun c1 => ?_) (fun c1 => ?_)
  · replace hwp := hwp.1 c1
    exact xk_Tr_runs_19 X h0 σ hwp H locs ls hP hO hD hS (lv_sub hl [0] rfl)
  · replace hwp := hwp.2 c1
    refine lv_aload_n hx hb dX1_runs_9 rfl (lv_at hl 0 rfl) ?_
    refine x_get hx hb hts hown hK hP 3 i0 h0 rfl rfl in_X1 0 (by decide) q125 rfl (v := .ref (δ.2.1 4 i0)) rfl dX1_runs_10 ?_
    refine lv_aload_n hx hb dX1_runs_13 rfl (lv_at hl 0 rfl) ?_
    refine x_get hx hb hts hown hK hP 3 i0 h0 rfl rfl in_X1 1 (by decide) q127 rfl (v := .int (σ.1 3 i0 1)) rfl dX1_runs_14 ?_
    refine lv_iload_n hx hb dX1_runs_17 rfl (lv_at hl 1 rfl) ?_
    obtain ⟨hi2, hwp⟩ := hwp
    refine x_iast hx hb hK hD hP hS 4 i0 (hO.2.2.2.1 _ h0) (fun _ => rfl) hi2 dX1_runs_18 (fun H locs hP hS => ?_)
    obtain ⟨σ3, eσ3⟩ : ∃ z, z = tI σ 4 i0 (σ.1 3 i0 1).toNatClampNeg x1 := ⟨_, rfl⟩
    replace hP : XH Γ δ σ3 H := by rw [eσ3]; exact hP
    replace hwp := hwp σ3 eσ3
    exact xk_Tr_runs_19 X h0 σ3 hwp H locs ls hP hO hD hS (lv_sub hl [0] rfl)
/-! T_kind -/
def xw_T_kind (δ : XSh) (σ : XSt) (K : Int32 → Prop) (i0 : Nat) : Prop :=
  K 0
set_option maxHeartbeats 4000000 in
set_option maxRecDepth 100000 in
theorem xt_T_kind {l : Launch} {Γ : GA} {δ : XSh} {σ : XSt} {K : Int32 → Prop} {i0 : Nat} (h0 : (7, i0) ∈ δ.1) (c0 : δ.2.2.1 i0 < 12) (hwp : xw_T_kind δ σ K i0 ) : xI l yX11_kind cX11_kind 1 (some .int) ({ frames := 0, cells := 0, slots := 0, locals := 0 } : Room) 0 0 Γ δ [.ref i0] σ (fun r u => K r ∧ u = (δ, σ)) := by
  intro sz
  refine x_of (by decide) [(0, .ref i0)] (fun _ h => h) (Nat.le_of_ble_eq_true rfl) ?_
  intro p e s m args below meth c hsz X H locs ls hP hO hD hS hl
  subst hsz
  obtain ⟨hx, hb, hml, hown, hts, hK, hr, hlk⟩ := id X
  have hA : ∀ q, s.heap.size ≤ q → AX δ s.heap.size q := fun q h => Or.inr h
  unfold xw_T_kind at hwp
  refine lv_iconst (v := 0) hx hb dX11_kind_0 (by decide) ?_
  exact x_iret hx hb hr hlk hP hO hD hS ⟨hwp, rfl⟩ dX11_kind_1
/-! Ho_kind -/
def xw_Ho_kind (δ : XSh) (σ : XSt) (K : Int32 → Prop) (i0 : Nat) : Prop :=
  K 1
set_option maxHeartbeats 4000000 in
set_option maxRecDepth 100000 in
theorem xt_Ho_kind {l : Launch} {Γ : GA} {δ : XSh} {σ : XSt} {K : Int32 → Prop} {i0 : Nat} (h0 : (7, i0) ∈ δ.1) (c0 : δ.2.2.1 i0 < 12) (hwp : xw_Ho_kind δ σ K i0 ) : xI l yX12_kind cX12_kind 1 (some .int) ({ frames := 0, cells := 0, slots := 0, locals := 0 } : Room) 0 0 Γ δ [.ref i0] σ (fun r u => K r ∧ u = (δ, σ)) := by
  intro sz
  refine x_of (by decide) [(0, .ref i0)] (fun _ h => h) (Nat.le_of_ble_eq_true rfl) ?_
  intro p e s m args below meth c hsz X H locs ls hP hO hD hS hl
  subst hsz
  obtain ⟨hx, hb, hml, hown, hts, hK, hr, hlk⟩ := id X
  have hA : ∀ q, s.heap.size ≤ q → AX δ s.heap.size q := fun q h => Or.inr h
  unfold xw_Ho_kind at hwp
  refine lv_iconst (v := 1) hx hb dX12_kind_0 (by decide) ?_
  exact x_iret hx hb hr hlk hP hO hD hS ⟨hwp, rfl⟩ dX12_kind_1
/-! Te_kind -/
def xw_Te_kind (δ : XSh) (σ : XSt) (K : Int32 → Prop) (i0 : Nat) : Prop :=
  K 2
set_option maxHeartbeats 4000000 in
set_option maxRecDepth 100000 in
theorem xt_Te_kind {l : Launch} {Γ : GA} {δ : XSh} {σ : XSt} {K : Int32 → Prop} {i0 : Nat} (h0 : (7, i0) ∈ δ.1) (c0 : δ.2.2.1 i0 < 12) (hwp : xw_Te_kind δ σ K i0 ) : xI l yX13_kind cX13_kind 1 (some .int) ({ frames := 0, cells := 0, slots := 0, locals := 0 } : Room) 0 0 Γ δ [.ref i0] σ (fun r u => K r ∧ u = (δ, σ)) := by
  intro sz
  refine x_of (by decide) [(0, .ref i0)] (fun _ h => h) (Nat.le_of_ble_eq_true rfl) ?_
  intro p e s m args below meth c hsz X H locs ls hP hO hD hS hl
  subst hsz
  obtain ⟨hx, hb, hml, hown, hts, hK, hr, hlk⟩ := id X
  have hA : ∀ q, s.heap.size ≤ q → AX δ s.heap.size q := fun q h => Or.inr h
  unfold xw_Te_kind at hwp
  refine lv_iconst (v := 2) hx hb dX13_kind_0 (by decide) ?_
  exact x_iret hx hb hr hlk hP hO hD hS ⟨hwp, rfl⟩ dX13_kind_1
/-! To_kind -/
def xw_To_kind (δ : XSh) (σ : XSt) (K : Int32 → Prop) (i0 : Nat) : Prop :=
  K 3
set_option maxHeartbeats 4000000 in
set_option maxRecDepth 100000 in
theorem xt_To_kind {l : Launch} {Γ : GA} {δ : XSh} {σ : XSt} {K : Int32 → Prop} {i0 : Nat} (h0 : (7, i0) ∈ δ.1) (c0 : δ.2.2.1 i0 < 12) (hwp : xw_To_kind δ σ K i0 ) : xI l yX14_kind cX14_kind 1 (some .int) ({ frames := 0, cells := 0, slots := 0, locals := 0 } : Room) 0 0 Γ δ [.ref i0] σ (fun r u => K r ∧ u = (δ, σ)) := by
  intro sz
  refine x_of (by decide) [(0, .ref i0)] (fun _ h => h) (Nat.le_of_ble_eq_true rfl) ?_
  intro p e s m args below meth c hsz X H locs ls hP hO hD hS hl
  subst hsz
  obtain ⟨hx, hb, hml, hown, hts, hK, hr, hlk⟩ := id X
  have hA : ∀ q, s.heap.size ≤ q → AX δ s.heap.size q := fun q h => Or.inr h
  unfold xw_To_kind at hwp
  refine lv_iconst (v := 3) hx hb dX14_kind_0 (by decide) ?_
  exact x_iret hx hb hr hlk hP hO hD hS ⟨hwp, rfl⟩ dX14_kind_1
/-! Sy_kind -/
def xw_Sy_kind (δ : XSh) (σ : XSt) (K : Int32 → Prop) (i0 : Nat) : Prop :=
  K 4
set_option maxHeartbeats 4000000 in
set_option maxRecDepth 100000 in
theorem xt_Sy_kind {l : Launch} {Γ : GA} {δ : XSh} {σ : XSt} {K : Int32 → Prop} {i0 : Nat} (h0 : (7, i0) ∈ δ.1) (c0 : δ.2.2.1 i0 < 12) (hwp : xw_Sy_kind δ σ K i0 ) : xI l yX15_kind cX15_kind 1 (some .int) ({ frames := 0, cells := 0, slots := 0, locals := 0 } : Room) 0 0 Γ δ [.ref i0] σ (fun r u => K r ∧ u = (δ, σ)) := by
  intro sz
  refine x_of (by decide) [(0, .ref i0)] (fun _ h => h) (Nat.le_of_ble_eq_true rfl) ?_
  intro p e s m args below meth c hsz X H locs ls hP hO hD hS hl
  subst hsz
  obtain ⟨hx, hb, hml, hown, hts, hK, hr, hlk⟩ := id X
  have hA : ∀ q, s.heap.size ≤ q → AX δ s.heap.size q := fun q h => Or.inr h
  unfold xw_Sy_kind at hwp
  refine lv_iconst (v := 4) hx hb dX15_kind_0 (by decide) ?_
  exact x_iret hx hb hr hlk hP hO hD hS ⟨hwp, rfl⟩ dX15_kind_1
/-! Bl_kind -/
def xw_Bl_kind (δ : XSh) (σ : XSt) (K : Int32 → Prop) (i0 : Nat) : Prop :=
  K 5
set_option maxHeartbeats 4000000 in
set_option maxRecDepth 100000 in
theorem xt_Bl_kind {l : Launch} {Γ : GA} {δ : XSh} {σ : XSt} {K : Int32 → Prop} {i0 : Nat} (h0 : (7, i0) ∈ δ.1) (c0 : δ.2.2.1 i0 < 12) (hwp : xw_Bl_kind δ σ K i0 ) : xI l yX16_kind cX16_kind 1 (some .int) ({ frames := 0, cells := 0, slots := 0, locals := 0 } : Room) 0 0 Γ δ [.ref i0] σ (fun r u => K r ∧ u = (δ, σ)) := by
  intro sz
  refine x_of (by decide) [(0, .ref i0)] (fun _ h => h) (Nat.le_of_ble_eq_true rfl) ?_
  intro p e s m args below meth c hsz X H locs ls hP hO hD hS hl
  subst hsz
  obtain ⟨hx, hb, hml, hown, hts, hK, hr, hlk⟩ := id X
  have hA : ∀ q, s.heap.size ≤ q → AX δ s.heap.size q := fun q h => Or.inr h
  unfold xw_Bl_kind at hwp
  refine lv_iconst (v := 5) hx hb dX16_kind_0 (by decide) ?_
  exact x_iret hx hb hr hlk hP hO hD hS ⟨hwp, rfl⟩ dX16_kind_1
/-! Fi_kind -/
def xw_Fi_kind (δ : XSh) (σ : XSt) (K : Int32 → Prop) (i0 : Nat) : Prop :=
  K 6
set_option maxHeartbeats 4000000 in
set_option maxRecDepth 100000 in
theorem xt_Fi_kind {l : Launch} {Γ : GA} {δ : XSh} {σ : XSt} {K : Int32 → Prop} {i0 : Nat} (h0 : (7, i0) ∈ δ.1) (c0 : δ.2.2.1 i0 < 12) (hwp : xw_Fi_kind δ σ K i0 ) : xI l yX17_kind cX17_kind 1 (some .int) ({ frames := 0, cells := 0, slots := 0, locals := 0 } : Room) 0 0 Γ δ [.ref i0] σ (fun r u => K r ∧ u = (δ, σ)) := by
  intro sz
  refine x_of (by decide) [(0, .ref i0)] (fun _ h => h) (Nat.le_of_ble_eq_true rfl) ?_
  intro p e s m args below meth c hsz X H locs ls hP hO hD hS hl
  subst hsz
  obtain ⟨hx, hb, hml, hown, hts, hK, hr, hlk⟩ := id X
  have hA : ∀ q, s.heap.size ≤ q → AX δ s.heap.size q := fun q h => Or.inr h
  unfold xw_Fi_kind at hwp
  refine lv_bipush (v := 6) hx hb dX17_kind_0 (by decide) ?_
  exact x_iret hx hb hr hlk hP hO hD hS ⟨hwp, rfl⟩ dX17_kind_2
def xv_T_kind (δ : XSh) (σ : XSt) (K : Int32 → Prop) (i0 : Nat) : Prop :=
  (δ.2.2.1 i0 = 5 → xw_T_kind δ σ K i0) ∧ (δ.2.2.1 i0 = 6 → xw_Ho_kind δ σ K i0) ∧ (δ.2.2.1 i0 = 7 → xw_Te_kind δ σ K i0) ∧ (δ.2.2.1 i0 = 8 → xw_To_kind δ σ K i0) ∧ (δ.2.2.1 i0 = 9 → xw_Sy_kind δ σ K i0) ∧ (δ.2.2.1 i0 = 10 → xw_Bl_kind δ σ K i0) ∧ (δ.2.2.1 i0 = 11 → xw_Fi_kind δ σ K i0)
set_option maxHeartbeats 4000000 in
set_option maxRecDepth 100000 in
theorem xr_T_kind {p : Program} {l : Launch} {e : Env} {R : Room} {s : State} {m : MethodId} {args : Array Value} {below : List Frame} {meth : Method} {c : Code} {H : Heap} {locs : List Loc} {cells slots : Nat} {cc : ByteArray} {pc nL index : Nat} {ls : Array Slot} {As rest st : List Value} {Γ : GA} {δ : XSh} {σ : XSt} {A : Nat → Prop} {own : String} {i0 : Nat} {K : Int32 → Prop} (S : CallFix p m c cc nL s args lw_all own) (hK : KX Γ s) (hD : gD δ.1 (adX δ) A) (hO : XO δ) (hP : XH Γ δ σ H) (h0 : (7, i0) ∈ δ.1) (c0 : δ.2.2.1 i0 < 12) (hwp : xv_T_kind δ σ K i0) (hlk : Cond.methodLink own index ⟨"SeenByOne$Thing", "kind", "()I"⟩ ∈ lw_all) (hR : 1 ≤ R.frames ∧ 20 ≤ R.locals) (hAs : As = []) (hsize : ls.size = nL) (hst : st = As.reverse ++ .ref i0 :: rest) (hW : (rest.map fun v => v.category).sum ≤ 8) (hd : decode cc pc = .ok (.invokevirtual index, 3)) (hf : cells ≤ R.cells ∧ slots ≤ R.slots) : va_Run p l e R s m args below meth c H locs cells slots 0 0 (F0 m pc ls st) rest (va_Qi (fun r u => K r ∧ u = (δ, σ)) (xB Γ δ H.size) (AX δ H.size) (.ref i0 :: As).toArray) (AX δ H.size) := by
  subst hAs
  have hn : ([] : List Value).length = 0 := rfl
  rcases cn_cases hO h0 c0 with e | e | e | e | e | e | e
  · exact va_runU (C := RX11) (owner := "SeenByOne$Thing") (As := []) (rest := rest) S (xt_T_kind h0 c0 (hwp.1 e) H.size) (va_cwO 0 S.2.2.2.2 (lw_O hlk q821 q819 q820 q819 q97 q840) rfl rfl rfl q840 (by decide +kernel) ⟨Nat.le_trans (Nat.le_of_ble_eq_true rfl) hR.1, Nat.le_trans (Nat.le_of_ble_eq_true rfl) hR.2⟩) (x_preV (avs := []) hK hO hD hP 7 i0 h0 (cellT c0) (by rw [e]; rfl)) rfl hn hsize hst (lv_room hW) hd hf
  · exact va_runU (C := RX12) (owner := "SeenByOne$Thing") (As := []) (rest := rest) S (xt_Ho_kind h0 c0 (hwp.2.1 e) H.size) (va_cwO 0 S.2.2.2.2 (lw_O hlk q821 q819 q828 q829 q98 q830) rfl rfl rfl q840 (by decide +kernel) ⟨Nat.le_trans (Nat.le_of_ble_eq_true rfl) hR.1, Nat.le_trans (Nat.le_of_ble_eq_true rfl) hR.2⟩) (x_preV (avs := []) hK hO hD hP 7 i0 h0 (cellT c0) (by rw [e]; rfl)) rfl hn hsize hst (lv_room hW) hd hf
  · exact va_runU (C := RX13) (owner := "SeenByOne$Thing") (As := []) (rest := rest) S (xt_Te_kind h0 c0 (hwp.2.2.1 e) H.size) (va_cwO 0 S.2.2.2.2 (lw_O hlk q821 q819 q837 q838 q99 q839) rfl rfl rfl q840 (by decide +kernel) ⟨Nat.le_trans (Nat.le_of_ble_eq_true rfl) hR.1, Nat.le_trans (Nat.le_of_ble_eq_true rfl) hR.2⟩) (x_preV (avs := []) hK hO hD hP 7 i0 h0 (cellT c0) (by rw [e]; rfl)) rfl hn hsize hst (lv_room hW) hd hf
  · exact va_runU (C := RX14) (owner := "SeenByOne$Thing") (As := []) (rest := rest) S (xt_To_kind h0 c0 (hwp.2.2.2.1 e) H.size) (va_cwO 0 S.2.2.2.2 (lw_O hlk q821 q819 q834 q835 q100 q836) rfl rfl rfl q840 (by decide +kernel) ⟨Nat.le_trans (Nat.le_of_ble_eq_true rfl) hR.1, Nat.le_trans (Nat.le_of_ble_eq_true rfl) hR.2⟩) (x_preV (avs := []) hK hO hD hP 7 i0 h0 (cellT c0) (by rw [e]; rfl)) rfl hn hsize hst (lv_room hW) hd hf
  · exact va_runU (C := RX15) (owner := "SeenByOne$Thing") (As := []) (rest := rest) S (xt_Sy_kind h0 c0 (hwp.2.2.2.2.1 e) H.size) (va_cwO 0 S.2.2.2.2 (lw_O hlk q821 q819 q831 q832 q101 q833) rfl rfl rfl q840 (by decide +kernel) ⟨Nat.le_trans (Nat.le_of_ble_eq_true rfl) hR.1, Nat.le_trans (Nat.le_of_ble_eq_true rfl) hR.2⟩) (x_preV (avs := []) hK hO hD hP 7 i0 h0 (cellT c0) (by rw [e]; rfl)) rfl hn hsize hst (lv_room hW) hd hf
  · exact va_runU (C := RX16) (owner := "SeenByOne$Thing") (As := []) (rest := rest) S (xt_Bl_kind h0 c0 (hwp.2.2.2.2.2.1 e) H.size) (va_cwO 0 S.2.2.2.2 (lw_O hlk q821 q819 q822 q823 q102 q824) rfl rfl rfl q840 (by decide +kernel) ⟨Nat.le_trans (Nat.le_of_ble_eq_true rfl) hR.1, Nat.le_trans (Nat.le_of_ble_eq_true rfl) hR.2⟩) (x_preV (avs := []) hK hO hD hP 7 i0 h0 (cellT c0) (by rw [e]; rfl)) rfl hn hsize hst (lv_room hW) hd hf
  · exact va_runU (C := RX17) (owner := "SeenByOne$Thing") (As := []) (rest := rest) S (xt_Fi_kind h0 c0 (hwp.2.2.2.2.2.2 e) H.size) (va_cwO 0 S.2.2.2.2 (lw_O hlk q821 q819 q825 q826 q103 q827) rfl rfl rfl q840 (by decide +kernel) ⟨Nat.le_trans (Nat.le_of_ble_eq_true rfl) hR.1, Nat.le_trans (Nat.le_of_ble_eq_true rfl) hR.2⟩) (x_preV (avs := []) hK hO hD hP 7 i0 h0 (cellT c0) (by rw [e]; rfl)) rfl hn hsize hst (lv_room hW) hd hf
/-! T_tall -/
def xw_T_tall (δ : XSh) (σ : XSt) (K : Int32 → Prop) (i0 : Nat) (x1 : Int32) (x2 : Int32) : Prop :=
  K x1
set_option maxHeartbeats 4000000 in
set_option maxRecDepth 100000 in
theorem xt_T_tall {l : Launch} {Γ : GA} {δ : XSh} {σ : XSt} {K : Int32 → Prop} {i0 : Nat} (h0 : (7, i0) ∈ δ.1) (c0 : δ.2.2.1 i0 < 12) {x1 : Int32} {x2 : Int32} (hwp : xw_T_tall δ σ K i0 x1 x2) : xI l yX11_tall cX11_tall 3 (some .int) ({ frames := 0, cells := 0, slots := 0, locals := 0 } : Room) 0 0 Γ δ [.ref i0, .int x1, .int x2] σ (fun r u => K r ∧ u = (δ, σ)) := by
  intro sz
  refine x_of (by decide) [(0, .ref i0), (1, .int x1), (2, .int x2)] (fun _ h => h) (Nat.le_of_ble_eq_true rfl) ?_
  intro p e s m args below meth c hsz X H locs ls hP hO hD hS hl
  subst hsz
  obtain ⟨hx, hb, hml, hown, hts, hK, hr, hlk⟩ := id X
  have hA : ∀ q, s.heap.size ≤ q → AX δ s.heap.size q := fun q h => Or.inr h
  unfold xw_T_tall at hwp
  refine lv_iload_n hx hb dX11_tall_0 rfl (lv_at hl 1 rfl) ?_
  exact x_iret hx hb hr hlk hP hO hD hS ⟨hwp, rfl⟩ dX11_tall_1
/-! Te_tall -/
def xw_Te_tall (δ : XSh) (σ : XSt) (K : Int32 → Prop) (i0 : Nat) (x1 : Int32) (x2 : Int32) : Prop :=
  ((x2 = 0) → (K 0)) ∧ ((¬ (x2 = 0)) → (xw_T_tall δ σ (fun r2 => K (r2 + (σ.1 7 i0 3))) i0 x1 1))
set_option maxHeartbeats 4000000 in
set_option maxRecDepth 100000 in
theorem xt_Te_tall {l : Launch} {Γ : GA} {δ : XSh} {σ : XSt} {K : Int32 → Prop} {i0 : Nat} (h0 : (7, i0) ∈ δ.1) (c0 : δ.2.2.1 i0 < 12) {x1 : Int32} {x2 : Int32} (hwp : xw_Te_tall δ σ K i0 x1 x2) : xI l yX13_tall cX13_tall 3 (some .int) ({ frames := 1, cells := 0, slots := 0, locals := 22 } : Room) 0 0 Γ δ [.ref i0, .int x1, .int x2] σ (fun r u => K r ∧ u = (δ, σ)) := by
  intro sz
  refine x_of (by decide) [(0, .ref i0), (1, .int x1), (2, .int x2)] (fun _ h => h) (Nat.le_of_ble_eq_true rfl) ?_
  intro p e s m args below meth c hsz X H locs ls hP hO hD hS hl
  subst hsz
  obtain ⟨hx, hb, hml, hown, hts, hK, hr, hlk⟩ := id X
  have hA : ∀ q, s.heap.size ≤ q → AX δ s.heap.size q := fun q h => Or.inr h
  unfold xw_Te_tall at hwp
  refine lv_iload_n hx hb dX13_tall_0 rfl (lv_at hl 2 rfl) ?_
  refine lv_if_eq (tgt := 18) hx hb dX13_tall_1 (by decide) (fun c1 => ?_) (fun c1 => ?_)
  · replace hwp := hwp.1 c1
    refine lv_iconst (v := 0) hx hb dX13_tall_18 (by decide) ?_
    exact x_iret hx hb hr hlk hP hO hD hS ⟨hwp, rfl⟩ dX13_tall_19
  · replace hwp := hwp.2 c1
    refine lv_aload_n hx hb dX13_tall_4 rfl (lv_at hl 0 rfl) ?_
    refine lv_iload_n hx hb dX13_tall_5 rfl (lv_at hl 1 rfl) ?_
    refine lv_iconst (v := 1) hx hb dX13_tall_6 (by decide) ?_
    refine x_goi (vz_runSU (n := 2) (C := (clA.getD (δ.2.2.1 i0) (RX11, TX11, 4)).1) (owner := "SeenByOne$Thing") (x := ⟨"SeenByOne$Thing", "tall", "(IZ)I"⟩) (As := [.int x1, .int 1]) (rest := []) rfl ⟨hx, hb, hml, hown, hts⟩ (xt_T_tall h0 c0 hwp H.size) q623 q614 q624 (Or.inl rfl) q612 q97 q629 rfl rfl (by decide) (by decide +kernel) ⟨Nat.le_of_ble_eq_true rfl, Nat.le_of_ble_eq_true rfl⟩ (x_preT hK hO hD hP i0 h0 c0) rfl rfl hl.1 rfl (lv_room (Nat.le_of_ble_eq_true rfl)) dX13_tall_7 ⟨Nat.le_of_ble_eq_true rfl, Nat.le_of_ble_eq_true rfl⟩) hD hA hS (fun r2 u H locs hk hP hO hD hS => ?_)
    obtain ⟨hwp, eu⟩ := hk
    subst eu
    dsimp only at hP hO hD
    refine lv_aload_n hx hb dX13_tall_10 rfl (lv_at hl 0 rfl) ?_
    refine x_getT hx hb hts hown hK hO hP i0 h0 c0 3 (by decide) q738 (fun x h9 => u_same (hts _ q739) x h9) dX13_tall_11 ?_
    refine lv_iadd hx hb dX13_tall_14 ?_
    refine lv_goto (tgt := 19) hx hb dX13_tall_15 (by decide) ?_
    exact x_iret hx hb hr hlk hP hO hD hS ⟨hwp, rfl⟩ dX13_tall_19
/-! Fi_tall -/
def xw_Fi_tall (δ : XSh) (σ : XSt) (K : Int32 → Prop) (i0 : Nat) (x1 : Int32) (x2 : Int32) : Prop :=
  xw_Te_tall δ σ (fun r1 => K r1) i0 x1 1
set_option maxHeartbeats 4000000 in
set_option maxRecDepth 100000 in
theorem xt_Fi_tall {l : Launch} {Γ : GA} {δ : XSh} {σ : XSt} {K : Int32 → Prop} {i0 : Nat} (h0 : (7, i0) ∈ δ.1) (c0 : δ.2.2.1 i0 < 12) {x1 : Int32} {x2 : Int32} (hwp : xw_Fi_tall δ σ K i0 x1 x2) : xI l yX17_tall cX17_tall 3 (some .int) ({ frames := 2, cells := 0, slots := 0, locals := 44 } : Room) 0 0 Γ δ [.ref i0, .int x1, .int x2] σ (fun r u => K r ∧ u = (δ, σ)) := by
  intro sz
  refine x_of (by decide) [(0, .ref i0), (1, .int x1), (2, .int x2)] (fun _ h => h) (Nat.le_of_ble_eq_true rfl) ?_
  intro p e s m args below meth c hsz X H locs ls hP hO hD hS hl
  subst hsz
  obtain ⟨hx, hb, hml, hown, hts, hK, hr, hlk⟩ := id X
  have hA : ∀ q, s.heap.size ≤ q → AX δ s.heap.size q := fun q h => Or.inr h
  unfold xw_Fi_tall at hwp
  refine lv_aload_n hx hb dX17_tall_0 rfl (lv_at hl 0 rfl) ?_
  refine lv_iload_n hx hb dX17_tall_1 rfl (lv_at hl 1 rfl) ?_
  refine lv_iconst (v := 1) hx hb dX17_tall_2 (by decide) ?_
  refine x_goi (vz_runSU (n := 2) (C := (clA.getD (δ.2.2.1 i0) (RX11, TX11, 4)).1) (owner := "SeenByOne$Tree") (x := ⟨"SeenByOne$Tree", "tall", "(IZ)I"⟩) (As := [.int x1, .int 1]) (rest := []) rfl ⟨hx, hb, hml, hown, hts⟩ (xt_Te_tall h0 c0 hwp H.size) q619 q1833 q620 (Or.inl rfl) q621 q99 q622 rfl rfl (by decide) (by decide +kernel) ⟨Nat.le_of_ble_eq_true rfl, Nat.le_of_ble_eq_true rfl⟩ (x_preT hK hO hD hP i0 h0 c0) rfl rfl hl.1 rfl (lv_room (Nat.le_of_ble_eq_true rfl)) dX17_tall_3 ⟨Nat.le_of_ble_eq_true rfl, Nat.le_of_ble_eq_true rfl⟩) hD hA hS (fun r1 u H locs hk hP hO hD hS => ?_)
  obtain ⟨hwp, eu⟩ := hk
  subst eu
  dsimp only at hP hO hD
  exact x_iret hx hb hr hlk hP hO hD hS ⟨hwp, rfl⟩ dX17_tall_6
def xv_T_tall (δ : XSh) (σ : XSt) (K : Int32 → Prop) (i0 : Nat) (x1 : Int32) (x2 : Int32) : Prop :=
  (δ.2.2.1 i0 = 5 → xw_T_tall δ σ K i0 x1 x2) ∧ (δ.2.2.1 i0 = 6 → xw_T_tall δ σ K i0 x1 x2) ∧ (δ.2.2.1 i0 = 7 → xw_Te_tall δ σ K i0 x1 x2) ∧ (δ.2.2.1 i0 = 8 → xw_T_tall δ σ K i0 x1 x2) ∧ (δ.2.2.1 i0 = 9 → xw_T_tall δ σ K i0 x1 x2) ∧ (δ.2.2.1 i0 = 10 → xw_T_tall δ σ K i0 x1 x2) ∧ (δ.2.2.1 i0 = 11 → xw_Fi_tall δ σ K i0 x1 x2)
set_option maxHeartbeats 4000000 in
set_option maxRecDepth 100000 in
theorem xr_T_tall {p : Program} {l : Launch} {e : Env} {R : Room} {s : State} {m : MethodId} {args : Array Value} {below : List Frame} {meth : Method} {c : Code} {H : Heap} {locs : List Loc} {cells slots : Nat} {cc : ByteArray} {pc nL index : Nat} {ls : Array Slot} {As rest st : List Value} {Γ : GA} {δ : XSh} {σ : XSt} {A : Nat → Prop} {own : String} {i0 : Nat} {K : Int32 → Prop} {x1 : Int32} {x2 : Int32} (S : CallFix p m c cc nL s args lw_all own) (hK : KX Γ s) (hD : gD δ.1 (adX δ) A) (hO : XO δ) (hP : XH Γ δ σ H) (h0 : (7, i0) ∈ δ.1) (c0 : δ.2.2.1 i0 < 12) (hwp : xv_T_tall δ σ K i0 x1 x2) (hlk : Cond.methodLink own index ⟨"SeenByOne$Thing", "tall", "(IZ)I"⟩ ∈ lw_all) (hR : 3 ≤ R.frames ∧ 66 ≤ R.locals) (hAs : As = [.int x1, .int x2]) (hsize : ls.size = nL) (hst : st = As.reverse ++ .ref i0 :: rest) (hW : (rest.map fun v => v.category).sum ≤ 8) (hd : decode cc pc = .ok (.invokevirtual index, 3)) (hf : cells ≤ R.cells ∧ slots ≤ R.slots) : va_Run p l e R s m args below meth c H locs cells slots 0 0 (F0 m pc ls st) rest (va_Qi (fun r u => K r ∧ u = (δ, σ)) (xB Γ δ H.size) (AX δ H.size) (.ref i0 :: As).toArray) (AX δ H.size) := by
  subst hAs
  have hn : ([.int x1, .int x2] : List Value).length = 2 := rfl
  rcases cn_cases hO h0 c0 with e | e | e | e | e | e | e
  · exact va_runU (C := RX11) (owner := "SeenByOne$Thing") (As := [.int x1, .int x2]) (rest := rest) S (xt_T_tall h0 c0 (hwp.1 e) H.size) (va_cwO 2 S.2.2.2.2 (lw_O hlk q614 q612 q613 q612 q97 q629) rfl rfl rfl q629 (by decide +kernel) ⟨Nat.le_trans (Nat.le_of_ble_eq_true rfl) hR.1, Nat.le_trans (Nat.le_of_ble_eq_true rfl) hR.2⟩) (x_preV (avs := [.int x1, .int x2]) hK hO hD hP 7 i0 h0 (cellT c0) (by rw [e]; rfl)) rfl hn hsize hst (lv_room hW) hd hf
  · exact va_runU (C := RX12) (owner := "SeenByOne$Thing") (As := [.int x1, .int x2]) (rest := rest) S (xt_T_tall h0 c0 (hwp.2.1 e) H.size) (va_cwO 2 S.2.2.2.2 (lw_O hlk q614 q612 q625 q612 q97 q629) rfl rfl rfl q629 (by decide +kernel) ⟨Nat.le_trans (Nat.le_of_ble_eq_true rfl) hR.1, Nat.le_trans (Nat.le_of_ble_eq_true rfl) hR.2⟩) (x_preV (avs := [.int x1, .int x2]) hK hO hD hP 7 i0 h0 (cellT c0) (by rw [e]; rfl)) rfl hn hsize hst (lv_room hW) hd hf
  · exact va_runU (C := RX13) (owner := "SeenByOne$Thing") (As := [.int x1, .int x2]) (rest := rest) S (xt_Te_tall h0 c0 (hwp.2.2.1 e) H.size) (va_cwO 2 S.2.2.2.2 (lw_O hlk q614 q612 q628 q621 q99 q622) rfl rfl rfl q629 (by decide +kernel) ⟨Nat.le_trans (Nat.le_of_ble_eq_true rfl) hR.1, Nat.le_trans (Nat.le_of_ble_eq_true rfl) hR.2⟩) (x_preV (avs := [.int x1, .int x2]) hK hO hD hP 7 i0 h0 (cellT c0) (by rw [e]; rfl)) rfl hn hsize hst (lv_room hW) hd hf
  · exact va_runU (C := RX14) (owner := "SeenByOne$Thing") (As := [.int x1, .int x2]) (rest := rest) S (xt_T_tall h0 c0 (hwp.2.2.2.1 e) H.size) (va_cwO 2 S.2.2.2.2 (lw_O hlk q614 q612 q627 q612 q97 q629) rfl rfl rfl q629 (by decide +kernel) ⟨Nat.le_trans (Nat.le_of_ble_eq_true rfl) hR.1, Nat.le_trans (Nat.le_of_ble_eq_true rfl) hR.2⟩) (x_preV (avs := [.int x1, .int x2]) hK hO hD hP 7 i0 h0 (cellT c0) (by rw [e]; rfl)) rfl hn hsize hst (lv_room hW) hd hf
  · exact va_runU (C := RX15) (owner := "SeenByOne$Thing") (As := [.int x1, .int x2]) (rest := rest) S (xt_T_tall h0 c0 (hwp.2.2.2.2.1 e) H.size) (va_cwO 2 S.2.2.2.2 (lw_O hlk q614 q612 q626 q612 q97 q629) rfl rfl rfl q629 (by decide +kernel) ⟨Nat.le_trans (Nat.le_of_ble_eq_true rfl) hR.1, Nat.le_trans (Nat.le_of_ble_eq_true rfl) hR.2⟩) (x_preV (avs := [.int x1, .int x2]) hK hO hD hP 7 i0 h0 (cellT c0) (by rw [e]; rfl)) rfl hn hsize hst (lv_room hW) hd hf
  · exact va_runU (C := RX16) (owner := "SeenByOne$Thing") (As := [.int x1, .int x2]) (rest := rest) S (xt_T_tall h0 c0 (hwp.2.2.2.2.2.1 e) H.size) (va_cwO 2 S.2.2.2.2 (lw_O hlk q614 q612 q615 q612 q97 q629) rfl rfl rfl q629 (by decide +kernel) ⟨Nat.le_trans (Nat.le_of_ble_eq_true rfl) hR.1, Nat.le_trans (Nat.le_of_ble_eq_true rfl) hR.2⟩) (x_preV (avs := [.int x1, .int x2]) hK hO hD hP 7 i0 h0 (cellT c0) (by rw [e]; rfl)) rfl hn hsize hst (lv_room hW) hd hf
  · exact va_runU (C := RX17) (owner := "SeenByOne$Thing") (As := [.int x1, .int x2]) (rest := rest) S (xt_Fi_tall h0 c0 (hwp.2.2.2.2.2.2 e) H.size) (va_cwO 2 S.2.2.2.2 (lw_O hlk q614 q612 q616 q617 q103 q618) rfl rfl rfl q629 (by decide +kernel) ⟨Nat.le_trans (Nat.le_of_ble_eq_true rfl) hR.1, Nat.le_trans (Nat.le_of_ble_eq_true rfl) hR.2⟩) (x_preV (avs := [.int x1, .int x2]) hK hO hD hP 7 i0 h0 (cellT c0) (by rw [e]; rfl)) rfl hn hsize hst (lv_room hW) hd hf
/-! T_isHouse -/
def xw_T_isHouse (δ : XSh) (σ : XSt) (K : Int32 → Prop) (i0 : Nat) : Prop :=
  K 0
set_option maxHeartbeats 4000000 in
set_option maxRecDepth 100000 in
theorem xt_T_isHouse {l : Launch} {Γ : GA} {δ : XSh} {σ : XSt} {K : Int32 → Prop} {i0 : Nat} (h0 : (7, i0) ∈ δ.1) (c0 : δ.2.2.1 i0 < 12) (hwp : xw_T_isHouse δ σ K i0 ) : xI l yX11_isHouse cX11_isHouse 1 (some .boolean) ({ frames := 0, cells := 0, slots := 0, locals := 0 } : Room) 0 0 Γ δ [.ref i0] σ (fun r u => K r ∧ u = (δ, σ)) := by
  intro sz
  refine x_of (by decide) [(0, .ref i0)] (fun _ h => h) (Nat.le_of_ble_eq_true rfl) ?_
  intro p e s m args below meth c hsz X H locs ls hP hO hD hS hl
  subst hsz
  obtain ⟨hx, hb, hml, hown, hts, hK, hr, hlk⟩ := id X
  have hA : ∀ q, s.heap.size ≤ q → AX δ s.heap.size q := fun q h => Or.inr h
  unfold xw_T_isHouse at hwp
  refine lv_iconst (v := 0) hx hb dX11_isHouse_0 (by decide) ?_
  exact x_zret (v := 0) hx hb hr hlk hP hO hD hS (Or.inl rfl) ⟨hwp, rfl⟩ dX11_isHouse_1
/-! Ho_isHouse -/
def xw_Ho_isHouse (δ : XSh) (σ : XSt) (K : Int32 → Prop) (i0 : Nat) : Prop :=
  K 1
set_option maxHeartbeats 4000000 in
set_option maxRecDepth 100000 in
theorem xt_Ho_isHouse {l : Launch} {Γ : GA} {δ : XSh} {σ : XSt} {K : Int32 → Prop} {i0 : Nat} (h0 : (7, i0) ∈ δ.1) (c0 : δ.2.2.1 i0 < 12) (hwp : xw_Ho_isHouse δ σ K i0 ) : xI l yX12_isHouse cX12_isHouse 1 (some .boolean) ({ frames := 0, cells := 0, slots := 0, locals := 0 } : Room) 0 0 Γ δ [.ref i0] σ (fun r u => K r ∧ u = (δ, σ)) := by
  intro sz
  refine x_of (by decide) [(0, .ref i0)] (fun _ h => h) (Nat.le_of_ble_eq_true rfl) ?_
  intro p e s m args below meth c hsz X H locs ls hP hO hD hS hl
  subst hsz
  obtain ⟨hx, hb, hml, hown, hts, hK, hr, hlk⟩ := id X
  have hA : ∀ q, s.heap.size ≤ q → AX δ s.heap.size q := fun q h => Or.inr h
  unfold xw_Ho_isHouse at hwp
  refine lv_iconst (v := 1) hx hb dX12_isHouse_0 (by decide) ?_
  exact x_zret (v := 1) hx hb hr hlk hP hO hD hS (Or.inr rfl) ⟨hwp, rfl⟩ dX12_isHouse_1
def xv_T_isHouse (δ : XSh) (σ : XSt) (K : Int32 → Prop) (i0 : Nat) : Prop :=
  (δ.2.2.1 i0 = 5 → xw_T_isHouse δ σ K i0) ∧ (δ.2.2.1 i0 = 6 → xw_Ho_isHouse δ σ K i0) ∧ (δ.2.2.1 i0 = 7 → xw_T_isHouse δ σ K i0) ∧ (δ.2.2.1 i0 = 8 → xw_Ho_isHouse δ σ K i0) ∧ (δ.2.2.1 i0 = 9 → xw_Ho_isHouse δ σ K i0) ∧ (δ.2.2.1 i0 = 10 → xw_Ho_isHouse δ σ K i0) ∧ (δ.2.2.1 i0 = 11 → xw_T_isHouse δ σ K i0)
set_option maxHeartbeats 4000000 in
set_option maxRecDepth 100000 in
theorem xr_T_isHouse {p : Program} {l : Launch} {e : Env} {R : Room} {s : State} {m : MethodId} {args : Array Value} {below : List Frame} {meth : Method} {c : Code} {H : Heap} {locs : List Loc} {cells slots : Nat} {cc : ByteArray} {pc nL index : Nat} {ls : Array Slot} {As rest st : List Value} {Γ : GA} {δ : XSh} {σ : XSt} {A : Nat → Prop} {own : String} {i0 : Nat} {K : Int32 → Prop} (S : CallFix p m c cc nL s args lw_all own) (hK : KX Γ s) (hD : gD δ.1 (adX δ) A) (hO : XO δ) (hP : XH Γ δ σ H) (h0 : (7, i0) ∈ δ.1) (c0 : δ.2.2.1 i0 < 12) (hwp : xv_T_isHouse δ σ K i0) (hlk : Cond.methodLink own index ⟨"SeenByOne$Thing", "isHouse", "()Z"⟩ ∈ lw_all) (hR : 1 ≤ R.frames ∧ 20 ≤ R.locals) (hAs : As = []) (hsize : ls.size = nL) (hst : st = As.reverse ++ .ref i0 :: rest) (hW : (rest.map fun v => v.category).sum ≤ 8) (hd : decode cc pc = .ok (.invokevirtual index, 3)) (hf : cells ≤ R.cells ∧ slots ≤ R.slots) : va_Run p l e R s m args below meth c H locs cells slots 0 0 (F0 m pc ls st) rest (va_Qi (fun r u => K r ∧ u = (δ, σ)) (xB Γ δ H.size) (AX δ H.size) (.ref i0 :: As).toArray) (AX δ H.size) := by
  subst hAs
  have hn : ([] : List Value).length = 0 := rfl
  rcases cn_cases hO h0 c0 with e | e | e | e | e | e | e
  · exact va_runU (C := RX11) (owner := "SeenByOne$Thing") (As := []) (rest := rest) S (xt_T_isHouse h0 c0 (hwp.1 e) H.size) (va_cwO 0 S.2.2.2.2 (lw_O hlk q549 q547 q548 q547 q97 q558) rfl rfl rfl q558 (by decide +kernel) ⟨Nat.le_trans (Nat.le_of_ble_eq_true rfl) hR.1, Nat.le_trans (Nat.le_of_ble_eq_true rfl) hR.2⟩) (x_preV (avs := []) hK hO hD hP 7 i0 h0 (cellT c0) (by rw [e]; rfl)) rfl hn hsize hst (lv_room hW) hd hf
  · exact va_runU (C := RX12) (owner := "SeenByOne$Thing") (As := []) (rest := rest) S (xt_Ho_isHouse h0 c0 (hwp.2.1 e) H.size) (va_cwO 0 S.2.2.2.2 (lw_O hlk q549 q547 q554 q551 q98 q552) rfl rfl rfl q558 (by decide +kernel) ⟨Nat.le_trans (Nat.le_of_ble_eq_true rfl) hR.1, Nat.le_trans (Nat.le_of_ble_eq_true rfl) hR.2⟩) (x_preV (avs := []) hK hO hD hP 7 i0 h0 (cellT c0) (by rw [e]; rfl)) rfl hn hsize hst (lv_room hW) hd hf
  · exact va_runU (C := RX13) (owner := "SeenByOne$Thing") (As := []) (rest := rest) S (xt_T_isHouse h0 c0 (hwp.2.2.1 e) H.size) (va_cwO 0 S.2.2.2.2 (lw_O hlk q549 q547 q557 q547 q97 q558) rfl rfl rfl q558 (by decide +kernel) ⟨Nat.le_trans (Nat.le_of_ble_eq_true rfl) hR.1, Nat.le_trans (Nat.le_of_ble_eq_true rfl) hR.2⟩) (x_preV (avs := []) hK hO hD hP 7 i0 h0 (cellT c0) (by rw [e]; rfl)) rfl hn hsize hst (lv_room hW) hd hf
  · exact va_runU (C := RX14) (owner := "SeenByOne$Thing") (As := []) (rest := rest) S (xt_Ho_isHouse h0 c0 (hwp.2.2.2.1 e) H.size) (va_cwO 0 S.2.2.2.2 (lw_O hlk q549 q547 q556 q551 q98 q552) rfl rfl rfl q558 (by decide +kernel) ⟨Nat.le_trans (Nat.le_of_ble_eq_true rfl) hR.1, Nat.le_trans (Nat.le_of_ble_eq_true rfl) hR.2⟩) (x_preV (avs := []) hK hO hD hP 7 i0 h0 (cellT c0) (by rw [e]; rfl)) rfl hn hsize hst (lv_room hW) hd hf
  · exact va_runU (C := RX15) (owner := "SeenByOne$Thing") (As := []) (rest := rest) S (xt_Ho_isHouse h0 c0 (hwp.2.2.2.2.1 e) H.size) (va_cwO 0 S.2.2.2.2 (lw_O hlk q549 q547 q555 q551 q98 q552) rfl rfl rfl q558 (by decide +kernel) ⟨Nat.le_trans (Nat.le_of_ble_eq_true rfl) hR.1, Nat.le_trans (Nat.le_of_ble_eq_true rfl) hR.2⟩) (x_preV (avs := []) hK hO hD hP 7 i0 h0 (cellT c0) (by rw [e]; rfl)) rfl hn hsize hst (lv_room hW) hd hf
  · exact va_runU (C := RX16) (owner := "SeenByOne$Thing") (As := []) (rest := rest) S (xt_Ho_isHouse h0 c0 (hwp.2.2.2.2.2.1 e) H.size) (va_cwO 0 S.2.2.2.2 (lw_O hlk q549 q547 q550 q551 q98 q552) rfl rfl rfl q558 (by decide +kernel) ⟨Nat.le_trans (Nat.le_of_ble_eq_true rfl) hR.1, Nat.le_trans (Nat.le_of_ble_eq_true rfl) hR.2⟩) (x_preV (avs := []) hK hO hD hP 7 i0 h0 (cellT c0) (by rw [e]; rfl)) rfl hn hsize hst (lv_room hW) hd hf
  · exact va_runU (C := RX17) (owner := "SeenByOne$Thing") (As := []) (rest := rest) S (xt_T_isHouse h0 c0 (hwp.2.2.2.2.2.2 e) H.size) (va_cwO 0 S.2.2.2.2 (lw_O hlk q549 q547 q553 q547 q97 q558) rfl rfl rfl q558 (by decide +kernel) ⟨Nat.le_trans (Nat.le_of_ble_eq_true rfl) hR.1, Nat.le_trans (Nat.le_of_ble_eq_true rfl) hR.2⟩) (x_preV (avs := []) hK hO hD hP 7 i0 h0 (cellT c0) (by rw [e]; rfl)) rfl hn hsize hst (lv_room hW) hd hf
/-! T_grows -/
def xw_T_grows (δ : XSh) (σ : XSt) (K : Int32 → Prop) (i0 : Nat) : Prop :=
  K 0
set_option maxHeartbeats 4000000 in
set_option maxRecDepth 100000 in
theorem xt_T_grows {l : Launch} {Γ : GA} {δ : XSh} {σ : XSt} {K : Int32 → Prop} {i0 : Nat} (h0 : (7, i0) ∈ δ.1) (c0 : δ.2.2.1 i0 < 12) (hwp : xw_T_grows δ σ K i0 ) : xI l yX11_grows cX11_grows 1 (some .boolean) ({ frames := 0, cells := 0, slots := 0, locals := 0 } : Room) 0 0 Γ δ [.ref i0] σ (fun r u => K r ∧ u = (δ, σ)) := by
  intro sz
  refine x_of (by decide) [(0, .ref i0)] (fun _ h => h) (Nat.le_of_ble_eq_true rfl) ?_
  intro p e s m args below meth c hsz X H locs ls hP hO hD hS hl
  subst hsz
  obtain ⟨hx, hb, hml, hown, hts, hK, hr, hlk⟩ := id X
  have hA : ∀ q, s.heap.size ≤ q → AX δ s.heap.size q := fun q h => Or.inr h
  unfold xw_T_grows at hwp
  refine lv_iconst (v := 0) hx hb dX11_grows_0 (by decide) ?_
  exact x_zret (v := 0) hx hb hr hlk hP hO hD hS (Or.inl rfl) ⟨hwp, rfl⟩ dX11_grows_1
/-! Te_grows -/
def xw_Te_grows (δ : XSh) (σ : XSt) (K : Int32 → Prop) (i0 : Nat) : Prop :=
  K 1
set_option maxHeartbeats 4000000 in
set_option maxRecDepth 100000 in
theorem xt_Te_grows {l : Launch} {Γ : GA} {δ : XSh} {σ : XSt} {K : Int32 → Prop} {i0 : Nat} (h0 : (7, i0) ∈ δ.1) (c0 : δ.2.2.1 i0 < 12) (hwp : xw_Te_grows δ σ K i0 ) : xI l yX13_grows cX13_grows 1 (some .boolean) ({ frames := 0, cells := 0, slots := 0, locals := 0 } : Room) 0 0 Γ δ [.ref i0] σ (fun r u => K r ∧ u = (δ, σ)) := by
  intro sz
  refine x_of (by decide) [(0, .ref i0)] (fun _ h => h) (Nat.le_of_ble_eq_true rfl) ?_
  intro p e s m args below meth c hsz X H locs ls hP hO hD hS hl
  subst hsz
  obtain ⟨hx, hb, hml, hown, hts, hK, hr, hlk⟩ := id X
  have hA : ∀ q, s.heap.size ≤ q → AX δ s.heap.size q := fun q h => Or.inr h
  unfold xw_Te_grows at hwp
  refine lv_iconst (v := 1) hx hb dX13_grows_0 (by decide) ?_
  exact x_zret (v := 1) hx hb hr hlk hP hO hD hS (Or.inr rfl) ⟨hwp, rfl⟩ dX13_grows_1
def xv_T_grows (δ : XSh) (σ : XSt) (K : Int32 → Prop) (i0 : Nat) : Prop :=
  (δ.2.2.1 i0 = 5 → xw_T_grows δ σ K i0) ∧ (δ.2.2.1 i0 = 6 → xw_T_grows δ σ K i0) ∧ (δ.2.2.1 i0 = 7 → xw_Te_grows δ σ K i0) ∧ (δ.2.2.1 i0 = 8 → xw_T_grows δ σ K i0) ∧ (δ.2.2.1 i0 = 9 → xw_T_grows δ σ K i0) ∧ (δ.2.2.1 i0 = 10 → xw_T_grows δ σ K i0) ∧ (δ.2.2.1 i0 = 11 → xw_Te_grows δ σ K i0)
set_option maxHeartbeats 4000000 in
set_option maxRecDepth 100000 in
theorem xr_T_grows {p : Program} {l : Launch} {e : Env} {R : Room} {s : State} {m : MethodId} {args : Array Value} {below : List Frame} {meth : Method} {c : Code} {H : Heap} {locs : List Loc} {cells slots : Nat} {cc : ByteArray} {pc nL index : Nat} {ls : Array Slot} {As rest st : List Value} {Γ : GA} {δ : XSh} {σ : XSt} {A : Nat → Prop} {own : String} {i0 : Nat} {K : Int32 → Prop} (S : CallFix p m c cc nL s args lw_all own) (hK : KX Γ s) (hD : gD δ.1 (adX δ) A) (hO : XO δ) (hP : XH Γ δ σ H) (h0 : (7, i0) ∈ δ.1) (c0 : δ.2.2.1 i0 < 12) (hwp : xv_T_grows δ σ K i0) (hlk : Cond.methodLink own index ⟨"SeenByOne$Thing", "grows", "()Z"⟩ ∈ lw_all) (hR : 1 ≤ R.frames ∧ 20 ≤ R.locals) (hAs : As = []) (hsize : ls.size = nL) (hst : st = As.reverse ++ .ref i0 :: rest) (hW : (rest.map fun v => v.category).sum ≤ 8) (hd : decode cc pc = .ok (.invokevirtual index, 3)) (hf : cells ≤ R.cells ∧ slots ≤ R.slots) : va_Run p l e R s m args below meth c H locs cells slots 0 0 (F0 m pc ls st) rest (va_Qi (fun r u => K r ∧ u = (δ, σ)) (xB Γ δ H.size) (AX δ H.size) (.ref i0 :: As).toArray) (AX δ H.size) := by
  subst hAs
  have hn : ([] : List Value).length = 0 := rfl
  rcases cn_cases hO h0 c0 with e | e | e | e | e | e | e
  · exact va_runU (C := RX11) (owner := "SeenByOne$Thing") (As := []) (rest := rest) S (xt_T_grows h0 c0 (hwp.1 e) H.size) (va_cwO 0 S.2.2.2.2 (lw_O hlk q1214 q1212 q1213 q1212 q97 q1223) rfl rfl rfl q1223 (by decide +kernel) ⟨Nat.le_trans (Nat.le_of_ble_eq_true rfl) hR.1, Nat.le_trans (Nat.le_of_ble_eq_true rfl) hR.2⟩) (x_preV (avs := []) hK hO hD hP 7 i0 h0 (cellT c0) (by rw [e]; rfl)) rfl hn hsize hst (lv_room hW) hd hf
  · exact va_runU (C := RX12) (owner := "SeenByOne$Thing") (As := []) (rest := rest) S (xt_T_grows h0 c0 (hwp.2.1 e) H.size) (va_cwO 0 S.2.2.2.2 (lw_O hlk q1214 q1212 q1219 q1212 q97 q1223) rfl rfl rfl q1223 (by decide +kernel) ⟨Nat.le_trans (Nat.le_of_ble_eq_true rfl) hR.1, Nat.le_trans (Nat.le_of_ble_eq_true rfl) hR.2⟩) (x_preV (avs := []) hK hO hD hP 7 i0 h0 (cellT c0) (by rw [e]; rfl)) rfl hn hsize hst (lv_room hW) hd hf
  · exact va_runU (C := RX13) (owner := "SeenByOne$Thing") (As := []) (rest := rest) S (xt_Te_grows h0 c0 (hwp.2.2.1 e) H.size) (va_cwO 0 S.2.2.2.2 (lw_O hlk q1214 q1212 q1222 q1217 q99 q1218) rfl rfl rfl q1223 (by decide +kernel) ⟨Nat.le_trans (Nat.le_of_ble_eq_true rfl) hR.1, Nat.le_trans (Nat.le_of_ble_eq_true rfl) hR.2⟩) (x_preV (avs := []) hK hO hD hP 7 i0 h0 (cellT c0) (by rw [e]; rfl)) rfl hn hsize hst (lv_room hW) hd hf
  · exact va_runU (C := RX14) (owner := "SeenByOne$Thing") (As := []) (rest := rest) S (xt_T_grows h0 c0 (hwp.2.2.2.1 e) H.size) (va_cwO 0 S.2.2.2.2 (lw_O hlk q1214 q1212 q1221 q1212 q97 q1223) rfl rfl rfl q1223 (by decide +kernel) ⟨Nat.le_trans (Nat.le_of_ble_eq_true rfl) hR.1, Nat.le_trans (Nat.le_of_ble_eq_true rfl) hR.2⟩) (x_preV (avs := []) hK hO hD hP 7 i0 h0 (cellT c0) (by rw [e]; rfl)) rfl hn hsize hst (lv_room hW) hd hf
  · exact va_runU (C := RX15) (owner := "SeenByOne$Thing") (As := []) (rest := rest) S (xt_T_grows h0 c0 (hwp.2.2.2.2.1 e) H.size) (va_cwO 0 S.2.2.2.2 (lw_O hlk q1214 q1212 q1220 q1212 q97 q1223) rfl rfl rfl q1223 (by decide +kernel) ⟨Nat.le_trans (Nat.le_of_ble_eq_true rfl) hR.1, Nat.le_trans (Nat.le_of_ble_eq_true rfl) hR.2⟩) (x_preV (avs := []) hK hO hD hP 7 i0 h0 (cellT c0) (by rw [e]; rfl)) rfl hn hsize hst (lv_room hW) hd hf
  · exact va_runU (C := RX16) (owner := "SeenByOne$Thing") (As := []) (rest := rest) S (xt_T_grows h0 c0 (hwp.2.2.2.2.2.1 e) H.size) (va_cwO 0 S.2.2.2.2 (lw_O hlk q1214 q1212 q1215 q1212 q97 q1223) rfl rfl rfl q1223 (by decide +kernel) ⟨Nat.le_trans (Nat.le_of_ble_eq_true rfl) hR.1, Nat.le_trans (Nat.le_of_ble_eq_true rfl) hR.2⟩) (x_preV (avs := []) hK hO hD hP 7 i0 h0 (cellT c0) (by rw [e]; rfl)) rfl hn hsize hst (lv_room hW) hd hf
  · exact va_runU (C := RX17) (owner := "SeenByOne$Thing") (As := []) (rest := rest) S (xt_Te_grows h0 c0 (hwp.2.2.2.2.2.2 e) H.size) (va_cwO 0 S.2.2.2.2 (lw_O hlk q1214 q1212 q1216 q1217 q99 q1218) rfl rfl rfl q1223 (by decide +kernel) ⟨Nat.le_trans (Nat.le_of_ble_eq_true rfl) hR.1, Nat.le_trans (Nat.le_of_ble_eq_true rfl) hR.2⟩) (x_preV (avs := []) hK hO hD hP 7 i0 h0 (cellT c0) (by rw [e]; rfl)) rfl hn hsize hst (lv_room hW) hd hf
/-! T_eyes -/
def xw_T_eyes (δ : XSh) (σ : XSt) (K : Int32 → Prop) (i0 : Nat) (x1 : Int32) : Prop :=
  K (-1)
set_option maxHeartbeats 4000000 in
set_option maxRecDepth 100000 in
theorem xt_T_eyes {l : Launch} {Γ : GA} {δ : XSh} {σ : XSt} {K : Int32 → Prop} {i0 : Nat} (h0 : (7, i0) ∈ δ.1) (c0 : δ.2.2.1 i0 < 12) {x1 : Int32} (hwp : xw_T_eyes δ σ K i0 x1) : xI l yX11_eyes cX11_eyes 2 (some .int) ({ frames := 0, cells := 0, slots := 0, locals := 0 } : Room) 0 0 Γ δ [.ref i0, .int x1] σ (fun r u => K r ∧ u = (δ, σ)) := by
  intro sz
  refine x_of (by decide) [(0, .ref i0), (1, .int x1)] (fun _ h => h) (Nat.le_of_ble_eq_true rfl) ?_
  intro p e s m args below meth c hsz X H locs ls hP hO hD hS hl
  subst hsz
  obtain ⟨hx, hb, hml, hown, hts, hK, hr, hlk⟩ := id X
  have hA : ∀ q, s.heap.size ≤ q → AX δ s.heap.size q := fun q h => Or.inr h
  unfold xw_T_eyes at hwp
  refine lv_iconst (v := (-1)) hx hb dX11_eyes_0 (by decide) ?_
  exact x_iret hx hb hr hlk hP hO hD hS ⟨hwp, rfl⟩ dX11_eyes_1
/-! Ho_eyes -/
def xw_Ho_eyes (δ : XSh) (σ : XSt) (K : Int32 → Prop) (i0 : Nat) (x1 : Int32) : Prop :=
  K x1
set_option maxHeartbeats 4000000 in
set_option maxRecDepth 100000 in
theorem xt_Ho_eyes {l : Launch} {Γ : GA} {δ : XSh} {σ : XSt} {K : Int32 → Prop} {i0 : Nat} (h0 : (7, i0) ∈ δ.1) (c0 : δ.2.2.1 i0 < 12) {x1 : Int32} (hwp : xw_Ho_eyes δ σ K i0 x1) : xI l yX12_eyes cX12_eyes 2 (some .int) ({ frames := 0, cells := 0, slots := 0, locals := 0 } : Room) 0 0 Γ δ [.ref i0, .int x1] σ (fun r u => K r ∧ u = (δ, σ)) := by
  intro sz
  refine x_of (by decide) [(0, .ref i0), (1, .int x1)] (fun _ h => h) (Nat.le_of_ble_eq_true rfl) ?_
  intro p e s m args below meth c hsz X H locs ls hP hO hD hS hl
  subst hsz
  obtain ⟨hx, hb, hml, hown, hts, hK, hr, hlk⟩ := id X
  have hA : ∀ q, s.heap.size ≤ q → AX δ s.heap.size q := fun q h => Or.inr h
  unfold xw_Ho_eyes at hwp
  refine lv_iload_n hx hb dX12_eyes_0 rfl (lv_at hl 1 rfl) ?_
  exact x_iret hx hb hr hlk hP hO hD hS ⟨hwp, rfl⟩ dX12_eyes_1
/-! To_eyes -/
def xw_To_eyes (δ : XSh) (σ : XSt) (K : Int32 → Prop) (i0 : Nat) (x1 : Int32) : Prop :=
  xw_Ho_eyes δ σ (fun r1 => K (r1 + (σ.1 7 i0 3))) i0 x1
set_option maxHeartbeats 4000000 in
set_option maxRecDepth 100000 in
theorem xt_To_eyes {l : Launch} {Γ : GA} {δ : XSh} {σ : XSt} {K : Int32 → Prop} {i0 : Nat} (h0 : (7, i0) ∈ δ.1) (c0 : δ.2.2.1 i0 < 12) {x1 : Int32} (hwp : xw_To_eyes δ σ K i0 x1) : xI l yX14_eyes cX14_eyes 2 (some .int) ({ frames := 1, cells := 0, slots := 0, locals := 21 } : Room) 0 0 Γ δ [.ref i0, .int x1] σ (fun r u => K r ∧ u = (δ, σ)) := by
  intro sz
  refine x_of (by decide) [(0, .ref i0), (1, .int x1)] (fun _ h => h) (Nat.le_of_ble_eq_true rfl) ?_
  intro p e s m args below meth c hsz X H locs ls hP hO hD hS hl
  subst hsz
  obtain ⟨hx, hb, hml, hown, hts, hK, hr, hlk⟩ := id X
  have hA : ∀ q, s.heap.size ≤ q → AX δ s.heap.size q := fun q h => Or.inr h
  unfold xw_To_eyes at hwp
  refine lv_aload_n hx hb dX14_eyes_0 rfl (lv_at hl 0 rfl) ?_
  refine lv_iload_n hx hb dX14_eyes_1 rfl (lv_at hl 1 rfl) ?_
  refine x_goi (vz_runSU (n := 1) (C := (clA.getD (δ.2.2.1 i0) (RX11, TX11, 4)).1) (owner := "SeenByOne$House") (x := ⟨"SeenByOne$House", "eyes", "(I)I"⟩) (As := [.int x1]) (rest := []) rfl ⟨hx, hb, hml, hown, hts⟩ (xt_Ho_eyes h0 c0 hwp H.size) q582 q1832 q583 (Or.inl rfl) q576 q98 q577 rfl rfl (by decide) (by decide +kernel) ⟨Nat.le_of_ble_eq_true rfl, Nat.le_of_ble_eq_true rfl⟩ (x_preT hK hO hD hP i0 h0 c0) rfl rfl hl.1 rfl (lv_room (Nat.le_of_ble_eq_true rfl)) dX14_eyes_2 ⟨Nat.le_of_ble_eq_true rfl, Nat.le_of_ble_eq_true rfl⟩) hD hA hS (fun r1 u H locs hk hP hO hD hS => ?_)
  obtain ⟨hwp, eu⟩ := hk
  subst eu
  dsimp only at hP hO hD
  refine lv_aload_n hx hb dX14_eyes_5 rfl (lv_at hl 0 rfl) ?_
  refine x_getT hx hb hts hown hK hO hP i0 h0 c0 3 (by decide) q734 (fun x h9 => u_same (hts _ q735) x h9) dX14_eyes_6 ?_
  refine lv_iadd hx hb dX14_eyes_9 ?_
  exact x_iret hx hb hr hlk hP hO hD hS ⟨hwp, rfl⟩ dX14_eyes_10
/-! Bl_eyes -/
def xw_Bl_eyes (δ : XSh) (σ : XSt) (K : Int32 → Prop) (i0 : Nat) (x1 : Int32) : Prop :=
  K (-1)
set_option maxHeartbeats 4000000 in
set_option maxRecDepth 100000 in
theorem xt_Bl_eyes {l : Launch} {Γ : GA} {δ : XSh} {σ : XSt} {K : Int32 → Prop} {i0 : Nat} (h0 : (7, i0) ∈ δ.1) (c0 : δ.2.2.1 i0 < 12) {x1 : Int32} (hwp : xw_Bl_eyes δ σ K i0 x1) : xI l yX16_eyes cX16_eyes 2 (some .int) ({ frames := 0, cells := 0, slots := 0, locals := 0 } : Room) 0 0 Γ δ [.ref i0, .int x1] σ (fun r u => K r ∧ u = (δ, σ)) := by
  intro sz
  refine x_of (by decide) [(0, .ref i0), (1, .int x1)] (fun _ h => h) (Nat.le_of_ble_eq_true rfl) ?_
  intro p e s m args below meth c hsz X H locs ls hP hO hD hS hl
  subst hsz
  obtain ⟨hx, hb, hml, hown, hts, hK, hr, hlk⟩ := id X
  have hA : ∀ q, s.heap.size ≤ q → AX δ s.heap.size q := fun q h => Or.inr h
  unfold xw_Bl_eyes at hwp
  refine lv_iconst (v := (-1)) hx hb dX16_eyes_0 (by decide) ?_
  exact x_iret hx hb hr hlk hP hO hD hS ⟨hwp, rfl⟩ dX16_eyes_1
def xv_T_eyes (δ : XSh) (σ : XSt) (K : Int32 → Prop) (i0 : Nat) (x1 : Int32) : Prop :=
  (δ.2.2.1 i0 = 5 → xw_T_eyes δ σ K i0 x1) ∧ (δ.2.2.1 i0 = 6 → xw_Ho_eyes δ σ K i0 x1) ∧ (δ.2.2.1 i0 = 7 → xw_T_eyes δ σ K i0 x1) ∧ (δ.2.2.1 i0 = 8 → xw_To_eyes δ σ K i0 x1) ∧ (δ.2.2.1 i0 = 9 → xw_Ho_eyes δ σ K i0 x1) ∧ (δ.2.2.1 i0 = 10 → xw_Bl_eyes δ σ K i0 x1) ∧ (δ.2.2.1 i0 = 11 → xw_T_eyes δ σ K i0 x1)
set_option maxHeartbeats 4000000 in
set_option maxRecDepth 100000 in
theorem xr_T_eyes {p : Program} {l : Launch} {e : Env} {R : Room} {s : State} {m : MethodId} {args : Array Value} {below : List Frame} {meth : Method} {c : Code} {H : Heap} {locs : List Loc} {cells slots : Nat} {cc : ByteArray} {pc nL index : Nat} {ls : Array Slot} {As rest st : List Value} {Γ : GA} {δ : XSh} {σ : XSt} {A : Nat → Prop} {own : String} {i0 : Nat} {K : Int32 → Prop} {x1 : Int32} (S : CallFix p m c cc nL s args lw_all own) (hK : KX Γ s) (hD : gD δ.1 (adX δ) A) (hO : XO δ) (hP : XH Γ δ σ H) (h0 : (7, i0) ∈ δ.1) (c0 : δ.2.2.1 i0 < 12) (hwp : xv_T_eyes δ σ K i0 x1) (hlk : Cond.methodLink own index ⟨"SeenByOne$Thing", "eyes", "(I)I"⟩ ∈ lw_all) (hR : 2 ≤ R.frames ∧ 42 ≤ R.locals) (hAs : As = [.int x1]) (hsize : ls.size = nL) (hst : st = As.reverse ++ .ref i0 :: rest) (hW : (rest.map fun v => v.category).sum ≤ 8) (hd : decode cc pc = .ok (.invokevirtual index, 3)) (hf : cells ≤ R.cells ∧ slots ≤ R.slots) : va_Run p l e R s m args below meth c H locs cells slots 0 0 (F0 m pc ls st) rest (va_Qi (fun r u => K r ∧ u = (δ, σ)) (xB Γ δ H.size) (AX δ H.size) (.ref i0 :: As).toArray) (AX δ H.size) := by
  subst hAs
  have hn : ([.int x1] : List Value).length = 1 := rfl
  rcases cn_cases hO h0 c0 with e | e | e | e | e | e | e
  · exact va_runU (C := RX11) (owner := "SeenByOne$Thing") (As := [.int x1]) (rest := rest) S (xt_T_eyes h0 c0 (hwp.1 e) H.size) (va_cwO 1 S.2.2.2.2 (lw_O hlk q570 q568 q569 q568 q97 q585) rfl rfl rfl q585 (by decide +kernel) ⟨Nat.le_trans (Nat.le_of_ble_eq_true rfl) hR.1, Nat.le_trans (Nat.le_of_ble_eq_true rfl) hR.2⟩) (x_preV (avs := [.int x1]) hK hO hD hP 7 i0 h0 (cellT c0) (by rw [e]; rfl)) rfl hn hsize hst (lv_room hW) hd hf
  · exact va_runU (C := RX12) (owner := "SeenByOne$Thing") (As := [.int x1]) (rest := rest) S (xt_Ho_eyes h0 c0 (hwp.2.1 e) H.size) (va_cwO 1 S.2.2.2.2 (lw_O hlk q570 q568 q575 q576 q98 q577) rfl rfl rfl q585 (by decide +kernel) ⟨Nat.le_trans (Nat.le_of_ble_eq_true rfl) hR.1, Nat.le_trans (Nat.le_of_ble_eq_true rfl) hR.2⟩) (x_preV (avs := [.int x1]) hK hO hD hP 7 i0 h0 (cellT c0) (by rw [e]; rfl)) rfl hn hsize hst (lv_room hW) hd hf
  · exact va_runU (C := RX13) (owner := "SeenByOne$Thing") (As := [.int x1]) (rest := rest) S (xt_T_eyes h0 c0 (hwp.2.2.1 e) H.size) (va_cwO 1 S.2.2.2.2 (lw_O hlk q570 q568 q584 q568 q97 q585) rfl rfl rfl q585 (by decide +kernel) ⟨Nat.le_trans (Nat.le_of_ble_eq_true rfl) hR.1, Nat.le_trans (Nat.le_of_ble_eq_true rfl) hR.2⟩) (x_preV (avs := [.int x1]) hK hO hD hP 7 i0 h0 (cellT c0) (by rw [e]; rfl)) rfl hn hsize hst (lv_room hW) hd hf
  · exact va_runU (C := RX14) (owner := "SeenByOne$Thing") (As := [.int x1]) (rest := rest) S (xt_To_eyes h0 c0 (hwp.2.2.2.1 e) H.size) (va_cwO 1 S.2.2.2.2 (lw_O hlk q570 q568 q579 q580 q100 q581) rfl rfl rfl q585 (by decide +kernel) ⟨Nat.le_trans (Nat.le_of_ble_eq_true rfl) hR.1, Nat.le_trans (Nat.le_of_ble_eq_true rfl) hR.2⟩) (x_preV (avs := [.int x1]) hK hO hD hP 7 i0 h0 (cellT c0) (by rw [e]; rfl)) rfl hn hsize hst (lv_room hW) hd hf
  · exact va_runU (C := RX15) (owner := "SeenByOne$Thing") (As := [.int x1]) (rest := rest) S (xt_Ho_eyes h0 c0 (hwp.2.2.2.2.1 e) H.size) (va_cwO 1 S.2.2.2.2 (lw_O hlk q570 q568 q578 q576 q98 q577) rfl rfl rfl q585 (by decide +kernel) ⟨Nat.le_trans (Nat.le_of_ble_eq_true rfl) hR.1, Nat.le_trans (Nat.le_of_ble_eq_true rfl) hR.2⟩) (x_preV (avs := [.int x1]) hK hO hD hP 7 i0 h0 (cellT c0) (by rw [e]; rfl)) rfl hn hsize hst (lv_room hW) hd hf
  · exact va_runU (C := RX16) (owner := "SeenByOne$Thing") (As := [.int x1]) (rest := rest) S (xt_Bl_eyes h0 c0 (hwp.2.2.2.2.2.1 e) H.size) (va_cwO 1 S.2.2.2.2 (lw_O hlk q570 q568 q571 q572 q102 q573) rfl rfl rfl q585 (by decide +kernel) ⟨Nat.le_trans (Nat.le_of_ble_eq_true rfl) hR.1, Nat.le_trans (Nat.le_of_ble_eq_true rfl) hR.2⟩) (x_preV (avs := [.int x1]) hK hO hD hP 7 i0 h0 (cellT c0) (by rw [e]; rfl)) rfl hn hsize hst (lv_room hW) hd hf
  · exact va_runU (C := RX17) (owner := "SeenByOne$Thing") (As := [.int x1]) (rest := rest) S (xt_T_eyes h0 c0 (hwp.2.2.2.2.2.2 e) H.size) (va_cwO 1 S.2.2.2.2 (lw_O hlk q570 q568 q574 q568 q97 q585) rfl rfl rfl q585 (by decide +kernel) ⟨Nat.le_trans (Nat.le_of_ble_eq_true rfl) hR.1, Nat.le_trans (Nat.le_of_ble_eq_true rfl) hR.2⟩) (x_preV (avs := [.int x1]) hK hO hD hP 7 i0 h0 (cellT c0) (by rw [e]; rfl)) rfl hn hsize hst (lv_room hW) hd hf
/-! T_counts -/
def xw_T_counts (δ : XSh) (σ : XSt) (K : Int32 → Prop) (i0 : Nat) : Prop :=
  K 1
set_option maxHeartbeats 4000000 in
set_option maxRecDepth 100000 in
theorem xt_T_counts {l : Launch} {Γ : GA} {δ : XSh} {σ : XSt} {K : Int32 → Prop} {i0 : Nat} (h0 : (7, i0) ∈ δ.1) (c0 : δ.2.2.1 i0 < 12) (hwp : xw_T_counts δ σ K i0 ) : xI l yX11_counts cX11_counts 1 (some .boolean) ({ frames := 0, cells := 0, slots := 0, locals := 0 } : Room) 0 0 Γ δ [.ref i0] σ (fun r u => K r ∧ u = (δ, σ)) := by
  intro sz
  refine x_of (by decide) [(0, .ref i0)] (fun _ h => h) (Nat.le_of_ble_eq_true rfl) ?_
  intro p e s m args below meth c hsz X H locs ls hP hO hD hS hl
  subst hsz
  obtain ⟨hx, hb, hml, hown, hts, hK, hr, hlk⟩ := id X
  have hA : ∀ q, s.heap.size ≤ q → AX δ s.heap.size q := fun q h => Or.inr h
  unfold xw_T_counts at hwp
  refine lv_iconst (v := 1) hx hb dX11_counts_0 (by decide) ?_
  exact x_zret (v := 1) hx hb hr hlk hP hO hD hS (Or.inr rfl) ⟨hwp, rfl⟩ dX11_counts_1
/-! To_counts -/
def xw_To_counts (δ : XSh) (σ : XSt) (K : Int32 → Prop) (i0 : Nat) : Prop :=
  K 0
set_option maxHeartbeats 4000000 in
set_option maxRecDepth 100000 in
theorem xt_To_counts {l : Launch} {Γ : GA} {δ : XSh} {σ : XSt} {K : Int32 → Prop} {i0 : Nat} (h0 : (7, i0) ∈ δ.1) (c0 : δ.2.2.1 i0 < 12) (hwp : xw_To_counts δ σ K i0 ) : xI l yX14_counts cX14_counts 1 (some .boolean) ({ frames := 0, cells := 0, slots := 0, locals := 0 } : Room) 0 0 Γ δ [.ref i0] σ (fun r u => K r ∧ u = (δ, σ)) := by
  intro sz
  refine x_of (by decide) [(0, .ref i0)] (fun _ h => h) (Nat.le_of_ble_eq_true rfl) ?_
  intro p e s m args below meth c hsz X H locs ls hP hO hD hS hl
  subst hsz
  obtain ⟨hx, hb, hml, hown, hts, hK, hr, hlk⟩ := id X
  have hA : ∀ q, s.heap.size ≤ q → AX δ s.heap.size q := fun q h => Or.inr h
  unfold xw_To_counts at hwp
  refine lv_iconst (v := 0) hx hb dX14_counts_0 (by decide) ?_
  exact x_zret (v := 0) hx hb hr hlk hP hO hD hS (Or.inl rfl) ⟨hwp, rfl⟩ dX14_counts_1
def xv_T_counts (δ : XSh) (σ : XSt) (K : Int32 → Prop) (i0 : Nat) : Prop :=
  (δ.2.2.1 i0 = 5 → xw_T_counts δ σ K i0) ∧ (δ.2.2.1 i0 = 6 → xw_T_counts δ σ K i0) ∧ (δ.2.2.1 i0 = 7 → xw_T_counts δ σ K i0) ∧ (δ.2.2.1 i0 = 8 → xw_To_counts δ σ K i0) ∧ (δ.2.2.1 i0 = 9 → xw_T_counts δ σ K i0) ∧ (δ.2.2.1 i0 = 10 → xw_T_counts δ σ K i0) ∧ (δ.2.2.1 i0 = 11 → xw_T_counts δ σ K i0)
set_option maxHeartbeats 4000000 in
set_option maxRecDepth 100000 in
theorem xr_T_counts {p : Program} {l : Launch} {e : Env} {R : Room} {s : State} {m : MethodId} {args : Array Value} {below : List Frame} {meth : Method} {c : Code} {H : Heap} {locs : List Loc} {cells slots : Nat} {cc : ByteArray} {pc nL index : Nat} {ls : Array Slot} {As rest st : List Value} {Γ : GA} {δ : XSh} {σ : XSt} {A : Nat → Prop} {own : String} {i0 : Nat} {K : Int32 → Prop} (S : CallFix p m c cc nL s args lw_all own) (hK : KX Γ s) (hD : gD δ.1 (adX δ) A) (hO : XO δ) (hP : XH Γ δ σ H) (h0 : (7, i0) ∈ δ.1) (c0 : δ.2.2.1 i0 < 12) (hwp : xv_T_counts δ σ K i0) (hlk : Cond.methodLink own index ⟨"SeenByOne$Thing", "counts", "()Z"⟩ ∈ lw_all) (hR : 1 ≤ R.frames ∧ 20 ≤ R.locals) (hAs : As = []) (hsize : ls.size = nL) (hst : st = As.reverse ++ .ref i0 :: rest) (hW : (rest.map fun v => v.category).sum ≤ 8) (hd : decode cc pc = .ok (.invokevirtual index, 3)) (hf : cells ≤ R.cells ∧ slots ≤ R.slots) : va_Run p l e R s m args below meth c H locs cells slots 0 0 (F0 m pc ls st) rest (va_Qi (fun r u => K r ∧ u = (δ, σ)) (xB Γ δ H.size) (AX δ H.size) (.ref i0 :: As).toArray) (AX δ H.size) := by
  subst hAs
  have hn : ([] : List Value).length = 0 := rfl
  rcases cn_cases hO h0 c0 with e | e | e | e | e | e | e
  · exact va_runU (C := RX11) (owner := "SeenByOne$Thing") (As := []) (rest := rest) S (xt_T_counts h0 c0 (hwp.1 e) H.size) (va_cwO 0 S.2.2.2.2 (lw_O hlk q633 q631 q632 q631 q97 q642) rfl rfl rfl q642 (by decide +kernel) ⟨Nat.le_trans (Nat.le_of_ble_eq_true rfl) hR.1, Nat.le_trans (Nat.le_of_ble_eq_true rfl) hR.2⟩) (x_preV (avs := []) hK hO hD hP 7 i0 h0 (cellT c0) (by rw [e]; rfl)) rfl hn hsize hst (lv_room hW) hd hf
  · exact va_runU (C := RX12) (owner := "SeenByOne$Thing") (As := []) (rest := rest) S (xt_T_counts h0 c0 (hwp.2.1 e) H.size) (va_cwO 0 S.2.2.2.2 (lw_O hlk q633 q631 q636 q631 q97 q642) rfl rfl rfl q642 (by decide +kernel) ⟨Nat.le_trans (Nat.le_of_ble_eq_true rfl) hR.1, Nat.le_trans (Nat.le_of_ble_eq_true rfl) hR.2⟩) (x_preV (avs := []) hK hO hD hP 7 i0 h0 (cellT c0) (by rw [e]; rfl)) rfl hn hsize hst (lv_room hW) hd hf
  · exact va_runU (C := RX13) (owner := "SeenByOne$Thing") (As := []) (rest := rest) S (xt_T_counts h0 c0 (hwp.2.2.1 e) H.size) (va_cwO 0 S.2.2.2.2 (lw_O hlk q633 q631 q641 q631 q97 q642) rfl rfl rfl q642 (by decide +kernel) ⟨Nat.le_trans (Nat.le_of_ble_eq_true rfl) hR.1, Nat.le_trans (Nat.le_of_ble_eq_true rfl) hR.2⟩) (x_preV (avs := []) hK hO hD hP 7 i0 h0 (cellT c0) (by rw [e]; rfl)) rfl hn hsize hst (lv_room hW) hd hf
  · exact va_runU (C := RX14) (owner := "SeenByOne$Thing") (As := []) (rest := rest) S (xt_To_counts h0 c0 (hwp.2.2.2.1 e) H.size) (va_cwO 0 S.2.2.2.2 (lw_O hlk q633 q631 q638 q639 q100 q640) rfl rfl rfl q642 (by decide +kernel) ⟨Nat.le_trans (Nat.le_of_ble_eq_true rfl) hR.1, Nat.le_trans (Nat.le_of_ble_eq_true rfl) hR.2⟩) (x_preV (avs := []) hK hO hD hP 7 i0 h0 (cellT c0) (by rw [e]; rfl)) rfl hn hsize hst (lv_room hW) hd hf
  · exact va_runU (C := RX15) (owner := "SeenByOne$Thing") (As := []) (rest := rest) S (xt_T_counts h0 c0 (hwp.2.2.2.2.1 e) H.size) (va_cwO 0 S.2.2.2.2 (lw_O hlk q633 q631 q637 q631 q97 q642) rfl rfl rfl q642 (by decide +kernel) ⟨Nat.le_trans (Nat.le_of_ble_eq_true rfl) hR.1, Nat.le_trans (Nat.le_of_ble_eq_true rfl) hR.2⟩) (x_preV (avs := []) hK hO hD hP 7 i0 h0 (cellT c0) (by rw [e]; rfl)) rfl hn hsize hst (lv_room hW) hd hf
  · exact va_runU (C := RX16) (owner := "SeenByOne$Thing") (As := []) (rest := rest) S (xt_T_counts h0 c0 (hwp.2.2.2.2.2.1 e) H.size) (va_cwO 0 S.2.2.2.2 (lw_O hlk q633 q631 q634 q631 q97 q642) rfl rfl rfl q642 (by decide +kernel) ⟨Nat.le_trans (Nat.le_of_ble_eq_true rfl) hR.1, Nat.le_trans (Nat.le_of_ble_eq_true rfl) hR.2⟩) (x_preV (avs := []) hK hO hD hP 7 i0 h0 (cellT c0) (by rw [e]; rfl)) rfl hn hsize hst (lv_room hW) hd hf
  · exact va_runU (C := RX17) (owner := "SeenByOne$Thing") (As := []) (rest := rest) S (xt_T_counts h0 c0 (hwp.2.2.2.2.2.2 e) H.size) (va_cwO 0 S.2.2.2.2 (lw_O hlk q633 q631 q635 q631 q97 q642) rfl rfl rfl q642 (by decide +kernel) ⟨Nat.le_trans (Nat.le_of_ble_eq_true rfl) hR.1, Nat.le_trans (Nat.le_of_ble_eq_true rfl) hR.2⟩) (x_preV (avs := []) hK hO hD hP 7 i0 h0 (cellT c0) (by rw [e]; rfl)) rfl hn hsize hst (lv_room hW) hd hf
/-! T_wanted -/
def xw_T_wanted (δ : XSh) (σ : XSt) (K : Int32 → Prop) (i0 : Nat) : Prop :=
  K 1
set_option maxHeartbeats 4000000 in
set_option maxRecDepth 100000 in
theorem xt_T_wanted {l : Launch} {Γ : GA} {δ : XSh} {σ : XSt} {K : Int32 → Prop} {i0 : Nat} (h0 : (7, i0) ∈ δ.1) (c0 : δ.2.2.1 i0 < 12) (hwp : xw_T_wanted δ σ K i0 ) : xI l yX11_wanted cX11_wanted 1 (some .int) ({ frames := 0, cells := 0, slots := 0, locals := 0 } : Room) 0 0 Γ δ [.ref i0] σ (fun r u => K r ∧ u = (δ, σ)) := by
  intro sz
  refine x_of (by decide) [(0, .ref i0)] (fun _ h => h) (Nat.le_of_ble_eq_true rfl) ?_
  intro p e s m args below meth c hsz X H locs ls hP hO hD hS hl
  subst hsz
  obtain ⟨hx, hb, hml, hown, hts, hK, hr, hlk⟩ := id X
  have hA : ∀ q, s.heap.size ≤ q → AX δ s.heap.size q := fun q h => Or.inr h
  unfold xw_T_wanted at hwp
  refine lv_iconst (v := 1) hx hb dX11_wanted_0 (by decide) ?_
  exact x_iret hx hb hr hlk hP hO hD hS ⟨hwp, rfl⟩ dX11_wanted_1
/-! Sy_wanted -/
def xw_Sy_wanted (δ : XSh) (σ : XSt) (K : Int32 → Prop) (i0 : Nat) : Prop :=
  xw_T_wanted δ σ (fun r1 => K (r1 - 1)) i0
set_option maxHeartbeats 4000000 in
set_option maxRecDepth 100000 in
theorem xt_Sy_wanted {l : Launch} {Γ : GA} {δ : XSh} {σ : XSt} {K : Int32 → Prop} {i0 : Nat} (h0 : (7, i0) ∈ δ.1) (c0 : δ.2.2.1 i0 < 12) (hwp : xw_Sy_wanted δ σ K i0 ) : xI l yX15_wanted cX15_wanted 1 (some .int) ({ frames := 1, cells := 0, slots := 0, locals := 20 } : Room) 0 0 Γ δ [.ref i0] σ (fun r u => K r ∧ u = (δ, σ)) := by
  intro sz
  refine x_of (by decide) [(0, .ref i0)] (fun _ h => h) (Nat.le_of_ble_eq_true rfl) ?_
  intro p e s m args below meth c hsz X H locs ls hP hO hD hS hl
  subst hsz
  obtain ⟨hx, hb, hml, hown, hts, hK, hr, hlk⟩ := id X
  have hA : ∀ q, s.heap.size ≤ q → AX δ s.heap.size q := fun q h => Or.inr h
  unfold xw_Sy_wanted at hwp
  refine lv_aload_n hx hb dX15_wanted_0 rfl (lv_at hl 0 rfl) ?_
  refine x_goi (vz_runSU (n := 0) (C := (clA.getD (δ.2.2.1 i0) (RX11, TX11, 4)).1) (owner := "SeenByOne$Thing") (x := ⟨"SeenByOne$House", "wanted", "()I"⟩) (As := []) (rest := []) rfl ⟨hx, hb, hml, hown, hts⟩ (xt_T_wanted h0 c0 hwp H.size) q671 q672 q674 (Or.inr q675) q662 q97 q678 rfl rfl (by decide) (by decide +kernel) ⟨Nat.le_of_ble_eq_true rfl, Nat.le_of_ble_eq_true rfl⟩ (x_preT hK hO hD hP i0 h0 c0) rfl rfl hl.1 rfl (lv_room (Nat.le_of_ble_eq_true rfl)) dX15_wanted_1 ⟨Nat.le_of_ble_eq_true rfl, Nat.le_of_ble_eq_true rfl⟩) hD hA hS (fun r1 u H locs hk hP hO hD hS => ?_)
  obtain ⟨hwp, eu⟩ := hk
  subst eu
  dsimp only at hP hO hD
  refine lv_iconst (v := 1) hx hb dX15_wanted_4 (by decide) ?_
  refine lv_isub hx hb dX15_wanted_5 ?_
  exact x_iret hx hb hr hlk hP hO hD hS ⟨hwp, rfl⟩ dX15_wanted_6
def xv_T_wanted (δ : XSh) (σ : XSt) (K : Int32 → Prop) (i0 : Nat) : Prop :=
  (δ.2.2.1 i0 = 5 → xw_T_wanted δ σ K i0) ∧ (δ.2.2.1 i0 = 6 → xw_T_wanted δ σ K i0) ∧ (δ.2.2.1 i0 = 7 → xw_T_wanted δ σ K i0) ∧ (δ.2.2.1 i0 = 8 → xw_T_wanted δ σ K i0) ∧ (δ.2.2.1 i0 = 9 → xw_Sy_wanted δ σ K i0) ∧ (δ.2.2.1 i0 = 10 → xw_T_wanted δ σ K i0) ∧ (δ.2.2.1 i0 = 11 → xw_T_wanted δ σ K i0)
set_option maxHeartbeats 4000000 in
set_option maxRecDepth 100000 in
theorem xr_T_wanted {p : Program} {l : Launch} {e : Env} {R : Room} {s : State} {m : MethodId} {args : Array Value} {below : List Frame} {meth : Method} {c : Code} {H : Heap} {locs : List Loc} {cells slots : Nat} {cc : ByteArray} {pc nL index : Nat} {ls : Array Slot} {As rest st : List Value} {Γ : GA} {δ : XSh} {σ : XSt} {A : Nat → Prop} {own : String} {i0 : Nat} {K : Int32 → Prop} (S : CallFix p m c cc nL s args lw_all own) (hK : KX Γ s) (hD : gD δ.1 (adX δ) A) (hO : XO δ) (hP : XH Γ δ σ H) (h0 : (7, i0) ∈ δ.1) (c0 : δ.2.2.1 i0 < 12) (hwp : xv_T_wanted δ σ K i0) (hlk : Cond.methodLink own index ⟨"SeenByOne$Thing", "wanted", "()I"⟩ ∈ lw_all) (hR : 2 ≤ R.frames ∧ 40 ≤ R.locals) (hAs : As = []) (hsize : ls.size = nL) (hst : st = As.reverse ++ .ref i0 :: rest) (hW : (rest.map fun v => v.category).sum ≤ 8) (hd : decode cc pc = .ok (.invokevirtual index, 3)) (hf : cells ≤ R.cells ∧ slots ≤ R.slots) : va_Run p l e R s m args below meth c H locs cells slots 0 0 (F0 m pc ls st) rest (va_Qi (fun r u => K r ∧ u = (δ, σ)) (xB Γ δ H.size) (AX δ H.size) (.ref i0 :: As).toArray) (AX δ H.size) := by
  subst hAs
  have hn : ([] : List Value).length = 0 := rfl
  rcases cn_cases hO h0 c0 with e | e | e | e | e | e | e
  · exact va_runU (C := RX11) (owner := "SeenByOne$Thing") (As := []) (rest := rest) S (xt_T_wanted h0 c0 (hwp.1 e) H.size) (va_cwO 0 S.2.2.2.2 (lw_O hlk q664 q662 q663 q662 q97 q678) rfl rfl rfl q678 (by decide +kernel) ⟨Nat.le_trans (Nat.le_of_ble_eq_true rfl) hR.1, Nat.le_trans (Nat.le_of_ble_eq_true rfl) hR.2⟩) (x_preV (avs := []) hK hO hD hP 7 i0 h0 (cellT c0) (by rw [e]; rfl)) rfl hn hsize hst (lv_room hW) hd hf
  · exact va_runU (C := RX12) (owner := "SeenByOne$Thing") (As := []) (rest := rest) S (xt_T_wanted h0 c0 (hwp.2.1 e) H.size) (va_cwO 0 S.2.2.2.2 (lw_O hlk q664 q662 q667 q662 q97 q678) rfl rfl rfl q678 (by decide +kernel) ⟨Nat.le_trans (Nat.le_of_ble_eq_true rfl) hR.1, Nat.le_trans (Nat.le_of_ble_eq_true rfl) hR.2⟩) (x_preV (avs := []) hK hO hD hP 7 i0 h0 (cellT c0) (by rw [e]; rfl)) rfl hn hsize hst (lv_room hW) hd hf
  · exact va_runU (C := RX13) (owner := "SeenByOne$Thing") (As := []) (rest := rest) S (xt_T_wanted h0 c0 (hwp.2.2.1 e) H.size) (va_cwO 0 S.2.2.2.2 (lw_O hlk q664 q662 q677 q662 q97 q678) rfl rfl rfl q678 (by decide +kernel) ⟨Nat.le_trans (Nat.le_of_ble_eq_true rfl) hR.1, Nat.le_trans (Nat.le_of_ble_eq_true rfl) hR.2⟩) (x_preV (avs := []) hK hO hD hP 7 i0 h0 (cellT c0) (by rw [e]; rfl)) rfl hn hsize hst (lv_room hW) hd hf
  · exact va_runU (C := RX14) (owner := "SeenByOne$Thing") (As := []) (rest := rest) S (xt_T_wanted h0 c0 (hwp.2.2.2.1 e) H.size) (va_cwO 0 S.2.2.2.2 (lw_O hlk q664 q662 q676 q662 q97 q678) rfl rfl rfl q678 (by decide +kernel) ⟨Nat.le_trans (Nat.le_of_ble_eq_true rfl) hR.1, Nat.le_trans (Nat.le_of_ble_eq_true rfl) hR.2⟩) (x_preV (avs := []) hK hO hD hP 7 i0 h0 (cellT c0) (by rw [e]; rfl)) rfl hn hsize hst (lv_room hW) hd hf
  · exact va_runU (C := RX15) (owner := "SeenByOne$Thing") (As := []) (rest := rest) S (xt_Sy_wanted h0 c0 (hwp.2.2.2.2.1 e) H.size) (va_cwO 0 S.2.2.2.2 (lw_O hlk q664 q662 q668 q669 q101 q670) rfl rfl rfl q678 (by decide +kernel) ⟨Nat.le_trans (Nat.le_of_ble_eq_true rfl) hR.1, Nat.le_trans (Nat.le_of_ble_eq_true rfl) hR.2⟩) (x_preV (avs := []) hK hO hD hP 7 i0 h0 (cellT c0) (by rw [e]; rfl)) rfl hn hsize hst (lv_room hW) hd hf
  · exact va_runU (C := RX16) (owner := "SeenByOne$Thing") (As := []) (rest := rest) S (xt_T_wanted h0 c0 (hwp.2.2.2.2.2.1 e) H.size) (va_cwO 0 S.2.2.2.2 (lw_O hlk q664 q662 q665 q662 q97 q678) rfl rfl rfl q678 (by decide +kernel) ⟨Nat.le_trans (Nat.le_of_ble_eq_true rfl) hR.1, Nat.le_trans (Nat.le_of_ble_eq_true rfl) hR.2⟩) (x_preV (avs := []) hK hO hD hP 7 i0 h0 (cellT c0) (by rw [e]; rfl)) rfl hn hsize hst (lv_room hW) hd hf
  · exact va_runU (C := RX17) (owner := "SeenByOne$Thing") (As := []) (rest := rest) S (xt_T_wanted h0 c0 (hwp.2.2.2.2.2.2 e) H.size) (va_cwO 0 S.2.2.2.2 (lw_O hlk q664 q662 q666 q662 q97 q678) rfl rfl rfl q678 (by decide +kernel) ⟨Nat.le_trans (Nat.le_of_ble_eq_true rfl) hR.1, Nat.le_trans (Nat.le_of_ble_eq_true rfl) hR.2⟩) (x_preV (avs := []) hK hO hD hP 7 i0 h0 (cellT c0) (by rw [e]; rfl)) rfl hn hsize hst (lv_room hW) hd hf
/-! T_standing -/
def xw_T_standing (δ : XSh) (K : Int32 → XSt → Prop) (i0 : Nat) (i2 : Nat) (x1 : Int32) (σ : XSt) : Prop :=
  xw_Tr_runs δ (fun σ1 => K (x1 + (σ1.1 7 i0 0)) σ1) i2 10 σ
set_option maxHeartbeats 4000000 in
set_option maxRecDepth 100000 in
theorem xt_T_standing {l : Launch} {Γ : GA} {δ : XSh} {σ : XSt} {K : Int32 → XSt → Prop} {i0 : Nat} {i2 : Nat} (h0 : (7, i0) ∈ δ.1) (c0 : δ.2.2.1 i0 < 12) (h2 : (3, i2) ∈ δ.1) {x1 : Int32} (hwp : xw_T_standing δ K i0 i2 x1 σ) : xI l yX11_standing cX11_standing 3 (some .int) ({ frames := 1, cells := 0, slots := 0, locals := 21 } : Room) 0 0 Γ δ [.ref i0, .int x1, .ref (δ.2.1 3 i2)] σ (fun r u => K r u.2 ∧ u.1 = δ) := by
  intro sz
  refine x_of (by decide) [(0, .ref i0), (1, .int x1), (2, .ref (δ.2.1 3 i2))] (fun _ h => h) (Nat.le_of_ble_eq_true rfl) ?_
  intro p e s m args below meth c hsz X H locs ls hP hO hD hS hl
  subst hsz
  obtain ⟨hx, hb, hml, hown, hts, hK, hr, hlk⟩ := id X
  have hA : ∀ q, s.heap.size ≤ q → AX δ s.heap.size q := fun q h => Or.inr h
  unfold xw_T_standing at hwp
  refine lv_aload_n hx hb dX11_standing_0 rfl (lv_at hl 2 rfl) ?_
  refine lv_bipush (v := 10) hx hb dX11_standing_1 (by decide) ?_
  refine x_gov (va_runV (As := [.int 10]) (rest := []) ⟨hx, hb, hml, hown, hts⟩ (xt_Tr_runs h2 hwp H.size) (cwV 1 hts (lw_V q1270 q1250 q1251 q76 q1252) rfl rfl rfl (by decide +kernel) ⟨Nat.le_of_ble_eq_true rfl, Nat.le_of_ble_eq_true rfl⟩) (x_preV hK hO hD hP 3 i2 h2 rfl rfl) rfl rfl hl.1 rfl (lv_room (Nat.le_of_ble_eq_true rfl)) dX11_standing_3 ⟨Nat.le_of_ble_eq_true rfl, Nat.le_of_ble_eq_true rfl⟩) hD hA hS (fun u H locs hk hP hO hD hS => ?_)
  obtain ⟨u1, σ1⟩ := u
  obtain ⟨hwp, eu⟩ := hk
  have eu : δ = u1 := eu.symm
  subst eu
  dsimp only at hP hO hD hwp
  refine lv_iload_n hx hb dX11_standing_6 rfl (lv_at hl 1 rfl) ?_
  refine lv_aload_n hx hb dX11_standing_7 rfl (lv_at hl 0 rfl) ?_
  refine x_getT hx hb hts hown hK hO hP i0 h0 c0 0 (by decide) q715 (fun _ h9 => h9) dX11_standing_8 ?_
  refine lv_iadd hx hb dX11_standing_11 ?_
  exact x_iret hx hb hr hlk hP hO hD hS ⟨hwp, rfl⟩ dX11_standing_12
/-! Ho_standing -/
def xw_Ho_standing (δ : XSh) (K : Int32 → XSt → Prop) (i0 : Nat) (i2 : Nat) (x1 : Int32) (σ : XSt) : Prop :=
  xw_Tr_runs δ (fun σ1 => xw_T_standing δ (fun r2 σ3 => K (r2 + (σ3.1 7 i0 3)) σ3) i0 i2 x1 σ1) i2 20 σ
set_option maxHeartbeats 4000000 in
set_option maxRecDepth 100000 in
theorem xt_Ho_standing {l : Launch} {Γ : GA} {δ : XSh} {σ : XSt} {K : Int32 → XSt → Prop} {i0 : Nat} {i2 : Nat} (h0 : (7, i0) ∈ δ.1) (c0 : δ.2.2.1 i0 < 12) (h2 : (3, i2) ∈ δ.1) {x1 : Int32} (hwp : xw_Ho_standing δ K i0 i2 x1 σ) : xI l yX12_standing cX12_standing 3 (some .int) ({ frames := 2, cells := 0, slots := 0, locals := 43 } : Room) 0 0 Γ δ [.ref i0, .int x1, .ref (δ.2.1 3 i2)] σ (fun r u => K r u.2 ∧ u.1 = δ) := by
  intro sz
  refine x_of (by decide) [(0, .ref i0), (1, .int x1), (2, .ref (δ.2.1 3 i2))] (fun _ h => h) (Nat.le_of_ble_eq_true rfl) ?_
  intro p e s m args below meth c hsz X H locs ls hP hO hD hS hl
  subst hsz
  obtain ⟨hx, hb, hml, hown, hts, hK, hr, hlk⟩ := id X
  have hA : ∀ q, s.heap.size ≤ q → AX δ s.heap.size q := fun q h => Or.inr h
  unfold xw_Ho_standing at hwp
  refine lv_aload_n hx hb dX12_standing_0 rfl (lv_at hl 2 rfl) ?_
  refine lv_bipush (v := 20) hx hb dX12_standing_1 (by decide) ?_
  refine x_gov (va_runV (As := [.int 20]) (rest := []) ⟨hx, hb, hml, hown, hts⟩ (xt_Tr_runs h2 hwp H.size) (cwV 1 hts (lw_V q1249 q1250 q1251 q76 q1252) rfl rfl rfl (by decide +kernel) ⟨Nat.le_of_ble_eq_true rfl, Nat.le_of_ble_eq_true rfl⟩) (x_preV hK hO hD hP 3 i2 h2 rfl rfl) rfl rfl hl.1 rfl (lv_room (Nat.le_of_ble_eq_true rfl)) dX12_standing_3 ⟨Nat.le_of_ble_eq_true rfl, Nat.le_of_ble_eq_true rfl⟩) hD hA hS (fun u H locs hk hP hO hD hS => ?_)
  obtain ⟨u1, σ1⟩ := u
  obtain ⟨hwp, eu⟩ := hk
  have eu : δ = u1 := eu.symm
  subst eu
  dsimp only at hP hO hD hwp
  refine lv_aload_n hx hb dX12_standing_6 rfl (lv_at hl 0 rfl) ?_
  refine lv_iload_n hx hb dX12_standing_7 rfl (lv_at hl 1 rfl) ?_
  refine lv_aload_n hx hb dX12_standing_8 rfl (lv_at hl 2 rfl) ?_
  refine x_goi (vz_runSU (n := 2) (C := (clA.getD (δ.2.2.1 i0) (RX11, TX11, 4)).1) (owner := "SeenByOne$Thing") (x := ⟨"SeenByOne$Thing", "standing", "(ILSeenByOne$Trace;)I"⟩) (As := [.int x1, .ref (δ.2.1 3 i2)]) (rest := []) rfl ⟨hx, hb, hml, hown, hts⟩ (xt_T_standing h0 c0 h2 hwp H.size) q1253 q1245 q675 (Or.inl rfl) q1243 q97 q1269 rfl rfl (by decide) (by decide +kernel) ⟨Nat.le_of_ble_eq_true rfl, Nat.le_of_ble_eq_true rfl⟩ (x_preT hK hO hD hP i0 h0 c0) rfl rfl hl.1 rfl (lv_room (Nat.le_of_ble_eq_true rfl)) dX12_standing_9 ⟨Nat.le_of_ble_eq_true rfl, Nat.le_of_ble_eq_true rfl⟩) hD hA hS (fun r2 u H locs hk hP hO hD hS => ?_)
  obtain ⟨u1, σ3⟩ := u
  obtain ⟨hwp, eu⟩ := hk
  have eu : δ = u1 := eu.symm
  subst eu
  dsimp only at hP hO hD hwp
  refine lv_aload_n hx hb dX12_standing_12 rfl (lv_at hl 0 rfl) ?_
  refine x_getT hx hb hts hown hK hO hP i0 h0 c0 3 (by decide) q740 (fun x h9 => u_same (hts _ q741) x h9) dX12_standing_13 ?_
  refine lv_iadd hx hb dX12_standing_16 ?_
  exact x_iret hx hb hr hlk hP hO hD hS ⟨hwp, rfl⟩ dX12_standing_17
/-! Sy_standing -/
def xw_Sy_standing (δ : XSh) (K : Int32 → XSt → Prop) (i0 : Nat) (i2 : Nat) (x1 : Int32) (σ : XSt) : Prop :=
  xw_Tr_runs δ (fun σ1 => xw_Ho_standing δ (fun r2 σ3 => K (r2 - (σ3.1 7 i0 0)) σ3) i0 i2 x1 σ1) i2 51 σ
set_option maxHeartbeats 4000000 in
set_option maxRecDepth 100000 in
theorem xt_Sy_standing {l : Launch} {Γ : GA} {δ : XSh} {σ : XSt} {K : Int32 → XSt → Prop} {i0 : Nat} {i2 : Nat} (h0 : (7, i0) ∈ δ.1) (c0 : δ.2.2.1 i0 < 12) (h2 : (3, i2) ∈ δ.1) {x1 : Int32} (hwp : xw_Sy_standing δ K i0 i2 x1 σ) : xI l yX15_standing cX15_standing 3 (some .int) ({ frames := 3, cells := 0, slots := 0, locals := 65 } : Room) 0 0 Γ δ [.ref i0, .int x1, .ref (δ.2.1 3 i2)] σ (fun r u => K r u.2 ∧ u.1 = δ) := by
  intro sz
  refine x_of (by decide) [(0, .ref i0), (1, .int x1), (2, .ref (δ.2.1 3 i2))] (fun _ h => h) (Nat.le_of_ble_eq_true rfl) ?_
  intro p e s m args below meth c hsz X H locs ls hP hO hD hS hl
  subst hsz
  obtain ⟨hx, hb, hml, hown, hts, hK, hr, hlk⟩ := id X
  have hA : ∀ q, s.heap.size ≤ q → AX δ s.heap.size q := fun q h => Or.inr h
  unfold xw_Sy_standing at hwp
  refine lv_aload_n hx hb dX15_standing_0 rfl (lv_at hl 2 rfl) ?_
  refine lv_bipush (v := 51) hx hb dX15_standing_1 (by decide) ?_
  refine x_gov (va_runV (As := [.int 51]) (rest := []) ⟨hx, hb, hml, hown, hts⟩ (xt_Tr_runs h2 hwp H.size) (cwV 1 hts (lw_V q1265 q1250 q1251 q76 q1252) rfl rfl rfl (by decide +kernel) ⟨Nat.le_of_ble_eq_true rfl, Nat.le_of_ble_eq_true rfl⟩) (x_preV hK hO hD hP 3 i2 h2 rfl rfl) rfl rfl hl.1 rfl (lv_room (Nat.le_of_ble_eq_true rfl)) dX15_standing_3 ⟨Nat.le_of_ble_eq_true rfl, Nat.le_of_ble_eq_true rfl⟩) hD hA hS (fun u H locs hk hP hO hD hS => ?_)
  obtain ⟨u1, σ1⟩ := u
  obtain ⟨hwp, eu⟩ := hk
  have eu : δ = u1 := eu.symm
  subst eu
  dsimp only at hP hO hD hwp
  refine lv_aload_n hx hb dX15_standing_6 rfl (lv_at hl 0 rfl) ?_
  refine lv_iload_n hx hb dX15_standing_7 rfl (lv_at hl 1 rfl) ?_
  refine lv_aload_n hx hb dX15_standing_8 rfl (lv_at hl 2 rfl) ?_
  refine x_goi (vz_runSU (n := 2) (C := (clA.getD (δ.2.2.1 i0) (RX11, TX11, 4)).1) (owner := "SeenByOne$House") (x := ⟨"SeenByOne$House", "standing", "(ILSeenByOne$Trace;)I"⟩) (As := [.int x1, .ref (δ.2.1 3 i2)]) (rest := []) rfl ⟨hx, hb, hml, hown, hts⟩ (xt_Ho_standing h0 c0 h2 hwp H.size) q1266 q1835 q674 (Or.inl rfl) q1247 q98 q1248 rfl rfl (by decide) (by decide +kernel) ⟨Nat.le_of_ble_eq_true rfl, Nat.le_of_ble_eq_true rfl⟩ (x_preT hK hO hD hP i0 h0 c0) rfl rfl hl.1 rfl (lv_room (Nat.le_of_ble_eq_true rfl)) dX15_standing_9 ⟨Nat.le_of_ble_eq_true rfl, Nat.le_of_ble_eq_true rfl⟩) hD hA hS (fun r2 u H locs hk hP hO hD hS => ?_)
  obtain ⟨u1, σ3⟩ := u
  obtain ⟨hwp, eu⟩ := hk
  have eu : δ = u1 := eu.symm
  subst eu
  dsimp only at hP hO hD hwp
  refine lv_aload_n hx hb dX15_standing_12 rfl (lv_at hl 0 rfl) ?_
  refine x_getT hx hb hts hown hK hO hP i0 h0 c0 0 (by decide) q725 (fun x h9 => u_same (hts _ q723) x h9) dX15_standing_13 ?_
  refine lv_isub hx hb dX15_standing_16 ?_
  exact x_iret hx hb hr hlk hP hO hD hS ⟨hwp, rfl⟩ dX15_standing_17
/-! Fi_standing -/
def xw_Fi_standing (δ : XSh) (K : Int32 → XSt → Prop) (i0 : Nat) (i2 : Nat) (x1 : Int32) (σ : XSt) : Prop :=
  xw_Tr_runs δ (fun σ1 => xw_T_standing δ (fun r2 σ3 => K (r2 * 2) σ3) i0 i2 x1 σ1) i2 70 σ
set_option maxHeartbeats 4000000 in
set_option maxRecDepth 100000 in
theorem xt_Fi_standing {l : Launch} {Γ : GA} {δ : XSh} {σ : XSt} {K : Int32 → XSt → Prop} {i0 : Nat} {i2 : Nat} (h0 : (7, i0) ∈ δ.1) (c0 : δ.2.2.1 i0 < 12) (h2 : (3, i2) ∈ δ.1) {x1 : Int32} (hwp : xw_Fi_standing δ K i0 i2 x1 σ) : xI l yX17_standing cX17_standing 3 (some .int) ({ frames := 2, cells := 0, slots := 0, locals := 43 } : Room) 0 0 Γ δ [.ref i0, .int x1, .ref (δ.2.1 3 i2)] σ (fun r u => K r u.2 ∧ u.1 = δ) := by
  intro sz
  refine x_of (by decide) [(0, .ref i0), (1, .int x1), (2, .ref (δ.2.1 3 i2))] (fun _ h => h) (Nat.le_of_ble_eq_true rfl) ?_
  intro p e s m args below meth c hsz X H locs ls hP hO hD hS hl
  subst hsz
  obtain ⟨hx, hb, hml, hown, hts, hK, hr, hlk⟩ := id X
  have hA : ∀ q, s.heap.size ≤ q → AX δ s.heap.size q := fun q h => Or.inr h
  unfold xw_Fi_standing at hwp
  refine lv_aload_n hx hb dX17_standing_0 rfl (lv_at hl 2 rfl) ?_
  refine lv_bipush (v := 70) hx hb dX17_standing_1 (by decide) ?_
  refine x_gov (va_runV (As := [.int 70]) (rest := []) ⟨hx, hb, hml, hown, hts⟩ (xt_Tr_runs h2 hwp H.size) (cwV 1 hts (lw_V q1257 q1250 q1251 q76 q1252) rfl rfl rfl (by decide +kernel) ⟨Nat.le_of_ble_eq_true rfl, Nat.le_of_ble_eq_true rfl⟩) (x_preV hK hO hD hP 3 i2 h2 rfl rfl) rfl rfl hl.1 rfl (lv_room (Nat.le_of_ble_eq_true rfl)) dX17_standing_3 ⟨Nat.le_of_ble_eq_true rfl, Nat.le_of_ble_eq_true rfl⟩) hD hA hS (fun u H locs hk hP hO hD hS => ?_)
  obtain ⟨u1, σ1⟩ := u
  obtain ⟨hwp, eu⟩ := hk
  have eu : δ = u1 := eu.symm
  subst eu
  dsimp only at hP hO hD hwp
  refine lv_aload_n hx hb dX17_standing_6 rfl (lv_at hl 0 rfl) ?_
  refine lv_iload_n hx hb dX17_standing_7 rfl (lv_at hl 1 rfl) ?_
  refine lv_aload_n hx hb dX17_standing_8 rfl (lv_at hl 2 rfl) ?_
  refine x_goi (vz_runSU (n := 2) (C := (clA.getD (δ.2.2.1 i0) (RX11, TX11, 4)).1) (owner := "SeenByOne$Thing") (x := ⟨"SeenByOne$Tree", "standing", "(ILSeenByOne$Trace;)I"⟩) (As := [.int x1, .ref (δ.2.1 3 i2)]) (rest := []) rfl ⟨hx, hb, hml, hown, hts⟩ (xt_T_standing h0 c0 h2 hwp H.size) q1258 q1259 q620 (Or.inr q624) q1243 q97 q1269 rfl rfl (by decide) (by decide +kernel) ⟨Nat.le_of_ble_eq_true rfl, Nat.le_of_ble_eq_true rfl⟩ (x_preT hK hO hD hP i0 h0 c0) rfl rfl hl.1 rfl (lv_room (Nat.le_of_ble_eq_true rfl)) dX17_standing_9 ⟨Nat.le_of_ble_eq_true rfl, Nat.le_of_ble_eq_true rfl⟩) hD hA hS (fun r2 u H locs hk hP hO hD hS => ?_)
  obtain ⟨u1, σ3⟩ := u
  obtain ⟨hwp, eu⟩ := hk
  have eu : δ = u1 := eu.symm
  subst eu
  dsimp only at hP hO hD hwp
  refine lv_iconst (v := 2) hx hb dX17_standing_12 (by decide) ?_
  refine lv_imul hx hb dX17_standing_13 ?_
  exact x_iret hx hb hr hlk hP hO hD hS ⟨hwp, rfl⟩ dX17_standing_14
def xv_T_standing (δ : XSh) (K : Int32 → XSt → Prop) (i0 : Nat) (i2 : Nat) (x1 : Int32) (σ : XSt) : Prop :=
  (δ.2.2.1 i0 = 5 → xw_T_standing δ K i0 i2 x1 σ) ∧ (δ.2.2.1 i0 = 6 → xw_Ho_standing δ K i0 i2 x1 σ) ∧ (δ.2.2.1 i0 = 7 → xw_T_standing δ K i0 i2 x1 σ) ∧ (δ.2.2.1 i0 = 8 → xw_Ho_standing δ K i0 i2 x1 σ) ∧ (δ.2.2.1 i0 = 9 → xw_Sy_standing δ K i0 i2 x1 σ) ∧ (δ.2.2.1 i0 = 10 → xw_Ho_standing δ K i0 i2 x1 σ) ∧ (δ.2.2.1 i0 = 11 → xw_Fi_standing δ K i0 i2 x1 σ)
set_option maxHeartbeats 4000000 in
set_option maxRecDepth 100000 in
theorem xr_T_standing {p : Program} {l : Launch} {e : Env} {R : Room} {s : State} {m : MethodId} {args : Array Value} {below : List Frame} {meth : Method} {c : Code} {H : Heap} {locs : List Loc} {cells slots : Nat} {cc : ByteArray} {pc nL index : Nat} {ls : Array Slot} {As rest st : List Value} {Γ : GA} {δ : XSh} {σ : XSt} {A : Nat → Prop} {own : String} {i0 : Nat} {i2 : Nat} {K : Int32 → XSt → Prop} {x1 : Int32} (S : CallFix p m c cc nL s args lw_all own) (hK : KX Γ s) (hD : gD δ.1 (adX δ) A) (hO : XO δ) (hP : XH Γ δ σ H) (h0 : (7, i0) ∈ δ.1) (c0 : δ.2.2.1 i0 < 12) (h2 : (3, i2) ∈ δ.1) (hwp : xv_T_standing δ K i0 i2 x1 σ) (hlk : Cond.methodLink own index ⟨"SeenByOne$Thing", "standing", "(ILSeenByOne$Trace;)I"⟩ ∈ lw_all) (hR : 4 ≤ R.frames ∧ 87 ≤ R.locals) (hAs : As = [.int x1, .ref (δ.2.1 3 i2)]) (hsize : ls.size = nL) (hst : st = As.reverse ++ .ref i0 :: rest) (hW : (rest.map fun v => v.category).sum ≤ 8) (hd : decode cc pc = .ok (.invokevirtual index, 3)) (hf : cells ≤ R.cells ∧ slots ≤ R.slots) : va_Run p l e R s m args below meth c H locs cells slots 0 0 (F0 m pc ls st) rest (va_Qi (fun r u => K r u.2 ∧ u.1 = δ) (xB Γ δ H.size) (AX δ H.size) (.ref i0 :: As).toArray) (AX δ H.size) := by
  subst hAs
  have hn : ([.int x1, .ref (δ.2.1 3 i2)] : List Value).length = 2 := rfl
  rcases cn_cases hO h0 c0 with e | e | e | e | e | e | e
  · exact va_runU (C := RX11) (owner := "SeenByOne$Thing") (As := [.int x1, .ref (δ.2.1 3 i2)]) (rest := rest) S (xt_T_standing h0 c0 h2 (hwp.1 e) H.size) (va_cwO 2 S.2.2.2.2 (lw_O hlk q1245 q1243 q1244 q1243 q97 q1269) rfl rfl rfl q1269 (by decide +kernel) ⟨Nat.le_trans (Nat.le_of_ble_eq_true rfl) hR.1, Nat.le_trans (Nat.le_of_ble_eq_true rfl) hR.2⟩) (x_preV (avs := [.int x1, .ref (δ.2.1 3 i2)]) hK hO hD hP 7 i0 h0 (cellT c0) (by rw [e]; rfl)) rfl hn hsize hst (lv_room hW) hd hf
  · exact va_runU (C := RX12) (owner := "SeenByOne$Thing") (As := [.int x1, .ref (δ.2.1 3 i2)]) (rest := rest) S (xt_Ho_standing h0 c0 h2 (hwp.2.1 e) H.size) (va_cwO 2 S.2.2.2.2 (lw_O hlk q1245 q1243 q1261 q1247 q98 q1248) rfl rfl rfl q1269 (by decide +kernel) ⟨Nat.le_trans (Nat.le_of_ble_eq_true rfl) hR.1, Nat.le_trans (Nat.le_of_ble_eq_true rfl) hR.2⟩) (x_preV (avs := [.int x1, .ref (δ.2.1 3 i2)]) hK hO hD hP 7 i0 h0 (cellT c0) (by rw [e]; rfl)) rfl hn hsize hst (lv_room hW) hd hf
  · exact va_runU (C := RX13) (owner := "SeenByOne$Thing") (As := [.int x1, .ref (δ.2.1 3 i2)]) (rest := rest) S (xt_T_standing h0 c0 h2 (hwp.2.2.1 e) H.size) (va_cwO 2 S.2.2.2.2 (lw_O hlk q1245 q1243 q1268 q1243 q97 q1269) rfl rfl rfl q1269 (by decide +kernel) ⟨Nat.le_trans (Nat.le_of_ble_eq_true rfl) hR.1, Nat.le_trans (Nat.le_of_ble_eq_true rfl) hR.2⟩) (x_preV (avs := [.int x1, .ref (δ.2.1 3 i2)]) hK hO hD hP 7 i0 h0 (cellT c0) (by rw [e]; rfl)) rfl hn hsize hst (lv_room hW) hd hf
  · exact va_runU (C := RX14) (owner := "SeenByOne$Thing") (As := [.int x1, .ref (δ.2.1 3 i2)]) (rest := rest) S (xt_Ho_standing h0 c0 h2 (hwp.2.2.2.1 e) H.size) (va_cwO 2 S.2.2.2.2 (lw_O hlk q1245 q1243 q1267 q1247 q98 q1248) rfl rfl rfl q1269 (by decide +kernel) ⟨Nat.le_trans (Nat.le_of_ble_eq_true rfl) hR.1, Nat.le_trans (Nat.le_of_ble_eq_true rfl) hR.2⟩) (x_preV (avs := [.int x1, .ref (δ.2.1 3 i2)]) hK hO hD hP 7 i0 h0 (cellT c0) (by rw [e]; rfl)) rfl hn hsize hst (lv_room hW) hd hf
  · exact va_runU (C := RX15) (owner := "SeenByOne$Thing") (As := [.int x1, .ref (δ.2.1 3 i2)]) (rest := rest) S (xt_Sy_standing h0 c0 h2 (hwp.2.2.2.2.1 e) H.size) (va_cwO 2 S.2.2.2.2 (lw_O hlk q1245 q1243 q1262 q1263 q101 q1264) rfl rfl rfl q1269 (by decide +kernel) ⟨Nat.le_trans (Nat.le_of_ble_eq_true rfl) hR.1, Nat.le_trans (Nat.le_of_ble_eq_true rfl) hR.2⟩) (x_preV (avs := [.int x1, .ref (δ.2.1 3 i2)]) hK hO hD hP 7 i0 h0 (cellT c0) (by rw [e]; rfl)) rfl hn hsize hst (lv_room hW) hd hf
  · exact va_runU (C := RX16) (owner := "SeenByOne$Thing") (As := [.int x1, .ref (δ.2.1 3 i2)]) (rest := rest) S (xt_Ho_standing h0 c0 h2 (hwp.2.2.2.2.2.1 e) H.size) (va_cwO 2 S.2.2.2.2 (lw_O hlk q1245 q1243 q1246 q1247 q98 q1248) rfl rfl rfl q1269 (by decide +kernel) ⟨Nat.le_trans (Nat.le_of_ble_eq_true rfl) hR.1, Nat.le_trans (Nat.le_of_ble_eq_true rfl) hR.2⟩) (x_preV (avs := [.int x1, .ref (δ.2.1 3 i2)]) hK hO hD hP 7 i0 h0 (cellT c0) (by rw [e]; rfl)) rfl hn hsize hst (lv_room hW) hd hf
  · exact va_runU (C := RX17) (owner := "SeenByOne$Thing") (As := [.int x1, .ref (δ.2.1 3 i2)]) (rest := rest) S (xt_Fi_standing h0 c0 h2 (hwp.2.2.2.2.2.2 e) H.size) (va_cwO 2 S.2.2.2.2 (lw_O hlk q1245 q1243 q1254 q1255 q103 q1256) rfl rfl rfl q1269 (by decide +kernel) ⟨Nat.le_trans (Nat.le_of_ble_eq_true rfl) hR.1, Nat.le_trans (Nat.le_of_ble_eq_true rfl) hR.2⟩) (x_preV (avs := [.int x1, .ref (δ.2.1 3 i2)]) hK hO hD hP 7 i0 h0 (cellT c0) (by rw [e]; rfl)) rfl hn hsize hst (lv_room hW) hd hf
/-! T_looking -/
def xw_T_looking (δ : XSh) (K : Int32 → XSt → Prop) (i0 : Nat) (i2 : Nat) (x1 : Int32) (σ : XSt) : Prop :=
  xw_Tr_runs δ (fun σ1 => xv_T_standing δ (fun r2 σ3 => K (r2 * 2) σ3) i0 i2 x1 σ1) i2 11 σ
set_option maxHeartbeats 4000000 in
set_option maxRecDepth 100000 in
theorem xt_T_looking {l : Launch} {Γ : GA} {δ : XSh} {σ : XSt} {K : Int32 → XSt → Prop} {i0 : Nat} {i2 : Nat} (h0 : (7, i0) ∈ δ.1) (c0 : δ.2.2.1 i0 < 12) (h2 : (3, i2) ∈ δ.1) {x1 : Int32} (hwp : xw_T_looking δ K i0 i2 x1 σ) : xI l yX11_looking cX11_looking 3 (some .int) ({ frames := 4, cells := 0, slots := 0, locals := 87 } : Room) 0 0 Γ δ [.ref i0, .int x1, .ref (δ.2.1 3 i2)] σ (fun r u => K r u.2 ∧ u.1 = δ) := by
  intro sz
  refine x_of (by decide) [(0, .ref i0), (1, .int x1), (2, .ref (δ.2.1 3 i2))] (fun _ h => h) (Nat.le_of_ble_eq_true rfl) ?_
  intro p e s m args below meth c hsz X H locs ls hP hO hD hS hl
  subst hsz
  obtain ⟨hx, hb, hml, hown, hts, hK, hr, hlk⟩ := id X
  have hA : ∀ q, s.heap.size ≤ q → AX δ s.heap.size q := fun q h => Or.inr h
  unfold xw_T_looking at hwp
  refine lv_aload_n hx hb dX11_looking_0 rfl (lv_at hl 2 rfl) ?_
  refine lv_bipush (v := 11) hx hb dX11_looking_1 (by decide) ?_
  refine x_gov (va_runV (As := [.int 11]) (rest := []) ⟨hx, hb, hml, hown, hts⟩ (xt_Tr_runs h2 hwp H.size) (cwV 1 hts (lw_V q1270 q1250 q1251 q76 q1252) rfl rfl rfl (by decide +kernel) ⟨Nat.le_of_ble_eq_true rfl, Nat.le_of_ble_eq_true rfl⟩) (x_preV hK hO hD hP 3 i2 h2 rfl rfl) rfl rfl hl.1 rfl (lv_room (Nat.le_of_ble_eq_true rfl)) dX11_looking_3 ⟨Nat.le_of_ble_eq_true rfl, Nat.le_of_ble_eq_true rfl⟩) hD hA hS (fun u H locs hk hP hO hD hS => ?_)
  obtain ⟨u1, σ1⟩ := u
  obtain ⟨hwp, eu⟩ := hk
  have eu : δ = u1 := eu.symm
  subst eu
  dsimp only at hP hO hD hwp
  refine lv_aload_n hx hb dX11_looking_6 rfl (lv_at hl 0 rfl) ?_
  refine lv_iload_n hx hb dX11_looking_7 rfl (lv_at hl 1 rfl) ?_
  refine lv_aload_n hx hb dX11_looking_8 rfl (lv_at hl 2 rfl) ?_
  refine x_goi (xr_T_standing (As := [.int x1, .ref (δ.2.1 3 i2)]) (rest := []) ⟨hx, hb, hml, hown, hts⟩ hK hD hO hP h0 c0 h2 hwp q1295 ⟨Nat.le_of_ble_eq_true rfl, Nat.le_of_ble_eq_true rfl⟩ rfl hl.1 rfl (Nat.le_of_ble_eq_true rfl) dX11_looking_9 ⟨Nat.le_of_ble_eq_true rfl, Nat.le_of_ble_eq_true rfl⟩) hD hA hS (fun r2 u H locs hk hP hO hD hS => ?_)
  obtain ⟨u1, σ3⟩ := u
  obtain ⟨hwp, eu⟩ := hk
  have eu : δ = u1 := eu.symm
  subst eu
  dsimp only at hP hO hD hwp
  refine lv_iconst (v := 2) hx hb dX11_looking_12 (by decide) ?_
  refine lv_imul hx hb dX11_looking_13 ?_
  exact x_iret hx hb hr hlk hP hO hD hS ⟨hwp, rfl⟩ dX11_looking_14
/-! Te_looking -/
def xw_Te_looking (δ : XSh) (K : Int32 → XSt → Prop) (i0 : Nat) (i2 : Nat) (x1 : Int32) (σ : XSt) : Prop :=
  xw_Tr_runs δ (fun σ1 => xw_T_looking δ (fun r2 σ3 => K (r2 * 3) σ3) i0 i2 x1 σ1) i2 30 σ
set_option maxHeartbeats 4000000 in
set_option maxRecDepth 100000 in
theorem xt_Te_looking {l : Launch} {Γ : GA} {δ : XSh} {σ : XSt} {K : Int32 → XSt → Prop} {i0 : Nat} {i2 : Nat} (h0 : (7, i0) ∈ δ.1) (c0 : δ.2.2.1 i0 < 12) (h2 : (3, i2) ∈ δ.1) {x1 : Int32} (hwp : xw_Te_looking δ K i0 i2 x1 σ) : xI l yX13_looking cX13_looking 3 (some .int) ({ frames := 5, cells := 0, slots := 0, locals := 109 } : Room) 0 0 Γ δ [.ref i0, .int x1, .ref (δ.2.1 3 i2)] σ (fun r u => K r u.2 ∧ u.1 = δ) := by
  intro sz
  refine x_of (by decide) [(0, .ref i0), (1, .int x1), (2, .ref (δ.2.1 3 i2))] (fun _ h => h) (Nat.le_of_ble_eq_true rfl) ?_
  intro p e s m args below meth c hsz X H locs ls hP hO hD hS hl
  subst hsz
  obtain ⟨hx, hb, hml, hown, hts, hK, hr, hlk⟩ := id X
  have hA : ∀ q, s.heap.size ≤ q → AX δ s.heap.size q := fun q h => Or.inr h
  unfold xw_Te_looking at hwp
  refine lv_aload_n hx hb dX13_looking_0 rfl (lv_at hl 2 rfl) ?_
  refine lv_bipush (v := 30) hx hb dX13_looking_1 (by decide) ?_
  refine x_gov (va_runV (As := [.int 30]) (rest := []) ⟨hx, hb, hml, hown, hts⟩ (xt_Tr_runs h2 hwp H.size) (cwV 1 hts (lw_V q1282 q1250 q1251 q76 q1252) rfl rfl rfl (by decide +kernel) ⟨Nat.le_of_ble_eq_true rfl, Nat.le_of_ble_eq_true rfl⟩) (x_preV hK hO hD hP 3 i2 h2 rfl rfl) rfl rfl hl.1 rfl (lv_room (Nat.le_of_ble_eq_true rfl)) dX13_looking_3 ⟨Nat.le_of_ble_eq_true rfl, Nat.le_of_ble_eq_true rfl⟩) hD hA hS (fun u H locs hk hP hO hD hS => ?_)
  obtain ⟨u1, σ1⟩ := u
  obtain ⟨hwp, eu⟩ := hk
  have eu : δ = u1 := eu.symm
  subst eu
  dsimp only at hP hO hD hwp
  refine lv_aload_n hx hb dX13_looking_6 rfl (lv_at hl 0 rfl) ?_
  refine lv_iload_n hx hb dX13_looking_7 rfl (lv_at hl 1 rfl) ?_
  refine lv_aload_n hx hb dX13_looking_8 rfl (lv_at hl 2 rfl) ?_
  refine x_goi (vz_runSU (n := 2) (C := (clA.getD (δ.2.2.1 i0) (RX11, TX11, 4)).1) (owner := "SeenByOne$Thing") (x := ⟨"SeenByOne$Thing", "looking", "(ILSeenByOne$Trace;)I"⟩) (As := [.int x1, .ref (δ.2.1 3 i2)]) (rest := []) rfl ⟨hx, hb, hml, hown, hts⟩ (xt_T_looking h0 c0 h2 hwp H.size) q1283 q1274 q624 (Or.inl rfl) q1272 q97 q1294 rfl rfl (by decide) (by decide +kernel) ⟨Nat.le_of_ble_eq_true rfl, Nat.le_of_ble_eq_true rfl⟩ (x_preT hK hO hD hP i0 h0 c0) rfl rfl hl.1 rfl (lv_room (Nat.le_of_ble_eq_true rfl)) dX13_looking_9 ⟨Nat.le_of_ble_eq_true rfl, Nat.le_of_ble_eq_true rfl⟩) hD hA hS (fun r2 u H locs hk hP hO hD hS => ?_)
  obtain ⟨u1, σ3⟩ := u
  obtain ⟨hwp, eu⟩ := hk
  have eu : δ = u1 := eu.symm
  subst eu
  dsimp only at hP hO hD hwp
  refine lv_iconst (v := 3) hx hb dX13_looking_12 (by decide) ?_
  refine lv_imul hx hb dX13_looking_13 ?_
  exact x_iret hx hb hr hlk hP hO hD hS ⟨hwp, rfl⟩ dX13_looking_14
/-! To_looking -/
def xw_To_looking (δ : XSh) (K : Int32 → XSt → Prop) (i0 : Nat) (i2 : Nat) (x1 : Int32) (σ : XSt) : Prop :=
  xw_Tr_runs δ (fun σ1 => xw_T_looking δ (fun r2 σ3 => K r2 σ3) i0 i2 (x1 + 1) σ1) i2 40 σ
set_option maxHeartbeats 4000000 in
set_option maxRecDepth 100000 in
theorem xt_To_looking {l : Launch} {Γ : GA} {δ : XSh} {σ : XSt} {K : Int32 → XSt → Prop} {i0 : Nat} {i2 : Nat} (h0 : (7, i0) ∈ δ.1) (c0 : δ.2.2.1 i0 < 12) (h2 : (3, i2) ∈ δ.1) {x1 : Int32} (hwp : xw_To_looking δ K i0 i2 x1 σ) : xI l yX14_looking cX14_looking 3 (some .int) ({ frames := 5, cells := 0, slots := 0, locals := 109 } : Room) 0 0 Γ δ [.ref i0, .int x1, .ref (δ.2.1 3 i2)] σ (fun r u => K r u.2 ∧ u.1 = δ) := by
  intro sz
  refine x_of (by decide) [(0, .ref i0), (1, .int x1), (2, .ref (δ.2.1 3 i2))] (fun _ h => h) (Nat.le_of_ble_eq_true rfl) ?_
  intro p e s m args below meth c hsz X H locs ls hP hO hD hS hl
  subst hsz
  obtain ⟨hx, hb, hml, hown, hts, hK, hr, hlk⟩ := id X
  have hA : ∀ q, s.heap.size ≤ q → AX δ s.heap.size q := fun q h => Or.inr h
  unfold xw_To_looking at hwp
  refine lv_aload_n hx hb dX14_looking_0 rfl (lv_at hl 2 rfl) ?_
  refine lv_bipush (v := 40) hx hb dX14_looking_1 (by decide) ?_
  refine x_gov (va_runV (As := [.int 40]) (rest := []) ⟨hx, hb, hml, hown, hts⟩ (xt_Tr_runs h2 hwp H.size) (cwV 1 hts (lw_V q1289 q1250 q1251 q76 q1252) rfl rfl rfl (by decide +kernel) ⟨Nat.le_of_ble_eq_true rfl, Nat.le_of_ble_eq_true rfl⟩) (x_preV hK hO hD hP 3 i2 h2 rfl rfl) rfl rfl hl.1 rfl (lv_room (Nat.le_of_ble_eq_true rfl)) dX14_looking_3 ⟨Nat.le_of_ble_eq_true rfl, Nat.le_of_ble_eq_true rfl⟩) hD hA hS (fun u H locs hk hP hO hD hS => ?_)
  obtain ⟨u1, σ1⟩ := u
  obtain ⟨hwp, eu⟩ := hk
  have eu : δ = u1 := eu.symm
  subst eu
  dsimp only at hP hO hD hwp
  refine lv_aload_n hx hb dX14_looking_6 rfl (lv_at hl 0 rfl) ?_
  refine lv_iload_n hx hb dX14_looking_7 rfl (lv_at hl 1 rfl) ?_
  refine lv_iconst (v := 1) hx hb dX14_looking_8 (by decide) ?_
  refine lv_iadd hx hb dX14_looking_9 ?_
  refine lv_aload_n hx hb dX14_looking_10 rfl (lv_at hl 2 rfl) ?_
  refine x_goi (vz_runSU (n := 2) (C := (clA.getD (δ.2.2.1 i0) (RX11, TX11, 4)).1) (owner := "SeenByOne$Thing") (x := ⟨"SeenByOne$House", "looking", "(ILSeenByOne$Trace;)I"⟩) (As := [.int (x1 + 1), .ref (δ.2.1 3 i2)]) (rest := []) rfl ⟨hx, hb, hml, hown, hts⟩ (xt_T_looking h0 c0 h2 hwp H.size) q1290 q1291 q583 (Or.inr q675) q1272 q97 q1294 rfl rfl (by decide) (by decide +kernel) ⟨Nat.le_of_ble_eq_true rfl, Nat.le_of_ble_eq_true rfl⟩ (x_preT hK hO hD hP i0 h0 c0) rfl rfl hl.1 rfl (lv_room (Nat.le_of_ble_eq_true rfl)) dX14_looking_11 ⟨Nat.le_of_ble_eq_true rfl, Nat.le_of_ble_eq_true rfl⟩) hD hA hS (fun r2 u H locs hk hP hO hD hS => ?_)
  obtain ⟨u1, σ3⟩ := u
  obtain ⟨hwp, eu⟩ := hk
  have eu : δ = u1 := eu.symm
  subst eu
  dsimp only at hP hO hD hwp
  exact x_iret hx hb hr hlk hP hO hD hS ⟨hwp, rfl⟩ dX14_looking_14
/-! Fi_looking -/
def xw_Fi_looking (δ : XSh) (K : Int32 → XSt → Prop) (i0 : Nat) (i2 : Nat) (x1 : Int32) (σ : XSt) : Prop :=
  xw_Tr_runs δ (fun σ1 => xw_Te_looking δ (fun r2 σ3 => K r2 σ3) i0 i2 (x1 - (σ1.1 7 i0 3)) σ1) i2 71 σ
set_option maxHeartbeats 4000000 in
set_option maxRecDepth 100000 in
theorem xt_Fi_looking {l : Launch} {Γ : GA} {δ : XSh} {σ : XSt} {K : Int32 → XSt → Prop} {i0 : Nat} {i2 : Nat} (h0 : (7, i0) ∈ δ.1) (c0 : δ.2.2.1 i0 < 12) (h2 : (3, i2) ∈ δ.1) {x1 : Int32} (hwp : xw_Fi_looking δ K i0 i2 x1 σ) : xI l yX17_looking cX17_looking 3 (some .int) ({ frames := 6, cells := 0, slots := 0, locals := 131 } : Room) 0 0 Γ δ [.ref i0, .int x1, .ref (δ.2.1 3 i2)] σ (fun r u => K r u.2 ∧ u.1 = δ) := by
  intro sz
  refine x_of (by decide) [(0, .ref i0), (1, .int x1), (2, .ref (δ.2.1 3 i2))] (fun _ h => h) (Nat.le_of_ble_eq_true rfl) ?_
  intro p e s m args below meth c hsz X H locs ls hP hO hD hS hl
  subst hsz
  obtain ⟨hx, hb, hml, hown, hts, hK, hr, hlk⟩ := id X
  have hA : ∀ q, s.heap.size ≤ q → AX δ s.heap.size q := fun q h => Or.inr h
  unfold xw_Fi_looking at hwp
  refine lv_aload_n hx hb dX17_looking_0 rfl (lv_at hl 2 rfl) ?_
  refine lv_bipush (v := 71) hx hb dX17_looking_1 (by decide) ?_
  refine x_gov (va_runV (As := [.int 71]) (rest := []) ⟨hx, hb, hml, hown, hts⟩ (xt_Tr_runs h2 hwp H.size) (cwV 1 hts (lw_V q1257 q1250 q1251 q76 q1252) rfl rfl rfl (by decide +kernel) ⟨Nat.le_of_ble_eq_true rfl, Nat.le_of_ble_eq_true rfl⟩) (x_preV hK hO hD hP 3 i2 h2 rfl rfl) rfl rfl hl.1 rfl (lv_room (Nat.le_of_ble_eq_true rfl)) dX17_looking_3 ⟨Nat.le_of_ble_eq_true rfl, Nat.le_of_ble_eq_true rfl⟩) hD hA hS (fun u H locs hk hP hO hD hS => ?_)
  obtain ⟨u1, σ1⟩ := u
  obtain ⟨hwp, eu⟩ := hk
  have eu : δ = u1 := eu.symm
  subst eu
  dsimp only at hP hO hD hwp
  refine lv_aload_n hx hb dX17_looking_6 rfl (lv_at hl 0 rfl) ?_
  refine lv_iload_n hx hb dX17_looking_7 rfl (lv_at hl 1 rfl) ?_
  refine lv_aload_n hx hb dX17_looking_8 rfl (lv_at hl 0 rfl) ?_
  refine x_getT hx hb hts hown hK hO hP i0 h0 c0 3 (by decide) q736 (fun x h9 => u_same (hts _ q737) x h9) dX17_looking_9 ?_
  refine lv_isub hx hb dX17_looking_12 ?_
  refine lv_aload_n hx hb dX17_looking_13 rfl (lv_at hl 2 rfl) ?_
  refine x_goi (vz_runSU (n := 2) (C := (clA.getD (δ.2.2.1 i0) (RX11, TX11, 4)).1) (owner := "SeenByOne$Tree") (x := ⟨"SeenByOne$Tree", "looking", "(ILSeenByOne$Trace;)I"⟩) (As := [.int (x1 - (σ1.1 7 i0 3)), .ref (δ.2.1 3 i2)]) (rest := []) rfl ⟨hx, hb, hml, hown, hts⟩ (xt_Te_looking h0 c0 h2 hwp H.size) q1279 q1836 q620 (Or.inl rfl) q1280 q99 q1281 rfl rfl (by decide) (by decide +kernel) ⟨Nat.le_of_ble_eq_true rfl, Nat.le_of_ble_eq_true rfl⟩ (x_preT hK hO hD hP i0 h0 c0) rfl rfl hl.1 rfl (lv_room (Nat.le_of_ble_eq_true rfl)) dX17_looking_14 ⟨Nat.le_of_ble_eq_true rfl, Nat.le_of_ble_eq_true rfl⟩) hD hA hS (fun r2 u H locs hk hP hO hD hS => ?_)
  obtain ⟨u1, σ3⟩ := u
  obtain ⟨hwp, eu⟩ := hk
  have eu : δ = u1 := eu.symm
  subst eu
  dsimp only at hP hO hD hwp
  exact x_iret hx hb hr hlk hP hO hD hS ⟨hwp, rfl⟩ dX17_looking_17
def xv_T_looking (δ : XSh) (K : Int32 → XSt → Prop) (i0 : Nat) (i2 : Nat) (x1 : Int32) (σ : XSt) : Prop :=
  (δ.2.2.1 i0 = 5 → xw_T_looking δ K i0 i2 x1 σ) ∧ (δ.2.2.1 i0 = 6 → xw_T_looking δ K i0 i2 x1 σ) ∧ (δ.2.2.1 i0 = 7 → xw_Te_looking δ K i0 i2 x1 σ) ∧ (δ.2.2.1 i0 = 8 → xw_To_looking δ K i0 i2 x1 σ) ∧ (δ.2.2.1 i0 = 9 → xw_T_looking δ K i0 i2 x1 σ) ∧ (δ.2.2.1 i0 = 10 → xw_T_looking δ K i0 i2 x1 σ) ∧ (δ.2.2.1 i0 = 11 → xw_Fi_looking δ K i0 i2 x1 σ)
set_option maxHeartbeats 4000000 in
set_option maxRecDepth 100000 in
theorem xr_T_looking {p : Program} {l : Launch} {e : Env} {R : Room} {s : State} {m : MethodId} {args : Array Value} {below : List Frame} {meth : Method} {c : Code} {H : Heap} {locs : List Loc} {cells slots : Nat} {cc : ByteArray} {pc nL index : Nat} {ls : Array Slot} {As rest st : List Value} {Γ : GA} {δ : XSh} {σ : XSt} {A : Nat → Prop} {own : String} {i0 : Nat} {i2 : Nat} {K : Int32 → XSt → Prop} {x1 : Int32} (S : CallFix p m c cc nL s args lw_all own) (hK : KX Γ s) (hD : gD δ.1 (adX δ) A) (hO : XO δ) (hP : XH Γ δ σ H) (h0 : (7, i0) ∈ δ.1) (c0 : δ.2.2.1 i0 < 12) (h2 : (3, i2) ∈ δ.1) (hwp : xv_T_looking δ K i0 i2 x1 σ) (hlk : Cond.methodLink own index ⟨"SeenByOne$Thing", "looking", "(ILSeenByOne$Trace;)I"⟩ ∈ lw_all) (hR : 7 ≤ R.frames ∧ 153 ≤ R.locals) (hAs : As = [.int x1, .ref (δ.2.1 3 i2)]) (hsize : ls.size = nL) (hst : st = As.reverse ++ .ref i0 :: rest) (hW : (rest.map fun v => v.category).sum ≤ 8) (hd : decode cc pc = .ok (.invokevirtual index, 3)) (hf : cells ≤ R.cells ∧ slots ≤ R.slots) : va_Run p l e R s m args below meth c H locs cells slots 0 0 (F0 m pc ls st) rest (va_Qi (fun r u => K r u.2 ∧ u.1 = δ) (xB Γ δ H.size) (AX δ H.size) (.ref i0 :: As).toArray) (AX δ H.size) := by
  subst hAs
  have hn : ([.int x1, .ref (δ.2.1 3 i2)] : List Value).length = 2 := rfl
  rcases cn_cases hO h0 c0 with e | e | e | e | e | e | e
  · exact va_runU (C := RX11) (owner := "SeenByOne$Thing") (As := [.int x1, .ref (δ.2.1 3 i2)]) (rest := rest) S (xt_T_looking h0 c0 h2 (hwp.1 e) H.size) (va_cwO 2 S.2.2.2.2 (lw_O hlk q1274 q1272 q1273 q1272 q97 q1294) rfl rfl rfl q1294 (by decide +kernel) ⟨Nat.le_trans (Nat.le_of_ble_eq_true rfl) hR.1, Nat.le_trans (Nat.le_of_ble_eq_true rfl) hR.2⟩) (x_preV (avs := [.int x1, .ref (δ.2.1 3 i2)]) hK hO hD hP 7 i0 h0 (cellT c0) (by rw [e]; rfl)) rfl hn hsize hst (lv_room hW) hd hf
  · exact va_runU (C := RX12) (owner := "SeenByOne$Thing") (As := [.int x1, .ref (δ.2.1 3 i2)]) (rest := rest) S (xt_T_looking h0 c0 h2 (hwp.2.1 e) H.size) (va_cwO 2 S.2.2.2.2 (lw_O hlk q1274 q1272 q1284 q1272 q97 q1294) rfl rfl rfl q1294 (by decide +kernel) ⟨Nat.le_trans (Nat.le_of_ble_eq_true rfl) hR.1, Nat.le_trans (Nat.le_of_ble_eq_true rfl) hR.2⟩) (x_preV (avs := [.int x1, .ref (δ.2.1 3 i2)]) hK hO hD hP 7 i0 h0 (cellT c0) (by rw [e]; rfl)) rfl hn hsize hst (lv_room hW) hd hf
  · exact va_runU (C := RX13) (owner := "SeenByOne$Thing") (As := [.int x1, .ref (δ.2.1 3 i2)]) (rest := rest) S (xt_Te_looking h0 c0 h2 (hwp.2.2.1 e) H.size) (va_cwO 2 S.2.2.2.2 (lw_O hlk q1274 q1272 q1293 q1280 q99 q1281) rfl rfl rfl q1294 (by decide +kernel) ⟨Nat.le_trans (Nat.le_of_ble_eq_true rfl) hR.1, Nat.le_trans (Nat.le_of_ble_eq_true rfl) hR.2⟩) (x_preV (avs := [.int x1, .ref (δ.2.1 3 i2)]) hK hO hD hP 7 i0 h0 (cellT c0) (by rw [e]; rfl)) rfl hn hsize hst (lv_room hW) hd hf
  · exact va_runU (C := RX14) (owner := "SeenByOne$Thing") (As := [.int x1, .ref (δ.2.1 3 i2)]) (rest := rest) S (xt_To_looking h0 c0 h2 (hwp.2.2.2.1 e) H.size) (va_cwO 2 S.2.2.2.2 (lw_O hlk q1274 q1272 q1286 q1287 q100 q1288) rfl rfl rfl q1294 (by decide +kernel) ⟨Nat.le_trans (Nat.le_of_ble_eq_true rfl) hR.1, Nat.le_trans (Nat.le_of_ble_eq_true rfl) hR.2⟩) (x_preV (avs := [.int x1, .ref (δ.2.1 3 i2)]) hK hO hD hP 7 i0 h0 (cellT c0) (by rw [e]; rfl)) rfl hn hsize hst (lv_room hW) hd hf
  · exact va_runU (C := RX15) (owner := "SeenByOne$Thing") (As := [.int x1, .ref (δ.2.1 3 i2)]) (rest := rest) S (xt_T_looking h0 c0 h2 (hwp.2.2.2.2.1 e) H.size) (va_cwO 2 S.2.2.2.2 (lw_O hlk q1274 q1272 q1285 q1272 q97 q1294) rfl rfl rfl q1294 (by decide +kernel) ⟨Nat.le_trans (Nat.le_of_ble_eq_true rfl) hR.1, Nat.le_trans (Nat.le_of_ble_eq_true rfl) hR.2⟩) (x_preV (avs := [.int x1, .ref (δ.2.1 3 i2)]) hK hO hD hP 7 i0 h0 (cellT c0) (by rw [e]; rfl)) rfl hn hsize hst (lv_room hW) hd hf
  · exact va_runU (C := RX16) (owner := "SeenByOne$Thing") (As := [.int x1, .ref (δ.2.1 3 i2)]) (rest := rest) S (xt_T_looking h0 c0 h2 (hwp.2.2.2.2.2.1 e) H.size) (va_cwO 2 S.2.2.2.2 (lw_O hlk q1274 q1272 q1275 q1272 q97 q1294) rfl rfl rfl q1294 (by decide +kernel) ⟨Nat.le_trans (Nat.le_of_ble_eq_true rfl) hR.1, Nat.le_trans (Nat.le_of_ble_eq_true rfl) hR.2⟩) (x_preV (avs := [.int x1, .ref (δ.2.1 3 i2)]) hK hO hD hP 7 i0 h0 (cellT c0) (by rw [e]; rfl)) rfl hn hsize hst (lv_room hW) hd hf
  · exact va_runU (C := RX17) (owner := "SeenByOne$Thing") (As := [.int x1, .ref (δ.2.1 3 i2)]) (rest := rest) S (xt_Fi_looking h0 c0 h2 (hwp.2.2.2.2.2.2 e) H.size) (va_cwO 2 S.2.2.2.2 (lw_O hlk q1274 q1272 q1276 q1277 q103 q1278) rfl rfl rfl q1294 (by decide +kernel) ⟨Nat.le_trans (Nat.le_of_ble_eq_true rfl) hR.1, Nat.le_trans (Nat.le_of_ble_eq_true rfl) hR.2⟩) (x_preV (avs := [.int x1, .ref (δ.2.1 3 i2)]) hK hO hD hP 7 i0 h0 (cellT c0) (by rw [e]; rfl)) rfl hn hsize hst (lv_room hW) hd hf
/-! T_hiding -/
def xw_T_hiding (δ : XSh) (K : Int32 → XSt → Prop) (i0 : Nat) (i2 : Nat) (x1 : Int32) (σ : XSt) : Prop :=
  xw_Tr_runs δ (fun σ1 => xv_T_looking δ (fun r2 σ3 => xv_T_standing δ (fun r4 σ5 => K (r2 ^^^ r4) σ5) i0 i2 (x1 - (σ3.1 7 i0 3)) σ3) i0 i2 x1 σ1) i2 12 σ
set_option maxHeartbeats 4000000 in
set_option maxRecDepth 100000 in
theorem xt_T_hiding {l : Launch} {Γ : GA} {δ : XSh} {σ : XSt} {K : Int32 → XSt → Prop} {i0 : Nat} {i2 : Nat} (h0 : (7, i0) ∈ δ.1) (c0 : δ.2.2.1 i0 < 12) (h2 : (3, i2) ∈ δ.1) {x1 : Int32} (hwp : xw_T_hiding δ K i0 i2 x1 σ) : xI l yX11_hiding cX11_hiding 4 (some .int) ({ frames := 7, cells := 0, slots := 0, locals := 153 } : Room) 0 0 Γ δ [.ref i0, .int x1, .ref (δ.2.1 3 i2)] σ (fun r u => K r u.2 ∧ u.1 = δ) := by
  intro sz
  refine x_of (by decide) [(0, .ref i0), (1, .int x1), (2, .ref (δ.2.1 3 i2))] (fun _ h => h) (Nat.le_of_ble_eq_true rfl) ?_
  intro p e s m args below meth c hsz X H locs ls hP hO hD hS hl
  subst hsz
  obtain ⟨hx, hb, hml, hown, hts, hK, hr, hlk⟩ := id X
  have hA : ∀ q, s.heap.size ≤ q → AX δ s.heap.size q := fun q h => Or.inr h
  unfold xw_T_hiding at hwp
  refine lv_aload_n hx hb dX11_hiding_0 rfl (lv_at hl 2 rfl) ?_
  refine lv_bipush (v := 12) hx hb dX11_hiding_1 (by decide) ?_
  refine x_gov (va_runV (As := [.int 12]) (rest := []) ⟨hx, hb, hml, hown, hts⟩ (xt_Tr_runs h2 hwp H.size) (cwV 1 hts (lw_V q1270 q1250 q1251 q76 q1252) rfl rfl rfl (by decide +kernel) ⟨Nat.le_of_ble_eq_true rfl, Nat.le_of_ble_eq_true rfl⟩) (x_preV hK hO hD hP 3 i2 h2 rfl rfl) rfl rfl hl.1 rfl (lv_room (Nat.le_of_ble_eq_true rfl)) dX11_hiding_3 ⟨Nat.le_of_ble_eq_true rfl, Nat.le_of_ble_eq_true rfl⟩) hD hA hS (fun u H locs hk hP hO hD hS => ?_)
  obtain ⟨u1, σ1⟩ := u
  obtain ⟨hwp, eu⟩ := hk
  have eu : δ = u1 := eu.symm
  subst eu
  dsimp only at hP hO hD hwp
  refine lv_aload_n hx hb dX11_hiding_6 rfl (lv_at hl 0 rfl) ?_
  refine lv_iload_n hx hb dX11_hiding_7 rfl (lv_at hl 1 rfl) ?_
  refine lv_aload_n hx hb dX11_hiding_8 rfl (lv_at hl 2 rfl) ?_
  refine x_goi (xr_T_looking (As := [.int x1, .ref (δ.2.1 3 i2)]) (rest := []) ⟨hx, hb, hml, hown, hts⟩ hK hD hO hP h0 c0 h2 hwp q1316 ⟨Nat.le_of_ble_eq_true rfl, Nat.le_of_ble_eq_true rfl⟩ rfl hl.1 rfl (Nat.le_of_ble_eq_true rfl) dX11_hiding_9 ⟨Nat.le_of_ble_eq_true rfl, Nat.le_of_ble_eq_true rfl⟩) hD hA hS (fun r2 u H locs hk hP hO hD hS => ?_)
  obtain ⟨u1, σ3⟩ := u
  obtain ⟨hwp, eu⟩ := hk
  have eu : δ = u1 := eu.symm
  subst eu
  dsimp only at hP hO hD hwp
  refine lv_istore_n (lv' := [(3, .int r2), (0, .ref i0), (1, .int x1), (2, .ref (δ.2.1 3 i2))]) hx hb dX11_hiding_12 rfl hl (by decide) rfl (fun ls hl => ?_)
  refine lv_iload_n hx hb dX11_hiding_13 rfl (lv_at hl 0 rfl) ?_
  refine lv_aload_n hx hb dX11_hiding_14 rfl (lv_at hl 1 rfl) ?_
  refine lv_iload_n hx hb dX11_hiding_15 rfl (lv_at hl 2 rfl) ?_
  refine lv_aload_n hx hb dX11_hiding_16 rfl (lv_at hl 1 rfl) ?_
  refine x_getT hx hb hts hown hK hO hP i0 h0 c0 3 (by decide) q733 (fun _ h9 => h9) dX11_hiding_17 ?_
  refine lv_isub hx hb dX11_hiding_20 ?_
  refine lv_aload_n hx hb dX11_hiding_21 rfl (lv_at hl 3 rfl) ?_
  refine x_goi (xr_T_standing (As := [.int (x1 - (σ3.1 7 i0 3)), .ref (δ.2.1 3 i2)]) (rest := [.int r2]) ⟨hx, hb, hml, hown, hts⟩ hK hD hO hP h0 c0 h2 hwp q1295 ⟨Nat.le_of_ble_eq_true rfl, Nat.le_of_ble_eq_true rfl⟩ rfl hl.1 rfl (Nat.le_of_ble_eq_true rfl) dX11_hiding_22 ⟨Nat.le_of_ble_eq_true rfl, Nat.le_of_ble_eq_true rfl⟩) hD hA hS (fun r4 u H locs hk hP hO hD hS => ?_)
  obtain ⟨u1, σ5⟩ := u
  obtain ⟨hwp, eu⟩ := hk
  have eu : δ = u1 := eu.symm
  subst eu
  dsimp only at hP hO hD hwp
  refine lv_ixor hx hb dX11_hiding_25 ?_
  exact x_iret hx hb hr hlk hP hO hD hS ⟨hwp, rfl⟩ dX11_hiding_26
/-! Sy_hiding -/
def xw_Sy_hiding (δ : XSh) (K : Int32 → XSt → Prop) (i0 : Nat) (i2 : Nat) (x1 : Int32) (σ : XSt) : Prop :=
  xw_Tr_runs δ (fun σ1 => xw_T_hiding δ (fun r2 σ3 => K (-r2) σ3) i0 i2 x1 σ1) i2 50 σ
set_option maxHeartbeats 4000000 in
set_option maxRecDepth 100000 in
theorem xt_Sy_hiding {l : Launch} {Γ : GA} {δ : XSh} {σ : XSt} {K : Int32 → XSt → Prop} {i0 : Nat} {i2 : Nat} (h0 : (7, i0) ∈ δ.1) (c0 : δ.2.2.1 i0 < 12) (h2 : (3, i2) ∈ δ.1) {x1 : Int32} (hwp : xw_Sy_hiding δ K i0 i2 x1 σ) : xI l yX15_hiding cX15_hiding 3 (some .int) ({ frames := 8, cells := 0, slots := 0, locals := 176 } : Room) 0 0 Γ δ [.ref i0, .int x1, .ref (δ.2.1 3 i2)] σ (fun r u => K r u.2 ∧ u.1 = δ) := by
  intro sz
  refine x_of (by decide) [(0, .ref i0), (1, .int x1), (2, .ref (δ.2.1 3 i2))] (fun _ h => h) (Nat.le_of_ble_eq_true rfl) ?_
  intro p e s m args below meth c hsz X H locs ls hP hO hD hS hl
  subst hsz
  obtain ⟨hx, hb, hml, hown, hts, hK, hr, hlk⟩ := id X
  have hA : ∀ q, s.heap.size ≤ q → AX δ s.heap.size q := fun q h => Or.inr h
  unfold xw_Sy_hiding at hwp
  refine lv_aload_n hx hb dX15_hiding_0 rfl (lv_at hl 2 rfl) ?_
  refine lv_bipush (v := 50) hx hb dX15_hiding_1 (by decide) ?_
  refine x_gov (va_runV (As := [.int 50]) (rest := []) ⟨hx, hb, hml, hown, hts⟩ (xt_Tr_runs h2 hwp H.size) (cwV 1 hts (lw_V q1265 q1250 q1251 q76 q1252) rfl rfl rfl (by decide +kernel) ⟨Nat.le_of_ble_eq_true rfl, Nat.le_of_ble_eq_true rfl⟩) (x_preV hK hO hD hP 3 i2 h2 rfl rfl) rfl rfl hl.1 rfl (lv_room (Nat.le_of_ble_eq_true rfl)) dX15_hiding_3 ⟨Nat.le_of_ble_eq_true rfl, Nat.le_of_ble_eq_true rfl⟩) hD hA hS (fun u H locs hk hP hO hD hS => ?_)
  obtain ⟨u1, σ1⟩ := u
  obtain ⟨hwp, eu⟩ := hk
  have eu : δ = u1 := eu.symm
  subst eu
  dsimp only at hP hO hD hwp
  refine lv_aload_n hx hb dX15_hiding_6 rfl (lv_at hl 0 rfl) ?_
  refine lv_iload_n hx hb dX15_hiding_7 rfl (lv_at hl 1 rfl) ?_
  refine lv_aload_n hx hb dX15_hiding_8 rfl (lv_at hl 2 rfl) ?_
  refine x_goi (vz_runSU (n := 2) (C := (clA.getD (δ.2.2.1 i0) (RX11, TX11, 4)).1) (owner := "SeenByOne$Thing") (x := ⟨"SeenByOne$House", "hiding", "(ILSeenByOne$Trace;)I"⟩) (As := [.int x1, .ref (δ.2.1 3 i2)]) (rest := []) rfl ⟨hx, hb, hml, hown, hts⟩ (xt_T_hiding h0 c0 h2 hwp H.size) q1312 q1305 q674 (Or.inr q675) q1297 q97 q1315 rfl rfl (by decide) (by decide +kernel) ⟨Nat.le_of_ble_eq_true rfl, Nat.le_of_ble_eq_true rfl⟩ (x_preT hK hO hD hP i0 h0 c0) rfl rfl hl.1 rfl (lv_room (Nat.le_of_ble_eq_true rfl)) dX15_hiding_9 ⟨Nat.le_of_ble_eq_true rfl, Nat.le_of_ble_eq_true rfl⟩) hD hA hS (fun r2 u H locs hk hP hO hD hS => ?_)
  obtain ⟨u1, σ3⟩ := u
  obtain ⟨hwp, eu⟩ := hk
  have eu : δ = u1 := eu.symm
  subst eu
  dsimp only at hP hO hD hwp
  refine lv_ineg hx hb dX15_hiding_12 ?_
  exact x_iret hx hb hr hlk hP hO hD hS ⟨hwp, rfl⟩ dX15_hiding_13
/-! Bl_hiding -/
def xw_Bl_hiding (δ : XSh) (K : Int32 → XSt → Prop) (i0 : Nat) (i2 : Nat) (x1 : Int32) (σ : XSt) : Prop :=
  xw_Tr_runs δ (fun σ1 => xw_T_hiding δ (fun r2 σ3 => K (r2 ^^^ 5) σ3) i0 i2 x1 σ1) i2 60 σ
set_option maxHeartbeats 4000000 in
set_option maxRecDepth 100000 in
theorem xt_Bl_hiding {l : Launch} {Γ : GA} {δ : XSh} {σ : XSt} {K : Int32 → XSt → Prop} {i0 : Nat} {i2 : Nat} (h0 : (7, i0) ∈ δ.1) (c0 : δ.2.2.1 i0 < 12) (h2 : (3, i2) ∈ δ.1) {x1 : Int32} (hwp : xw_Bl_hiding δ K i0 i2 x1 σ) : xI l yX16_hiding cX16_hiding 3 (some .int) ({ frames := 8, cells := 0, slots := 0, locals := 176 } : Room) 0 0 Γ δ [.ref i0, .int x1, .ref (δ.2.1 3 i2)] σ (fun r u => K r u.2 ∧ u.1 = δ) := by
  intro sz
  refine x_of (by decide) [(0, .ref i0), (1, .int x1), (2, .ref (δ.2.1 3 i2))] (fun _ h => h) (Nat.le_of_ble_eq_true rfl) ?_
  intro p e s m args below meth c hsz X H locs ls hP hO hD hS hl
  subst hsz
  obtain ⟨hx, hb, hml, hown, hts, hK, hr, hlk⟩ := id X
  have hA : ∀ q, s.heap.size ≤ q → AX δ s.heap.size q := fun q h => Or.inr h
  unfold xw_Bl_hiding at hwp
  refine lv_aload_n hx hb dX16_hiding_0 rfl (lv_at hl 2 rfl) ?_
  refine lv_bipush (v := 60) hx hb dX16_hiding_1 (by decide) ?_
  refine x_gov (va_runV (As := [.int 60]) (rest := []) ⟨hx, hb, hml, hown, hts⟩ (xt_Tr_runs h2 hwp H.size) (cwV 1 hts (lw_V q1303 q1250 q1251 q76 q1252) rfl rfl rfl (by decide +kernel) ⟨Nat.le_of_ble_eq_true rfl, Nat.le_of_ble_eq_true rfl⟩) (x_preV hK hO hD hP 3 i2 h2 rfl rfl) rfl rfl hl.1 rfl (lv_room (Nat.le_of_ble_eq_true rfl)) dX16_hiding_3 ⟨Nat.le_of_ble_eq_true rfl, Nat.le_of_ble_eq_true rfl⟩) hD hA hS (fun u H locs hk hP hO hD hS => ?_)
  obtain ⟨u1, σ1⟩ := u
  obtain ⟨hwp, eu⟩ := hk
  have eu : δ = u1 := eu.symm
  subst eu
  dsimp only at hP hO hD hwp
  refine lv_aload_n hx hb dX16_hiding_6 rfl (lv_at hl 0 rfl) ?_
  refine lv_iload_n hx hb dX16_hiding_7 rfl (lv_at hl 1 rfl) ?_
  refine lv_aload_n hx hb dX16_hiding_8 rfl (lv_at hl 2 rfl) ?_
  refine x_goi (vz_runSU (n := 2) (C := (clA.getD (δ.2.2.1 i0) (RX11, TX11, 4)).1) (owner := "SeenByOne$Thing") (x := ⟨"SeenByOne$House", "hiding", "(ILSeenByOne$Trace;)I"⟩) (As := [.int x1, .ref (δ.2.1 3 i2)]) (rest := []) rfl ⟨hx, hb, hml, hown, hts⟩ (xt_T_hiding h0 c0 h2 hwp H.size) q1304 q1305 q792 (Or.inr q675) q1297 q97 q1315 rfl rfl (by decide) (by decide +kernel) ⟨Nat.le_of_ble_eq_true rfl, Nat.le_of_ble_eq_true rfl⟩ (x_preT hK hO hD hP i0 h0 c0) rfl rfl hl.1 rfl (lv_room (Nat.le_of_ble_eq_true rfl)) dX16_hiding_9 ⟨Nat.le_of_ble_eq_true rfl, Nat.le_of_ble_eq_true rfl⟩) hD hA hS (fun r2 u H locs hk hP hO hD hS => ?_)
  obtain ⟨u1, σ3⟩ := u
  obtain ⟨hwp, eu⟩ := hk
  have eu : δ = u1 := eu.symm
  subst eu
  dsimp only at hP hO hD hwp
  refine lv_iconst (v := 5) hx hb dX16_hiding_12 (by decide) ?_
  refine lv_ixor hx hb dX16_hiding_13 ?_
  exact x_iret hx hb hr hlk hP hO hD hS ⟨hwp, rfl⟩ dX16_hiding_14
def xv_T_hiding (δ : XSh) (K : Int32 → XSt → Prop) (i0 : Nat) (i2 : Nat) (x1 : Int32) (σ : XSt) : Prop :=
  (δ.2.2.1 i0 = 5 → xw_T_hiding δ K i0 i2 x1 σ) ∧ (δ.2.2.1 i0 = 6 → xw_T_hiding δ K i0 i2 x1 σ) ∧ (δ.2.2.1 i0 = 7 → xw_T_hiding δ K i0 i2 x1 σ) ∧ (δ.2.2.1 i0 = 8 → xw_T_hiding δ K i0 i2 x1 σ) ∧ (δ.2.2.1 i0 = 9 → xw_Sy_hiding δ K i0 i2 x1 σ) ∧ (δ.2.2.1 i0 = 10 → xw_Bl_hiding δ K i0 i2 x1 σ) ∧ (δ.2.2.1 i0 = 11 → xw_T_hiding δ K i0 i2 x1 σ)
set_option maxHeartbeats 4000000 in
set_option maxRecDepth 100000 in
theorem xr_T_hiding {p : Program} {l : Launch} {e : Env} {R : Room} {s : State} {m : MethodId} {args : Array Value} {below : List Frame} {meth : Method} {c : Code} {H : Heap} {locs : List Loc} {cells slots : Nat} {cc : ByteArray} {pc nL index : Nat} {ls : Array Slot} {As rest st : List Value} {Γ : GA} {δ : XSh} {σ : XSt} {A : Nat → Prop} {own : String} {i0 : Nat} {i2 : Nat} {K : Int32 → XSt → Prop} {x1 : Int32} (S : CallFix p m c cc nL s args lw_all own) (hK : KX Γ s) (hD : gD δ.1 (adX δ) A) (hO : XO δ) (hP : XH Γ δ σ H) (h0 : (7, i0) ∈ δ.1) (c0 : δ.2.2.1 i0 < 12) (h2 : (3, i2) ∈ δ.1) (hwp : xv_T_hiding δ K i0 i2 x1 σ) (hlk : Cond.methodLink own index ⟨"SeenByOne$Thing", "hiding", "(ILSeenByOne$Trace;)I"⟩ ∈ lw_all) (hR : 9 ≤ R.frames ∧ 198 ≤ R.locals) (hAs : As = [.int x1, .ref (δ.2.1 3 i2)]) (hsize : ls.size = nL) (hst : st = As.reverse ++ .ref i0 :: rest) (hW : (rest.map fun v => v.category).sum ≤ 8) (hd : decode cc pc = .ok (.invokevirtual index, 3)) (hf : cells ≤ R.cells ∧ slots ≤ R.slots) : va_Run p l e R s m args below meth c H locs cells slots 0 0 (F0 m pc ls st) rest (va_Qi (fun r u => K r u.2 ∧ u.1 = δ) (xB Γ δ H.size) (AX δ H.size) (.ref i0 :: As).toArray) (AX δ H.size) := by
  subst hAs
  have hn : ([.int x1, .ref (δ.2.1 3 i2)] : List Value).length = 2 := rfl
  rcases cn_cases hO h0 c0 with e | e | e | e | e | e | e
  · exact va_runU (C := RX11) (owner := "SeenByOne$Thing") (As := [.int x1, .ref (δ.2.1 3 i2)]) (rest := rest) S (xt_T_hiding h0 c0 h2 (hwp.1 e) H.size) (va_cwO 2 S.2.2.2.2 (lw_O hlk q1299 q1297 q1298 q1297 q97 q1315) rfl rfl rfl q1315 (by decide +kernel) ⟨Nat.le_trans (Nat.le_of_ble_eq_true rfl) hR.1, Nat.le_trans (Nat.le_of_ble_eq_true rfl) hR.2⟩) (x_preV (avs := [.int x1, .ref (δ.2.1 3 i2)]) hK hO hD hP 7 i0 h0 (cellT c0) (by rw [e]; rfl)) rfl hn hsize hst (lv_room hW) hd hf
  · exact va_runU (C := RX12) (owner := "SeenByOne$Thing") (As := [.int x1, .ref (δ.2.1 3 i2)]) (rest := rest) S (xt_T_hiding h0 c0 h2 (hwp.2.1 e) H.size) (va_cwO 2 S.2.2.2.2 (lw_O hlk q1299 q1297 q1308 q1297 q97 q1315) rfl rfl rfl q1315 (by decide +kernel) ⟨Nat.le_trans (Nat.le_of_ble_eq_true rfl) hR.1, Nat.le_trans (Nat.le_of_ble_eq_true rfl) hR.2⟩) (x_preV (avs := [.int x1, .ref (δ.2.1 3 i2)]) hK hO hD hP 7 i0 h0 (cellT c0) (by rw [e]; rfl)) rfl hn hsize hst (lv_room hW) hd hf
  · exact va_runU (C := RX13) (owner := "SeenByOne$Thing") (As := [.int x1, .ref (δ.2.1 3 i2)]) (rest := rest) S (xt_T_hiding h0 c0 h2 (hwp.2.2.1 e) H.size) (va_cwO 2 S.2.2.2.2 (lw_O hlk q1299 q1297 q1314 q1297 q97 q1315) rfl rfl rfl q1315 (by decide +kernel) ⟨Nat.le_trans (Nat.le_of_ble_eq_true rfl) hR.1, Nat.le_trans (Nat.le_of_ble_eq_true rfl) hR.2⟩) (x_preV (avs := [.int x1, .ref (δ.2.1 3 i2)]) hK hO hD hP 7 i0 h0 (cellT c0) (by rw [e]; rfl)) rfl hn hsize hst (lv_room hW) hd hf
  · exact va_runU (C := RX14) (owner := "SeenByOne$Thing") (As := [.int x1, .ref (δ.2.1 3 i2)]) (rest := rest) S (xt_T_hiding h0 c0 h2 (hwp.2.2.2.1 e) H.size) (va_cwO 2 S.2.2.2.2 (lw_O hlk q1299 q1297 q1313 q1297 q97 q1315) rfl rfl rfl q1315 (by decide +kernel) ⟨Nat.le_trans (Nat.le_of_ble_eq_true rfl) hR.1, Nat.le_trans (Nat.le_of_ble_eq_true rfl) hR.2⟩) (x_preV (avs := [.int x1, .ref (δ.2.1 3 i2)]) hK hO hD hP 7 i0 h0 (cellT c0) (by rw [e]; rfl)) rfl hn hsize hst (lv_room hW) hd hf
  · exact va_runU (C := RX15) (owner := "SeenByOne$Thing") (As := [.int x1, .ref (δ.2.1 3 i2)]) (rest := rest) S (xt_Sy_hiding h0 c0 h2 (hwp.2.2.2.2.1 e) H.size) (va_cwO 2 S.2.2.2.2 (lw_O hlk q1299 q1297 q1309 q1310 q101 q1311) rfl rfl rfl q1315 (by decide +kernel) ⟨Nat.le_trans (Nat.le_of_ble_eq_true rfl) hR.1, Nat.le_trans (Nat.le_of_ble_eq_true rfl) hR.2⟩) (x_preV (avs := [.int x1, .ref (δ.2.1 3 i2)]) hK hO hD hP 7 i0 h0 (cellT c0) (by rw [e]; rfl)) rfl hn hsize hst (lv_room hW) hd hf
  · exact va_runU (C := RX16) (owner := "SeenByOne$Thing") (As := [.int x1, .ref (δ.2.1 3 i2)]) (rest := rest) S (xt_Bl_hiding h0 c0 h2 (hwp.2.2.2.2.2.1 e) H.size) (va_cwO 2 S.2.2.2.2 (lw_O hlk q1299 q1297 q1300 q1301 q102 q1302) rfl rfl rfl q1315 (by decide +kernel) ⟨Nat.le_trans (Nat.le_of_ble_eq_true rfl) hR.1, Nat.le_trans (Nat.le_of_ble_eq_true rfl) hR.2⟩) (x_preV (avs := [.int x1, .ref (δ.2.1 3 i2)]) hK hO hD hP 7 i0 h0 (cellT c0) (by rw [e]; rfl)) rfl hn hsize hst (lv_room hW) hd hf
  · exact va_runU (C := RX17) (owner := "SeenByOne$Thing") (As := [.int x1, .ref (δ.2.1 3 i2)]) (rest := rest) S (xt_T_hiding h0 c0 h2 (hwp.2.2.2.2.2.2 e) H.size) (va_cwO 2 S.2.2.2.2 (lw_O hlk q1299 q1297 q1307 q1297 q97 q1315) rfl rfl rfl q1315 (by decide +kernel) ⟨Nat.le_trans (Nat.le_of_ble_eq_true rfl) hR.1, Nat.le_trans (Nat.le_of_ble_eq_true rfl) hR.2⟩) (x_preV (avs := [.int x1, .ref (δ.2.1 3 i2)]) hK hO hD hP 7 i0 h0 (cellT c0) (by rw [e]; rfl)) rfl hn hsize hst (lv_room hW) hd hf
/-! Bl_sight -/
def xw_Bl_sight (δ : XSh) (σ : XSt) (K : Int32 → Prop) (i0 : Nat) : Prop :=
  K 0
set_option maxHeartbeats 4000000 in
set_option maxRecDepth 100000 in
theorem xt_Bl_sight {l : Launch} {Γ : GA} {δ : XSh} {σ : XSt} {K : Int32 → Prop} {i0 : Nat} (h0 : (7, i0) ∈ δ.1) (c0 : δ.2.2.1 i0 < 12) (hwp : xw_Bl_sight δ σ K i0 ) : xI l yX16_sight cX16_sight 1 (some .int) ({ frames := 0, cells := 0, slots := 0, locals := 0 } : Room) 0 0 Γ δ [.ref i0] σ (fun r u => K r ∧ u = (δ, σ)) := by
  intro sz
  refine x_of (by decide) [(0, .ref i0)] (fun _ h => h) (Nat.le_of_ble_eq_true rfl) ?_
  intro p e s m args below meth c hsz X H locs ls hP hO hD hS hl
  subst hsz
  obtain ⟨hx, hb, hml, hown, hts, hK, hr, hlk⟩ := id X
  have hA : ∀ q, s.heap.size ≤ q → AX δ s.heap.size q := fun q h => Or.inr h
  unfold xw_Bl_sight at hwp
  refine lv_iconst (v := 0) hx hb dX16_sight_0 (by decide) ?_
  exact x_iret hx hb hr hlk hP hO hD hS ⟨hwp, rfl⟩ dX16_sight_1
/-! Fi_leaves -/
def xw_Fi_leaves (δ : XSh) (σ : XSt) (K : Int32 → Prop) (i0 : Nat) : Prop :=
  K (σ.1 7 i0 3)
set_option maxHeartbeats 4000000 in
set_option maxRecDepth 100000 in
theorem xt_Fi_leaves {l : Launch} {Γ : GA} {δ : XSh} {σ : XSt} {K : Int32 → Prop} {i0 : Nat} (h0 : (7, i0) ∈ δ.1) (c0 : δ.2.2.1 i0 < 12) (hwp : xw_Fi_leaves δ σ K i0 ) : xI l yX17_leaves cX17_leaves 1 (some .int) ({ frames := 0, cells := 0, slots := 0, locals := 0 } : Room) 0 0 Γ δ [.ref i0] σ (fun r u => K r ∧ u = (δ, σ)) := by
  intro sz
  refine x_of (by decide) [(0, .ref i0)] (fun _ h => h) (Nat.le_of_ble_eq_true rfl) ?_
  intro p e s m args below meth c hsz X H locs ls hP hO hD hS hl
  subst hsz
  obtain ⟨hx, hb, hml, hown, hts, hK, hr, hlk⟩ := id X
  have hA : ∀ q, s.heap.size ≤ q → AX δ s.heap.size q := fun q h => Or.inr h
  unfold xw_Fi_leaves at hwp
  refine lv_aload_n hx hb dX17_leaves_0 rfl (lv_at hl 0 rfl) ?_
  refine x_getT hx hb hts hown hK hO hP i0 h0 c0 3 (by decide) q736 (fun x h9 => u_same (hts _ q737) x h9) dX17_leaves_1 ?_
  exact x_iret hx hb hr hlk hP hO hD hS ⟨hwp, rfl⟩ dX17_leaves_4
