/-! isWordAt -/
def mw_isWordAt_86 (σ : MSt) (K : Int32 → Prop) (x2 : Int32) : Prop :=
  vp_in x2 (lenM 20) ∧ (((32 < (σ.2.1 20 x2.toNatClampNeg)) → (K 0)) ∧ ((¬ (32 < (σ.2.1 20 x2.toNatClampNeg))) → (K 1)))
set_option maxHeartbeats 4000000 in
set_option maxRecDepth 100000 in
theorem mk_isWordAt_86 {p : Program} {l : Launch} {e : Env} {s : State} {m : MethodId} {args : Array Value} {below : List Frame} {meth : Method} {c : Code} {Γ : GA} {α : Nat → Nat} {σ : MSt} {K : Int32 → Prop} (X : CM p s m args meth c cX4_isWordAt 4 (some .boolean) Γ α) : ∀ (x2 : Int32), mw_isWordAt_86 σ K x2 → TM p l e ({ frames := 0, cells := 0, slots := 0, locals := 0 } : Room) s m args below meth c 4 (QI below (fun r u => K r ∧ u = σ) Γ α s args) Γ α σ 86 [(0, .ref (α 50)), (2, .int x2)] [] := by
  obtain ⟨hx, hb, hml, hown, hts, hK, hD, hr, hlk⟩ := id X
  have hA : ∀ q, s.heap.size ≤ q → AM α s.heap.size q := fun q h => Or.inr h
  intro x2 hwp H locs ls hP hS hl
  unfold mw_isWordAt_86 at hwp
  refine lv_aload_n hx hb dX4_isWordAt_86 rfl (lv_at hl 0 rfl) ?_
  refine m_geta hx hb hts hown hK hP 20 (by decide) rfl q1366 rfl dX4_isWordAt_87 ?_
  refine lv_iload_n hx hb dX4_isWordAt_90 rfl (lv_at hl 1 rfl) ?_
  obtain ⟨hi1, hwp⟩ := hwp
  refine m_iald hx hb hK hP 20 rfl hi1 dX4_isWordAt_91 ?_
  refine lv_bipush (v := 32) hx hb dX4_isWordAt_92 (by decide) ?_
  refine lv_icmp_gt (tgt := 101) hx hb dX4_isWordAt_94 (by decide) (fun c2 => ?_) (fun c2 => ?_)
  · replace hwp := hwp.1 c2
    refine lv_iconst (v := 0) hx hb dX4_isWordAt_101 (by decide) ?_
    exact m_zret (v := 0) hx hb hr hlk hK hP hS (Or.inl rfl) ⟨hwp, rfl⟩ dX4_isWordAt_102
  · replace hwp := hwp.2 c2
    refine lv_iconst (v := 1) hx hb dX4_isWordAt_97 (by decide) ?_
    refine lv_goto (tgt := 102) hx hb dX4_isWordAt_98 (by decide) ?_
    exact m_zret (v := 1) hx hb hr hlk hK hP hS (Or.inr rfl) ⟨hwp, rfl⟩ dX4_isWordAt_102
def mw_isWordAt_37_b (σ : MSt) (K : Int32 → Prop) (L37 : Int32 → Int32 → Prop) (x2 : Int32) (x3 : Int32) : Prop :=
  vp_in x2 (lenM 20) ∧ ((((σ.2.1 20 x2.toNatClampNeg) ≤ 32) → (mw_isWordAt_86 σ K x2)) ∧ ((¬ ((σ.2.1 20 x2.toNatClampNeg) ≤ 32)) → ((((σ.1 24) ≤ x3) → (mw_isWordAt_86 σ K x2)) ∧ ((¬ ((σ.1 24) ≤ x3)) → (vp_in ((σ.1 22) + x3) (lenM 18) ∧ (vp_in x2 (lenM 20) ∧ (((¬ (((σ.2.2 18 ((σ.1 22) + x3).toNatClampNeg).toInt32) = (σ.2.1 20 x2.toNatClampNeg))) → (mw_isWordAt_86 σ K x2)) ∧ ((((σ.2.2 18 ((σ.1 22) + x3).toNatClampNeg).toInt32) = (σ.2.1 20 x2.toNatClampNeg)) → (L37 (x2 + 1) (x3 + 1))))))))))
def mw_isWordAt_37 (σ : MSt) (K : Int32 → Prop) : Nat → Int32 → Int32 → Prop
  | 0 => fun _ _ => False
  | n + 1 => fun x2 x3 => mw_isWordAt_37_b σ K (mw_isWordAt_37 σ K n) x2 x3
set_option maxHeartbeats 4000000 in
set_option maxRecDepth 100000 in
theorem mk_isWordAt_37_b {p : Program} {l : Launch} {e : Env} {s : State} {m : MethodId} {args : Array Value} {below : List Frame} {meth : Method} {c : Code} {Γ : GA} {α : Nat → Nat} {σ : MSt} {K : Int32 → Prop} (X : CM p s m args meth c cX4_isWordAt 4 (some .boolean) Γ α) {L37 : Int32 → Int32 → Prop} (hL37 : ∀ (x2 : Int32) (x3 : Int32), L37 x2 x3 → TM p l e ({ frames := 0, cells := 0, slots := 0, locals := 0 } : Room) s m args below meth c 4 (QI below (fun r u => K r ∧ u = σ) Γ α s args) Γ α σ 37 [(0, .ref (α 50)), (2, .int x2), (3, .int x3)] []) : ∀ (x2 : Int32) (x3 : Int32), mw_isWordAt_37_b σ K L37 x2 x3 → TM p l e ({ frames := 0, cells := 0, slots := 0, locals := 0 } : Room) s m args below meth c 4 (QI below (fun r u => K r ∧ u = σ) Γ α s args) Γ α σ 37 [(0, .ref (α 50)), (2, .int x2), (3, .int x3)] [] := by
  obtain ⟨hx, hb, hml, hown, hts, hK, hD, hr, hlk⟩ := id X
  have hA : ∀ q, s.heap.size ≤ q → AM α s.heap.size q := fun q h => Or.inr h
  intro x2 x3 hwp H locs ls hP hS hl
  unfold mw_isWordAt_37_b at hwp
  refine lv_aload_n hx hb dX4_isWordAt_37 rfl (lv_at hl 0 rfl) ?_
  refine m_geta hx hb hts hown hK hP 20 (by decide) rfl q1366 rfl dX4_isWordAt_38 ?_
  refine lv_iload_n hx hb dX4_isWordAt_41 rfl (lv_at hl 1 rfl) ?_
  obtain ⟨hi1, hwp⟩ := hwp
  refine m_iald hx hb hK hP 20 rfl hi1 dX4_isWordAt_42 ?_
  refine lv_bipush (v := 32) hx hb dX4_isWordAt_43 (by decide) ?_
  refine lv_icmp_le (tgt := 86) hx hb dX4_isWordAt_45 (by decide) (fun c2 => ?_) (fun c2 => ?_)
  · replace hwp := hwp.1 c2
    exact mk_isWordAt_86 X _ hwp H locs ls hP hS (lv_sub hl [0, 1] rfl)
  · replace hwp := hwp.2 c2
    refine lv_iload_n hx hb dX4_isWordAt_48 rfl (lv_at hl 2 rfl) ?_
    refine lv_aload_n hx hb dX4_isWordAt_49 rfl (lv_at hl 0 rfl) ?_
    refine m_geti hx hb hts hown hK hP 24 (by decide) rfl q1370 rfl dX4_isWordAt_50 ?_
    refine lv_icmp_ge (tgt := 86) hx hb dX4_isWordAt_53 (by decide) (fun c3 => ?_) (fun c3 => ?_)
    · replace hwp := hwp.1 c3
      exact mk_isWordAt_86 X _ hwp H locs ls hP hS (lv_sub hl [0, 1] rfl)
    · replace hwp := hwp.2 c3
      refine lv_aload_n hx hb dX4_isWordAt_56 rfl (lv_at hl 0 rfl) ?_
      refine m_geta hx hb hts hown hK hP 18 (by decide) rfl q1364 rfl dX4_isWordAt_57 ?_
      refine lv_aload_n hx hb dX4_isWordAt_60 rfl (lv_at hl 0 rfl) ?_
      refine m_geti hx hb hts hown hK hP 22 (by decide) rfl q1368 rfl dX4_isWordAt_61 ?_
      refine lv_iload_n hx hb dX4_isWordAt_64 rfl (lv_at hl 2 rfl) ?_
      refine lv_iadd hx hb dX4_isWordAt_65 ?_
      obtain ⟨hi4, hwp⟩ := hwp
      refine m_lald hx hb hK hP 18 (Or.inl rfl) hi4 dX4_isWordAt_66 ?_
      refine lv_l2i (v := (σ.2.2 18 ((σ.1 22) + x3).toNatClampNeg).toInt32) hx hb dX4_isWordAt_67 rfl ?_
      refine lv_aload_n hx hb dX4_isWordAt_68 rfl (lv_at hl 0 rfl) ?_
      refine m_geta hx hb hts hown hK hP 20 (by decide) rfl q1366 rfl dX4_isWordAt_69 ?_
      refine lv_iload_n hx hb dX4_isWordAt_72 rfl (lv_at hl 1 rfl) ?_
      obtain ⟨hi5, hwp⟩ := hwp
      refine m_iald hx hb hK hP 20 rfl hi5 dX4_isWordAt_73 ?_
      refine lv_icmp_ne (tgt := 86) hx hb dX4_isWordAt_74 (by decide) (fun c6 => ?_) (fun c6 => ?_)
      · replace hwp := hwp.1 c6
        exact mk_isWordAt_86 X _ hwp H locs ls hP hS (lv_sub hl [0, 1] rfl)
      · replace hwp := hwp.2 c6
        refine lv_iinc (v := x3 + 1) (lv' := [(3, .int (x3 + 1)), (0, .ref (α 50)), (2, .int x2)]) hx hb dX4_isWordAt_77 hl (k := 2) rfl rfl (by decide) rfl (fun ls hl => ?_)
        refine lv_iinc (v := x2 + 1) (lv' := [(2, .int (x2 + 1)), (3, .int (x3 + 1)), (0, .ref (α 50))]) hx hb dX4_isWordAt_80 hl (k := 2) rfl rfl (by decide) rfl (fun ls hl => ?_)
        refine lv_goto (tgt := 37) hx hb dX4_isWordAt_83 (by decide) ?_
        exact hL37 _ _ hwp H locs ls hP hS (lv_sub hl [2, 0, 1] rfl)
set_option maxHeartbeats 4000000 in
set_option maxRecDepth 100000 in
theorem mk_isWordAt_37 {p : Program} {l : Launch} {e : Env} {s : State} {m : MethodId} {args : Array Value} {below : List Frame} {meth : Method} {c : Code} {Γ : GA} {α : Nat → Nat} {σ : MSt} {K : Int32 → Prop} (X : CM p s m args meth c cX4_isWordAt 4 (some .boolean) Γ α) : ∀ n (x2 : Int32) (x3 : Int32), mw_isWordAt_37 σ K n x2 x3 → TM p l e ({ frames := 0, cells := 0, slots := 0, locals := 0 } : Room) s m args below meth c 4 (QI below (fun r u => K r ∧ u = σ) Γ α s args) Γ α σ 37 [(0, .ref (α 50)), (2, .int x2), (3, .int x3)] [] := by
  intro n
  induction n with
  | zero => intro _ _ hwp; exact hwp.elim
  | succ n ih => intro x2 x3 hwp; exact mk_isWordAt_37_b X ih x2 x3 hwp
def mw_isWordAt_4_b (σ : MSt) (K : Int32 → Prop) (L4 : Int32 → Int32 → Int32 → Prop) (x1 : Int32) (x2 : Int32) (x3 : Int32) : Prop :=
  ((x1 ≤ x3) → (∃ n, mw_isWordAt_37 σ K n x2 (σ.1 23))) ∧ ((¬ (x1 ≤ x3)) → (vp_in x2 (lenM 20) ∧ (((¬ ((σ.2.1 20 x2.toNatClampNeg) = 0)) → (L4 x1 (x2 + 1) (x3 + 0))) ∧ (((σ.2.1 20 x2.toNatClampNeg) = 0) → (L4 x1 (x2 + 1) (x3 + 1))))))
def mw_isWordAt_4 (σ : MSt) (K : Int32 → Prop) : Nat → Int32 → Int32 → Int32 → Prop
  | 0 => fun _ _ _ => False
  | n + 1 => fun x1 x2 x3 => mw_isWordAt_4_b σ K (mw_isWordAt_4 σ K n) x1 x2 x3
set_option maxHeartbeats 4000000 in
set_option maxRecDepth 100000 in
theorem mk_isWordAt_4_b {p : Program} {l : Launch} {e : Env} {s : State} {m : MethodId} {args : Array Value} {below : List Frame} {meth : Method} {c : Code} {Γ : GA} {α : Nat → Nat} {σ : MSt} {K : Int32 → Prop} (X : CM p s m args meth c cX4_isWordAt 4 (some .boolean) Γ α) {L4 : Int32 → Int32 → Int32 → Prop} (hL4 : ∀ (x1 : Int32) (x2 : Int32) (x3 : Int32), L4 x1 x2 x3 → TM p l e ({ frames := 0, cells := 0, slots := 0, locals := 0 } : Room) s m args below meth c 4 (QI below (fun r u => K r ∧ u = σ) Γ α s args) Γ α σ 4 [(0, .ref (α 50)), (1, .int x1), (2, .int x2), (3, .int x3)] []) : ∀ (x1 : Int32) (x2 : Int32) (x3 : Int32), mw_isWordAt_4_b σ K L4 x1 x2 x3 → TM p l e ({ frames := 0, cells := 0, slots := 0, locals := 0 } : Room) s m args below meth c 4 (QI below (fun r u => K r ∧ u = σ) Γ α s args) Γ α σ 4 [(0, .ref (α 50)), (1, .int x1), (2, .int x2), (3, .int x3)] [] := by
  obtain ⟨hx, hb, hml, hown, hts, hK, hD, hr, hlk⟩ := id X
  have hA : ∀ q, s.heap.size ≤ q → AM α s.heap.size q := fun q h => Or.inr h
  intro x1 x2 x3 hwp H locs ls hP hS hl
  unfold mw_isWordAt_4_b at hwp
  refine lv_iload_n hx hb dX4_isWordAt_4 rfl (lv_at hl 3 rfl) ?_
  refine lv_iload_n hx hb dX4_isWordAt_5 rfl (lv_at hl 1 rfl) ?_
  refine lv_icmp_ge (tgt := 32) hx hb dX4_isWordAt_6 (by decide) (fun c1 => ?_) (fun c1 => ?_)
  · replace hwp := hwp.1 c1
    refine lv_aload_n hx hb dX4_isWordAt_32 rfl (lv_at hl 0 rfl) ?_
    refine m_geti hx hb hts hown hK hP 23 (by decide) rfl q1369 rfl dX4_isWordAt_33 ?_
    refine lv_istore_n (lv' := [(3, .int (σ.1 23)), (0, .ref (α 50)), (1, .int x1), (2, .int x2)]) hx hb dX4_isWordAt_36 rfl hl (by decide) rfl (fun ls hl => ?_)
    obtain ⟨n, hwp⟩ := hwp
    exact mk_isWordAt_37 X n _ _ hwp H locs ls hP hS (lv_sub hl [1, 3, 0] rfl)
  · replace hwp := hwp.2 c1
    refine lv_iload_n hx hb dX4_isWordAt_9 rfl (lv_at hl 3 rfl) ?_
    refine lv_aload_n hx hb dX4_isWordAt_10 rfl (lv_at hl 0 rfl) ?_
    refine m_geta hx hb hts hown hK hP 20 (by decide) rfl q1366 rfl dX4_isWordAt_11 ?_
    refine lv_iload_n hx hb dX4_isWordAt_14 rfl (lv_at hl 2 rfl) ?_
    obtain ⟨hi2, hwp⟩ := hwp
    refine m_iald hx hb hK hP 20 rfl hi2 dX4_isWordAt_15 ?_
    refine lv_if_ne (tgt := 23) hx hb dX4_isWordAt_16 (by decide) (fun c3 => ?_) (fun c3 => ?_)
    · replace hwp := hwp.1 c3
      refine lv_iconst (v := 0) hx hb dX4_isWordAt_23 (by decide) ?_
      refine lv_iadd hx hb dX4_isWordAt_24 ?_
      refine lv_istore_n (lv' := [(3, .int (x3 + 0)), (0, .ref (α 50)), (1, .int x1), (2, .int x2)]) hx hb dX4_isWordAt_25 rfl hl (by decide) rfl (fun ls hl => ?_)
      refine lv_iinc (v := x2 + 1) (lv' := [(2, .int (x2 + 1)), (3, .int (x3 + 0)), (0, .ref (α 50)), (1, .int x1)]) hx hb dX4_isWordAt_26 hl (k := 3) rfl rfl (by decide) rfl (fun ls hl => ?_)
      refine lv_goto (tgt := 4) hx hb dX4_isWordAt_29 (by decide) ?_
      exact hL4 _ _ _ hwp H locs ls hP hS (lv_sub hl [2, 3, 0, 1] rfl)
    · replace hwp := hwp.2 c3
      refine lv_iconst (v := 1) hx hb dX4_isWordAt_19 (by decide) ?_
      refine lv_goto (tgt := 24) hx hb dX4_isWordAt_20 (by decide) ?_
      refine lv_iadd hx hb dX4_isWordAt_24 ?_
      refine lv_istore_n (lv' := [(3, .int (x3 + 1)), (0, .ref (α 50)), (1, .int x1), (2, .int x2)]) hx hb dX4_isWordAt_25 rfl hl (by decide) rfl (fun ls hl => ?_)
      refine lv_iinc (v := x2 + 1) (lv' := [(2, .int (x2 + 1)), (3, .int (x3 + 1)), (0, .ref (α 50)), (1, .int x1)]) hx hb dX4_isWordAt_26 hl (k := 3) rfl rfl (by decide) rfl (fun ls hl => ?_)
      refine lv_goto (tgt := 4) hx hb dX4_isWordAt_29 (by decide) ?_
      exact hL4 _ _ _ hwp H locs ls hP hS (lv_sub hl [2, 3, 0, 1] rfl)
set_option maxHeartbeats 4000000 in
set_option maxRecDepth 100000 in
theorem mk_isWordAt_4 {p : Program} {l : Launch} {e : Env} {s : State} {m : MethodId} {args : Array Value} {below : List Frame} {meth : Method} {c : Code} {Γ : GA} {α : Nat → Nat} {σ : MSt} {K : Int32 → Prop} (X : CM p s m args meth c cX4_isWordAt 4 (some .boolean) Γ α) : ∀ n (x1 : Int32) (x2 : Int32) (x3 : Int32), mw_isWordAt_4 σ K n x1 x2 x3 → TM p l e ({ frames := 0, cells := 0, slots := 0, locals := 0 } : Room) s m args below meth c 4 (QI below (fun r u => K r ∧ u = σ) Γ α s args) Γ α σ 4 [(0, .ref (α 50)), (1, .int x1), (2, .int x2), (3, .int x3)] [] := by
  intro n
  induction n with
  | zero => intro _ _ _ hwp; exact hwp.elim
  | succ n ih => intro x1 x2 x3 hwp; exact mk_isWordAt_4_b X ih x1 x2 x3 hwp
def mw_isWordAt (σ : MSt) (K : Int32 → Prop) (x1 : Int32) : Prop :=
  ∃ n, mw_isWordAt_4 σ K n x1 0 0
set_option maxHeartbeats 4000000 in
set_option maxRecDepth 100000 in
theorem mt_isWordAt {l : Launch} {Γ : GA} {α : Nat → Nat} {σ : MSt} {K : Int32 → Prop} {x1 : Int32} (hwp : mw_isWordAt σ K x1) : mI l yX4_isWordAt cX4_isWordAt 4 (some .boolean) ({ frames := 0, cells := 0, slots := 0, locals := 0 } : Room) Γ α [.int x1] σ (fun r u => K r ∧ u = σ) := by
  intro sz
  refine m_of (by decide) rfl [(0, .ref (α 50)), (1, .int x1)] (fun _ h => h) (Nat.le_of_ble_eq_true rfl) ?_
  intro p e s m args below meth c hsz X H locs ls hP hS hl
  subst hsz
  obtain ⟨hx, hb, hml, hown, hts, hK, hD, hr, hlk⟩ := id X
  have hA : ∀ q, s.heap.size ≤ q → AM α s.heap.size q := fun q h => Or.inr h
  unfold mw_isWordAt at hwp
  refine lv_iconst (v := 0) hx hb dX4_isWordAt_0 (by decide) ?_
  refine lv_istore_n (lv' := [(2, .int 0), (0, .ref (α 50)), (1, .int x1)]) hx hb dX4_isWordAt_1 rfl hl (by decide) rfl (fun ls hl => ?_)
  refine lv_iconst (v := 0) hx hb dX4_isWordAt_2 (by decide) ?_
  refine lv_istore_n (lv' := [(3, .int 0), (2, .int 0), (0, .ref (α 50)), (1, .int x1)]) hx hb dX4_isWordAt_3 rfl hl (by decide) rfl (fun ls hl => ?_)
  obtain ⟨n, hwp⟩ := hwp
  exact mk_isWordAt_4 X n _ _ _ hwp H locs ls hP hS (lv_sub hl [2, 3, 1, 0] rfl)
/-! isDigit -/
def mw_isDigit (σ : MSt) (K : Int32 → Prop) : Prop :=
  (((σ.1 24) ≤ (σ.1 23)) → (K 0)) ∧ ((¬ ((σ.1 24) ≤ (σ.1 23))) → (vp_in ((σ.1 22) + (σ.1 23)) (lenM 18) ∧ (((((σ.2.2 18 ((σ.1 22) + (σ.1 23)).toNatClampNeg).toInt32) < 48) → (K 0)) ∧ ((¬ (((σ.2.2 18 ((σ.1 22) + (σ.1 23)).toNatClampNeg).toInt32) < 48)) → (vp_in ((σ.1 22) + (σ.1 23)) (lenM 18) ∧ (((57 < ((σ.2.2 18 ((σ.1 22) + (σ.1 23)).toNatClampNeg).toInt32)) → (K 0)) ∧ ((¬ (57 < ((σ.2.2 18 ((σ.1 22) + (σ.1 23)).toNatClampNeg).toInt32))) → (K 1))))))))
set_option maxHeartbeats 4000000 in
set_option maxRecDepth 100000 in
theorem mt_isDigit {l : Launch} {Γ : GA} {α : Nat → Nat} {σ : MSt} {K : Int32 → Prop} (hwp : mw_isDigit σ K ) : mI l yX4_isDigit cX4_isDigit 1 (some .boolean) ({ frames := 0, cells := 0, slots := 0, locals := 0 } : Room) Γ α [] σ (fun r u => K r ∧ u = σ) := by
  intro sz
  refine m_of (by decide) rfl [(0, .ref (α 50))] (fun _ h => h) (Nat.le_of_ble_eq_true rfl) ?_
  intro p e s m args below meth c hsz X H locs ls hP hS hl
  subst hsz
  obtain ⟨hx, hb, hml, hown, hts, hK, hD, hr, hlk⟩ := id X
  have hA : ∀ q, s.heap.size ≤ q → AM α s.heap.size q := fun q h => Or.inr h
  unfold mw_isDigit at hwp
  refine lv_aload_n hx hb dX4_isDigit_0 rfl (lv_at hl 0 rfl) ?_
  refine m_geti hx hb hts hown hK hP 23 (by decide) rfl q1369 rfl dX4_isDigit_1 ?_
  refine lv_aload_n hx hb dX4_isDigit_4 rfl (lv_at hl 0 rfl) ?_
  refine m_geti hx hb hts hown hK hP 24 (by decide) rfl q1370 rfl dX4_isDigit_5 ?_
  refine lv_icmp_ge (tgt := 55) hx hb dX4_isDigit_8 (by decide) (fun c1 => ?_) (fun c1 => ?_)
  · replace hwp := hwp.1 c1
    refine lv_iconst (v := 0) hx hb dX4_isDigit_55 (by decide) ?_
    exact m_zret (v := 0) hx hb hr hlk hK hP hS (Or.inl rfl) ⟨hwp, rfl⟩ dX4_isDigit_56
  · replace hwp := hwp.2 c1
    refine lv_aload_n hx hb dX4_isDigit_11 rfl (lv_at hl 0 rfl) ?_
    refine m_geta hx hb hts hown hK hP 18 (by decide) rfl q1364 rfl dX4_isDigit_12 ?_
    refine lv_aload_n hx hb dX4_isDigit_15 rfl (lv_at hl 0 rfl) ?_
    refine m_geti hx hb hts hown hK hP 22 (by decide) rfl q1368 rfl dX4_isDigit_16 ?_
    refine lv_aload_n hx hb dX4_isDigit_19 rfl (lv_at hl 0 rfl) ?_
    refine m_geti hx hb hts hown hK hP 23 (by decide) rfl q1369 rfl dX4_isDigit_20 ?_
    refine lv_iadd hx hb dX4_isDigit_23 ?_
    obtain ⟨hi2, hwp⟩ := hwp
    refine m_lald hx hb hK hP 18 (Or.inl rfl) hi2 dX4_isDigit_24 ?_
    refine lv_l2i (v := (σ.2.2 18 ((σ.1 22) + (σ.1 23)).toNatClampNeg).toInt32) hx hb dX4_isDigit_25 rfl ?_
    refine lv_bipush (v := 48) hx hb dX4_isDigit_26 (by decide) ?_
    refine lv_icmp_lt (tgt := 55) hx hb dX4_isDigit_28 (by decide) (fun c3 => ?_) (fun c3 => ?_)
    · replace hwp := hwp.1 c3
      refine lv_iconst (v := 0) hx hb dX4_isDigit_55 (by decide) ?_
      exact m_zret (v := 0) hx hb hr hlk hK hP hS (Or.inl rfl) ⟨hwp, rfl⟩ dX4_isDigit_56
    · replace hwp := hwp.2 c3
      refine lv_aload_n hx hb dX4_isDigit_31 rfl (lv_at hl 0 rfl) ?_
      refine m_geta hx hb hts hown hK hP 18 (by decide) rfl q1364 rfl dX4_isDigit_32 ?_
      refine lv_aload_n hx hb dX4_isDigit_35 rfl (lv_at hl 0 rfl) ?_
      refine m_geti hx hb hts hown hK hP 22 (by decide) rfl q1368 rfl dX4_isDigit_36 ?_
      refine lv_aload_n hx hb dX4_isDigit_39 rfl (lv_at hl 0 rfl) ?_
      refine m_geti hx hb hts hown hK hP 23 (by decide) rfl q1369 rfl dX4_isDigit_40 ?_
      refine lv_iadd hx hb dX4_isDigit_43 ?_
      obtain ⟨hi4, hwp⟩ := hwp
      refine m_lald hx hb hK hP 18 (Or.inl rfl) hi4 dX4_isDigit_44 ?_
      refine lv_l2i (v := (σ.2.2 18 ((σ.1 22) + (σ.1 23)).toNatClampNeg).toInt32) hx hb dX4_isDigit_45 rfl ?_
      refine lv_bipush (v := 57) hx hb dX4_isDigit_46 (by decide) ?_
      refine lv_icmp_gt (tgt := 55) hx hb dX4_isDigit_48 (by decide) (fun c5 => ?_) (fun c5 => ?_)
      · replace hwp := hwp.1 c5
        refine lv_iconst (v := 0) hx hb dX4_isDigit_55 (by decide) ?_
        exact m_zret (v := 0) hx hb hr hlk hK hP hS (Or.inl rfl) ⟨hwp, rfl⟩ dX4_isDigit_56
      · replace hwp := hwp.2 c5
        refine lv_iconst (v := 1) hx hb dX4_isDigit_51 (by decide) ?_
        refine lv_goto (tgt := 56) hx hb dX4_isDigit_52 (by decide) ?_
        exact m_zret (v := 1) hx hb hr hlk hK hP hS (Or.inr rfl) ⟨hwp, rfl⟩ dX4_isDigit_56
/-! wrong -/
def mw_wrong (K : Int32 → MSt → Prop) (x1 : Int32) (σ : MSt) : Prop :=
  ∀ σ1, σ1 = sF σ 26 x1 → (K 0 σ1)
set_option maxHeartbeats 4000000 in
set_option maxRecDepth 100000 in
theorem mt_wrong {l : Launch} {Γ : GA} {α : Nat → Nat} {σ : MSt} {K : Int32 → MSt → Prop} {x1 : Int32} (hwp : mw_wrong K x1 σ) : mI l yX4_wrong cX4_wrong 2 (some .boolean) ({ frames := 0, cells := 0, slots := 0, locals := 0 } : Room) Γ α [.int x1] σ K := by
  intro sz
  refine m_of (by decide) rfl [(0, .ref (α 50)), (1, .int x1)] (fun _ h => h) (Nat.le_of_ble_eq_true rfl) ?_
  intro p e s m args below meth c hsz X H locs ls hP hS hl
  subst hsz
  obtain ⟨hx, hb, hml, hown, hts, hK, hD, hr, hlk⟩ := id X
  have hA : ∀ q, s.heap.size ≤ q → AM α s.heap.size q := fun q h => Or.inr h
  unfold mw_wrong at hwp
  refine lv_aload_n hx hb dX4_wrong_0 rfl (lv_at hl 0 rfl) ?_
  refine lv_iload_n hx hb dX4_wrong_1 rfl (lv_at hl 1 rfl) ?_
  refine m_put hx hb hts hown hK hD hP hS 26 (by decide) rfl q1372 rfl rfl rfl rfl dX4_wrong_2 (fun H locs hP hS => ?_)
  obtain ⟨σ1, eσ1⟩ : ∃ z, z = sF σ 26 x1 := ⟨_, rfl⟩
  rw [← eσ1] at hP
  replace hwp := hwp σ1 eσ1
  refine lv_iconst (v := 0) hx hb dX4_wrong_5 (by decide) ?_
  exact m_zret (v := 0) hx hb hr hlk hK hP hS (Or.inl rfl) hwp dX4_wrong_6
/-! number -/
def mw_number (K : Int32 → MSt → Prop) (σ : MSt) : Prop :=
  ∀ σ1, σ1 = sF σ 25 0 → (mw_isDigit σ1 (fun r2 => ((¬ (r2 = 0)) → (vp_in ((σ1.1 22) + (σ1.1 23)) (lenM 18) ∧ (∀ σ5, σ5 = sF σ1 25 (((σ1.2.2 18 ((σ1.1 22) + (σ1.1 23)).toNatClampNeg).toInt32) - 48) → (∀ σ6, σ6 = sF σ5 23 ((σ5.1 23) + 1) → (mw_isDigit σ6 (fun r7 => ((r7 = 0) → (K 1 σ6)) ∧ ((¬ (r7 = 0)) → (vp_in ((σ6.1 22) + (σ6.1 23)) (lenM 18) ∧ (∀ σ10, σ10 = sF σ6 25 (((10 * (σ6.1 25)) + ((σ6.2.2 18 ((σ6.1 22) + (σ6.1 23)).toNatClampNeg).toInt32)) - 48) → (∀ σ11, σ11 = sF σ10 23 ((σ10.1 23) + 1) → (K 1 σ11))))))))))) ∧ ((r2 = 0) → (mw_wrong (fun r12 σ13 => (r12 = 0 ∨ r12 = 1) ∧ K r12 σ13) (σ1.1 23) σ1))))
set_option maxHeartbeats 4000000 in
set_option maxRecDepth 100000 in
theorem mt_number {l : Launch} {Γ : GA} {α : Nat → Nat} {σ : MSt} {K : Int32 → MSt → Prop} (hwp : mw_number K  σ) : mI l yX4_number cX4_number 1 (some .boolean) ({ frames := 1, cells := 0, slots := 0, locals := 21 } : Room) Γ α [] σ K := by
  intro sz
  refine m_of (by decide) rfl [(0, .ref (α 50))] (fun _ h => h) (Nat.le_of_ble_eq_true rfl) ?_
  intro p e s m args below meth c hsz X H locs ls hP hS hl
  subst hsz
  obtain ⟨hx, hb, hml, hown, hts, hK, hD, hr, hlk⟩ := id X
  have hA : ∀ q, s.heap.size ≤ q → AM α s.heap.size q := fun q h => Or.inr h
  unfold mw_number at hwp
  refine lv_aload_n hx hb dX4_number_0 rfl (lv_at hl 0 rfl) ?_
  refine lv_iconst (v := 0) hx hb dX4_number_1 (by decide) ?_
  refine m_put hx hb hts hown hK hD hP hS 25 (by decide) rfl q1371 rfl rfl rfl rfl dX4_number_2 (fun H locs hP hS => ?_)
  obtain ⟨σ1, eσ1⟩ : ∃ z, z = sF σ 25 0 := ⟨_, rfl⟩
  rw [← eσ1] at hP
  replace hwp := hwp σ1 eσ1
  refine lv_aload_n hx hb dX4_number_5 rfl (lv_at hl 0 rfl) ?_
  refine m_calli ⟨hx, hb, hml, hown, hts⟩ hK hD hA hP hS (mt_isDigit hwp) (cwV 0 hts (lw_V q1633 q1635 qs53 q79 q1636) rfl rfl rfl (by decide +kernel) ⟨Nat.le_of_ble_eq_true rfl, Nat.le_of_ble_eq_true rfl⟩) rfl hl.1 rfl (Nat.le_of_ble_eq_true rfl) dX4_number_6 ⟨Nat.zero_le _, Nat.zero_le _⟩ (fun r2 u H locs hk hP hS => ?_)
  obtain ⟨hwp, eu⟩ := hk
  rw [eu] at hP
  refine lv_if_ne (tgt := 21) hx hb dX4_number_9 (by decide) (fun c3 => ?_) (fun c3 => ?_)
  · replace hwp := hwp.1 c3
    refine lv_aload_n hx hb dX4_number_21 rfl (lv_at hl 0 rfl) ?_
    refine lv_aload_n hx hb dX4_number_22 rfl (lv_at hl 0 rfl) ?_
    refine m_geta hx hb hts hown hK hP 18 (by decide) rfl q1364 rfl dX4_number_23 ?_
    refine lv_aload_n hx hb dX4_number_26 rfl (lv_at hl 0 rfl) ?_
    refine m_geti hx hb hts hown hK hP 22 (by decide) rfl q1368 rfl dX4_number_27 ?_
    refine lv_aload_n hx hb dX4_number_30 rfl (lv_at hl 0 rfl) ?_
    refine m_geti hx hb hts hown hK hP 23 (by decide) rfl q1369 rfl dX4_number_31 ?_
    refine lv_iadd hx hb dX4_number_34 ?_
    obtain ⟨hi4, hwp⟩ := hwp
    refine m_lald hx hb hK hP 18 (Or.inl rfl) hi4 dX4_number_35 ?_
    refine lv_l2i (v := (σ1.2.2 18 ((σ1.1 22) + (σ1.1 23)).toNatClampNeg).toInt32) hx hb dX4_number_36 rfl ?_
    refine lv_bipush (v := 48) hx hb dX4_number_37 (by decide) ?_
    refine lv_isub hx hb dX4_number_39 ?_
    refine m_put hx hb hts hown hK hD hP hS 25 (by decide) rfl q1371 rfl rfl rfl rfl dX4_number_40 (fun H locs hP hS => ?_)
    obtain ⟨σ5, eσ5⟩ : ∃ z, z = sF σ1 25 (((σ1.2.2 18 ((σ1.1 22) + (σ1.1 23)).toNatClampNeg).toInt32) - 48) := ⟨_, rfl⟩
    rw [← eσ5] at hP
    replace hwp := hwp σ5 eσ5
    refine lv_aload_n hx hb dX4_number_43 rfl (lv_at hl 0 rfl) ?_
    refine lv_dup hx hb dX4_number_44 rfl ?_
    refine m_geti hx hb hts hown hK hP 23 (by decide) rfl q1369 rfl dX4_number_45 ?_
    refine lv_iconst (v := 1) hx hb dX4_number_48 (by decide) ?_
    refine lv_iadd hx hb dX4_number_49 ?_
    refine m_put hx hb hts hown hK hD hP hS 23 (by decide) rfl q1369 rfl rfl rfl rfl dX4_number_50 (fun H locs hP hS => ?_)
    obtain ⟨σ6, eσ6⟩ : ∃ z, z = sF σ5 23 ((σ5.1 23) + 1) := ⟨_, rfl⟩
    rw [← eσ6] at hP
    replace hwp := hwp σ6 eσ6
    refine lv_aload_n hx hb dX4_number_53 rfl (lv_at hl 0 rfl) ?_
    refine m_calli ⟨hx, hb, hml, hown, hts⟩ hK hD hA hP hS (mt_isDigit hwp) (cwV 0 hts (lw_V q1633 q1635 qs53 q79 q1636) rfl rfl rfl (by decide +kernel) ⟨Nat.le_of_ble_eq_true rfl, Nat.le_of_ble_eq_true rfl⟩) rfl hl.1 rfl (Nat.le_of_ble_eq_true rfl) dX4_number_54 ⟨Nat.zero_le _, Nat.zero_le _⟩ (fun r7 u H locs hk hP hS => ?_)
    obtain ⟨hwp, eu⟩ := hk
    rw [eu] at hP
    refine lv_if_eq (tgt := 100) hx hb dX4_number_57 (by decide) (fun c8 => ?_) (fun c8 => ?_)
    · replace hwp := hwp.1 c8
      refine lv_iconst (v := 1) hx hb dX4_number_100 (by decide) ?_
      exact m_zret (v := 1) hx hb hr hlk hK hP hS (Or.inr rfl) hwp dX4_number_101
    · replace hwp := hwp.2 c8
      refine lv_aload_n hx hb dX4_number_60 rfl (lv_at hl 0 rfl) ?_
      refine lv_bipush (v := 10) hx hb dX4_number_61 (by decide) ?_
      refine lv_aload_n hx hb dX4_number_63 rfl (lv_at hl 0 rfl) ?_
      refine m_geti hx hb hts hown hK hP 25 (by decide) rfl q1371 rfl dX4_number_64 ?_
      refine lv_imul hx hb dX4_number_67 ?_
      refine lv_aload_n hx hb dX4_number_68 rfl (lv_at hl 0 rfl) ?_
      refine m_geta hx hb hts hown hK hP 18 (by decide) rfl q1364 rfl dX4_number_69 ?_
      refine lv_aload_n hx hb dX4_number_72 rfl (lv_at hl 0 rfl) ?_
      refine m_geti hx hb hts hown hK hP 22 (by decide) rfl q1368 rfl dX4_number_73 ?_
      refine lv_aload_n hx hb dX4_number_76 rfl (lv_at hl 0 rfl) ?_
      refine m_geti hx hb hts hown hK hP 23 (by decide) rfl q1369 rfl dX4_number_77 ?_
      refine lv_iadd hx hb dX4_number_80 ?_
      obtain ⟨hi9, hwp⟩ := hwp
      refine m_lald hx hb hK hP 18 (Or.inl rfl) hi9 dX4_number_81 ?_
      refine lv_l2i (v := (σ6.2.2 18 ((σ6.1 22) + (σ6.1 23)).toNatClampNeg).toInt32) hx hb dX4_number_82 rfl ?_
      refine lv_iadd hx hb dX4_number_83 ?_
      refine lv_bipush (v := 48) hx hb dX4_number_84 (by decide) ?_
      refine lv_isub hx hb dX4_number_86 ?_
      refine m_put hx hb hts hown hK hD hP hS 25 (by decide) rfl q1371 rfl rfl rfl rfl dX4_number_87 (fun H locs hP hS => ?_)
      obtain ⟨σ10, eσ10⟩ : ∃ z, z = sF σ6 25 (((10 * (σ6.1 25)) + ((σ6.2.2 18 ((σ6.1 22) + (σ6.1 23)).toNatClampNeg).toInt32)) - 48) := ⟨_, rfl⟩
      rw [← eσ10] at hP
      replace hwp := hwp σ10 eσ10
      refine lv_aload_n hx hb dX4_number_90 rfl (lv_at hl 0 rfl) ?_
      refine lv_dup hx hb dX4_number_91 rfl ?_
      refine m_geti hx hb hts hown hK hP 23 (by decide) rfl q1369 rfl dX4_number_92 ?_
      refine lv_iconst (v := 1) hx hb dX4_number_95 (by decide) ?_
      refine lv_iadd hx hb dX4_number_96 ?_
      refine m_put hx hb hts hown hK hD hP hS 23 (by decide) rfl q1369 rfl rfl rfl rfl dX4_number_97 (fun H locs hP hS => ?_)
      obtain ⟨σ11, eσ11⟩ : ∃ z, z = sF σ10 23 ((σ10.1 23) + 1) := ⟨_, rfl⟩
      rw [← eσ11] at hP
      replace hwp := hwp σ11 eσ11
      refine lv_iconst (v := 1) hx hb dX4_number_100 (by decide) ?_
      exact m_zret (v := 1) hx hb hr hlk hK hP hS (Or.inr rfl) hwp dX4_number_101
  · replace hwp := hwp.2 c3
    refine lv_aload_n hx hb dX4_number_12 rfl (lv_at hl 0 rfl) ?_
    refine lv_aload_n hx hb dX4_number_13 rfl (lv_at hl 0 rfl) ?_
    refine m_geti hx hb hts hown hK hP 23 (by decide) rfl q1369 rfl dX4_number_14 ?_
    refine m_calli ⟨hx, hb, hml, hown, hts⟩ hK hD hA hP hS (mt_wrong hwp) (cwV 1 hts (lw_V q1621 q1623 qs50 q79 q1624) rfl rfl rfl (by decide +kernel) ⟨Nat.le_of_ble_eq_true rfl, Nat.le_of_ble_eq_true rfl⟩) rfl hl.1 rfl (Nat.le_of_ble_eq_true rfl) dX4_number_17 ⟨Nat.zero_le _, Nat.zero_le _⟩ (fun r12 σ13 H locs hk hP hS => ?_)
    have hwp := hk
    obtain ⟨hv01, hwp⟩ := hwp
    exact m_zret hx hb hr hlk hK hP hS hv01 hwp dX4_number_20
/-! word -/
def mw_word_105_b (K : Int32 → MSt → Prop) (L9 : Int32 → Int32 → Int32 → MSt → Prop) (L105 : Int32 → Int32 → Int32 → MSt → Prop) (x1 : Int32) (x2 : Int32) (x3 : Int32) (σ : MSt) : Prop :=
  vp_in x1 (lenM 20) ∧ ((((σ.2.1 20 x1.toNatClampNeg) = 0) → (L9 (x1 + 1) x2 (x3 + 1) σ)) ∧ ((¬ ((σ.2.1 20 x1.toNatClampNeg) = 0)) → (L105 (x1 + 1) x2 x3 σ)))
def mw_word_105 (K : Int32 → MSt → Prop) (L9 : Int32 → Int32 → Int32 → MSt → Prop) : Nat → Int32 → Int32 → Int32 → MSt → Prop
  | 0 => fun _ _ _ _ => False
  | n + 1 => fun x1 x2 x3 σ => mw_word_105_b K L9 (mw_word_105 K L9 n) x1 x2 x3 σ
set_option maxHeartbeats 4000000 in
set_option maxRecDepth 100000 in
theorem mk_word_105_b {p : Program} {l : Launch} {e : Env} {s : State} {m : MethodId} {args : Array Value} {below : List Frame} {meth : Method} {c : Code} {Γ : GA} {α : Nat → Nat} {K : Int32 → MSt → Prop} (X : CM p s m args meth c cX4_word 6 (some .int) Γ α) {L9 : Int32 → Int32 → Int32 → MSt → Prop} (hL9 : ∀ (x1 : Int32) (x2 : Int32) (x3 : Int32) (σ : MSt), L9 x1 x2 x3 σ → TM p l e ({ frames := 0, cells := 0, slots := 0, locals := 0 } : Room) s m args below meth c 6 (QI below K Γ α s args) Γ α σ 9 [(0, .ref (α 50)), (1, .int x1), (2, .int x2), (3, .int x3)] []) {L105 : Int32 → Int32 → Int32 → MSt → Prop} (hL105 : ∀ (x1 : Int32) (x2 : Int32) (x3 : Int32) (σ : MSt), L105 x1 x2 x3 σ → TM p l e ({ frames := 0, cells := 0, slots := 0, locals := 0 } : Room) s m args below meth c 6 (QI below K Γ α s args) Γ α σ 105 [(0, .ref (α 50)), (1, .int x1), (2, .int x2), (3, .int x3)] []) : ∀ (x1 : Int32) (x2 : Int32) (x3 : Int32) (σ : MSt), mw_word_105_b K L9 L105 x1 x2 x3 σ → TM p l e ({ frames := 0, cells := 0, slots := 0, locals := 0 } : Room) s m args below meth c 6 (QI below K Γ α s args) Γ α σ 105 [(0, .ref (α 50)), (1, .int x1), (2, .int x2), (3, .int x3)] [] := by
  obtain ⟨hx, hb, hml, hown, hts, hK, hD, hr, hlk⟩ := id X
  have hA : ∀ q, s.heap.size ≤ q → AM α s.heap.size q := fun q h => Or.inr h
  intro x1 x2 x3 σ hwp H locs ls hP hS hl
  unfold mw_word_105_b at hwp
  refine lv_aload_n hx hb dX4_word_105 rfl (lv_at hl 0 rfl) ?_
  refine m_geta hx hb hts hown hK hP 20 (by decide) rfl q1366 rfl dX4_word_106 ?_
  refine lv_iload_n hx hb dX4_word_109 rfl (lv_at hl 1 rfl) ?_
  obtain ⟨hi1, hwp⟩ := hwp
  refine m_iald hx hb hK hP 20 rfl hi1 dX4_word_110 ?_
  refine lv_if_eq (tgt := 120) hx hb dX4_word_111 (by decide) (fun c2 => ?_) (fun c2 => ?_)
  · replace hwp := hwp.1 c2
    refine lv_iinc (v := x1 + 1) (lv' := [(1, .int (x1 + 1)), (0, .ref (α 50)), (2, .int x2), (3, .int x3)]) hx hb dX4_word_120 hl (k := 1) rfl rfl (by decide) rfl (fun ls hl => ?_)
    refine lv_iinc (v := x3 + 1) (lv' := [(3, .int (x3 + 1)), (1, .int (x1 + 1)), (0, .ref (α 50)), (2, .int x2)]) hx hb dX4_word_123 hl (k := 3) rfl rfl (by decide) rfl (fun ls hl => ?_)
    refine lv_goto (tgt := 9) hx hb dX4_word_126 (by decide) ?_
    exact hL9 _ _ _ σ hwp H locs ls hP hS (lv_sub hl [2, 1, 3, 0] rfl)
  · replace hwp := hwp.2 c2
    refine lv_iinc (v := x1 + 1) (lv' := [(1, .int (x1 + 1)), (0, .ref (α 50)), (2, .int x2), (3, .int x3)]) hx hb dX4_word_114 hl (k := 1) rfl rfl (by decide) rfl (fun ls hl => ?_)
    refine lv_goto (tgt := 105) hx hb dX4_word_117 (by decide) ?_
    exact hL105 _ _ _ σ hwp H locs ls hP hS (lv_sub hl [1, 0, 2, 3] rfl)
set_option maxHeartbeats 4000000 in
set_option maxRecDepth 100000 in
theorem mk_word_105 {p : Program} {l : Launch} {e : Env} {s : State} {m : MethodId} {args : Array Value} {below : List Frame} {meth : Method} {c : Code} {Γ : GA} {α : Nat → Nat} {K : Int32 → MSt → Prop} (X : CM p s m args meth c cX4_word 6 (some .int) Γ α) {L9 : Int32 → Int32 → Int32 → MSt → Prop} (hL9 : ∀ (x1 : Int32) (x2 : Int32) (x3 : Int32) (σ : MSt), L9 x1 x2 x3 σ → TM p l e ({ frames := 0, cells := 0, slots := 0, locals := 0 } : Room) s m args below meth c 6 (QI below K Γ α s args) Γ α σ 9 [(0, .ref (α 50)), (1, .int x1), (2, .int x2), (3, .int x3)] []) : ∀ n (x1 : Int32) (x2 : Int32) (x3 : Int32) (σ : MSt), mw_word_105 K L9 n x1 x2 x3 σ → TM p l e ({ frames := 0, cells := 0, slots := 0, locals := 0 } : Room) s m args below meth c 6 (QI below K Γ α s args) Γ α σ 105 [(0, .ref (α 50)), (1, .int x1), (2, .int x2), (3, .int x3)] [] := by
  intro n
  induction n with
  | zero => intro _ _ _ _ hwp; exact hwp.elim
  | succ n ih => intro x1 x2 x3 σ hwp; exact mk_word_105_b X hL9 ih x1 x2 x3 σ hwp
def mw_word_74 (K : Int32 → MSt → Prop) (L9 : Int32 → Int32 → Int32 → MSt → Prop) (x1 : Int32) (x2 : Int32) (x3 : Int32) (x4 : Int32) (x5 : Int32) (σ : MSt) : Prop :=
  vp_in x5 (lenM 20) ∧ (((¬ ((σ.2.1 20 x5.toNatClampNeg) = 0)) → (((x4 ≤ x2) → (∃ n, mw_word_105 K L9 n x1 x2 x3 σ)) ∧ ((¬ (x4 ≤ x2)) → (∃ n, mw_word_105 K L9 n x1 x4 x3 σ)))) ∧ (((σ.2.1 20 x5.toNatClampNeg) = 0) → (∀ σ4, σ4 = sF σ 23 x4 → (K x3 σ4))))
set_option maxHeartbeats 4000000 in
set_option maxRecDepth 100000 in
theorem mk_word_74 {p : Program} {l : Launch} {e : Env} {s : State} {m : MethodId} {args : Array Value} {below : List Frame} {meth : Method} {c : Code} {Γ : GA} {α : Nat → Nat} {K : Int32 → MSt → Prop} (X : CM p s m args meth c cX4_word 6 (some .int) Γ α) {L9 : Int32 → Int32 → Int32 → MSt → Prop} (hL9 : ∀ (x1 : Int32) (x2 : Int32) (x3 : Int32) (σ : MSt), L9 x1 x2 x3 σ → TM p l e ({ frames := 0, cells := 0, slots := 0, locals := 0 } : Room) s m args below meth c 6 (QI below K Γ α s args) Γ α σ 9 [(0, .ref (α 50)), (1, .int x1), (2, .int x2), (3, .int x3)] []) : ∀ (x1 : Int32) (x2 : Int32) (x3 : Int32) (x4 : Int32) (x5 : Int32) (σ : MSt), mw_word_74 K L9 x1 x2 x3 x4 x5 σ → TM p l e ({ frames := 0, cells := 0, slots := 0, locals := 0 } : Room) s m args below meth c 6 (QI below K Γ α s args) Γ α σ 74 [(0, .ref (α 50)), (1, .int x1), (2, .int x2), (3, .int x3), (4, .int x4), (5, .int x5)] [] := by
  obtain ⟨hx, hb, hml, hown, hts, hK, hD, hr, hlk⟩ := id X
  have hA : ∀ q, s.heap.size ≤ q → AM α s.heap.size q := fun q h => Or.inr h
  intro x1 x2 x3 x4 x5 σ hwp H locs ls hP hS hl
  unfold mw_word_74 at hwp
  refine lv_aload_n hx hb dX4_word_74 rfl (lv_at hl 0 rfl) ?_
  refine m_geta hx hb hts hown hK hP 20 (by decide) rfl q1366 rfl dX4_word_75 ?_
  refine lv_iload hx hb dX4_word_78 (lv_at hl 5 rfl) ?_
  obtain ⟨hi1, hwp⟩ := hwp
  refine m_iald hx hb hK hP 20 rfl hi1 dX4_word_80 ?_
  refine lv_if_ne (tgt := 92) hx hb dX4_word_81 (by decide) (fun c2 => ?_) (fun c2 => ?_)
  · replace hwp := hwp.1 c2
    refine lv_iload hx hb dX4_word_92 (lv_at hl 4 rfl) ?_
    refine lv_iload_n hx hb dX4_word_94 rfl (lv_at hl 2 rfl) ?_
    refine lv_icmp_le (tgt := 103) hx hb dX4_word_95 (by decide) (fun c3 => ?_) (fun c3 => ?_)
    · replace hwp := hwp.1 c3
      refine lv_iload_n hx hb dX4_word_103 rfl (lv_at hl 2 rfl) ?_
      refine lv_istore_n (lv' := [(2, .int x2), (0, .ref (α 50)), (1, .int x1), (3, .int x3), (4, .int x4), (5, .int x5)]) hx hb dX4_word_104 rfl hl (by decide) rfl (fun ls hl => ?_)
      obtain ⟨n, hwp⟩ := hwp
      exact mk_word_105 X hL9 n _ _ _ σ hwp H locs ls hP hS (lv_sub hl [1, 2, 0, 3] rfl)
    · replace hwp := hwp.2 c3
      refine lv_iload hx hb dX4_word_98 (lv_at hl 4 rfl) ?_
      refine lv_goto (tgt := 104) hx hb dX4_word_100 (by decide) ?_
      refine lv_istore_n (lv' := [(2, .int x4), (0, .ref (α 50)), (1, .int x1), (3, .int x3), (4, .int x4), (5, .int x5)]) hx hb dX4_word_104 rfl hl (by decide) rfl (fun ls hl => ?_)
      obtain ⟨n, hwp⟩ := hwp
      exact mk_word_105 X hL9 n _ _ _ σ hwp H locs ls hP hS (lv_sub hl [1, 2, 0, 3] rfl)
  · replace hwp := hwp.2 c2
    refine lv_aload_n hx hb dX4_word_84 rfl (lv_at hl 0 rfl) ?_
    refine lv_iload hx hb dX4_word_85 (lv_at hl 4 rfl) ?_
    refine m_put hx hb hts hown hK hD hP hS 23 (by decide) rfl q1369 rfl rfl rfl rfl dX4_word_87 (fun H locs hP hS => ?_)
    obtain ⟨σ4, eσ4⟩ : ∃ z, z = sF σ 23 x4 := ⟨_, rfl⟩
    rw [← eσ4] at hP
    replace hwp := hwp σ4 eσ4
    refine lv_iload_n hx hb dX4_word_90 rfl (lv_at hl 3 rfl) ?_
    exact m_iret hx hb hr hlk hK hP hS hwp dX4_word_91
def mw_word_23_b (K : Int32 → MSt → Prop) (L9 : Int32 → Int32 → Int32 → MSt → Prop) (L23 : Int32 → Int32 → Int32 → Int32 → Int32 → MSt → Prop) (x1 : Int32) (x2 : Int32) (x3 : Int32) (x4 : Int32) (x5 : Int32) (σ : MSt) : Prop :=
  vp_in x5 (lenM 20) ∧ ((((σ.2.1 20 x5.toNatClampNeg) = 0) → (mw_word_74 K L9 x1 x2 x3 x4 x5 σ)) ∧ ((¬ ((σ.2.1 20 x5.toNatClampNeg) = 0)) → ((((σ.1 24) ≤ x4) → (mw_word_74 K L9 x1 x2 x3 x4 x5 σ)) ∧ ((¬ ((σ.1 24) ≤ x4)) → (vp_in ((σ.1 22) + x4) (lenM 18) ∧ (vp_in x5 (lenM 20) ∧ (((¬ (((σ.2.2 18 ((σ.1 22) + x4).toNatClampNeg).toInt32) = (σ.2.1 20 x5.toNatClampNeg))) → (mw_word_74 K L9 x1 x2 x3 x4 x5 σ)) ∧ ((((σ.2.2 18 ((σ.1 22) + x4).toNatClampNeg).toInt32) = (σ.2.1 20 x5.toNatClampNeg)) → (L23 x1 x2 x3 (x4 + 1) (x5 + 1) σ)))))))))
def mw_word_23 (K : Int32 → MSt → Prop) (L9 : Int32 → Int32 → Int32 → MSt → Prop) : Nat → Int32 → Int32 → Int32 → Int32 → Int32 → MSt → Prop
  | 0 => fun _ _ _ _ _ _ => False
  | n + 1 => fun x1 x2 x3 x4 x5 σ => mw_word_23_b K L9 (mw_word_23 K L9 n) x1 x2 x3 x4 x5 σ
set_option maxHeartbeats 4000000 in
set_option maxRecDepth 100000 in
theorem mk_word_23_b {p : Program} {l : Launch} {e : Env} {s : State} {m : MethodId} {args : Array Value} {below : List Frame} {meth : Method} {c : Code} {Γ : GA} {α : Nat → Nat} {K : Int32 → MSt → Prop} (X : CM p s m args meth c cX4_word 6 (some .int) Γ α) {L9 : Int32 → Int32 → Int32 → MSt → Prop} (hL9 : ∀ (x1 : Int32) (x2 : Int32) (x3 : Int32) (σ : MSt), L9 x1 x2 x3 σ → TM p l e ({ frames := 0, cells := 0, slots := 0, locals := 0 } : Room) s m args below meth c 6 (QI below K Γ α s args) Γ α σ 9 [(0, .ref (α 50)), (1, .int x1), (2, .int x2), (3, .int x3)] []) {L23 : Int32 → Int32 → Int32 → Int32 → Int32 → MSt → Prop} (hL23 : ∀ (x1 : Int32) (x2 : Int32) (x3 : Int32) (x4 : Int32) (x5 : Int32) (σ : MSt), L23 x1 x2 x3 x4 x5 σ → TM p l e ({ frames := 0, cells := 0, slots := 0, locals := 0 } : Room) s m args below meth c 6 (QI below K Γ α s args) Γ α σ 23 [(0, .ref (α 50)), (1, .int x1), (2, .int x2), (3, .int x3), (4, .int x4), (5, .int x5)] []) : ∀ (x1 : Int32) (x2 : Int32) (x3 : Int32) (x4 : Int32) (x5 : Int32) (σ : MSt), mw_word_23_b K L9 L23 x1 x2 x3 x4 x5 σ → TM p l e ({ frames := 0, cells := 0, slots := 0, locals := 0 } : Room) s m args below meth c 6 (QI below K Γ α s args) Γ α σ 23 [(0, .ref (α 50)), (1, .int x1), (2, .int x2), (3, .int x3), (4, .int x4), (5, .int x5)] [] := by
  obtain ⟨hx, hb, hml, hown, hts, hK, hD, hr, hlk⟩ := id X
  have hA : ∀ q, s.heap.size ≤ q → AM α s.heap.size q := fun q h => Or.inr h
  intro x1 x2 x3 x4 x5 σ hwp H locs ls hP hS hl
  unfold mw_word_23_b at hwp
  refine lv_aload_n hx hb dX4_word_23 rfl (lv_at hl 0 rfl) ?_
  refine m_geta hx hb hts hown hK hP 20 (by decide) rfl q1366 rfl dX4_word_24 ?_
  refine lv_iload hx hb dX4_word_27 (lv_at hl 5 rfl) ?_
  obtain ⟨hi1, hwp⟩ := hwp
  refine m_iald hx hb hK hP 20 rfl hi1 dX4_word_29 ?_
  refine lv_if_eq (tgt := 74) hx hb dX4_word_30 (by decide) (fun c2 => ?_) (fun c2 => ?_)
  · replace hwp := hwp.1 c2
    exact mk_word_74 X hL9 _ _ _ _ _ σ hwp H locs ls hP hS (lv_sub hl [0, 1, 2, 3, 4, 5] rfl)
  · replace hwp := hwp.2 c2
    refine lv_iload hx hb dX4_word_33 (lv_at hl 4 rfl) ?_
    refine lv_aload_n hx hb dX4_word_35 rfl (lv_at hl 0 rfl) ?_
    refine m_geti hx hb hts hown hK hP 24 (by decide) rfl q1370 rfl dX4_word_36 ?_
    refine lv_icmp_ge (tgt := 74) hx hb dX4_word_39 (by decide) (fun c3 => ?_) (fun c3 => ?_)
    · replace hwp := hwp.1 c3
      exact mk_word_74 X hL9 _ _ _ _ _ σ hwp H locs ls hP hS (lv_sub hl [0, 1, 2, 3, 4, 5] rfl)
    · replace hwp := hwp.2 c3
      refine lv_aload_n hx hb dX4_word_42 rfl (lv_at hl 0 rfl) ?_
      refine m_geta hx hb hts hown hK hP 18 (by decide) rfl q1364 rfl dX4_word_43 ?_
      refine lv_aload_n hx hb dX4_word_46 rfl (lv_at hl 0 rfl) ?_
      refine m_geti hx hb hts hown hK hP 22 (by decide) rfl q1368 rfl dX4_word_47 ?_
      refine lv_iload hx hb dX4_word_50 (lv_at hl 4 rfl) ?_
      refine lv_iadd hx hb dX4_word_52 ?_
      obtain ⟨hi4, hwp⟩ := hwp
      refine m_lald hx hb hK hP 18 (Or.inl rfl) hi4 dX4_word_53 ?_
      refine lv_l2i (v := (σ.2.2 18 ((σ.1 22) + x4).toNatClampNeg).toInt32) hx hb dX4_word_54 rfl ?_
      refine lv_aload_n hx hb dX4_word_55 rfl (lv_at hl 0 rfl) ?_
      refine m_geta hx hb hts hown hK hP 20 (by decide) rfl q1366 rfl dX4_word_56 ?_
      refine lv_iload hx hb dX4_word_59 (lv_at hl 5 rfl) ?_
      obtain ⟨hi5, hwp⟩ := hwp
      refine m_iald hx hb hK hP 20 rfl hi5 dX4_word_61 ?_
      refine lv_icmp_ne (tgt := 74) hx hb dX4_word_62 (by decide) (fun c6 => ?_) (fun c6 => ?_)
      · replace hwp := hwp.1 c6
        exact mk_word_74 X hL9 _ _ _ _ _ σ hwp H locs ls hP hS (lv_sub hl [0, 1, 2, 3, 4, 5] rfl)
      · replace hwp := hwp.2 c6
        refine lv_iinc (v := x4 + 1) (lv' := [(4, .int (x4 + 1)), (0, .ref (α 50)), (1, .int x1), (2, .int x2), (3, .int x3), (5, .int x5)]) hx hb dX4_word_65 hl (k := 4) rfl rfl (by decide) rfl (fun ls hl => ?_)
        refine lv_iinc (v := x5 + 1) (lv' := [(5, .int (x5 + 1)), (4, .int (x4 + 1)), (0, .ref (α 50)), (1, .int x1), (2, .int x2), (3, .int x3)]) hx hb dX4_word_68 hl (k := 5) rfl rfl (by decide) rfl (fun ls hl => ?_)
        refine lv_goto (tgt := 23) hx hb dX4_word_71 (by decide) ?_
        exact hL23 _ _ _ _ _ σ hwp H locs ls hP hS (lv_sub hl [2, 3, 4, 5, 1, 0] rfl)
set_option maxHeartbeats 4000000 in
set_option maxRecDepth 100000 in
theorem mk_word_23 {p : Program} {l : Launch} {e : Env} {s : State} {m : MethodId} {args : Array Value} {below : List Frame} {meth : Method} {c : Code} {Γ : GA} {α : Nat → Nat} {K : Int32 → MSt → Prop} (X : CM p s m args meth c cX4_word 6 (some .int) Γ α) {L9 : Int32 → Int32 → Int32 → MSt → Prop} (hL9 : ∀ (x1 : Int32) (x2 : Int32) (x3 : Int32) (σ : MSt), L9 x1 x2 x3 σ → TM p l e ({ frames := 0, cells := 0, slots := 0, locals := 0 } : Room) s m args below meth c 6 (QI below K Γ α s args) Γ α σ 9 [(0, .ref (α 50)), (1, .int x1), (2, .int x2), (3, .int x3)] []) : ∀ n (x1 : Int32) (x2 : Int32) (x3 : Int32) (x4 : Int32) (x5 : Int32) (σ : MSt), mw_word_23 K L9 n x1 x2 x3 x4 x5 σ → TM p l e ({ frames := 0, cells := 0, slots := 0, locals := 0 } : Room) s m args below meth c 6 (QI below K Γ α s args) Γ α σ 23 [(0, .ref (α 50)), (1, .int x1), (2, .int x2), (3, .int x3), (4, .int x4), (5, .int x5)] [] := by
  intro n
  induction n with
  | zero => intro _ _ _ _ _ _ hwp; exact hwp.elim
  | succ n ih => intro x1 x2 x3 x4 x5 σ hwp; exact mk_word_23_b X hL9 ih x1 x2 x3 x4 x5 σ hwp
def mw_word_9_b (K : Int32 → MSt → Prop) (L9 : Int32 → Int32 → Int32 → MSt → Prop) (x1 : Int32) (x2 : Int32) (x3 : Int32) (σ : MSt) : Prop :=
  ((5 ≤ x3) → (∀ σ2, σ2 = sF σ 26 x2 → (K (-1) σ2))) ∧ ((¬ (5 ≤ x3)) → (∃ n, mw_word_23 K L9 n x1 x2 x3 (σ.1 23) x1 σ))
def mw_word_9 (K : Int32 → MSt → Prop) : Nat → Int32 → Int32 → Int32 → MSt → Prop
  | 0 => fun _ _ _ _ => False
  | n + 1 => fun x1 x2 x3 σ => mw_word_9_b K (mw_word_9 K n) x1 x2 x3 σ
set_option maxHeartbeats 4000000 in
set_option maxRecDepth 100000 in
theorem mk_word_9_b {p : Program} {l : Launch} {e : Env} {s : State} {m : MethodId} {args : Array Value} {below : List Frame} {meth : Method} {c : Code} {Γ : GA} {α : Nat → Nat} {K : Int32 → MSt → Prop} (X : CM p s m args meth c cX4_word 6 (some .int) Γ α) {L9 : Int32 → Int32 → Int32 → MSt → Prop} (hL9 : ∀ (x1 : Int32) (x2 : Int32) (x3 : Int32) (σ : MSt), L9 x1 x2 x3 σ → TM p l e ({ frames := 0, cells := 0, slots := 0, locals := 0 } : Room) s m args below meth c 6 (QI below K Γ α s args) Γ α σ 9 [(0, .ref (α 50)), (1, .int x1), (2, .int x2), (3, .int x3)] []) : ∀ (x1 : Int32) (x2 : Int32) (x3 : Int32) (σ : MSt), mw_word_9_b K L9 x1 x2 x3 σ → TM p l e ({ frames := 0, cells := 0, slots := 0, locals := 0 } : Room) s m args below meth c 6 (QI below K Γ α s args) Γ α σ 9 [(0, .ref (α 50)), (1, .int x1), (2, .int x2), (3, .int x3)] [] := by
  obtain ⟨hx, hb, hml, hown, hts, hK, hD, hr, hlk⟩ := id X
  have hA : ∀ q, s.heap.size ≤ q → AM α s.heap.size q := fun q h => Or.inr h
  intro x1 x2 x3 σ hwp H locs ls hP hS hl
  unfold mw_word_9_b at hwp
  refine lv_iload_n hx hb dX4_word_9 rfl (lv_at hl 3 rfl) ?_
  refine lv_iconst (v := 5) hx hb dX4_word_10 (by decide) ?_
  refine lv_icmp_ge (tgt := 129) hx hb dX4_word_11 (by decide) (fun c1 => ?_) (fun c1 => ?_)
  · replace hwp := hwp.1 c1
    refine lv_aload_n hx hb dX4_word_129 rfl (lv_at hl 0 rfl) ?_
    refine lv_iload_n hx hb dX4_word_130 rfl (lv_at hl 2 rfl) ?_
    refine m_put hx hb hts hown hK hD hP hS 26 (by decide) rfl q1372 rfl rfl rfl rfl dX4_word_131 (fun H locs hP hS => ?_)
    obtain ⟨σ2, eσ2⟩ : ∃ z, z = sF σ 26 x2 := ⟨_, rfl⟩
    rw [← eσ2] at hP
    replace hwp := hwp σ2 eσ2
    refine lv_iconst (v := (-1)) hx hb dX4_word_134 (by decide) ?_
    exact m_iret hx hb hr hlk hK hP hS hwp dX4_word_135
  · replace hwp := hwp.2 c1
    refine lv_aload_n hx hb dX4_word_14 rfl (lv_at hl 0 rfl) ?_
    refine m_geti hx hb hts hown hK hP 23 (by decide) rfl q1369 rfl dX4_word_15 ?_
    refine lv_istore (lv' := [(4, .int (σ.1 23)), (0, .ref (α 50)), (1, .int x1), (2, .int x2), (3, .int x3)]) hx hb dX4_word_18 hl (by decide) rfl (fun ls hl => ?_)
    refine lv_iload_n hx hb dX4_word_20 rfl (lv_at hl 2 rfl) ?_
    refine lv_istore (lv' := [(5, .int x1), (4, .int (σ.1 23)), (0, .ref (α 50)), (1, .int x1), (2, .int x2), (3, .int x3)]) hx hb dX4_word_21 hl (by decide) rfl (fun ls hl => ?_)
    obtain ⟨n, hwp⟩ := hwp
    exact mk_word_23 X hL9 n _ _ _ _ _ σ hwp H locs ls hP hS (lv_sub hl [2, 3, 4, 5, 1, 0] rfl)
set_option maxHeartbeats 4000000 in
set_option maxRecDepth 100000 in
theorem mk_word_9 {p : Program} {l : Launch} {e : Env} {s : State} {m : MethodId} {args : Array Value} {below : List Frame} {meth : Method} {c : Code} {Γ : GA} {α : Nat → Nat} {K : Int32 → MSt → Prop} (X : CM p s m args meth c cX4_word 6 (some .int) Γ α) : ∀ n (x1 : Int32) (x2 : Int32) (x3 : Int32) (σ : MSt), mw_word_9 K n x1 x2 x3 σ → TM p l e ({ frames := 0, cells := 0, slots := 0, locals := 0 } : Room) s m args below meth c 6 (QI below K Γ α s args) Γ α σ 9 [(0, .ref (α 50)), (1, .int x1), (2, .int x2), (3, .int x3)] [] := by
  intro n
  induction n with
  | zero => intro _ _ _ _ hwp; exact hwp.elim
  | succ n ih => intro x1 x2 x3 σ hwp; exact mk_word_9_b X ih x1 x2 x3 σ hwp
def mw_word (K : Int32 → MSt → Prop) (σ : MSt) : Prop :=
  ∃ n, mw_word_9 K n 0 (σ.1 23) 0 σ
set_option maxHeartbeats 4000000 in
set_option maxRecDepth 100000 in
theorem mt_word {l : Launch} {Γ : GA} {α : Nat → Nat} {σ : MSt} {K : Int32 → MSt → Prop} (hwp : mw_word K  σ) : mI l yX4_word cX4_word 6 (some .int) ({ frames := 0, cells := 0, slots := 0, locals := 0 } : Room) Γ α [] σ K := by
  intro sz
  refine m_of (by decide) rfl [(0, .ref (α 50))] (fun _ h => h) (Nat.le_of_ble_eq_true rfl) ?_
  intro p e s m args below meth c hsz X H locs ls hP hS hl
  subst hsz
  obtain ⟨hx, hb, hml, hown, hts, hK, hD, hr, hlk⟩ := id X
  have hA : ∀ q, s.heap.size ≤ q → AM α s.heap.size q := fun q h => Or.inr h
  unfold mw_word at hwp
  refine lv_iconst (v := 0) hx hb dX4_word_0 (by decide) ?_
  refine lv_istore_n (lv' := [(1, .int 0), (0, .ref (α 50))]) hx hb dX4_word_1 rfl hl (by decide) rfl (fun ls hl => ?_)
  refine lv_aload_n hx hb dX4_word_2 rfl (lv_at hl 1 rfl) ?_
  refine m_geti hx hb hts hown hK hP 23 (by decide) rfl q1369 rfl dX4_word_3 ?_
  refine lv_istore_n (lv' := [(2, .int (σ.1 23)), (1, .int 0), (0, .ref (α 50))]) hx hb dX4_word_6 rfl hl (by decide) rfl (fun ls hl => ?_)
  refine lv_iconst (v := 0) hx hb dX4_word_7 (by decide) ?_
  refine lv_istore_n (lv' := [(3, .int 0), (2, .int (σ.1 23)), (1, .int 0), (0, .ref (α 50))]) hx hb dX4_word_8 rfl hl (by decide) rfl (fun ls hl => ?_)
  obtain ⟨n, hwp⟩ := hwp
  exact mk_word_9 X n _ _ _ σ hwp H locs ls hP hS (lv_sub hl [3, 2, 1, 0] rfl)
/-! item -/
def mw_item_157 (K : Int32 → MSt → Prop) (L96 : Int32 → Int32 → Int32 → MSt → Prop) (x2 : Int32) (x3 : Int32) (x4 : Int32) (σ : MSt) : Prop :=
  mw_number (fun r1 σ2 => ((¬ (r1 = 0)) → (mw_isSo σ2 (fun r4 => ((¬ (r4 = 0)) → (vp_in x4 (lenM 21) ∧ (∀ σ7, σ7 = sI σ2 21 x4.toNatClampNeg (σ2.1 25) → (L96 x2 x3 (x4 + 1) σ7)))) ∧ ((r4 = 0) → (mw_wrong (fun r8 σ9 => (r8 = 0 ∨ r8 = 1) ∧ K r8 σ9) (σ.1 23) σ2))) x2 x4)) ∧ ((r1 = 0) → (K 0 σ2))) σ
set_option maxHeartbeats 4000000 in
set_option maxRecDepth 100000 in
theorem mk_item_157 {p : Program} {l : Launch} {e : Env} {s : State} {m : MethodId} {args : Array Value} {below : List Frame} {meth : Method} {c : Code} {Γ : GA} {α : Nat → Nat} {K : Int32 → MSt → Prop} (X : CM p s m args meth c cX4_item 6 (some .boolean) Γ α) {L96 : Int32 → Int32 → Int32 → MSt → Prop} (hL96 : ∀ (x2 : Int32) (x3 : Int32) (x4 : Int32) (σ : MSt), L96 x2 x3 x4 σ → TM p l e ({ frames := 2, cells := 0, slots := 0, locals := 45 } : Room) s m args below meth c 6 (QI below K Γ α s args) Γ α σ 96 [(0, .ref (α 50)), (2, .int x2), (3, .int x3), (4, .int x4)] []) : ∀ (x2 : Int32) (x3 : Int32) (x4 : Int32) (σ : MSt), mw_item_157 K L96 x2 x3 x4 σ → TM p l e ({ frames := 2, cells := 0, slots := 0, locals := 45 } : Room) s m args below meth c 6 (QI below K Γ α s args) Γ α σ 157 [(0, .ref (α 50)), (2, .int x2), (3, .int x3), (4, .int x4)] [] := by
  obtain ⟨hx, hb, hml, hown, hts, hK, hD, hr, hlk⟩ := id X
  have hA : ∀ q, s.heap.size ≤ q → AM α s.heap.size q := fun q h => Or.inr h
  intro x2 x3 x4 σ hwp H locs ls hP hS hl
  unfold mw_item_157 at hwp
  refine lv_aload_n hx hb dX4_item_157 rfl (lv_at hl 0 rfl) ?_
  refine m_geti hx hb hts hown hK hP 23 (by decide) rfl q1369 rfl dX4_item_158 ?_
  refine lv_istore (lv' := [(5, .int (σ.1 23)), (0, .ref (α 50)), (2, .int x2), (3, .int x3), (4, .int x4)]) hx hb dX4_item_161 hl (by decide) rfl (fun ls hl => ?_)
  refine lv_aload_n hx hb dX4_item_163 rfl (lv_at hl 1 rfl) ?_
  refine m_calli ⟨hx, hb, hml, hown, hts⟩ hK hD hA hP hS (mt_number hwp) (cwV 0 hts (lw_V q1629 q1631 qs52 q79 q1632) rfl rfl rfl (by decide +kernel) ⟨Nat.le_of_ble_eq_true rfl, Nat.le_of_ble_eq_true rfl⟩) rfl hl.1 rfl (Nat.le_of_ble_eq_true rfl) dX4_item_164 ⟨Nat.zero_le _, Nat.zero_le _⟩ (fun r1 σ2 H locs hk hP hS => ?_)
  have hwp := hk
  refine lv_if_ne (tgt := 172) hx hb dX4_item_167 (by decide) (fun c3 => ?_) (fun c3 => ?_)
  · replace hwp := hwp.1 c3
    refine lv_aload_n hx hb dX4_item_172 rfl (lv_at hl 1 rfl) ?_
    refine lv_iload_n hx hb dX4_item_173 rfl (lv_at hl 2 rfl) ?_
    refine lv_iload hx hb dX4_item_174 (lv_at hl 4 rfl) ?_
    refine m_calli ⟨hx, hb, hml, hown, hts⟩ hK hD hA hP hS (mt_isSo hwp) (cwV 2 hts (lw_V q1637 q1639 qs54 q79 q1640) rfl rfl rfl (by decide +kernel) ⟨Nat.le_of_ble_eq_true rfl, Nat.le_of_ble_eq_true rfl⟩) rfl hl.1 rfl (Nat.le_of_ble_eq_true rfl) dX4_item_176 ⟨Nat.zero_le _, Nat.zero_le _⟩ (fun r4 u H locs hk hP hS => ?_)
    obtain ⟨hwp, eu⟩ := hk
    rw [eu] at hP
    refine lv_if_ne (tgt := 189) hx hb dX4_item_179 (by decide) (fun c5 => ?_) (fun c5 => ?_)
    · replace hwp := hwp.1 c5
      refine lv_aload_n hx hb dX4_item_189 rfl (lv_at hl 1 rfl) ?_
      refine m_geta hx hb hts hown hK hP 21 (by decide) rfl q1367 rfl dX4_item_190 ?_
      refine lv_iload hx hb dX4_item_193 (lv_at hl 4 rfl) ?_
      refine lv_aload_n hx hb dX4_item_195 rfl (lv_at hl 1 rfl) ?_
      refine m_geti hx hb hts hown hK hP 25 (by decide) rfl q1371 rfl dX4_item_196 ?_
      obtain ⟨hi6, hwp⟩ := hwp
      refine m_iast hx hb hK hD hP hS 21 rfl hi6 dX4_item_199 (fun H locs hP hS => ?_)
      obtain ⟨σ7, eσ7⟩ : ∃ z, z = sI σ2 21 x4.toNatClampNeg (σ2.1 25) := ⟨_, rfl⟩
      rw [← eσ7] at hP
      replace hwp := hwp σ7 eσ7
      refine lv_iinc (v := x4 + 1) (lv' := [(4, .int (x4 + 1)), (5, .int (σ.1 23)), (0, .ref (α 50)), (2, .int x2), (3, .int x3)]) hx hb dX4_item_200 hl (k := 4) rfl rfl (by decide) rfl (fun ls hl => ?_)
      refine lv_goto (tgt := 96) hx hb dX4_item_203 (by decide) ?_
      exact hL96 _ _ _ σ7 hwp H locs ls hP hS (lv_sub hl [2, 3, 4, 0] rfl)
    · replace hwp := hwp.2 c5
      refine lv_aload_n hx hb dX4_item_182 rfl (lv_at hl 1 rfl) ?_
      refine lv_iload hx hb dX4_item_183 (lv_at hl 0 rfl) ?_
      refine m_calli ⟨hx, hb, hml, hown, hts⟩ hK hD hA hP hS (mt_wrong hwp) (cwV 1 hts (lw_V q1621 q1623 qs50 q79 q1624) rfl rfl rfl (by decide +kernel) ⟨Nat.le_of_ble_eq_true rfl, Nat.le_of_ble_eq_true rfl⟩) rfl hl.1 rfl (Nat.le_of_ble_eq_true rfl) dX4_item_185 ⟨Nat.zero_le _, Nat.zero_le _⟩ (fun r8 σ9 H locs hk hP hS => ?_)
      have hwp := hk
      obtain ⟨hv01, hwp⟩ := hwp
      exact m_zret hx hb hr hlk hK hP hS hv01 hwp dX4_item_188
  · replace hwp := hwp.2 c3
    refine lv_iconst (v := 0) hx hb dX4_item_170 (by decide) ?_
    exact m_zret (v := 0) hx hb hr hlk hK hP hS (Or.inl rfl) hwp dX4_item_171
def mw_item_138 (K : Int32 → MSt → Prop) (L96 : Int32 → Int32 → Int32 → MSt → Prop) (σ : MSt) : Prop :=
  mw_wrong (fun r1 σ2 => (r1 = 0 ∨ r1 = 1) ∧ K r1 σ2) (σ.1 23) σ
set_option maxHeartbeats 4000000 in
set_option maxRecDepth 100000 in
theorem mk_item_138 {p : Program} {l : Launch} {e : Env} {s : State} {m : MethodId} {args : Array Value} {below : List Frame} {meth : Method} {c : Code} {Γ : GA} {α : Nat → Nat} {K : Int32 → MSt → Prop} (X : CM p s m args meth c cX4_item 6 (some .boolean) Γ α) {L96 : Int32 → Int32 → Int32 → MSt → Prop} (hL96 : ∀ (x2 : Int32) (x3 : Int32) (x4 : Int32) (σ : MSt), L96 x2 x3 x4 σ → TM p l e ({ frames := 2, cells := 0, slots := 0, locals := 45 } : Room) s m args below meth c 6 (QI below K Γ α s args) Γ α σ 96 [(0, .ref (α 50)), (2, .int x2), (3, .int x3), (4, .int x4)] []) : ∀ (σ : MSt), mw_item_138 K L96  σ → TM p l e ({ frames := 2, cells := 0, slots := 0, locals := 45 } : Room) s m args below meth c 6 (QI below K Γ α s args) Γ α σ 138 [(0, .ref (α 50))] [] := by
  obtain ⟨hx, hb, hml, hown, hts, hK, hD, hr, hlk⟩ := id X
  have hA : ∀ q, s.heap.size ≤ q → AM α s.heap.size q := fun q h => Or.inr h
  intro  σ hwp H locs ls hP hS hl
  unfold mw_item_138 at hwp
  refine lv_aload_n hx hb dX4_item_138 rfl (lv_at hl 0 rfl) ?_
  refine lv_aload_n hx hb dX4_item_139 rfl (lv_at hl 0 rfl) ?_
  refine m_geti hx hb hts hown hK hP 23 (by decide) rfl q1369 rfl dX4_item_140 ?_
  refine m_calli ⟨hx, hb, hml, hown, hts⟩ hK hD hA hP hS (mt_wrong hwp) (cwV 1 hts (lw_V q1621 q1623 qs50 q79 q1624) rfl rfl rfl (by decide +kernel) ⟨Nat.le_of_ble_eq_true rfl, Nat.le_of_ble_eq_true rfl⟩) rfl hl.1 rfl (Nat.le_of_ble_eq_true rfl) dX4_item_143 ⟨Nat.zero_le _, Nat.zero_le _⟩ (fun r1 σ2 H locs hk hP hS => ?_)
  have hwp := hk
  obtain ⟨hv01, hwp⟩ := hwp
  exact m_zret hx hb hr hlk hK hP hS hv01 hwp dX4_item_146
def mw_item_96_b (K : Int32 → MSt → Prop) (L96 : Int32 → Int32 → Int32 → MSt → Prop) (x2 : Int32) (x3 : Int32) (x4 : Int32) (σ : MSt) : Prop :=
  ((x3 ≤ x4) → (((x2 < 0 ∨ 3 < x2) → (vp_in 0 (lenM 21) ∧ (vp_in (σ.2.1 21 (0 : Int32).toNatClampNeg) (lenM 12) ∧ (∀ σ5, σ5 = sI σ 12 (σ.2.1 21 (0 : Int32).toNatClampNeg).toNatClampNeg 1 → (K 1 σ5))))) ∧ (x2 = 0 → (vp_in 0 (lenM 21) ∧ (vp_in 1 (lenM 21) ∧ (vp_in 2 (lenM 21) ∧ (vp_in 3 (lenM 21) ∧ (vp_in 4 (lenM 21) ∧ (mw_adds (fun r11 σ12 => K 1 σ12) (σ.2.1 21 (0 : Int32).toNatClampNeg) (σ.2.1 21 (1 : Int32).toNatClampNeg) (σ.2.1 21 (2 : Int32).toNatClampNeg) (σ.2.1 21 (3 : Int32).toNatClampNeg) (σ.2.1 21 (4 : Int32).toNatClampNeg) σ))))))) ∧ (x2 = 1 → (vp_in 0 (lenM 21) ∧ (∀ σ14, σ14 = sF σ 1 (σ.2.1 21 (0 : Int32).toNatClampNeg) → (K 1 σ14)))) ∧ (x2 = 2 → (vp_in 0 (lenM 21) ∧ (∀ σ16, σ16 = sF σ 2 (σ.2.1 21 (0 : Int32).toNatClampNeg) → (K 1 σ16)))) ∧ (x2 = 3 → (vp_in 0 (lenM 21) ∧ (vp_in (σ.2.1 21 (0 : Int32).toNatClampNeg) (lenM 13) ∧ (vp_in 1 (lenM 21) ∧ (vp_in (σ.2.1 21 (0 : Int32).toNatClampNeg) (lenM 13) ∧ (∀ σ21, σ21 = sI σ 13 (σ.2.1 21 (0 : Int32).toNatClampNeg).toNatClampNeg ((σ.2.1 13 (σ.2.1 21 (0 : Int32).toNatClampNeg).toNatClampNeg) ||| (1 <<< ((σ.2.1 21 (1 : Int32).toNatClampNeg) &&& 31))) → (K 1 σ21))))))))) ∧ ((¬ (x3 ≤ x4)) → (((x4 ≤ 0) → (mw_item_157 K L96 x2 x3 x4 σ)) ∧ ((¬ (x4 ≤ 0)) → ((((σ.1 24) ≤ (σ.1 23)) → (mw_item_138 K L96 σ)) ∧ ((¬ ((σ.1 24) ≤ (σ.1 23))) → (vp_in ((σ.1 22) + (σ.1 23)) (lenM 18) ∧ (((((σ.2.2 18 ((σ.1 22) + (σ.1 23)).toNatClampNeg).toInt32) = 32) → (∀ σ26, σ26 = sF σ 23 ((σ.1 23) + 1) → (mw_item_157 K L96 x2 x3 x4 σ26))) ∧ ((¬ (((σ.2.2 18 ((σ.1 22) + (σ.1 23)).toNatClampNeg).toInt32) = 32)) → (mw_item_138 K L96 σ)))))))))
def mw_item_96 (K : Int32 → MSt → Prop) : Nat → Int32 → Int32 → Int32 → MSt → Prop
  | 0 => fun _ _ _ _ => False
  | n + 1 => fun x2 x3 x4 σ => mw_item_96_b K (mw_item_96 K n) x2 x3 x4 σ
set_option maxHeartbeats 4000000 in
set_option maxRecDepth 100000 in
theorem mk_item_96_b {p : Program} {l : Launch} {e : Env} {s : State} {m : MethodId} {args : Array Value} {below : List Frame} {meth : Method} {c : Code} {Γ : GA} {α : Nat → Nat} {K : Int32 → MSt → Prop} (X : CM p s m args meth c cX4_item 6 (some .boolean) Γ α) {L96 : Int32 → Int32 → Int32 → MSt → Prop} (hL96 : ∀ (x2 : Int32) (x3 : Int32) (x4 : Int32) (σ : MSt), L96 x2 x3 x4 σ → TM p l e ({ frames := 2, cells := 0, slots := 0, locals := 45 } : Room) s m args below meth c 6 (QI below K Γ α s args) Γ α σ 96 [(0, .ref (α 50)), (2, .int x2), (3, .int x3), (4, .int x4)] []) : ∀ (x2 : Int32) (x3 : Int32) (x4 : Int32) (σ : MSt), mw_item_96_b K L96 x2 x3 x4 σ → TM p l e ({ frames := 2, cells := 0, slots := 0, locals := 45 } : Room) s m args below meth c 6 (QI below K Γ α s args) Γ α σ 96 [(0, .ref (α 50)), (2, .int x2), (3, .int x3), (4, .int x4)] [] := by
  obtain ⟨hx, hb, hml, hown, hts, hK, hD, hr, hlk⟩ := id X
  have hA : ∀ q, s.heap.size ≤ q → AM α s.heap.size q := fun q h => Or.inr h
  intro x2 x3 x4 σ hwp H locs ls hP hS hl
  unfold mw_item_96_b at hwp
  refine lv_iload hx hb dX4_item_96 (lv_at hl 3 rfl) ?_
  refine lv_iload_n hx hb dX4_item_98 rfl (lv_at hl 2 rfl) ?_
  refine lv_icmp_ge (tgt := 206) hx hb dX4_item_99 (by decide) (fun c1 => ?_) (fun c1 => ?_)
  · replace hwp := hwp.1 c1
    refine lv_iload_n hx hb dX4_item_206 rfl (lv_at hl 1 rfl) ?_
    by_cases c2 : (x2 < 0 ∨ 3 < x2)
    · replace hwp := hwp.1 c2
      refine lv_tableOut (tgt := 325) hx hb dX4_item_207 (sw_out c2) (by decide) ?_
      refine lv_aload_n hx hb dX4_item_325 rfl (lv_at hl 0 rfl) ?_
      refine m_geta hx hb hts hown hK hP 12 (by decide) rfl q1358 rfl dX4_item_326 ?_
      refine lv_aload_n hx hb dX4_item_329 rfl (lv_at hl 0 rfl) ?_
      refine m_geta hx hb hts hown hK hP 21 (by decide) rfl q1367 rfl dX4_item_330 ?_
      refine lv_iconst (v := 0) hx hb dX4_item_333 (by decide) ?_
      obtain ⟨hi3, hwp⟩ := hwp
      refine m_iald hx hb hK hP 21 rfl hi3 dX4_item_334 ?_
      refine lv_iconst (v := 1) hx hb dX4_item_335 (by decide) ?_
      obtain ⟨hi4, hwp⟩ := hwp
      refine m_iast hx hb hK hD hP hS 12 rfl hi4 dX4_item_336 (fun H locs hP hS => ?_)
      obtain ⟨σ5, eσ5⟩ : ∃ z, z = sI σ 12 (σ.2.1 21 (0 : Int32).toNatClampNeg).toNatClampNeg 1 := ⟨_, rfl⟩
      rw [← eσ5] at hP
      replace hwp := hwp σ5 eσ5
      refine lv_iconst (v := 1) hx hb dX4_item_337 (by decide) ?_
      exact m_zret (v := 1) hx hb hr hlk hK hP hS (Or.inr rfl) hwp dX4_item_338
    · obtain ⟨j, hj, ej⟩ := sw_of (n := 3) (by decide) c2
      match j, hj, ej with
      | 0, _, ej =>
        have ej : x2 = 0 := ej
        replace hwp := hwp.2.1 ej
        refine lv_tableIn (off := 29) (tgt := 236) hx hb dX4_item_207 (by rw [ej]; decide) (by rw [ej]; decide) (by rw [ej]; rfl) (by decide) ?_
        refine lv_aload_n hx hb dX4_item_236 rfl (lv_at hl 0 rfl) ?_
        refine lv_aload_n hx hb dX4_item_237 rfl (lv_at hl 0 rfl) ?_
        refine m_geta hx hb hts hown hK hP 21 (by decide) rfl q1367 rfl dX4_item_238 ?_
        refine lv_iconst (v := 0) hx hb dX4_item_241 (by decide) ?_
        obtain ⟨hi6, hwp⟩ := hwp
        refine m_iald hx hb hK hP 21 rfl hi6 dX4_item_242 ?_
        refine lv_aload_n hx hb dX4_item_243 rfl (lv_at hl 0 rfl) ?_
        refine m_geta hx hb hts hown hK hP 21 (by decide) rfl q1367 rfl dX4_item_244 ?_
        refine lv_iconst (v := 1) hx hb dX4_item_247 (by decide) ?_
        obtain ⟨hi7, hwp⟩ := hwp
        refine m_iald hx hb hK hP 21 rfl hi7 dX4_item_248 ?_
        refine lv_aload_n hx hb dX4_item_249 rfl (lv_at hl 0 rfl) ?_
        refine m_geta hx hb hts hown hK hP 21 (by decide) rfl q1367 rfl dX4_item_250 ?_
        refine lv_iconst (v := 2) hx hb dX4_item_253 (by decide) ?_
        obtain ⟨hi8, hwp⟩ := hwp
        refine m_iald hx hb hK hP 21 rfl hi8 dX4_item_254 ?_
        refine lv_aload_n hx hb dX4_item_255 rfl (lv_at hl 0 rfl) ?_
        refine m_geta hx hb hts hown hK hP 21 (by decide) rfl q1367 rfl dX4_item_256 ?_
        refine lv_iconst (v := 3) hx hb dX4_item_259 (by decide) ?_
        obtain ⟨hi9, hwp⟩ := hwp
        refine m_iald hx hb hK hP 21 rfl hi9 dX4_item_260 ?_
        refine lv_aload_n hx hb dX4_item_261 rfl (lv_at hl 0 rfl) ?_
        refine m_geta hx hb hts hown hK hP 21 (by decide) rfl q1367 rfl dX4_item_262 ?_
        refine lv_iconst (v := 4) hx hb dX4_item_265 (by decide) ?_
        obtain ⟨hi10, hwp⟩ := hwp
        refine m_iald hx hb hK hP 21 rfl hi10 dX4_item_266 ?_
        refine m_calli ⟨hx, hb, hml, hown, hts⟩ hK hD hA hP hS (mt_adds hwp) (cwV 5 hts (lw_V q1561 q1563 qs41 q79 q1564) rfl rfl rfl (by decide +kernel) ⟨Nat.le_of_ble_eq_true rfl, Nat.le_of_ble_eq_true rfl⟩) rfl hl.1 rfl (Nat.le_of_ble_eq_true rfl) dX4_item_267 ⟨Nat.zero_le _, Nat.zero_le _⟩ (fun r11 σ12 H locs hk hP hS => ?_)
        have hwp := hk
        refine lv_pop hx hb dX4_item_270 rfl ?_
        refine lv_goto (tgt := 337) hx hb dX4_item_271 (by decide) ?_
        refine lv_iconst (v := 1) hx hb dX4_item_337 (by decide) ?_
        exact m_zret (v := 1) hx hb hr hlk hK hP hS (Or.inr rfl) hwp dX4_item_338
      | 1, _, ej =>
        have ej : x2 = 1 := ej
        replace hwp := hwp.2.2.1 ej
        refine lv_tableIn (off := 67) (tgt := 274) hx hb dX4_item_207 (by rw [ej]; decide) (by rw [ej]; decide) (by rw [ej]; rfl) (by decide) ?_
        refine lv_aload_n hx hb dX4_item_274 rfl (lv_at hl 0 rfl) ?_
        refine lv_aload_n hx hb dX4_item_275 rfl (lv_at hl 0 rfl) ?_
        refine m_geta hx hb hts hown hK hP 21 (by decide) rfl q1367 rfl dX4_item_276 ?_
        refine lv_iconst (v := 0) hx hb dX4_item_279 (by decide) ?_
        obtain ⟨hi13, hwp⟩ := hwp
        refine m_iald hx hb hK hP 21 rfl hi13 dX4_item_280 ?_
        refine m_put hx hb hts hown hK hD hP hS 1 (by decide) rfl q1347 rfl rfl rfl rfl dX4_item_281 (fun H locs hP hS => ?_)
        obtain ⟨σ14, eσ14⟩ : ∃ z, z = sF σ 1 (σ.2.1 21 (0 : Int32).toNatClampNeg) := ⟨_, rfl⟩
        rw [← eσ14] at hP
        replace hwp := hwp σ14 eσ14
        refine lv_goto (tgt := 337) hx hb dX4_item_284 (by decide) ?_
        refine lv_iconst (v := 1) hx hb dX4_item_337 (by decide) ?_
        exact m_zret (v := 1) hx hb hr hlk hK hP hS (Or.inr rfl) hwp dX4_item_338
      | 2, _, ej =>
        have ej : x2 = 2 := ej
        replace hwp := hwp.2.2.2.1 ej
        refine lv_tableIn (off := 80) (tgt := 287) hx hb dX4_item_207 (by rw [ej]; decide) (by rw [ej]; decide) (by rw [ej]; rfl) (by decide) ?_
        refine lv_aload_n hx hb dX4_item_287 rfl (lv_at hl 0 rfl) ?_
        refine lv_aload_n hx hb dX4_item_288 rfl (lv_at hl 0 rfl) ?_
        refine m_geta hx hb hts hown hK hP 21 (by decide) rfl q1367 rfl dX4_item_289 ?_
        refine lv_iconst (v := 0) hx hb dX4_item_292 (by decide) ?_
        obtain ⟨hi15, hwp⟩ := hwp
        refine m_iald hx hb hK hP 21 rfl hi15 dX4_item_293 ?_
        refine m_put hx hb hts hown hK hD hP hS 2 (by decide) rfl q1348 rfl rfl rfl rfl dX4_item_294 (fun H locs hP hS => ?_)
        obtain ⟨σ16, eσ16⟩ : ∃ z, z = sF σ 2 (σ.2.1 21 (0 : Int32).toNatClampNeg) := ⟨_, rfl⟩
        rw [← eσ16] at hP
        replace hwp := hwp σ16 eσ16
        refine lv_goto (tgt := 337) hx hb dX4_item_297 (by decide) ?_
        refine lv_iconst (v := 1) hx hb dX4_item_337 (by decide) ?_
        exact m_zret (v := 1) hx hb hr hlk hK hP hS (Or.inr rfl) hwp dX4_item_338
      | 3, _, ej =>
        have ej : x2 = 3 := ej
        replace hwp := hwp.2.2.2.2 ej
        refine lv_tableIn (off := 93) (tgt := 300) hx hb dX4_item_207 (by rw [ej]; decide) (by rw [ej]; decide) (by rw [ej]; rfl) (by decide) ?_
        refine lv_aload_n hx hb dX4_item_300 rfl (lv_at hl 0 rfl) ?_
        refine m_geta hx hb hts hown hK hP 13 (by decide) rfl q1359 rfl dX4_item_301 ?_
        refine lv_aload_n hx hb dX4_item_304 rfl (lv_at hl 0 rfl) ?_
        refine m_geta hx hb hts hown hK hP 21 (by decide) rfl q1367 rfl dX4_item_305 ?_
        refine lv_iconst (v := 0) hx hb dX4_item_308 (by decide) ?_
        obtain ⟨hi17, hwp⟩ := hwp
        refine m_iald hx hb hK hP 21 rfl hi17 dX4_item_309 ?_
        refine lv_dup2_11 hx hb dX4_item_310 rfl rfl ?_
        obtain ⟨hi18, hwp⟩ := hwp
        refine m_iald hx hb hK hP 13 rfl hi18 dX4_item_311 ?_
        refine lv_iconst (v := 1) hx hb dX4_item_312 (by decide) ?_
        refine lv_aload_n hx hb dX4_item_313 rfl (lv_at hl 0 rfl) ?_
        refine m_geta hx hb hts hown hK hP 21 (by decide) rfl q1367 rfl dX4_item_314 ?_
        refine lv_iconst (v := 1) hx hb dX4_item_317 (by decide) ?_
        obtain ⟨hi19, hwp⟩ := hwp
        refine m_iald hx hb hK hP 21 rfl hi19 dX4_item_318 ?_
        refine lv_ishl hx hb dX4_item_319 ?_
        refine lv_ior hx hb dX4_item_320 ?_
        obtain ⟨hi20, hwp⟩ := hwp
        refine m_iast hx hb hK hD hP hS 13 rfl hi20 dX4_item_321 (fun H locs hP hS => ?_)
        obtain ⟨σ21, eσ21⟩ : ∃ z, z = sI σ 13 (σ.2.1 21 (0 : Int32).toNatClampNeg).toNatClampNeg ((σ.2.1 13 (σ.2.1 21 (0 : Int32).toNatClampNeg).toNatClampNeg) ||| (1 <<< ((σ.2.1 21 (1 : Int32).toNatClampNeg) &&& 31))) := ⟨_, rfl⟩
        rw [← eσ21] at hP
        replace hwp := hwp σ21 eσ21
        refine lv_goto (tgt := 337) hx hb dX4_item_322 (by decide) ?_
        refine lv_iconst (v := 1) hx hb dX4_item_337 (by decide) ?_
        exact m_zret (v := 1) hx hb hr hlk hK hP hS (Or.inr rfl) hwp dX4_item_338
      | j + 4, hj, _ => exact absurd hj (by omega)
  · replace hwp := hwp.2 c1
    refine lv_iload hx hb dX4_item_102 (lv_at hl 3 rfl) ?_
    refine lv_if_le (tgt := 157) hx hb dX4_item_104 (by decide) (fun c22 => ?_) (fun c22 => ?_)
    · replace hwp := hwp.1 c22
      exact mk_item_157 X hL96 _ _ _ σ hwp H locs ls hP hS (lv_sub hl [0, 1, 2, 3] rfl)
    · replace hwp := hwp.2 c22
      refine lv_aload_n hx hb dX4_item_107 rfl (lv_at hl 0 rfl) ?_
      refine m_geti hx hb hts hown hK hP 23 (by decide) rfl q1369 rfl dX4_item_108 ?_
      refine lv_aload_n hx hb dX4_item_111 rfl (lv_at hl 0 rfl) ?_
      refine m_geti hx hb hts hown hK hP 24 (by decide) rfl q1370 rfl dX4_item_112 ?_
      refine lv_icmp_ge (tgt := 138) hx hb dX4_item_115 (by decide) (fun c23 => ?_) (fun c23 => ?_)
      · replace hwp := hwp.1 c23
        exact mk_item_138 X hL96 σ hwp H locs ls hP hS (lv_sub hl [0] rfl)
      · replace hwp := hwp.2 c23
        refine lv_aload_n hx hb dX4_item_118 rfl (lv_at hl 0 rfl) ?_
        refine m_geta hx hb hts hown hK hP 18 (by decide) rfl q1364 rfl dX4_item_119 ?_
        refine lv_aload_n hx hb dX4_item_122 rfl (lv_at hl 0 rfl) ?_
        refine m_geti hx hb hts hown hK hP 22 (by decide) rfl q1368 rfl dX4_item_123 ?_
        refine lv_aload_n hx hb dX4_item_126 rfl (lv_at hl 0 rfl) ?_
        refine m_geti hx hb hts hown hK hP 23 (by decide) rfl q1369 rfl dX4_item_127 ?_
        refine lv_iadd hx hb dX4_item_130 ?_
        obtain ⟨hi24, hwp⟩ := hwp
        refine m_lald hx hb hK hP 18 (Or.inl rfl) hi24 dX4_item_131 ?_
        refine lv_l2i (v := (σ.2.2 18 ((σ.1 22) + (σ.1 23)).toNatClampNeg).toInt32) hx hb dX4_item_132 rfl ?_
        refine lv_bipush (v := 32) hx hb dX4_item_133 (by decide) ?_
        refine lv_icmp_eq (tgt := 147) hx hb dX4_item_135 (by decide) (fun c25 => ?_) (fun c25 => ?_)
        · replace hwp := hwp.1 c25
          refine lv_aload_n hx hb dX4_item_147 rfl (lv_at hl 0 rfl) ?_
          refine lv_dup hx hb dX4_item_148 rfl ?_
          refine m_geti hx hb hts hown hK hP 23 (by decide) rfl q1369 rfl dX4_item_149 ?_
          refine lv_iconst (v := 1) hx hb dX4_item_152 (by decide) ?_
          refine lv_iadd hx hb dX4_item_153 ?_
          refine m_put hx hb hts hown hK hD hP hS 23 (by decide) rfl q1369 rfl rfl rfl rfl dX4_item_154 (fun H locs hP hS => ?_)
          obtain ⟨σ26, eσ26⟩ : ∃ z, z = sF σ 23 ((σ.1 23) + 1) := ⟨_, rfl⟩
          rw [← eσ26] at hP
          replace hwp := hwp σ26 eσ26
          exact mk_item_157 X hL96 _ _ _ σ26 hwp H locs ls hP hS (lv_sub hl [0, 1, 2, 3] rfl)
        · replace hwp := hwp.2 c25
          exact mk_item_138 X hL96 σ hwp H locs ls hP hS (lv_sub hl [0] rfl)
set_option maxHeartbeats 4000000 in
set_option maxRecDepth 100000 in
theorem mk_item_96 {p : Program} {l : Launch} {e : Env} {s : State} {m : MethodId} {args : Array Value} {below : List Frame} {meth : Method} {c : Code} {Γ : GA} {α : Nat → Nat} {K : Int32 → MSt → Prop} (X : CM p s m args meth c cX4_item 6 (some .boolean) Γ α) : ∀ n (x2 : Int32) (x3 : Int32) (x4 : Int32) (σ : MSt), mw_item_96 K n x2 x3 x4 σ → TM p l e ({ frames := 2, cells := 0, slots := 0, locals := 45 } : Room) s m args below meth c 6 (QI below K Γ α s args) Γ α σ 96 [(0, .ref (α 50)), (2, .int x2), (3, .int x3), (4, .int x4)] [] := by
  intro n
  induction n with
  | zero => intro _ _ _ _ hwp; exact hwp.elim
  | succ n ih => intro x2 x3 x4 σ hwp; exact mk_item_96_b X ih x2 x3 x4 σ hwp
def mw_item_74 (K : Int32 → MSt → Prop) (x2 : Int32) (σ : MSt) : Prop :=
  ((¬ (x2 = 0)) → (((¬ (x2 = 3)) → (∃ n, mw_item_96 K n x2 1 0 σ)) ∧ ((x2 = 3) → (∃ n, mw_item_96 K n x2 2 0 σ)))) ∧ ((x2 = 0) → (∃ n, mw_item_96 K n x2 5 0 σ))
set_option maxHeartbeats 4000000 in
set_option maxRecDepth 100000 in
theorem mk_item_74 {p : Program} {l : Launch} {e : Env} {s : State} {m : MethodId} {args : Array Value} {below : List Frame} {meth : Method} {c : Code} {Γ : GA} {α : Nat → Nat} {K : Int32 → MSt → Prop} (X : CM p s m args meth c cX4_item 6 (some .boolean) Γ α) : ∀ (x2 : Int32) (σ : MSt), mw_item_74 K x2 σ → TM p l e ({ frames := 2, cells := 0, slots := 0, locals := 45 } : Room) s m args below meth c 6 (QI below K Γ α s args) Γ α σ 74 [(0, .ref (α 50)), (2, .int x2)] [] := by
  obtain ⟨hx, hb, hml, hown, hts, hK, hD, hr, hlk⟩ := id X
  have hA : ∀ q, s.heap.size ≤ q → AM α s.heap.size q := fun q h => Or.inr h
  intro x2 σ hwp H locs ls hP hS hl
  unfold mw_item_74 at hwp
  refine lv_iload_n hx hb dX4_item_74 rfl (lv_at hl 1 rfl) ?_
  refine lv_if_ne (tgt := 82) hx hb dX4_item_75 (by decide) (fun c1 => ?_) (fun c1 => ?_)
  · replace hwp := hwp.1 c1
    refine lv_iload_n hx hb dX4_item_82 rfl (lv_at hl 1 rfl) ?_
    refine lv_iconst (v := 3) hx hb dX4_item_83 (by decide) ?_
    refine lv_icmp_ne (tgt := 91) hx hb dX4_item_84 (by decide) (fun c2 => ?_) (fun c2 => ?_)
    · replace hwp := hwp.1 c2
      refine lv_iconst (v := 1) hx hb dX4_item_91 (by decide) ?_
      refine lv_istore_n (lv' := [(3, .int 1), (0, .ref (α 50)), (2, .int x2)]) hx hb dX4_item_92 rfl hl (by decide) rfl (fun ls hl => ?_)
      refine lv_iconst (v := 0) hx hb dX4_item_93 (by decide) ?_
      refine lv_istore (lv' := [(4, .int 0), (3, .int 1), (0, .ref (α 50)), (2, .int x2)]) hx hb dX4_item_94 hl (by decide) rfl (fun ls hl => ?_)
      obtain ⟨n, hwp⟩ := hwp
      exact mk_item_96 X n _ _ _ σ hwp H locs ls hP hS (lv_sub hl [2, 3, 1, 0] rfl)
    · replace hwp := hwp.2 c2
      refine lv_iconst (v := 2) hx hb dX4_item_87 (by decide) ?_
      refine lv_goto (tgt := 92) hx hb dX4_item_88 (by decide) ?_
      refine lv_istore_n (lv' := [(3, .int 2), (0, .ref (α 50)), (2, .int x2)]) hx hb dX4_item_92 rfl hl (by decide) rfl (fun ls hl => ?_)
      refine lv_iconst (v := 0) hx hb dX4_item_93 (by decide) ?_
      refine lv_istore (lv' := [(4, .int 0), (3, .int 2), (0, .ref (α 50)), (2, .int x2)]) hx hb dX4_item_94 hl (by decide) rfl (fun ls hl => ?_)
      obtain ⟨n, hwp⟩ := hwp
      exact mk_item_96 X n _ _ _ σ hwp H locs ls hP hS (lv_sub hl [2, 3, 1, 0] rfl)
  · replace hwp := hwp.2 c1
    refine lv_iconst (v := 5) hx hb dX4_item_78 (by decide) ?_
    refine lv_goto (tgt := 92) hx hb dX4_item_79 (by decide) ?_
    refine lv_istore_n (lv' := [(3, .int 5), (0, .ref (α 50)), (2, .int x2)]) hx hb dX4_item_92 rfl hl (by decide) rfl (fun ls hl => ?_)
    refine lv_iconst (v := 0) hx hb dX4_item_93 (by decide) ?_
    refine lv_istore (lv' := [(4, .int 0), (3, .int 5), (0, .ref (α 50)), (2, .int x2)]) hx hb dX4_item_94 hl (by decide) rfl (fun ls hl => ?_)
    obtain ⟨n, hwp⟩ := hwp
    exact mk_item_96 X n _ _ _ σ hwp H locs ls hP hS (lv_sub hl [2, 3, 1, 0] rfl)
def mw_item_2_b (K : Int32 → MSt → Prop) (L2 : Int32 → MSt → Prop) (x1 : Int32) (σ : MSt) : Prop :=
  ((5 ≤ x1) → (mw_word (fun r2 σ3 => ((¬ (r2 = (-1))) → (((¬ (r2 = 0)) → (mw_item_74 K r2 σ3)) ∧ ((r2 = 0) → (((¬ ((σ3.1 0) = 8)) → (mw_item_74 K r2 σ3)) ∧ (((σ3.1 0) = 8) → (mw_wrong (fun r7 σ8 => (r7 = 0 ∨ r7 = 1) ∧ K r7 σ8) (σ.1 23) σ3)))))) ∧ ((r2 = (-1)) → (K 0 σ3))) σ)) ∧ ((¬ (5 ≤ x1)) → (mw_isWordAt σ (fun r9 => ((r9 = 0) → (L2 (x1 + 1) σ)) ∧ ((¬ (r9 = 0)) → (mw_isFull σ (fun r11 => ((r11 = 0) → (L2 (x1 + 1) σ)) ∧ ((¬ (r11 = 0)) → (mw_wrong (fun r13 σ14 => (r13 = 0 ∨ r13 = 1) ∧ K r13 σ14) (σ.1 23) σ))) x1))) x1))
def mw_item_2 (K : Int32 → MSt → Prop) : Nat → Int32 → MSt → Prop
  | 0 => fun _ _ => False
  | n + 1 => fun x1 σ => mw_item_2_b K (mw_item_2 K n) x1 σ
set_option maxHeartbeats 4000000 in
set_option maxRecDepth 100000 in
theorem mk_item_2_b {p : Program} {l : Launch} {e : Env} {s : State} {m : MethodId} {args : Array Value} {below : List Frame} {meth : Method} {c : Code} {Γ : GA} {α : Nat → Nat} {K : Int32 → MSt → Prop} (X : CM p s m args meth c cX4_item 6 (some .boolean) Γ α) {L2 : Int32 → MSt → Prop} (hL2 : ∀ (x1 : Int32) (σ : MSt), L2 x1 σ → TM p l e ({ frames := 2, cells := 0, slots := 0, locals := 45 } : Room) s m args below meth c 6 (QI below K Γ α s args) Γ α σ 2 [(0, .ref (α 50)), (1, .int x1)] []) : ∀ (x1 : Int32) (σ : MSt), mw_item_2_b K L2 x1 σ → TM p l e ({ frames := 2, cells := 0, slots := 0, locals := 45 } : Room) s m args below meth c 6 (QI below K Γ α s args) Γ α σ 2 [(0, .ref (α 50)), (1, .int x1)] [] := by
  obtain ⟨hx, hb, hml, hown, hts, hK, hD, hr, hlk⟩ := id X
  have hA : ∀ q, s.heap.size ≤ q → AM α s.heap.size q := fun q h => Or.inr h
  intro x1 σ hwp H locs ls hP hS hl
  unfold mw_item_2_b at hwp
  refine lv_iload_n hx hb dX4_item_2 rfl (lv_at hl 1 rfl) ?_
  refine lv_iconst (v := 5) hx hb dX4_item_3 (by decide) ?_
  refine lv_icmp_ge (tgt := 38) hx hb dX4_item_4 (by decide) (fun c1 => ?_) (fun c1 => ?_)
  · replace hwp := hwp.1 c1
    refine lv_aload_n hx hb dX4_item_38 rfl (lv_at hl 0 rfl) ?_
    refine m_geti hx hb hts hown hK hP 23 (by decide) rfl q1369 rfl dX4_item_39 ?_
    refine lv_istore_n (lv' := [(1, .int (σ.1 23)), (0, .ref (α 50))]) hx hb dX4_item_42 rfl hl (by decide) rfl (fun ls hl => ?_)
    refine lv_aload_n hx hb dX4_item_43 rfl (lv_at hl 1 rfl) ?_
    refine m_calli ⟨hx, hb, hml, hown, hts⟩ hK hD hA hP hS (mt_word hwp) (cwV 0 hts (lw_V q1625 q1627 qs51 q79 q1628) rfl rfl rfl (by decide +kernel) ⟨Nat.le_of_ble_eq_true rfl, Nat.le_of_ble_eq_true rfl⟩) rfl hl.1 rfl (Nat.le_of_ble_eq_true rfl) dX4_item_44 ⟨Nat.zero_le _, Nat.zero_le _⟩ (fun r2 σ3 H locs hk hP hS => ?_)
    have hwp := hk
    refine lv_istore_n (lv' := [(2, .int r2), (1, .int (σ.1 23)), (0, .ref (α 50))]) hx hb dX4_item_47 rfl hl (by decide) rfl (fun ls hl => ?_)
    refine lv_iload_n hx hb dX4_item_48 rfl (lv_at hl 0 rfl) ?_
    refine lv_iconst (v := (-1)) hx hb dX4_item_49 (by decide) ?_
    refine lv_icmp_ne (tgt := 55) hx hb dX4_item_50 (by decide) (fun c4 => ?_) (fun c4 => ?_)
    · replace hwp := hwp.1 c4
      refine lv_iload_n hx hb dX4_item_55 rfl (lv_at hl 0 rfl) ?_
      refine lv_if_ne (tgt := 74) hx hb dX4_item_56 (by decide) (fun c5 => ?_) (fun c5 => ?_)
      · replace hwp := hwp.1 c5
        exact mk_item_74 X _ σ3 hwp H locs ls hP hS (lv_sub hl [2, 0] rfl)
      · replace hwp := hwp.2 c5
        refine lv_aload_n hx hb dX4_item_59 rfl (lv_at hl 2 rfl) ?_
        refine m_geti hx hb hts hown hK hP 0 (by decide) rfl q1346 rfl dX4_item_60 ?_
        refine lv_bipush (v := 8) hx hb dX4_item_63 (by decide) ?_
        refine lv_icmp_ne (tgt := 74) hx hb dX4_item_65 (by decide) (fun c6 => ?_) (fun c6 => ?_)
        · replace hwp := hwp.1 c6
          exact mk_item_74 X _ σ3 hwp H locs ls hP hS (lv_sub hl [2, 0] rfl)
        · replace hwp := hwp.2 c6
          refine lv_aload_n hx hb dX4_item_68 rfl (lv_at hl 2 rfl) ?_
          refine lv_iload_n hx hb dX4_item_69 rfl (lv_at hl 1 rfl) ?_
          refine m_calli ⟨hx, hb, hml, hown, hts⟩ hK hD hA hP hS (mt_wrong hwp) (cwV 1 hts (lw_V q1621 q1623 qs50 q79 q1624) rfl rfl rfl (by decide +kernel) ⟨Nat.le_of_ble_eq_true rfl, Nat.le_of_ble_eq_true rfl⟩) rfl hl.1 rfl (Nat.le_of_ble_eq_true rfl) dX4_item_70 ⟨Nat.zero_le _, Nat.zero_le _⟩ (fun r7 σ8 H locs hk hP hS => ?_)
          have hwp := hk
          obtain ⟨hv01, hwp⟩ := hwp
          exact m_zret hx hb hr hlk hK hP hS hv01 hwp dX4_item_73
    · replace hwp := hwp.2 c4
      refine lv_iconst (v := 0) hx hb dX4_item_53 (by decide) ?_
      exact m_zret (v := 0) hx hb hr hlk hK hP hS (Or.inl rfl) hwp dX4_item_54
  · replace hwp := hwp.2 c1
    refine lv_aload_n hx hb dX4_item_7 rfl (lv_at hl 0 rfl) ?_
    refine lv_iload_n hx hb dX4_item_8 rfl (lv_at hl 1 rfl) ?_
    refine m_calli ⟨hx, hb, hml, hown, hts⟩ hK hD hA hP hS (mt_isWordAt hwp) (cwV 1 hts (lw_V q1613 q1615 qs48 q79 q1616) rfl rfl rfl (by decide +kernel) ⟨Nat.le_of_ble_eq_true rfl, Nat.le_of_ble_eq_true rfl⟩) rfl hl.1 rfl (Nat.le_of_ble_eq_true rfl) dX4_item_9 ⟨Nat.zero_le _, Nat.zero_le _⟩ (fun r9 u H locs hk hP hS => ?_)
    obtain ⟨hwp, eu⟩ := hk
    rw [eu] at hP
    refine lv_if_eq (tgt := 32) hx hb dX4_item_12 (by decide) (fun c10 => ?_) (fun c10 => ?_)
    · replace hwp := hwp.1 c10
      refine lv_iinc (v := x1 + 1) (lv' := [(1, .int (x1 + 1)), (0, .ref (α 50))]) hx hb dX4_item_32 hl (k := 1) rfl rfl (by decide) rfl (fun ls hl => ?_)
      refine lv_goto (tgt := 2) hx hb dX4_item_35 (by decide) ?_
      exact hL2 _ σ hwp H locs ls hP hS (lv_sub hl [1, 0] rfl)
    · replace hwp := hwp.2 c10
      refine lv_aload_n hx hb dX4_item_15 rfl (lv_at hl 0 rfl) ?_
      refine lv_iload_n hx hb dX4_item_16 rfl (lv_at hl 1 rfl) ?_
      refine m_calli ⟨hx, hb, hml, hown, hts⟩ hK hD hA hP hS (mt_isFull hwp) (cwV 1 hts (lw_V q1617 q1619 qs49 q79 q1620) rfl rfl rfl (by decide +kernel) ⟨Nat.le_of_ble_eq_true rfl, Nat.le_of_ble_eq_true rfl⟩) rfl hl.1 rfl (Nat.le_of_ble_eq_true rfl) dX4_item_17 ⟨Nat.zero_le _, Nat.zero_le _⟩ (fun r11 u H locs hk hP hS => ?_)
      obtain ⟨hwp, eu⟩ := hk
      rw [eu] at hP
      refine lv_if_eq (tgt := 32) hx hb dX4_item_20 (by decide) (fun c12 => ?_) (fun c12 => ?_)
      · replace hwp := hwp.1 c12
        refine lv_iinc (v := x1 + 1) (lv' := [(1, .int (x1 + 1)), (0, .ref (α 50))]) hx hb dX4_item_32 hl (k := 1) rfl rfl (by decide) rfl (fun ls hl => ?_)
        refine lv_goto (tgt := 2) hx hb dX4_item_35 (by decide) ?_
        exact hL2 _ σ hwp H locs ls hP hS (lv_sub hl [1, 0] rfl)
      · replace hwp := hwp.2 c12
        refine lv_aload_n hx hb dX4_item_23 rfl (lv_at hl 0 rfl) ?_
        refine lv_aload_n hx hb dX4_item_24 rfl (lv_at hl 0 rfl) ?_
        refine m_geti hx hb hts hown hK hP 23 (by decide) rfl q1369 rfl dX4_item_25 ?_
        refine m_calli ⟨hx, hb, hml, hown, hts⟩ hK hD hA hP hS (mt_wrong hwp) (cwV 1 hts (lw_V q1621 q1623 qs50 q79 q1624) rfl rfl rfl (by decide +kernel) ⟨Nat.le_of_ble_eq_true rfl, Nat.le_of_ble_eq_true rfl⟩) rfl hl.1 rfl (Nat.le_of_ble_eq_true rfl) dX4_item_28 ⟨Nat.zero_le _, Nat.zero_le _⟩ (fun r13 σ14 H locs hk hP hS => ?_)
        have hwp := hk
        obtain ⟨hv01, hwp⟩ := hwp
        exact m_zret hx hb hr hlk hK hP hS hv01 hwp dX4_item_31
set_option maxHeartbeats 4000000 in
set_option maxRecDepth 100000 in
theorem mk_item_2 {p : Program} {l : Launch} {e : Env} {s : State} {m : MethodId} {args : Array Value} {below : List Frame} {meth : Method} {c : Code} {Γ : GA} {α : Nat → Nat} {K : Int32 → MSt → Prop} (X : CM p s m args meth c cX4_item 6 (some .boolean) Γ α) : ∀ n (x1 : Int32) (σ : MSt), mw_item_2 K n x1 σ → TM p l e ({ frames := 2, cells := 0, slots := 0, locals := 45 } : Room) s m args below meth c 6 (QI below K Γ α s args) Γ α σ 2 [(0, .ref (α 50)), (1, .int x1)] [] := by
  intro n
  induction n with
  | zero => intro _ _ hwp; exact hwp.elim
  | succ n ih => intro x1 σ hwp; exact mk_item_2_b X ih x1 σ hwp
def mw_item (K : Int32 → MSt → Prop) (σ : MSt) : Prop :=
  ∃ n, mw_item_2 K n 0 σ
set_option maxHeartbeats 4000000 in
set_option maxRecDepth 100000 in
theorem mt_item {l : Launch} {Γ : GA} {α : Nat → Nat} {σ : MSt} {K : Int32 → MSt → Prop} (hwp : mw_item K  σ) : mI l yX4_item cX4_item 6 (some .boolean) ({ frames := 2, cells := 0, slots := 0, locals := 45 } : Room) Γ α [] σ K := by
  intro sz
  refine m_of (by decide) rfl [(0, .ref (α 50))] (fun _ h => h) (Nat.le_of_ble_eq_true rfl) ?_
  intro p e s m args below meth c hsz X H locs ls hP hS hl
  subst hsz
  obtain ⟨hx, hb, hml, hown, hts, hK, hD, hr, hlk⟩ := id X
  have hA : ∀ q, s.heap.size ≤ q → AM α s.heap.size q := fun q h => Or.inr h
  unfold mw_item at hwp
  refine lv_iconst (v := 0) hx hb dX4_item_0 (by decide) ?_
  refine lv_istore_n (lv' := [(1, .int 0), (0, .ref (α 50))]) hx hb dX4_item_1 rfl hl (by decide) rfl (fun ls hl => ?_)
  obtain ⟨n, hwp⟩ := hwp
  exact mk_item_2 X n _ σ hwp H locs ls hP hS (lv_sub hl [1, 0] rfl)
/-! wants -/
def mw_wants (σ : MSt) (K : Int32 → Prop) (x1 : Int32) : Prop :=
  mw_isShelf σ (fun r1 => ((¬ (r1 = 0)) → (vp_in x1 (lenM 14) ∧ (((¬ ((σ.2.1 14 x1.toNatClampNeg) = 2)) → (vp_in x1 (lenM 14) ∧ (((¬ ((σ.2.1 14 x1.toNatClampNeg) = 0)) → (K 0)) ∧ (((σ.2.1 14 x1.toNatClampNeg) = 0) → (K (-3)))))) ∧ (((σ.2.1 14 x1.toNatClampNeg) = 2) → (K (-2)))))) ∧ ((r1 = 0) → (K (-1)))) x1
set_option maxHeartbeats 4000000 in
set_option maxRecDepth 100000 in
theorem mt_wants {l : Launch} {Γ : GA} {α : Nat → Nat} {σ : MSt} {K : Int32 → Prop} {x1 : Int32} (hwp : mw_wants σ K x1) : mI l yX4_wants cX4_wants 2 (some .int) ({ frames := 1, cells := 0, slots := 0, locals := 21 } : Room) Γ α [.int x1] σ (fun r u => K r ∧ u = σ) := by
  intro sz
  refine m_of (by decide) rfl [(0, .ref (α 50)), (1, .int x1)] (fun _ h => h) (Nat.le_of_ble_eq_true rfl) ?_
  intro p e s m args below meth c hsz X H locs ls hP hS hl
  subst hsz
  obtain ⟨hx, hb, hml, hown, hts, hK, hD, hr, hlk⟩ := id X
  have hA : ∀ q, s.heap.size ≤ q → AM α s.heap.size q := fun q h => Or.inr h
  unfold mw_wants at hwp
  refine lv_aload_n hx hb dX4_wants_0 rfl (lv_at hl 0 rfl) ?_
  refine lv_iload_n hx hb dX4_wants_1 rfl (lv_at hl 1 rfl) ?_
  refine m_calli ⟨hx, hb, hml, hown, hts⟩ hK hD hA hP hS (mt_isShelf hwp) (cwV 1 hts (lw_V q1465 q1467 qs24 q79 q1468) rfl rfl rfl (by decide +kernel) ⟨Nat.le_of_ble_eq_true rfl, Nat.le_of_ble_eq_true rfl⟩) rfl hl.1 rfl (Nat.le_of_ble_eq_true rfl) dX4_wants_2 ⟨Nat.zero_le _, Nat.zero_le _⟩ (fun r1 u H locs hk hP hS => ?_)
  obtain ⟨hwp, eu⟩ := hk
  rw [eu] at hP
  refine lv_if_ne (tgt := 12) hx hb dX4_wants_5 (by decide) (fun c2 => ?_) (fun c2 => ?_)
  · replace hwp := hwp.1 c2
    refine lv_aload_n hx hb dX4_wants_12 rfl (lv_at hl 0 rfl) ?_
    refine m_geta hx hb hts hown hK hP 14 (by decide) rfl q1360 rfl dX4_wants_13 ?_
    refine lv_iload_n hx hb dX4_wants_16 rfl (lv_at hl 1 rfl) ?_
    obtain ⟨hi3, hwp⟩ := hwp
    refine m_iald hx hb hK hP 14 rfl hi3 dX4_wants_17 ?_
    refine lv_iconst (v := 2) hx hb dX4_wants_18 (by decide) ?_
    refine lv_icmp_ne (tgt := 27) hx hb dX4_wants_19 (by decide) (fun c4 => ?_) (fun c4 => ?_)
    · replace hwp := hwp.1 c4
      refine lv_aload_n hx hb dX4_wants_27 rfl (lv_at hl 0 rfl) ?_
      refine m_geta hx hb hts hown hK hP 14 (by decide) rfl q1360 rfl dX4_wants_28 ?_
      refine lv_iload_n hx hb dX4_wants_31 rfl (lv_at hl 1 rfl) ?_
      obtain ⟨hi5, hwp⟩ := hwp
      refine m_iald hx hb hK hP 14 rfl hi5 dX4_wants_32 ?_
      refine lv_if_ne (tgt := 41) hx hb dX4_wants_33 (by decide) (fun c6 => ?_) (fun c6 => ?_)
      · replace hwp := hwp.1 c6
        refine lv_iconst (v := 0) hx hb dX4_wants_41 (by decide) ?_
        exact m_iret hx hb hr hlk hK hP hS ⟨hwp, rfl⟩ dX4_wants_42
      · replace hwp := hwp.2 c6
        refine lv_bipush (v := (-3)) hx hb dX4_wants_36 (by decide) ?_
        refine lv_goto (tgt := 42) hx hb dX4_wants_38 (by decide) ?_
        exact m_iret hx hb hr hlk hK hP hS ⟨hwp, rfl⟩ dX4_wants_42
    · replace hwp := hwp.2 c4
      refine lv_bipush (v := (-2)) hx hb dX4_wants_22 (by decide) ?_
      refine lv_goto (tgt := 42) hx hb dX4_wants_24 (by decide) ?_
      exact m_iret hx hb hr hlk hK hP hS ⟨hwp, rfl⟩ dX4_wants_42
  · replace hwp := hwp.2 c2
    refine lv_iconst (v := (-1)) hx hb dX4_wants_8 (by decide) ?_
    refine lv_goto (tgt := 42) hx hb dX4_wants_9 (by decide) ?_
    exact m_iret hx hb hr hlk hK hP hS ⟨hwp, rfl⟩ dX4_wants_42
/-! ground -/
def mw_ground_133 (K : Int32 → MSt → Prop) (x3 : Int32) (x4 : Int32) (σ : MSt) : Prop :=
  ((x4 = 0) → (mw_all (fun σ2 => ∀ σ3, σ3 = sF σ2 5 (σ2.1 26) → (mw_no (fun r4 σ5 => K r4 σ5) (-6) σ3)) 27 1 σ)) ∧ ((¬ (x4 = 0)) → (K x3 σ))
set_option maxHeartbeats 4000000 in
set_option maxRecDepth 100000 in
theorem mk_ground_133 {p : Program} {l : Launch} {e : Env} {s : State} {m : MethodId} {args : Array Value} {below : List Frame} {meth : Method} {c : Code} {Γ : GA} {α : Nat → Nat} {K : Int32 → MSt → Prop} (X : CM p s m args meth c cX4_ground 5 (some .int) Γ α) : ∀ (x3 : Int32) (x4 : Int32) (σ : MSt), mw_ground_133 K x3 x4 σ → TM p l e ({ frames := 3, cells := 0, slots := 0, locals := 70 } : Room) s m args below meth c 5 (QI below K Γ α s args) Γ α σ 133 [(0, .ref (α 50)), (3, .int x3), (4, .int x4)] [] := by
  obtain ⟨hx, hb, hml, hown, hts, hK, hD, hr, hlk⟩ := id X
  have hA : ∀ q, s.heap.size ≤ q → AM α s.heap.size q := fun q h => Or.inr h
  intro x3 x4 σ hwp H locs ls hP hS hl
  unfold mw_ground_133 at hwp
  refine lv_iload hx hb dX4_ground_133 (lv_at hl 2 rfl) ?_
  refine lv_if_eq (tgt := 140) hx hb dX4_ground_135 (by decide) (fun c1 => ?_) (fun c1 => ?_)
  · replace hwp := hwp.1 c1
    refine lv_aload_n hx hb dX4_ground_140 rfl (lv_at hl 0 rfl) ?_
    refine lv_aload_n hx hb dX4_ground_141 rfl (lv_at hl 0 rfl) ?_
    refine m_geta hx hb hts hown hK hP 27 (by decide) rfl q1373 rfl dX4_ground_142 ?_
    refine lv_iconst (v := 1) hx hb dX4_ground_145 (by decide) ?_
    refine m_callv ⟨hx, hb, hml, hown, hts⟩ hK hD hA hP hS (mt_all rfl hwp) (cwV 2 hts (lw_V q1601 q1603 qs45 q79 q1604) rfl rfl rfl (by decide +kernel) ⟨Nat.le_of_ble_eq_true rfl, Nat.le_of_ble_eq_true rfl⟩) rfl hl.1 rfl (Nat.le_of_ble_eq_true rfl) dX4_ground_146 ⟨Nat.zero_le _, Nat.zero_le _⟩ (fun σ2 H locs hk hP hS => ?_)
    have hwp := hk
    refine lv_aload_n hx hb dX4_ground_149 rfl (lv_at hl 0 rfl) ?_
    refine lv_aload_n hx hb dX4_ground_150 rfl (lv_at hl 0 rfl) ?_
    refine m_geti hx hb hts hown hK hP 26 (by decide) rfl q1372 rfl dX4_ground_151 ?_
    refine m_put hx hb hts hown hK hD hP hS 5 (by decide) rfl q1351 rfl rfl rfl rfl dX4_ground_154 (fun H locs hP hS => ?_)
    obtain ⟨σ3, eσ3⟩ : ∃ z, z = sF σ2 5 (σ2.1 26) := ⟨_, rfl⟩
    rw [← eσ3] at hP
    replace hwp := hwp σ3 eσ3
    refine lv_aload_n hx hb dX4_ground_157 rfl (lv_at hl 0 rfl) ?_
    refine lv_bipush (v := (-6)) hx hb dX4_ground_158 (by decide) ?_
    refine m_calli ⟨hx, hb, hml, hown, hts⟩ hK hD hA hP hS (mt_no hwp) (cwV 1 hts (lw_V q1469 q1471 qs25 q79 q1472) rfl rfl rfl (by decide +kernel) ⟨Nat.le_of_ble_eq_true rfl, Nat.le_of_ble_eq_true rfl⟩) rfl hl.1 rfl (Nat.le_of_ble_eq_true rfl) dX4_ground_160 ⟨Nat.zero_le _, Nat.zero_le _⟩ (fun r4 σ5 H locs hk hP hS => ?_)
    have hwp := hk
    exact m_iret hx hb hr hlk hK hP hS hwp dX4_ground_163
  · replace hwp := hwp.2 c1
    refine lv_iload_n hx hb dX4_ground_138 rfl (lv_at hl 1 rfl) ?_
    exact m_iret hx hb hr hlk hK hP hS hwp dX4_ground_139
def mw_ground_62_b (K : Int32 → MSt → Prop) (L62 : Int32 → Int32 → MSt → Prop) (x3 : Int32) (x4 : Int32) (σ : MSt) : Prop :=
  ((x4 = 0) → (mw_ground_133 K x3 x4 σ)) ∧ ((¬ (x4 = 0)) → ((((σ.1 24) ≤ (σ.1 23)) → (mw_ground_133 K x3 x4 σ)) ∧ ((¬ ((σ.1 24) ≤ (σ.1 23))) → (vp_in ((σ.1 22) + (σ.1 23)) (lenM 18) ∧ (((((σ.2.2 18 ((σ.1 22) + (σ.1 23)).toNatClampNeg).toInt32) = 59) → (∀ σ5, σ5 = sF σ 23 ((σ.1 23) + 1) → (mw_item (fun r6 σ7 => L62 (x3 + 1) r6 σ7) σ5))) ∧ ((¬ (((σ.2.2 18 ((σ.1 22) + (σ.1 23)).toNatClampNeg).toInt32) = 59)) → (mw_wrong (fun r8 σ9 => L62 x3 r8 σ9) (σ.1 23) σ)))))))
def mw_ground_62 (K : Int32 → MSt → Prop) : Nat → Int32 → Int32 → MSt → Prop
  | 0 => fun _ _ _ => False
  | n + 1 => fun x3 x4 σ => mw_ground_62_b K (mw_ground_62 K n) x3 x4 σ
set_option maxHeartbeats 4000000 in
set_option maxRecDepth 100000 in
theorem mk_ground_62_b {p : Program} {l : Launch} {e : Env} {s : State} {m : MethodId} {args : Array Value} {below : List Frame} {meth : Method} {c : Code} {Γ : GA} {α : Nat → Nat} {K : Int32 → MSt → Prop} (X : CM p s m args meth c cX4_ground 5 (some .int) Γ α) {L62 : Int32 → Int32 → MSt → Prop} (hL62 : ∀ (x3 : Int32) (x4 : Int32) (σ : MSt), L62 x3 x4 σ → TM p l e ({ frames := 3, cells := 0, slots := 0, locals := 70 } : Room) s m args below meth c 5 (QI below K Γ α s args) Γ α σ 62 [(0, .ref (α 50)), (3, .int x3), (4, .int x4)] []) : ∀ (x3 : Int32) (x4 : Int32) (σ : MSt), mw_ground_62_b K L62 x3 x4 σ → TM p l e ({ frames := 3, cells := 0, slots := 0, locals := 70 } : Room) s m args below meth c 5 (QI below K Γ α s args) Γ α σ 62 [(0, .ref (α 50)), (3, .int x3), (4, .int x4)] [] := by
  obtain ⟨hx, hb, hml, hown, hts, hK, hD, hr, hlk⟩ := id X
  have hA : ∀ q, s.heap.size ≤ q → AM α s.heap.size q := fun q h => Or.inr h
  intro x3 x4 σ hwp H locs ls hP hS hl
  unfold mw_ground_62_b at hwp
  refine lv_iload hx hb dX4_ground_62 (lv_at hl 2 rfl) ?_
  refine lv_if_eq (tgt := 133) hx hb dX4_ground_64 (by decide) (fun c1 => ?_) (fun c1 => ?_)
  · replace hwp := hwp.1 c1
    exact mk_ground_133 X _ _ σ hwp H locs ls hP hS (lv_sub hl [0, 1, 2] rfl)
  · replace hwp := hwp.2 c1
    refine lv_aload_n hx hb dX4_ground_67 rfl (lv_at hl 0 rfl) ?_
    refine m_geti hx hb hts hown hK hP 23 (by decide) rfl q1369 rfl dX4_ground_68 ?_
    refine lv_aload_n hx hb dX4_ground_71 rfl (lv_at hl 0 rfl) ?_
    refine m_geti hx hb hts hown hK hP 24 (by decide) rfl q1370 rfl dX4_ground_72 ?_
    refine lv_icmp_ge (tgt := 133) hx hb dX4_ground_75 (by decide) (fun c2 => ?_) (fun c2 => ?_)
    · replace hwp := hwp.1 c2
      exact mk_ground_133 X _ _ σ hwp H locs ls hP hS (lv_sub hl [0, 1, 2] rfl)
    · replace hwp := hwp.2 c2
      refine lv_aload_n hx hb dX4_ground_78 rfl (lv_at hl 0 rfl) ?_
      refine m_geta hx hb hts hown hK hP 18 (by decide) rfl q1364 rfl dX4_ground_79 ?_
      refine lv_aload_n hx hb dX4_ground_82 rfl (lv_at hl 0 rfl) ?_
      refine m_geti hx hb hts hown hK hP 22 (by decide) rfl q1368 rfl dX4_ground_83 ?_
      refine lv_aload_n hx hb dX4_ground_86 rfl (lv_at hl 0 rfl) ?_
      refine m_geti hx hb hts hown hK hP 23 (by decide) rfl q1369 rfl dX4_ground_87 ?_
      refine lv_iadd hx hb dX4_ground_90 ?_
      obtain ⟨hi3, hwp⟩ := hwp
      refine m_lald hx hb hK hP 18 (Or.inl rfl) hi3 dX4_ground_91 ?_
      refine lv_l2i (v := (σ.2.2 18 ((σ.1 22) + (σ.1 23)).toNatClampNeg).toInt32) hx hb dX4_ground_92 rfl ?_
      refine lv_bipush (v := 59) hx hb dX4_ground_93 (by decide) ?_
      refine lv_icmp_eq (tgt := 111) hx hb dX4_ground_95 (by decide) (fun c4 => ?_) (fun c4 => ?_)
      · replace hwp := hwp.1 c4
        refine lv_aload_n hx hb dX4_ground_111 rfl (lv_at hl 0 rfl) ?_
        refine lv_dup hx hb dX4_ground_112 rfl ?_
        refine m_geti hx hb hts hown hK hP 23 (by decide) rfl q1369 rfl dX4_ground_113 ?_
        refine lv_iconst (v := 1) hx hb dX4_ground_116 (by decide) ?_
        refine lv_iadd hx hb dX4_ground_117 ?_
        refine m_put hx hb hts hown hK hD hP hS 23 (by decide) rfl q1369 rfl rfl rfl rfl dX4_ground_118 (fun H locs hP hS => ?_)
        obtain ⟨σ5, eσ5⟩ : ∃ z, z = sF σ 23 ((σ.1 23) + 1) := ⟨_, rfl⟩
        rw [← eσ5] at hP
        replace hwp := hwp σ5 eσ5
        refine lv_iinc (v := x3 + 1) (lv' := [(3, .int (x3 + 1)), (0, .ref (α 50)), (4, .int x4)]) hx hb dX4_ground_121 hl (k := 1) rfl rfl (by decide) rfl (fun ls hl => ?_)
        refine lv_aload_n hx hb dX4_ground_124 rfl (lv_at hl 1 rfl) ?_
        refine m_calli ⟨hx, hb, hml, hown, hts⟩ hK hD hA hP hS (mt_item hwp) (cwV 0 hts (lw_V q1609 q1611 qs47 q79 q1612) rfl rfl rfl (by decide +kernel) ⟨Nat.le_of_ble_eq_true rfl, Nat.le_of_ble_eq_true rfl⟩) rfl hl.1 rfl (Nat.le_of_ble_eq_true rfl) dX4_ground_125 ⟨Nat.zero_le _, Nat.zero_le _⟩ (fun r6 σ7 H locs hk hP hS => ?_)
        have hwp := hk
        refine lv_istore (lv' := [(4, .int r6), (3, .int (x3 + 1)), (0, .ref (α 50))]) hx hb dX4_ground_128 hl (by decide) rfl (fun ls hl => ?_)
        refine lv_goto (tgt := 62) hx hb dX4_ground_130 (by decide) ?_
        exact hL62 _ _ σ7 hwp H locs ls hP hS (lv_sub hl [2, 1, 0] rfl)
      · replace hwp := hwp.2 c4
        refine lv_aload_n hx hb dX4_ground_98 rfl (lv_at hl 0 rfl) ?_
        refine lv_aload_n hx hb dX4_ground_99 rfl (lv_at hl 0 rfl) ?_
        refine m_geti hx hb hts hown hK hP 23 (by decide) rfl q1369 rfl dX4_ground_100 ?_
        refine m_calli ⟨hx, hb, hml, hown, hts⟩ hK hD hA hP hS (mt_wrong hwp) (cwV 1 hts (lw_V q1621 q1623 qs50 q79 q1624) rfl rfl rfl (by decide +kernel) ⟨Nat.le_of_ble_eq_true rfl, Nat.le_of_ble_eq_true rfl⟩) rfl hl.1 rfl (Nat.le_of_ble_eq_true rfl) dX4_ground_103 ⟨Nat.zero_le _, Nat.zero_le _⟩ (fun r8 σ9 H locs hk hP hS => ?_)
        have hwp := hk
        refine lv_istore (lv' := [(4, .int r8), (0, .ref (α 50)), (3, .int x3)]) hx hb dX4_ground_106 hl (by decide) rfl (fun ls hl => ?_)
        refine lv_goto (tgt := 62) hx hb dX4_ground_108 (by decide) ?_
        exact hL62 _ _ σ9 hwp H locs ls hP hS (lv_sub hl [1, 2, 0] rfl)
set_option maxHeartbeats 4000000 in
set_option maxRecDepth 100000 in
theorem mk_ground_62 {p : Program} {l : Launch} {e : Env} {s : State} {m : MethodId} {args : Array Value} {below : List Frame} {meth : Method} {c : Code} {Γ : GA} {α : Nat → Nat} {K : Int32 → MSt → Prop} (X : CM p s m args meth c cX4_ground 5 (some .int) Γ α) : ∀ n (x3 : Int32) (x4 : Int32) (σ : MSt), mw_ground_62 K n x3 x4 σ → TM p l e ({ frames := 3, cells := 0, slots := 0, locals := 70 } : Room) s m args below meth c 5 (QI below K Γ α s args) Γ α σ 62 [(0, .ref (α 50)), (3, .int x3), (4, .int x4)] [] := by
  intro n
  induction n with
  | zero => intro _ _ _ hwp; exact hwp.elim
  | succ n ih => intro x3 x4 σ hwp; exact mk_ground_62_b X ih x3 x4 σ hwp
def mw_ground (K : Int32 → MSt → Prop) (x1 : Int32) (σ : MSt) : Prop :=
  mw_wants σ (fun r1 => ((r1 = 0) → (mw_all (fun σ3 => ∀ σ4, σ4 = sF σ3 22 (160 * x1) → (∀ σ5, σ5 = sF σ4 23 0 → (vp_in x1 (lenM 16) ∧ (∀ σ7, σ7 = sF σ5 24 (σ5.2.1 16 x1.toNatClampNeg) → (∀ σ8, σ8 = sF σ7 5 (-1) → (mw_item (fun r9 σ10 => ∃ n, mw_ground_62 K n 1 r9 σ10) σ8)))))) 27 0 σ)) ∧ ((¬ (r1 = 0)) → (mw_no (fun r11 σ12 => K r11 σ12) r1 σ))) x1
set_option maxHeartbeats 4000000 in
set_option maxRecDepth 100000 in
theorem mt_ground {l : Launch} {Γ : GA} {α : Nat → Nat} {σ : MSt} {K : Int32 → MSt → Prop} {x1 : Int32} (hwp : mw_ground K x1 σ) : mI l yX4_ground cX4_ground 5 (some .int) ({ frames := 3, cells := 0, slots := 0, locals := 70 } : Room) Γ α [.int x1] σ K := by
  intro sz
  refine m_of (by decide) rfl [(0, .ref (α 50)), (1, .int x1)] (fun _ h => h) (Nat.le_of_ble_eq_true rfl) ?_
  intro p e s m args below meth c hsz X H locs ls hP hS hl
  subst hsz
  obtain ⟨hx, hb, hml, hown, hts, hK, hD, hr, hlk⟩ := id X
  have hA : ∀ q, s.heap.size ≤ q → AM α s.heap.size q := fun q h => Or.inr h
  unfold mw_ground at hwp
  refine lv_aload_n hx hb dX4_ground_0 rfl (lv_at hl 0 rfl) ?_
  refine lv_iload_n hx hb dX4_ground_1 rfl (lv_at hl 1 rfl) ?_
  refine m_calli ⟨hx, hb, hml, hown, hts⟩ hK hD hA hP hS (mt_wants hwp) (cwV 1 hts (lw_V q1597 q1599 qs44 q79 q1600) rfl rfl rfl (by decide +kernel) ⟨Nat.le_of_ble_eq_true rfl, Nat.le_of_ble_eq_true rfl⟩) rfl hl.1 rfl (Nat.le_of_ble_eq_true rfl) dX4_ground_2 ⟨Nat.zero_le _, Nat.zero_le _⟩ (fun r1 u H locs hk hP hS => ?_)
  obtain ⟨hwp, eu⟩ := hk
  rw [eu] at hP
  refine lv_istore_n (lv' := [(2, .int r1), (0, .ref (α 50)), (1, .int x1)]) hx hb dX4_ground_5 rfl hl (by decide) rfl (fun ls hl => ?_)
  refine lv_iload_n hx hb dX4_ground_6 rfl (lv_at hl 0 rfl) ?_
  refine lv_if_eq (tgt := 16) hx hb dX4_ground_7 (by decide) (fun c2 => ?_) (fun c2 => ?_)
  · replace hwp := hwp.1 c2
    refine lv_aload_n hx hb dX4_ground_16 rfl (lv_at hl 1 rfl) ?_
    refine lv_aload_n hx hb dX4_ground_17 rfl (lv_at hl 1 rfl) ?_
    refine m_geta hx hb hts hown hK hP 27 (by decide) rfl q1373 rfl dX4_ground_18 ?_
    refine lv_iconst (v := 0) hx hb dX4_ground_21 (by decide) ?_
    refine m_callv ⟨hx, hb, hml, hown, hts⟩ hK hD hA hP hS (mt_all rfl hwp) (cwV 2 hts (lw_V q1601 q1603 qs45 q79 q1604) rfl rfl rfl (by decide +kernel) ⟨Nat.le_of_ble_eq_true rfl, Nat.le_of_ble_eq_true rfl⟩) rfl hl.1 rfl (Nat.le_of_ble_eq_true rfl) dX4_ground_22 ⟨Nat.zero_le _, Nat.zero_le _⟩ (fun σ3 H locs hk hP hS => ?_)
    have hwp := hk
    refine lv_aload_n hx hb dX4_ground_25 rfl (lv_at hl 1 rfl) ?_
    refine lv_sipush (v := 160) hx hb dX4_ground_26 (by decide) ?_
    refine lv_iload_n hx hb dX4_ground_29 rfl (lv_at hl 2 rfl) ?_
    refine lv_imul hx hb dX4_ground_30 ?_
    refine m_put hx hb hts hown hK hD hP hS 22 (by decide) rfl q1368 rfl rfl rfl rfl dX4_ground_31 (fun H locs hP hS => ?_)
    obtain ⟨σ4, eσ4⟩ : ∃ z, z = sF σ3 22 (160 * x1) := ⟨_, rfl⟩
    rw [← eσ4] at hP
    replace hwp := hwp σ4 eσ4
    refine lv_aload_n hx hb dX4_ground_34 rfl (lv_at hl 1 rfl) ?_
    refine lv_iconst (v := 0) hx hb dX4_ground_35 (by decide) ?_
    refine m_put hx hb hts hown hK hD hP hS 23 (by decide) rfl q1369 rfl rfl rfl rfl dX4_ground_36 (fun H locs hP hS => ?_)
    obtain ⟨σ5, eσ5⟩ : ∃ z, z = sF σ4 23 0 := ⟨_, rfl⟩
    rw [← eσ5] at hP
    replace hwp := hwp σ5 eσ5
    refine lv_aload_n hx hb dX4_ground_39 rfl (lv_at hl 1 rfl) ?_
    refine lv_aload_n hx hb dX4_ground_40 rfl (lv_at hl 1 rfl) ?_
    refine m_geta hx hb hts hown hK hP 16 (by decide) rfl q1362 rfl dX4_ground_41 ?_
    refine lv_iload_n hx hb dX4_ground_44 rfl (lv_at hl 2 rfl) ?_
    obtain ⟨hi6, hwp⟩ := hwp
    refine m_iald hx hb hK hP 16 rfl hi6 dX4_ground_45 ?_
    refine m_put hx hb hts hown hK hD hP hS 24 (by decide) rfl q1370 rfl rfl rfl rfl dX4_ground_46 (fun H locs hP hS => ?_)
    obtain ⟨σ7, eσ7⟩ : ∃ z, z = sF σ5 24 (σ5.2.1 16 x1.toNatClampNeg) := ⟨_, rfl⟩
    rw [← eσ7] at hP
    replace hwp := hwp σ7 eσ7
    refine lv_aload_n hx hb dX4_ground_49 rfl (lv_at hl 1 rfl) ?_
    refine lv_iconst (v := (-1)) hx hb dX4_ground_50 (by decide) ?_
    refine m_put hx hb hts hown hK hD hP hS 5 (by decide) rfl q1351 rfl rfl rfl rfl dX4_ground_51 (fun H locs hP hS => ?_)
    obtain ⟨σ8, eσ8⟩ : ∃ z, z = sF σ7 5 (-1) := ⟨_, rfl⟩
    rw [← eσ8] at hP
    replace hwp := hwp σ8 eσ8
    refine lv_iconst (v := 1) hx hb dX4_ground_54 (by decide) ?_
    refine lv_istore_n (lv' := [(3, .int 1), (2, .int r1), (0, .ref (α 50)), (1, .int x1)]) hx hb dX4_ground_55 rfl hl (by decide) rfl (fun ls hl => ?_)
    refine lv_aload_n hx hb dX4_ground_56 rfl (lv_at hl 2 rfl) ?_
    refine m_calli ⟨hx, hb, hml, hown, hts⟩ hK hD hA hP hS (mt_item hwp) (cwV 0 hts (lw_V q1609 q1611 qs47 q79 q1612) rfl rfl rfl (by decide +kernel) ⟨Nat.le_of_ble_eq_true rfl, Nat.le_of_ble_eq_true rfl⟩) rfl hl.1 rfl (Nat.le_of_ble_eq_true rfl) dX4_ground_57 ⟨Nat.zero_le _, Nat.zero_le _⟩ (fun r9 σ10 H locs hk hP hS => ?_)
    have hwp := hk
    refine lv_istore (lv' := [(4, .int r9), (3, .int 1), (2, .int r1), (0, .ref (α 50)), (1, .int x1)]) hx hb dX4_ground_60 hl (by decide) rfl (fun ls hl => ?_)
    obtain ⟨n, hwp⟩ := hwp
    exact mk_ground_62 X n _ _ σ10 hwp H locs ls hP hS (lv_sub hl [3, 1, 0] rfl)
  · replace hwp := hwp.2 c2
    refine lv_aload_n hx hb dX4_ground_10 rfl (lv_at hl 1 rfl) ?_
    refine lv_iload_n hx hb dX4_ground_11 rfl (lv_at hl 0 rfl) ?_
    refine m_calli ⟨hx, hb, hml, hown, hts⟩ hK hD hA hP hS (mt_no hwp) (cwV 1 hts (lw_V q1469 q1471 qs25 q79 q1472) rfl rfl rfl (by decide +kernel) ⟨Nat.le_of_ble_eq_true rfl, Nat.le_of_ble_eq_true rfl⟩) rfl hl.1 rfl (Nat.le_of_ble_eq_true rfl) dX4_ground_12 ⟨Nat.zero_le _, Nat.zero_le _⟩ (fun r11 σ12 H locs hk hP hS => ?_)
    have hwp := hk
    exact m_iret hx hb hr hlk hK hP hS hwp dX4_ground_15
/-! height -/
def mw_height_24 (K : Int32 → MSt → Prop) (σ : MSt) : Prop :=
  mw_no (fun r1 σ2 => K r1 σ2) (-6) σ
set_option maxHeartbeats 4000000 in
set_option maxRecDepth 100000 in
theorem mk_height_24 {p : Program} {l : Launch} {e : Env} {s : State} {m : MethodId} {args : Array Value} {below : List Frame} {meth : Method} {c : Code} {Γ : GA} {α : Nat → Nat} {K : Int32 → MSt → Prop} (X : CM p s m args meth c cX4_height 4 (some .int) Γ α) : ∀ (σ : MSt), mw_height_24 K  σ → TM p l e ({ frames := 1, cells := 0, slots := 0, locals := 21 } : Room) s m args below meth c 4 (QI below K Γ α s args) Γ α σ 24 [(0, .ref (α 50))] [] := by
  obtain ⟨hx, hb, hml, hown, hts, hK, hD, hr, hlk⟩ := id X
  have hA : ∀ q, s.heap.size ≤ q → AM α s.heap.size q := fun q h => Or.inr h
  intro  σ hwp H locs ls hP hS hl
  unfold mw_height_24 at hwp
  refine lv_aload_n hx hb dX4_height_24 rfl (lv_at hl 0 rfl) ?_
  refine lv_bipush (v := (-6)) hx hb dX4_height_25 (by decide) ?_
  refine m_calli ⟨hx, hb, hml, hown, hts⟩ hK hD hA hP hS (mt_no hwp) (cwV 1 hts (lw_V q1469 q1471 qs25 q79 q1472) rfl rfl rfl (by decide +kernel) ⟨Nat.le_of_ble_eq_true rfl, Nat.le_of_ble_eq_true rfl⟩) rfl hl.1 rfl (Nat.le_of_ble_eq_true rfl) dX4_height_27 ⟨Nat.zero_le _, Nat.zero_le _⟩ (fun r1 σ2 H locs hk hP hS => ?_)
  have hwp := hk
  exact m_iret hx hb hr hlk hK hP hS hwp dX4_height_30
def mw_height (K : Int32 → MSt → Prop) (x1 : Int32) (x2 : Int32) (σ : MSt) : Prop :=
  mw_isThing σ (fun r1 => ((¬ (r1 = 0)) → (((x2 < 0) → (mw_height_24 K σ)) ∧ ((¬ (x2 < 0)) → (((x2 ≤ 20) → (vp_in x1 (lenM 10) ∧ (vp_in x1 (lenM 10) ∧ (∀ σ7, σ7 = sI σ 10 x1.toNatClampNeg x2 → (K (σ.2.1 10 x1.toNatClampNeg) σ7))))) ∧ ((¬ (x2 ≤ 20)) → (mw_height_24 K σ)))))) ∧ ((r1 = 0) → (mw_no (fun r8 σ9 => K r8 σ9) (-1) σ))) x1
set_option maxHeartbeats 4000000 in
set_option maxRecDepth 100000 in
theorem mt_height {l : Launch} {Γ : GA} {α : Nat → Nat} {σ : MSt} {K : Int32 → MSt → Prop} {x1 : Int32} {x2 : Int32} (hwp : mw_height K x1 x2 σ) : mI l yX4_height cX4_height 4 (some .int) ({ frames := 1, cells := 0, slots := 0, locals := 21 } : Room) Γ α [.int x1, .int x2] σ K := by
  intro sz
  refine m_of (by decide) rfl [(0, .ref (α 50)), (1, .int x1), (2, .int x2)] (fun _ h => h) (Nat.le_of_ble_eq_true rfl) ?_
  intro p e s m args below meth c hsz X H locs ls hP hS hl
  subst hsz
  obtain ⟨hx, hb, hml, hown, hts, hK, hD, hr, hlk⟩ := id X
  have hA : ∀ q, s.heap.size ≤ q → AM α s.heap.size q := fun q h => Or.inr h
  unfold mw_height at hwp
  refine lv_aload_n hx hb dX4_height_0 rfl (lv_at hl 0 rfl) ?_
  refine lv_iload_n hx hb dX4_height_1 rfl (lv_at hl 1 rfl) ?_
  refine m_calli ⟨hx, hb, hml, hown, hts⟩ hK hD hA hP hS (mt_isThing hwp) (cwV 1 hts (lw_V q1489 q1491 qs26 q79 q1492) rfl rfl rfl (by decide +kernel) ⟨Nat.le_of_ble_eq_true rfl, Nat.le_of_ble_eq_true rfl⟩) rfl hl.1 rfl (Nat.le_of_ble_eq_true rfl) dX4_height_2 ⟨Nat.zero_le _, Nat.zero_le _⟩ (fun r1 u H locs hk hP hS => ?_)
  obtain ⟨hwp, eu⟩ := hk
  rw [eu] at hP
  refine lv_if_ne (tgt := 14) hx hb dX4_height_5 (by decide) (fun c2 => ?_) (fun c2 => ?_)
  · replace hwp := hwp.1 c2
    refine lv_iload_n hx hb dX4_height_14 rfl (lv_at hl 2 rfl) ?_
    refine lv_if_lt (tgt := 24) hx hb dX4_height_15 (by decide) (fun c3 => ?_) (fun c3 => ?_)
    · replace hwp := hwp.1 c3
      exact mk_height_24 X σ hwp H locs ls hP hS (lv_sub hl [0] rfl)
    · replace hwp := hwp.2 c3
      refine lv_iload_n hx hb dX4_height_18 rfl (lv_at hl 2 rfl) ?_
      refine lv_bipush (v := 20) hx hb dX4_height_19 (by decide) ?_
      refine lv_icmp_le (tgt := 31) hx hb dX4_height_21 (by decide) (fun c4 => ?_) (fun c4 => ?_)
      · replace hwp := hwp.1 c4
        refine lv_aload_n hx hb dX4_height_31 rfl (lv_at hl 0 rfl) ?_
        refine m_geta hx hb hts hown hK hP 10 (by decide) rfl q1356 rfl dX4_height_32 ?_
        refine lv_iload_n hx hb dX4_height_35 rfl (lv_at hl 1 rfl) ?_
        obtain ⟨hi5, hwp⟩ := hwp
        refine m_iald hx hb hK hP 10 rfl hi5 dX4_height_36 ?_
        refine lv_istore_n (lv' := [(3, .int (σ.2.1 10 x1.toNatClampNeg)), (0, .ref (α 50)), (1, .int x1), (2, .int x2)]) hx hb dX4_height_37 rfl hl (by decide) rfl (fun ls hl => ?_)
        refine lv_aload_n hx hb dX4_height_38 rfl (lv_at hl 1 rfl) ?_
        refine m_geta hx hb hts hown hK hP 10 (by decide) rfl q1356 rfl dX4_height_39 ?_
        refine lv_iload_n hx hb dX4_height_42 rfl (lv_at hl 2 rfl) ?_
        refine lv_iload_n hx hb dX4_height_43 rfl (lv_at hl 3 rfl) ?_
        obtain ⟨hi6, hwp⟩ := hwp
        refine m_iast hx hb hK hD hP hS 10 rfl hi6 dX4_height_44 (fun H locs hP hS => ?_)
        obtain ⟨σ7, eσ7⟩ : ∃ z, z = sI σ 10 x1.toNatClampNeg x2 := ⟨_, rfl⟩
        rw [← eσ7] at hP
        replace hwp := hwp σ7 eσ7
        refine lv_iload_n hx hb dX4_height_45 rfl (lv_at hl 0 rfl) ?_
        exact m_iret hx hb hr hlk hK hP hS hwp dX4_height_46
      · replace hwp := hwp.2 c4
        exact mk_height_24 X σ hwp H locs ls hP hS (lv_sub hl [0] rfl)
  · replace hwp := hwp.2 c2
    refine lv_aload_n hx hb dX4_height_8 rfl (lv_at hl 0 rfl) ?_
    refine lv_iconst (v := (-1)) hx hb dX4_height_9 (by decide) ?_
    refine m_calli ⟨hx, hb, hml, hown, hts⟩ hK hD hA hP hS (mt_no hwp) (cwV 1 hts (lw_V q1469 q1471 qs25 q79 q1472) rfl rfl rfl (by decide +kernel) ⟨Nat.le_of_ble_eq_true rfl, Nat.le_of_ble_eq_true rfl⟩) rfl hl.1 rfl (Nat.le_of_ble_eq_true rfl) dX4_height_10 ⟨Nat.zero_le _, Nat.zero_le _⟩ (fun r8 σ9 H locs hk hP hS => ?_)
    have hwp := hk
    exact m_iret hx hb hr hlk hK hP hS hwp dX4_height_13
/-! holds -/
def mw_holds (σ : MSt) (K : Int32 → Prop) (x1 : Int32) : Prop :=
  mw_isShelf σ (fun r1 => ((r1 = 0) → (K (-1))) ∧ ((¬ (r1 = 0)) → (vp_in x1 (lenM 14) ∧ (((¬ ((σ.2.1 14 x1.toNatClampNeg) = 0)) → (vp_in x1 (lenM 14) ∧ (((¬ ((σ.2.1 14 x1.toNatClampNeg) = 1)) → (vp_in x1 (lenM 17) ∧ (K (σ.2.1 17 x1.toNatClampNeg)))) ∧ (((σ.2.1 14 x1.toNatClampNeg) = 1) → (vp_in x1 (lenM 15) ∧ (K (100 + (σ.2.1 15 x1.toNatClampNeg)))))))) ∧ (((σ.2.1 14 x1.toNatClampNeg) = 0) → (K (-1))))))) x1
set_option maxHeartbeats 4000000 in
set_option maxRecDepth 100000 in
theorem mt_holds {l : Launch} {Γ : GA} {α : Nat → Nat} {σ : MSt} {K : Int32 → Prop} {x1 : Int32} (hwp : mw_holds σ K x1) : mI l yX4_holds cX4_holds 2 (some .int) ({ frames := 1, cells := 0, slots := 0, locals := 21 } : Room) Γ α [.int x1] σ (fun r u => K r ∧ u = σ) := by
  intro sz
  refine m_of (by decide) rfl [(0, .ref (α 50)), (1, .int x1)] (fun _ h => h) (Nat.le_of_ble_eq_true rfl) ?_
  intro p e s m args below meth c hsz X H locs ls hP hS hl
  subst hsz
  obtain ⟨hx, hb, hml, hown, hts, hK, hD, hr, hlk⟩ := id X
  have hA : ∀ q, s.heap.size ≤ q → AM α s.heap.size q := fun q h => Or.inr h
  unfold mw_holds at hwp
  refine lv_aload_n hx hb dX4_holds_0 rfl (lv_at hl 0 rfl) ?_
  refine lv_iload_n hx hb dX4_holds_1 rfl (lv_at hl 1 rfl) ?_
  refine m_calli ⟨hx, hb, hml, hown, hts⟩ hK hD hA hP hS (mt_isShelf hwp) (cwV 1 hts (lw_V q1465 q1467 qs24 q79 q1468) rfl rfl rfl (by decide +kernel) ⟨Nat.le_of_ble_eq_true rfl, Nat.le_of_ble_eq_true rfl⟩) rfl hl.1 rfl (Nat.le_of_ble_eq_true rfl) dX4_holds_2 ⟨Nat.zero_le _, Nat.zero_le _⟩ (fun r1 u H locs hk hP hS => ?_)
  obtain ⟨hwp, eu⟩ := hk
  rw [eu] at hP
  refine lv_if_eq (tgt := 17) hx hb dX4_holds_5 (by decide) (fun c2 => ?_) (fun c2 => ?_)
  · replace hwp := hwp.1 c2
    refine lv_iconst (v := (-1)) hx hb dX4_holds_17 (by decide) ?_
    exact m_iret hx hb hr hlk hK hP hS ⟨hwp, rfl⟩ dX4_holds_18
  · replace hwp := hwp.2 c2
    refine lv_aload_n hx hb dX4_holds_8 rfl (lv_at hl 0 rfl) ?_
    refine m_geta hx hb hts hown hK hP 14 (by decide) rfl q1360 rfl dX4_holds_9 ?_
    refine lv_iload_n hx hb dX4_holds_12 rfl (lv_at hl 1 rfl) ?_
    obtain ⟨hi3, hwp⟩ := hwp
    refine m_iald hx hb hK hP 14 rfl hi3 dX4_holds_13 ?_
    refine lv_if_ne (tgt := 19) hx hb dX4_holds_14 (by decide) (fun c4 => ?_) (fun c4 => ?_)
    · replace hwp := hwp.1 c4
      refine lv_aload_n hx hb dX4_holds_19 rfl (lv_at hl 0 rfl) ?_
      refine m_geta hx hb hts hown hK hP 14 (by decide) rfl q1360 rfl dX4_holds_20 ?_
      refine lv_iload_n hx hb dX4_holds_23 rfl (lv_at hl 1 rfl) ?_
      obtain ⟨hi5, hwp⟩ := hwp
      refine m_iald hx hb hK hP 14 rfl hi5 dX4_holds_24 ?_
      refine lv_iconst (v := 1) hx hb dX4_holds_25 (by decide) ?_
      refine lv_icmp_ne (tgt := 41) hx hb dX4_holds_26 (by decide) (fun c6 => ?_) (fun c6 => ?_)
      · replace hwp := hwp.1 c6
        refine lv_aload_n hx hb dX4_holds_41 rfl (lv_at hl 0 rfl) ?_
        refine m_geta hx hb hts hown hK hP 17 (by decide) rfl q1363 rfl dX4_holds_42 ?_
        refine lv_iload_n hx hb dX4_holds_45 rfl (lv_at hl 1 rfl) ?_
        obtain ⟨hi7, hwp⟩ := hwp
        refine m_iald hx hb hK hP 17 rfl hi7 dX4_holds_46 ?_
        exact m_iret hx hb hr hlk hK hP hS ⟨hwp, rfl⟩ dX4_holds_47
      · replace hwp := hwp.2 c6
        refine lv_bipush (v := 100) hx hb dX4_holds_29 (by decide) ?_
        refine lv_aload_n hx hb dX4_holds_31 rfl (lv_at hl 0 rfl) ?_
        refine m_geta hx hb hts hown hK hP 15 (by decide) rfl q1361 rfl dX4_holds_32 ?_
        refine lv_iload_n hx hb dX4_holds_35 rfl (lv_at hl 1 rfl) ?_
        obtain ⟨hi8, hwp⟩ := hwp
        refine m_iald hx hb hK hP 15 rfl hi8 dX4_holds_36 ?_
        refine lv_iadd hx hb dX4_holds_37 ?_
        refine lv_goto (tgt := 47) hx hb dX4_holds_38 (by decide) ?_
        exact m_iret hx hb hr hlk hK hP hS ⟨hwp, rfl⟩ dX4_holds_47
    · replace hwp := hwp.2 c4
      refine lv_iconst (v := (-1)) hx hb dX4_holds_17 (by decide) ?_
      exact m_iret hx hb hr hlk hK hP hS ⟨hwp, rfl⟩ dX4_holds_18
/-! image -/
def mw_image (K : Int32 → MSt → Prop) (σ : MSt) : Prop :=
  ∀ σ1, σ1 = sF σ 37 1 → (mw_all (fun σ2 => K (σ2.1 0) σ2) 28 0 σ1)
set_option maxHeartbeats 4000000 in
set_option maxRecDepth 100000 in
theorem mt_image {l : Launch} {Γ : GA} {α : Nat → Nat} {σ : MSt} {K : Int32 → MSt → Prop} (hwp : mw_image K  σ) : mI l yX4_image cX4_image 1 (some .int) ({ frames := 2, cells := 0, slots := 0, locals := 48 } : Room) Γ α [] σ K := by
  intro sz
  refine m_of (by decide) rfl [(0, .ref (α 50))] (fun _ h => h) (Nat.le_of_ble_eq_true rfl) ?_
  intro p e s m args below meth c hsz X H locs ls hP hS hl
  subst hsz
  obtain ⟨hx, hb, hml, hown, hts, hK, hD, hr, hlk⟩ := id X
  have hA : ∀ q, s.heap.size ≤ q → AM α s.heap.size q := fun q h => Or.inr h
  unfold mw_image at hwp
  refine lv_aload_n hx hb dX4_image_0 rfl (lv_at hl 0 rfl) ?_
  refine lv_iconst (v := 1) hx hb dX4_image_1 (by decide) ?_
  refine m_put hx hb hts hown hK hD hP hS 37 (by decide) rfl q1383 rfl rfl rfl rfl dX4_image_2 (fun H locs hP hS => ?_)
  obtain ⟨σ1, eσ1⟩ : ∃ z, z = sF σ 37 1 := ⟨_, rfl⟩
  rw [← eσ1] at hP
  replace hwp := hwp σ1 eσ1
  refine lv_aload_n hx hb dX4_image_5 rfl (lv_at hl 0 rfl) ?_
  refine lv_aload_n hx hb dX4_image_6 rfl (lv_at hl 0 rfl) ?_
  refine m_geta hx hb hts hown hK hP 28 (by decide) rfl q1374 rfl dX4_image_7 ?_
  refine lv_iconst (v := 0) hx hb dX4_image_10 (by decide) ?_
  refine m_callv ⟨hx, hb, hml, hown, hts⟩ hK hD hA hP hS (mt_all rfl hwp) (cwV 2 hts (lw_V q1601 q1603 qs45 q79 q1604) rfl rfl rfl (by decide +kernel) ⟨Nat.le_of_ble_eq_true rfl, Nat.le_of_ble_eq_true rfl⟩) rfl hl.1 rfl (Nat.le_of_ble_eq_true rfl) dX4_image_11 ⟨Nat.zero_le _, Nat.zero_le _⟩ (fun σ2 H locs hk hP hS => ?_)
  have hwp := hk
  refine lv_aload_n hx hb dX4_image_14 rfl (lv_at hl 0 rfl) ?_
  refine m_geti hx hb hts hown hK hP 0 (by decide) rfl q1346 rfl dX4_image_15 ?_
  exact m_iret hx hb hr hlk hK hP hS hwp dX4_image_18
/-! intAt -/
def mw_intAt (σ : MSt) (K : Int32 → Prop) (x1 : Int32) (x2 : Int32) : Prop :=
  vp_in ((160 * x1) + x2) (lenM 18) ∧ (K ((σ.2.2 18 ((160 * x1) + x2).toNatClampNeg).toInt32))
set_option maxHeartbeats 4000000 in
set_option maxRecDepth 100000 in
theorem mt_intAt {l : Launch} {Γ : GA} {α : Nat → Nat} {σ : MSt} {K : Int32 → Prop} {x1 : Int32} {x2 : Int32} (hwp : mw_intAt σ K x1 x2) : mI l yX4_intAt cX4_intAt 3 (some .int) ({ frames := 0, cells := 0, slots := 0, locals := 0 } : Room) Γ α [.int x1, .int x2] σ (fun r u => K r ∧ u = σ) := by
  intro sz
  refine m_of (by decide) rfl [(0, .ref (α 50)), (1, .int x1), (2, .int x2)] (fun _ h => h) (Nat.le_of_ble_eq_true rfl) ?_
  intro p e s m args below meth c hsz X H locs ls hP hS hl
  subst hsz
  obtain ⟨hx, hb, hml, hown, hts, hK, hD, hr, hlk⟩ := id X
  have hA : ∀ q, s.heap.size ≤ q → AM α s.heap.size q := fun q h => Or.inr h
  unfold mw_intAt at hwp
  refine lv_aload_n hx hb dX4_intAt_0 rfl (lv_at hl 0 rfl) ?_
  refine m_geta hx hb hts hown hK hP 18 (by decide) rfl q1364 rfl dX4_intAt_1 ?_
  refine lv_sipush (v := 160) hx hb dX4_intAt_4 (by decide) ?_
  refine lv_iload_n hx hb dX4_intAt_7 rfl (lv_at hl 1 rfl) ?_
  refine lv_imul hx hb dX4_intAt_8 ?_
  refine lv_iload_n hx hb dX4_intAt_9 rfl (lv_at hl 2 rfl) ?_
  refine lv_iadd hx hb dX4_intAt_10 ?_
  obtain ⟨hi1, hwp⟩ := hwp
  refine m_lald hx hb hK hP 18 (Or.inl rfl) hi1 dX4_intAt_11 ?_
  refine lv_l2i (v := (σ.2.2 18 ((160 * x1) + x2).toNatClampNeg).toInt32) hx hb dX4_intAt_12 rfl ?_
  exact m_iret hx hb hr hlk hK hP hS ⟨hwp, rfl⟩ dX4_intAt_13
/-! keeps -/
def mw_keeps (K : Int32 → MSt → Prop) (x1 : Int32) (σ : MSt) : Prop :=
  mw_barred σ (fun r1 => ((r1 = 0) → (mw_keptOf σ (fun r3 => K r3 σ) x1)) ∧ ((¬ (r1 = 0)) → (mw_noTen (fun r4 σ5 => K r4 σ5) r1 σ))) x1
set_option maxHeartbeats 4000000 in
set_option maxRecDepth 100000 in
theorem mt_keeps {l : Launch} {Γ : GA} {α : Nat → Nat} {σ : MSt} {K : Int32 → MSt → Prop} {x1 : Int32} (hwp : mw_keeps K x1 σ) : mI l yX4_keeps cX4_keeps 3 (some .int) ({ frames := 23, cells := 0, slots := 0, locals := 516 } : Room) Γ α [.int x1] σ K := by
  intro sz
  refine m_of (by decide) rfl [(0, .ref (α 50)), (1, .int x1)] (fun _ h => h) (Nat.le_of_ble_eq_true rfl) ?_
  intro p e s m args below meth c hsz X H locs ls hP hS hl
  subst hsz
  obtain ⟨hx, hb, hml, hown, hts, hK, hD, hr, hlk⟩ := id X
  have hA : ∀ q, s.heap.size ≤ q → AM α s.heap.size q := fun q h => Or.inr h
  unfold mw_keeps at hwp
  refine lv_aload_n hx hb dX4_keeps_0 rfl (lv_at hl 0 rfl) ?_
  refine lv_iload_n hx hb dX4_keeps_1 rfl (lv_at hl 1 rfl) ?_
  refine m_calli ⟨hx, hb, hml, hown, hts⟩ hK hD hA hP hS (mt_barred hwp) (cwV 1 hts (lw_V q1589 q1591 qs43 q79 q1592) rfl rfl rfl (by decide +kernel) ⟨Nat.le_of_ble_eq_true rfl, Nat.le_of_ble_eq_true rfl⟩) rfl hl.1 rfl (Nat.le_of_ble_eq_true rfl) dX4_keeps_2 ⟨Nat.zero_le _, Nat.zero_le _⟩ (fun r1 u H locs hk hP hS => ?_)
  obtain ⟨hwp, eu⟩ := hk
  rw [eu] at hP
  refine lv_istore_n (lv' := [(2, .int r1), (0, .ref (α 50)), (1, .int x1)]) hx hb dX4_keeps_5 rfl hl (by decide) rfl (fun ls hl => ?_)
  refine lv_iload_n hx hb dX4_keeps_6 rfl (lv_at hl 0 rfl) ?_
  refine lv_if_eq (tgt := 18) hx hb dX4_keeps_7 (by decide) (fun c2 => ?_) (fun c2 => ?_)
  · replace hwp := hwp.1 c2
    refine lv_aload_n hx hb dX4_keeps_18 rfl (lv_at hl 1 rfl) ?_
    refine lv_iload_n hx hb dX4_keeps_19 rfl (lv_at hl 2 rfl) ?_
    refine m_calli ⟨hx, hb, hml, hown, hts⟩ hK hD hA hP hS (mt_keptOf hwp) (cwV 1 hts (lw_V q1685 q1687 qs58 q79 q1688) rfl rfl rfl (by decide +kernel) ⟨Nat.le_of_ble_eq_true rfl, Nat.le_of_ble_eq_true rfl⟩) rfl hl.1 rfl (Nat.le_of_ble_eq_true rfl) dX4_keeps_20 ⟨Nat.zero_le _, Nat.zero_le _⟩ (fun r3 u H locs hk hP hS => ?_)
    obtain ⟨hwp, eu⟩ := hk
    rw [eu] at hP
    exact m_iret hx hb hr hlk hK hP hS hwp dX4_keeps_23
  · replace hwp := hwp.2 c2
    refine lv_aload_n hx hb dX4_keeps_10 rfl (lv_at hl 1 rfl) ?_
    refine lv_iload_n hx hb dX4_keeps_11 rfl (lv_at hl 0 rfl) ?_
    refine m_calli ⟨hx, hb, hml, hown, hts⟩ hK hD hA hP hS (mt_noTen hwp) (cwV 1 hts (lw_V q1653 q1655 qs55 q79 q1656) rfl rfl rfl (by decide +kernel) ⟨Nat.le_of_ble_eq_true rfl, Nat.le_of_ble_eq_true rfl⟩) rfl hl.1 rfl (Nat.le_of_ble_eq_true rfl) dX4_keeps_12 ⟨Nat.zero_le _, Nat.zero_le _⟩ (fun r4 σ5 H locs hk hP hS => ?_)
    have hwp := hk
    refine lv_goto (tgt := 23) hx hb dX4_keeps_15 (by decide) ?_
    exact m_iret hx hb hr hlk hK hP hS hwp dX4_keeps_23
/-! lists -/
def mw_lists_75 (K : MSt → Prop) (L12 : Int32 → Int32 → MSt → Prop) (x1 : Int32) (x2 : Int32) (x3 : Int32) (σ : MSt) : Prop :=
  ∀ σ1, σ1 = sF σ 34 ((σ.1 34) + x3) → (L12 x1 (x2 + 1) σ1)
set_option maxHeartbeats 4000000 in
set_option maxRecDepth 100000 in
theorem mk_lists_75 {p : Program} {l : Launch} {e : Env} {s : State} {m : MethodId} {args : Array Value} {below : List Frame} {meth : Method} {c : Code} {Γ : GA} {α : Nat → Nat} {K : MSt → Prop} (X : CM p s m args meth c cX4_lists 4 none Γ α) {L12 : Int32 → Int32 → MSt → Prop} (hL12 : ∀ (x1 : Int32) (x2 : Int32) (σ : MSt), L12 x1 x2 σ → TM p l e ({ frames := 21, cells := 0, slots := 0, locals := 469 } : Room) s m args below meth c 4 (QV below K Γ α s args) Γ α σ 12 [(0, .ref (α 50)), (1, .int x1), (2, .int x2)] []) : ∀ (x1 : Int32) (x2 : Int32) (x3 : Int32) (σ : MSt), mw_lists_75 K L12 x1 x2 x3 σ → TM p l e ({ frames := 21, cells := 0, slots := 0, locals := 469 } : Room) s m args below meth c 4 (QV below K Γ α s args) Γ α σ 75 [(0, .ref (α 50)), (1, .int x1), (2, .int x2), (3, .int x3)] [] := by
  obtain ⟨hx, hb, hml, hown, hts, hK, hD, hr, hlk⟩ := id X
  have hA : ∀ q, s.heap.size ≤ q → AM α s.heap.size q := fun q h => Or.inr h
  intro x1 x2 x3 σ hwp H locs ls hP hS hl
  unfold mw_lists_75 at hwp
  refine lv_aload_n hx hb dX4_lists_75 rfl (lv_at hl 0 rfl) ?_
  refine lv_dup hx hb dX4_lists_76 rfl ?_
  refine m_geti hx hb hts hown hK hP 34 (by decide) rfl q1380 rfl dX4_lists_77 ?_
  refine lv_iload_n hx hb dX4_lists_80 rfl (lv_at hl 3 rfl) ?_
  refine lv_iadd hx hb dX4_lists_81 ?_
  refine m_put hx hb hts hown hK hD hP hS 34 (by decide) rfl q1380 rfl rfl rfl rfl dX4_lists_82 (fun H locs hP hS => ?_)
  obtain ⟨σ1, eσ1⟩ : ∃ z, z = sF σ 34 ((σ.1 34) + x3) := ⟨_, rfl⟩
  rw [← eσ1] at hP
  replace hwp := hwp σ1 eσ1
  refine lv_iinc (v := x2 + 1) (lv' := [(2, .int (x2 + 1)), (0, .ref (α 50)), (1, .int x1), (3, .int x3)]) hx hb dX4_lists_85 hl (k := 2) rfl rfl (by decide) rfl (fun ls hl => ?_)
  refine lv_goto (tgt := 12) hx hb dX4_lists_88 (by decide) ?_
  exact hL12 _ _ σ1 hwp H locs ls hP hS (lv_sub hl [1, 2, 0] rfl)
def mw_lists_44 (K : MSt → Prop) (L12 : Int32 → Int32 → MSt → Prop) (x1 : Int32) (x2 : Int32) (t0 : Int32) (t1 : Int32) (σ : MSt) : Prop :=
  mw_many σ (fun r1 => ((r1 ≤ 0) → (mw_lists_75 K L12 x1 x2 r1 σ)) ∧ ((¬ (r1 ≤ 0)) → (((¬ ((σ.1 33) = (-1))) → (mw_lists_75 K L12 x1 x2 r1 σ)) ∧ (((σ.1 33) = (-1)) → (∀ σ4, σ4 = sF σ 33 x2 → (mw_lists_75 K L12 x1 x2 r1 σ4)))))) ((t1 ^^^ t0) &&& ((1 <<< ((σ.1 0) &&& 31)) - 1))
set_option maxHeartbeats 4000000 in
set_option maxRecDepth 100000 in
theorem mk_lists_44 {p : Program} {l : Launch} {e : Env} {s : State} {m : MethodId} {args : Array Value} {below : List Frame} {meth : Method} {c : Code} {Γ : GA} {α : Nat → Nat} {K : MSt → Prop} (X : CM p s m args meth c cX4_lists 4 none Γ α) {L12 : Int32 → Int32 → MSt → Prop} (hL12 : ∀ (x1 : Int32) (x2 : Int32) (σ : MSt), L12 x1 x2 σ → TM p l e ({ frames := 21, cells := 0, slots := 0, locals := 469 } : Room) s m args below meth c 4 (QV below K Γ α s args) Γ α σ 12 [(0, .ref (α 50)), (1, .int x1), (2, .int x2)] []) : ∀ (x1 : Int32) (x2 : Int32) (t0 : Int32) (t1 : Int32) (σ : MSt), mw_lists_44 K L12 x1 x2 t0 t1 σ → TM p l e ({ frames := 21, cells := 0, slots := 0, locals := 469 } : Room) s m args below meth c 4 (QV below K Γ α s args) Γ α σ 44 [(0, .ref (α 50)), (1, .int x1), (2, .int x2)] [.int t0, .int t1, .ref (α 50)] := by
  obtain ⟨hx, hb, hml, hown, hts, hK, hD, hr, hlk⟩ := id X
  have hA : ∀ q, s.heap.size ≤ q → AM α s.heap.size q := fun q h => Or.inr h
  intro x1 x2 t0 t1 σ hwp H locs ls hP hS hl
  unfold mw_lists_44 at hwp
  refine lv_ixor hx hb dX4_lists_44 ?_
  refine lv_iconst (v := 1) hx hb dX4_lists_45 (by decide) ?_
  refine lv_aload_n hx hb dX4_lists_46 rfl (lv_at hl 0 rfl) ?_
  refine m_geti hx hb hts hown hK hP 0 (by decide) rfl q1346 rfl dX4_lists_47 ?_
  refine lv_ishl hx hb dX4_lists_50 ?_
  refine lv_iconst (v := 1) hx hb dX4_lists_51 (by decide) ?_
  refine lv_isub hx hb dX4_lists_52 ?_
  refine lv_iand hx hb dX4_lists_53 ?_
  refine m_calli ⟨hx, hb, hml, hown, hts⟩ hK hD hA hP hS (mt_many hwp) (cwV 1 hts (lw_V q1549 q1551 qs39 q79 q1552) rfl rfl rfl (by decide +kernel) ⟨Nat.le_of_ble_eq_true rfl, Nat.le_of_ble_eq_true rfl⟩) rfl hl.1 rfl (Nat.le_of_ble_eq_true rfl) dX4_lists_54 ⟨Nat.zero_le _, Nat.zero_le _⟩ (fun r1 u H locs hk hP hS => ?_)
  obtain ⟨hwp, eu⟩ := hk
  rw [eu] at hP
  refine lv_istore_n (lv' := [(3, .int r1), (0, .ref (α 50)), (1, .int x1), (2, .int x2)]) hx hb dX4_lists_57 rfl hl (by decide) rfl (fun ls hl => ?_)
  refine lv_iload_n hx hb dX4_lists_58 rfl (lv_at hl 0 rfl) ?_
  refine lv_if_le (tgt := 75) hx hb dX4_lists_59 (by decide) (fun c2 => ?_) (fun c2 => ?_)
  · replace hwp := hwp.1 c2
    exact mk_lists_75 X hL12 _ _ _ σ hwp H locs ls hP hS (lv_sub hl [1, 2, 3, 0] rfl)
  · replace hwp := hwp.2 c2
    refine lv_aload_n hx hb dX4_lists_62 rfl (lv_at hl 1 rfl) ?_
    refine m_geti hx hb hts hown hK hP 33 (by decide) rfl q1379 rfl dX4_lists_63 ?_
    refine lv_iconst (v := (-1)) hx hb dX4_lists_66 (by decide) ?_
    refine lv_icmp_ne (tgt := 75) hx hb dX4_lists_67 (by decide) (fun c3 => ?_) (fun c3 => ?_)
    · replace hwp := hwp.1 c3
      exact mk_lists_75 X hL12 _ _ _ σ hwp H locs ls hP hS (lv_sub hl [1, 2, 3, 0] rfl)
    · replace hwp := hwp.2 c3
      refine lv_aload_n hx hb dX4_lists_70 rfl (lv_at hl 1 rfl) ?_
      refine lv_iload_n hx hb dX4_lists_71 rfl (lv_at hl 3 rfl) ?_
      refine m_put hx hb hts hown hK hD hP hS 33 (by decide) rfl q1379 rfl rfl rfl rfl dX4_lists_72 (fun H locs hP hS => ?_)
      obtain ⟨σ4, eσ4⟩ : ∃ z, z = sF σ 33 x2 := ⟨_, rfl⟩
      rw [← eσ4] at hP
      replace hwp := hwp σ4 eσ4
      exact mk_lists_75 X hL12 _ _ _ σ4 hwp H locs ls hP hS (lv_sub hl [1, 2, 3, 0] rfl)
def mw_lists_12_b (K : MSt → Prop) (L12 : Int32 → Int32 → MSt → Prop) (x1 : Int32) (x2 : Int32) (σ : MSt) : Prop :=
  (((σ.1 0) ≤ x2) → (K σ)) ∧ ((¬ ((σ.1 0) ≤ x2)) → (mw_intAt σ (fun r2 => mw_isHouse σ (fun r3 => ((r3 = 0) → (mw_lists_44 K L12 x1 x2 0 r2 σ)) ∧ ((¬ (r3 = 0)) → (mw_seesInto σ (fun r5 => mw_lists_44 K L12 x1 x2 r5 r2 σ) x2))) x2) x1 x2))
def mw_lists_12 (K : MSt → Prop) : Nat → Int32 → Int32 → MSt → Prop
  | 0 => fun _ _ _ => False
  | n + 1 => fun x1 x2 σ => mw_lists_12_b K (mw_lists_12 K n) x1 x2 σ
set_option maxHeartbeats 4000000 in
set_option maxRecDepth 100000 in
theorem mk_lists_12_b {p : Program} {l : Launch} {e : Env} {s : State} {m : MethodId} {args : Array Value} {below : List Frame} {meth : Method} {c : Code} {Γ : GA} {α : Nat → Nat} {K : MSt → Prop} (X : CM p s m args meth c cX4_lists 4 none Γ α) {L12 : Int32 → Int32 → MSt → Prop} (hL12 : ∀ (x1 : Int32) (x2 : Int32) (σ : MSt), L12 x1 x2 σ → TM p l e ({ frames := 21, cells := 0, slots := 0, locals := 469 } : Room) s m args below meth c 4 (QV below K Γ α s args) Γ α σ 12 [(0, .ref (α 50)), (1, .int x1), (2, .int x2)] []) : ∀ (x1 : Int32) (x2 : Int32) (σ : MSt), mw_lists_12_b K L12 x1 x2 σ → TM p l e ({ frames := 21, cells := 0, slots := 0, locals := 469 } : Room) s m args below meth c 4 (QV below K Γ α s args) Γ α σ 12 [(0, .ref (α 50)), (1, .int x1), (2, .int x2)] [] := by
  obtain ⟨hx, hb, hml, hown, hts, hK, hD, hr, hlk⟩ := id X
  have hA : ∀ q, s.heap.size ≤ q → AM α s.heap.size q := fun q h => Or.inr h
  intro x1 x2 σ hwp H locs ls hP hS hl
  unfold mw_lists_12_b at hwp
  refine lv_iload_n hx hb dX4_lists_12 rfl (lv_at hl 2 rfl) ?_
  refine lv_aload_n hx hb dX4_lists_13 rfl (lv_at hl 0 rfl) ?_
  refine m_geti hx hb hts hown hK hP 0 (by decide) rfl q1346 rfl dX4_lists_14 ?_
  refine lv_icmp_ge (tgt := 91) hx hb dX4_lists_17 (by decide) (fun c1 => ?_) (fun c1 => ?_)
  · replace hwp := hwp.1 c1
    exact m_vret hx hb hr hlk hK hP hS hwp dX4_lists_91
  · replace hwp := hwp.2 c1
    refine lv_aload_n hx hb dX4_lists_20 rfl (lv_at hl 0 rfl) ?_
    refine lv_aload_n hx hb dX4_lists_21 rfl (lv_at hl 0 rfl) ?_
    refine lv_iload_n hx hb dX4_lists_22 rfl (lv_at hl 1 rfl) ?_
    refine lv_iload_n hx hb dX4_lists_23 rfl (lv_at hl 2 rfl) ?_
    refine m_calli ⟨hx, hb, hml, hown, hts⟩ hK hD hA hP hS (mt_intAt hwp) (cwV 2 hts (lw_V q1761 q1763 qs67 q79 q1764) rfl rfl rfl (by decide +kernel) ⟨Nat.le_of_ble_eq_true rfl, Nat.le_of_ble_eq_true rfl⟩) rfl hl.1 rfl (Nat.le_of_ble_eq_true rfl) dX4_lists_24 ⟨Nat.zero_le _, Nat.zero_le _⟩ (fun r2 u H locs hk hP hS => ?_)
    obtain ⟨hwp, eu⟩ := hk
    rw [eu] at hP
    refine lv_aload_n hx hb dX4_lists_27 rfl (lv_at hl 0 rfl) ?_
    refine lv_iload_n hx hb dX4_lists_28 rfl (lv_at hl 2 rfl) ?_
    refine m_calli ⟨hx, hb, hml, hown, hts⟩ hK hD hA hP hS (mt_isHouse hwp) (cwV 1 hts (lw_V q1501 q1503 qs27 q79 q1504) rfl rfl rfl (by decide +kernel) ⟨Nat.le_of_ble_eq_true rfl, Nat.le_of_ble_eq_true rfl⟩) rfl hl.1 rfl (Nat.le_of_ble_eq_true rfl) dX4_lists_29 ⟨Nat.zero_le _, Nat.zero_le _⟩ (fun r3 u H locs hk hP hS => ?_)
    obtain ⟨hwp, eu⟩ := hk
    rw [eu] at hP
    refine lv_if_eq (tgt := 43) hx hb dX4_lists_32 (by decide) (fun c4 => ?_) (fun c4 => ?_)
    · replace hwp := hwp.1 c4
      refine lv_iconst (v := 0) hx hb dX4_lists_43 (by decide) ?_
      exact mk_lists_44 X hL12 _ _ _ _ σ hwp H locs ls hP hS (lv_sub hl [0, 1, 2] rfl)
    · replace hwp := hwp.2 c4
      refine lv_aload_n hx hb dX4_lists_35 rfl (lv_at hl 0 rfl) ?_
      refine lv_iload_n hx hb dX4_lists_36 rfl (lv_at hl 2 rfl) ?_
      refine m_calli ⟨hx, hb, hml, hown, hts⟩ hK hD hA hP hS (mt_seesInto hwp) (cwV 1 hts (lw_V q1513 q1515 qs30 q79 q1516) rfl rfl rfl (by decide +kernel) ⟨Nat.le_of_ble_eq_true rfl, Nat.le_of_ble_eq_true rfl⟩) rfl hl.1 rfl (Nat.le_of_ble_eq_true rfl) dX4_lists_37 ⟨Nat.zero_le _, Nat.zero_le _⟩ (fun r5 u H locs hk hP hS => ?_)
      obtain ⟨hwp, eu⟩ := hk
      rw [eu] at hP
      refine lv_goto (tgt := 44) hx hb dX4_lists_40 (by decide) ?_
      exact mk_lists_44 X hL12 _ _ _ _ σ hwp H locs ls hP hS (lv_sub hl [0, 1, 2] rfl)
set_option maxHeartbeats 4000000 in
set_option maxRecDepth 100000 in
theorem mk_lists_12 {p : Program} {l : Launch} {e : Env} {s : State} {m : MethodId} {args : Array Value} {below : List Frame} {meth : Method} {c : Code} {Γ : GA} {α : Nat → Nat} {K : MSt → Prop} (X : CM p s m args meth c cX4_lists 4 none Γ α) : ∀ n (x1 : Int32) (x2 : Int32) (σ : MSt), mw_lists_12 K n x1 x2 σ → TM p l e ({ frames := 21, cells := 0, slots := 0, locals := 469 } : Room) s m args below meth c 4 (QV below K Γ α s args) Γ α σ 12 [(0, .ref (α 50)), (1, .int x1), (2, .int x2)] [] := by
  intro n
  induction n with
  | zero => intro _ _ _ hwp; exact hwp.elim
  | succ n ih => intro x1 x2 σ hwp; exact mk_lists_12_b X ih x1 x2 σ hwp
def mw_lists (K : MSt → Prop) (x1 : Int32) (σ : MSt) : Prop :=
  ∀ σ1, σ1 = sF σ 33 (-1) → (∀ σ2, σ2 = sF σ1 34 0 → (∃ n, mw_lists_12 K n x1 0 σ2))
set_option maxHeartbeats 4000000 in
set_option maxRecDepth 100000 in
theorem mt_lists {l : Launch} {Γ : GA} {α : Nat → Nat} {σ : MSt} {K : MSt → Prop} {x1 : Int32} (hwp : mw_lists K x1 σ) : mV l yX4_lists cX4_lists 4 none ({ frames := 21, cells := 0, slots := 0, locals := 469 } : Room) Γ α [.int x1] σ K := by
  intro sz
  refine m_of (by decide) rfl [(0, .ref (α 50)), (1, .int x1)] (fun _ h => h) (Nat.le_of_ble_eq_true rfl) ?_
  intro p e s m args below meth c hsz X H locs ls hP hS hl
  subst hsz
  obtain ⟨hx, hb, hml, hown, hts, hK, hD, hr, hlk⟩ := id X
  have hA : ∀ q, s.heap.size ≤ q → AM α s.heap.size q := fun q h => Or.inr h
  unfold mw_lists at hwp
  refine lv_aload_n hx hb dX4_lists_0 rfl (lv_at hl 0 rfl) ?_
  refine lv_iconst (v := (-1)) hx hb dX4_lists_1 (by decide) ?_
  refine m_put hx hb hts hown hK hD hP hS 33 (by decide) rfl q1379 rfl rfl rfl rfl dX4_lists_2 (fun H locs hP hS => ?_)
  obtain ⟨σ1, eσ1⟩ : ∃ z, z = sF σ 33 (-1) := ⟨_, rfl⟩
  rw [← eσ1] at hP
  replace hwp := hwp σ1 eσ1
  refine lv_aload_n hx hb dX4_lists_5 rfl (lv_at hl 0 rfl) ?_
  refine lv_iconst (v := 0) hx hb dX4_lists_6 (by decide) ?_
  refine m_put hx hb hts hown hK hD hP hS 34 (by decide) rfl q1380 rfl rfl rfl rfl dX4_lists_7 (fun H locs hP hS => ?_)
  obtain ⟨σ2, eσ2⟩ : ∃ z, z = sF σ1 34 0 := ⟨_, rfl⟩
  rw [← eσ2] at hP
  replace hwp := hwp σ2 eσ2
  refine lv_iconst (v := 0) hx hb dX4_lists_10 (by decide) ?_
  refine lv_istore_n (lv' := [(2, .int 0), (0, .ref (α 50)), (1, .int x1)]) hx hb dX4_lists_11 rfl hl (by decide) rfl (fun ls hl => ?_)
  obtain ⟨n, hwp⟩ := hwp
  exact mk_lists_12 X n _ _ σ2 hwp H locs ls hP hS (lv_sub hl [1, 2, 0] rfl)
/-! list -/
def mw_list_102 (K : Int32 → MSt → Prop) (L64 : Int32 → Int32 → Int32 → MSt → Prop) (x1 : Int32) (x4 : Int32) (x5 : Int32) (σ : MSt) : Prop :=
  ∀ σ1, σ1 = sF σ 1 ((σ.1 1) + 1) → (L64 x1 x4 x5 σ1)
set_option maxHeartbeats 4000000 in
set_option maxRecDepth 100000 in
theorem mk_list_102 {p : Program} {l : Launch} {e : Env} {s : State} {m : MethodId} {args : Array Value} {below : List Frame} {meth : Method} {c : Code} {Γ : GA} {α : Nat → Nat} {K : Int32 → MSt → Prop} (X : CM p s m args meth c cX4_list 6 (some .int) Γ α) {L64 : Int32 → Int32 → Int32 → MSt → Prop} (hL64 : ∀ (x1 : Int32) (x4 : Int32) (x5 : Int32) (σ : MSt), L64 x1 x4 x5 σ → TM p l e ({ frames := 22, cells := 0, slots := 0, locals := 492 } : Room) s m args below meth c 6 (QI below K Γ α s args) Γ α σ 64 [(0, .ref (α 50)), (1, .int x1), (4, .int x4), (5, .int x5)] []) : ∀ (x1 : Int32) (x4 : Int32) (x5 : Int32) (σ : MSt), mw_list_102 K L64 x1 x4 x5 σ → TM p l e ({ frames := 22, cells := 0, slots := 0, locals := 492 } : Room) s m args below meth c 6 (QI below K Γ α s args) Γ α σ 102 [(0, .ref (α 50)), (1, .int x1), (4, .int x4), (5, .int x5)] [] := by
  obtain ⟨hx, hb, hml, hown, hts, hK, hD, hr, hlk⟩ := id X
  have hA : ∀ q, s.heap.size ≤ q → AM α s.heap.size q := fun q h => Or.inr h
  intro x1 x4 x5 σ hwp H locs ls hP hS hl
  unfold mw_list_102 at hwp
  refine lv_aload_n hx hb dX4_list_102 rfl (lv_at hl 0 rfl) ?_
  refine lv_dup hx hb dX4_list_103 rfl ?_
  refine m_geti hx hb hts hown hK hP 1 (by decide) rfl q1347 rfl dX4_list_104 ?_
  refine lv_iconst (v := 1) hx hb dX4_list_107 (by decide) ?_
  refine lv_iadd hx hb dX4_list_108 ?_
  refine m_put hx hb hts hown hK hD hP hS 1 (by decide) rfl q1347 rfl rfl rfl rfl dX4_list_109 (fun H locs hP hS => ?_)
  obtain ⟨σ1, eσ1⟩ : ∃ z, z = sF σ 1 ((σ.1 1) + 1) := ⟨_, rfl⟩
  rw [← eσ1] at hP
  replace hwp := hwp σ1 eσ1
  refine lv_goto (tgt := 64) hx hb dX4_list_112 (by decide) ?_
  exact hL64 _ _ _ σ1 hwp H locs ls hP hS (lv_sub hl [0, 1, 2, 3] rfl)
def mw_list_99 (K : Int32 → MSt → Prop) (L64 : Int32 → Int32 → Int32 → MSt → Prop) (x1 : Int32) (x4 : Int32) (t0 : Int32) (t1 : Int32) (σ : MSt) : Prop :=
  mw_list_102 K L64 x1 x4 (t1 + t0) σ
set_option maxHeartbeats 4000000 in
set_option maxRecDepth 100000 in
theorem mk_list_99 {p : Program} {l : Launch} {e : Env} {s : State} {m : MethodId} {args : Array Value} {below : List Frame} {meth : Method} {c : Code} {Γ : GA} {α : Nat → Nat} {K : Int32 → MSt → Prop} (X : CM p s m args meth c cX4_list 6 (some .int) Γ α) {L64 : Int32 → Int32 → Int32 → MSt → Prop} (hL64 : ∀ (x1 : Int32) (x4 : Int32) (x5 : Int32) (σ : MSt), L64 x1 x4 x5 σ → TM p l e ({ frames := 22, cells := 0, slots := 0, locals := 492 } : Room) s m args below meth c 6 (QI below K Γ α s args) Γ α σ 64 [(0, .ref (α 50)), (1, .int x1), (4, .int x4), (5, .int x5)] []) : ∀ (x1 : Int32) (x4 : Int32) (t0 : Int32) (t1 : Int32) (σ : MSt), mw_list_99 K L64 x1 x4 t0 t1 σ → TM p l e ({ frames := 22, cells := 0, slots := 0, locals := 492 } : Room) s m args below meth c 6 (QI below K Γ α s args) Γ α σ 99 [(0, .ref (α 50)), (1, .int x1), (4, .int x4)] [.int t0, .int t1] := by
  obtain ⟨hx, hb, hml, hown, hts, hK, hD, hr, hlk⟩ := id X
  have hA : ∀ q, s.heap.size ≤ q → AM α s.heap.size q := fun q h => Or.inr h
  intro x1 x4 t0 t1 σ hwp H locs ls hP hS hl
  unfold mw_list_99 at hwp
  refine lv_iadd hx hb dX4_list_99 ?_
  refine lv_istore (lv' := [(5, .int (t1 + t0)), (0, .ref (α 50)), (1, .int x1), (4, .int x4)]) hx hb dX4_list_100 hl (by decide) rfl (fun ls hl => ?_)
  exact mk_list_102 X hL64 _ _ _ σ hwp H locs ls hP hS (lv_sub hl [1, 2, 3, 0] rfl)
def mw_list_64_b (K : Int32 → MSt → Prop) (L64 : Int32 → Int32 → Int32 → MSt → Prop) (x1 : Int32) (x4 : Int32) (x5 : Int32) (σ : MSt) : Prop :=
  ((2 ≤ (σ.1 1)) → (∀ σ2, σ2 = sF σ 1 x4 → (K x5 σ2))) ∧ ((¬ (2 ≤ (σ.1 1))) → (mw_lists (fun σ3 => ((¬ ((σ3.1 34) = 0)) → (mw_list_102 K L64 x1 x4 x5 σ3)) ∧ (((σ3.1 34) = 0) → (((¬ ((σ3.1 1) = 1)) → (mw_list_99 K L64 x1 x4 2 x5 σ3)) ∧ (((σ3.1 1) = 1) → (mw_list_99 K L64 x1 x4 1 x5 σ3))))) x1 σ))
def mw_list_64 (K : Int32 → MSt → Prop) : Nat → Int32 → Int32 → Int32 → MSt → Prop
  | 0 => fun _ _ _ _ => False
  | n + 1 => fun x1 x4 x5 σ => mw_list_64_b K (mw_list_64 K n) x1 x4 x5 σ
set_option maxHeartbeats 4000000 in
set_option maxRecDepth 100000 in
theorem mk_list_64_b {p : Program} {l : Launch} {e : Env} {s : State} {m : MethodId} {args : Array Value} {below : List Frame} {meth : Method} {c : Code} {Γ : GA} {α : Nat → Nat} {K : Int32 → MSt → Prop} (X : CM p s m args meth c cX4_list 6 (some .int) Γ α) {L64 : Int32 → Int32 → Int32 → MSt → Prop} (hL64 : ∀ (x1 : Int32) (x4 : Int32) (x5 : Int32) (σ : MSt), L64 x1 x4 x5 σ → TM p l e ({ frames := 22, cells := 0, slots := 0, locals := 492 } : Room) s m args below meth c 6 (QI below K Γ α s args) Γ α σ 64 [(0, .ref (α 50)), (1, .int x1), (4, .int x4), (5, .int x5)] []) : ∀ (x1 : Int32) (x4 : Int32) (x5 : Int32) (σ : MSt), mw_list_64_b K L64 x1 x4 x5 σ → TM p l e ({ frames := 22, cells := 0, slots := 0, locals := 492 } : Room) s m args below meth c 6 (QI below K Γ α s args) Γ α σ 64 [(0, .ref (α 50)), (1, .int x1), (4, .int x4), (5, .int x5)] [] := by
  obtain ⟨hx, hb, hml, hown, hts, hK, hD, hr, hlk⟩ := id X
  have hA : ∀ q, s.heap.size ≤ q → AM α s.heap.size q := fun q h => Or.inr h
  intro x1 x4 x5 σ hwp H locs ls hP hS hl
  unfold mw_list_64_b at hwp
  refine lv_aload_n hx hb dX4_list_64 rfl (lv_at hl 0 rfl) ?_
  refine m_geti hx hb hts hown hK hP 1 (by decide) rfl q1347 rfl dX4_list_65 ?_
  refine lv_iconst (v := 2) hx hb dX4_list_68 (by decide) ?_
  refine lv_icmp_ge (tgt := 115) hx hb dX4_list_69 (by decide) (fun c1 => ?_) (fun c1 => ?_)
  · replace hwp := hwp.1 c1
    refine lv_aload_n hx hb dX4_list_115 rfl (lv_at hl 0 rfl) ?_
    refine lv_iload hx hb dX4_list_116 (lv_at hl 2 rfl) ?_
    refine m_put hx hb hts hown hK hD hP hS 1 (by decide) rfl q1347 rfl rfl rfl rfl dX4_list_118 (fun H locs hP hS => ?_)
    obtain ⟨σ2, eσ2⟩ : ∃ z, z = sF σ 1 x4 := ⟨_, rfl⟩
    rw [← eσ2] at hP
    replace hwp := hwp σ2 eσ2
    refine lv_iload hx hb dX4_list_121 (lv_at hl 3 rfl) ?_
    exact m_iret hx hb hr hlk hK hP hS hwp dX4_list_123
  · replace hwp := hwp.2 c1
    refine lv_aload_n hx hb dX4_list_72 rfl (lv_at hl 0 rfl) ?_
    refine lv_iload_n hx hb dX4_list_73 rfl (lv_at hl 1 rfl) ?_
    refine m_callv ⟨hx, hb, hml, hown, hts⟩ hK hD hA hP hS (mt_lists hwp) (cwV 1 hts (lw_V q1757 q1759 qs66 q79 q1760) rfl rfl rfl (by decide +kernel) ⟨Nat.le_of_ble_eq_true rfl, Nat.le_of_ble_eq_true rfl⟩) rfl hl.1 rfl (Nat.le_of_ble_eq_true rfl) dX4_list_74 ⟨Nat.zero_le _, Nat.zero_le _⟩ (fun σ3 H locs hk hP hS => ?_)
    have hwp := hk
    refine lv_aload_n hx hb dX4_list_77 rfl (lv_at hl 0 rfl) ?_
    refine m_geti hx hb hts hown hK hP 34 (by decide) rfl q1380 rfl dX4_list_78 ?_
    refine lv_if_ne (tgt := 102) hx hb dX4_list_81 (by decide) (fun c4 => ?_) (fun c4 => ?_)
    · replace hwp := hwp.1 c4
      exact mk_list_102 X hL64 _ _ _ σ3 hwp H locs ls hP hS (lv_sub hl [0, 1, 2, 3] rfl)
    · replace hwp := hwp.2 c4
      refine lv_iload hx hb dX4_list_84 (lv_at hl 3 rfl) ?_
      refine lv_aload_n hx hb dX4_list_86 rfl (lv_at hl 0 rfl) ?_
      refine m_geti hx hb hts hown hK hP 1 (by decide) rfl q1347 rfl dX4_list_87 ?_
      refine lv_iconst (v := 1) hx hb dX4_list_90 (by decide) ?_
      refine lv_icmp_ne (tgt := 98) hx hb dX4_list_91 (by decide) (fun c5 => ?_) (fun c5 => ?_)
      · replace hwp := hwp.1 c5
        refine lv_iconst (v := 2) hx hb dX4_list_98 (by decide) ?_
        exact mk_list_99 X hL64 _ _ _ _ σ3 hwp H locs ls hP hS (lv_sub hl [0, 1, 2] rfl)
      · replace hwp := hwp.2 c5
        refine lv_iconst (v := 1) hx hb dX4_list_94 (by decide) ?_
        refine lv_goto (tgt := 99) hx hb dX4_list_95 (by decide) ?_
        exact mk_list_99 X hL64 _ _ _ _ σ3 hwp H locs ls hP hS (lv_sub hl [0, 1, 2] rfl)
set_option maxHeartbeats 4000000 in
set_option maxRecDepth 100000 in
theorem mk_list_64 {p : Program} {l : Launch} {e : Env} {s : State} {m : MethodId} {args : Array Value} {below : List Frame} {meth : Method} {c : Code} {Γ : GA} {α : Nat → Nat} {K : Int32 → MSt → Prop} (X : CM p s m args meth c cX4_list 6 (some .int) Γ α) : ∀ n (x1 : Int32) (x4 : Int32) (x5 : Int32) (σ : MSt), mw_list_64 K n x1 x4 x5 σ → TM p l e ({ frames := 22, cells := 0, slots := 0, locals := 492 } : Room) s m args below meth c 6 (QI below K Γ α s args) Γ α σ 64 [(0, .ref (α 50)), (1, .int x1), (4, .int x4), (5, .int x5)] [] := by
  intro n
  induction n with
  | zero => intro _ _ _ _ hwp; exact hwp.elim
  | succ n ih => intro x1 x4 x5 σ hwp; exact mk_list_64_b X ih x1 x4 x5 σ hwp
def mw_list_35 (K : Int32 → MSt → Prop) (x1 : Int32) (x2 : Int32) (x3 : Int32) (σ : MSt) : Prop :=
  ((x3 = 0) → (((¬ (x2 = 2)) → (mw_lists (fun σ3 => ((¬ (x2 = 0)) → (K (σ3.1 34) σ3)) ∧ ((x2 = 0) → (K (σ3.1 33) σ3))) x1 σ)) ∧ ((x2 = 2) → (∀ σ5, σ5 = sF σ 1 0 → (∃ n, mw_list_64 K n x1 (σ.1 1) 0 σ5))))) ∧ ((¬ (x3 = 0)) → (mw_noTen (fun r6 σ7 => K r6 σ7) x3 σ))
set_option maxHeartbeats 4000000 in
set_option maxRecDepth 100000 in
theorem mk_list_35 {p : Program} {l : Launch} {e : Env} {s : State} {m : MethodId} {args : Array Value} {below : List Frame} {meth : Method} {c : Code} {Γ : GA} {α : Nat → Nat} {K : Int32 → MSt → Prop} (X : CM p s m args meth c cX4_list 6 (some .int) Γ α) : ∀ (x1 : Int32) (x2 : Int32) (x3 : Int32) (σ : MSt), mw_list_35 K x1 x2 x3 σ → TM p l e ({ frames := 22, cells := 0, slots := 0, locals := 492 } : Room) s m args below meth c 6 (QI below K Γ α s args) Γ α σ 35 [(0, .ref (α 50)), (1, .int x1), (2, .int x2), (3, .int x3)] [] := by
  obtain ⟨hx, hb, hml, hown, hts, hK, hD, hr, hlk⟩ := id X
  have hA : ∀ q, s.heap.size ≤ q → AM α s.heap.size q := fun q h => Or.inr h
  intro x1 x2 x3 σ hwp H locs ls hP hS hl
  unfold mw_list_35 at hwp
  refine lv_iload_n hx hb dX4_list_35 rfl (lv_at hl 3 rfl) ?_
  refine lv_if_eq (tgt := 45) hx hb dX4_list_36 (by decide) (fun c1 => ?_) (fun c1 => ?_)
  · replace hwp := hwp.1 c1
    refine lv_iload_n hx hb dX4_list_45 rfl (lv_at hl 2 rfl) ?_
    refine lv_iconst (v := 2) hx hb dX4_list_46 (by decide) ?_
    refine lv_icmp_ne (tgt := 124) hx hb dX4_list_47 (by decide) (fun c2 => ?_) (fun c2 => ?_)
    · replace hwp := hwp.1 c2
      refine lv_aload_n hx hb dX4_list_124 rfl (lv_at hl 0 rfl) ?_
      refine lv_iload_n hx hb dX4_list_125 rfl (lv_at hl 1 rfl) ?_
      refine m_callv ⟨hx, hb, hml, hown, hts⟩ hK hD hA hP hS (mt_lists hwp) (cwV 1 hts (lw_V q1757 q1759 qs66 q79 q1760) rfl rfl rfl (by decide +kernel) ⟨Nat.le_of_ble_eq_true rfl, Nat.le_of_ble_eq_true rfl⟩) rfl hl.1 rfl (Nat.le_of_ble_eq_true rfl) dX4_list_126 ⟨Nat.zero_le _, Nat.zero_le _⟩ (fun σ3 H locs hk hP hS => ?_)
      have hwp := hk
      refine lv_iload_n hx hb dX4_list_129 rfl (lv_at hl 2 rfl) ?_
      refine lv_if_ne (tgt := 140) hx hb dX4_list_130 (by decide) (fun c4 => ?_) (fun c4 => ?_)
      · replace hwp := hwp.1 c4
        refine lv_aload_n hx hb dX4_list_140 rfl (lv_at hl 0 rfl) ?_
        refine m_geti hx hb hts hown hK hP 34 (by decide) rfl q1380 rfl dX4_list_141 ?_
        exact m_iret hx hb hr hlk hK hP hS hwp dX4_list_144
      · replace hwp := hwp.2 c4
        refine lv_aload_n hx hb dX4_list_133 rfl (lv_at hl 0 rfl) ?_
        refine m_geti hx hb hts hown hK hP 33 (by decide) rfl q1379 rfl dX4_list_134 ?_
        refine lv_goto (tgt := 144) hx hb dX4_list_137 (by decide) ?_
        exact m_iret hx hb hr hlk hK hP hS hwp dX4_list_144
    · replace hwp := hwp.2 c2
      refine lv_aload_n hx hb dX4_list_50 rfl (lv_at hl 0 rfl) ?_
      refine m_geti hx hb hts hown hK hP 1 (by decide) rfl q1347 rfl dX4_list_51 ?_
      refine lv_istore (lv' := [(4, .int (σ.1 1)), (0, .ref (α 50)), (1, .int x1), (2, .int x2), (3, .int x3)]) hx hb dX4_list_54 hl (by decide) rfl (fun ls hl => ?_)
      refine lv_iconst (v := 0) hx hb dX4_list_56 (by decide) ?_
      refine lv_istore (lv' := [(5, .int 0), (4, .int (σ.1 1)), (0, .ref (α 50)), (1, .int x1), (2, .int x2), (3, .int x3)]) hx hb dX4_list_57 hl (by decide) rfl (fun ls hl => ?_)
      refine lv_aload_n hx hb dX4_list_59 rfl (lv_at hl 2 rfl) ?_
      refine lv_iconst (v := 0) hx hb dX4_list_60 (by decide) ?_
      refine m_put hx hb hts hown hK hD hP hS 1 (by decide) rfl q1347 rfl rfl rfl rfl dX4_list_61 (fun H locs hP hS => ?_)
      obtain ⟨σ5, eσ5⟩ : ∃ z, z = sF σ 1 0 := ⟨_, rfl⟩
      rw [← eσ5] at hP
      replace hwp := hwp σ5 eσ5
      obtain ⟨n, hwp⟩ := hwp
      exact mk_list_64 X n _ _ _ σ5 hwp H locs ls hP hS (lv_sub hl [2, 3, 1, 0] rfl)
  · replace hwp := hwp.2 c1
    refine lv_aload_n hx hb dX4_list_39 rfl (lv_at hl 0 rfl) ?_
    refine lv_iload_n hx hb dX4_list_40 rfl (lv_at hl 3 rfl) ?_
    refine m_calli ⟨hx, hb, hml, hown, hts⟩ hK hD hA hP hS (mt_noTen hwp) (cwV 1 hts (lw_V q1653 q1655 qs55 q79 q1656) rfl rfl rfl (by decide +kernel) ⟨Nat.le_of_ble_eq_true rfl, Nat.le_of_ble_eq_true rfl⟩) rfl hl.1 rfl (Nat.le_of_ble_eq_true rfl) dX4_list_41 ⟨Nat.zero_le _, Nat.zero_le _⟩ (fun r6 σ7 H locs hk hP hS => ?_)
    have hwp := hk
    exact m_iret hx hb hr hlk hK hP hS hwp dX4_list_44
def mw_list_32 (K : Int32 → MSt → Prop) (x1 : Int32) (x2 : Int32) (σ : MSt) : Prop :=
  mw_list_35 K x1 x2 (-5) σ
set_option maxHeartbeats 4000000 in
set_option maxRecDepth 100000 in
theorem mk_list_32 {p : Program} {l : Launch} {e : Env} {s : State} {m : MethodId} {args : Array Value} {below : List Frame} {meth : Method} {c : Code} {Γ : GA} {α : Nat → Nat} {K : Int32 → MSt → Prop} (X : CM p s m args meth c cX4_list 6 (some .int) Γ α) : ∀ (x1 : Int32) (x2 : Int32) (σ : MSt), mw_list_32 K x1 x2 σ → TM p l e ({ frames := 22, cells := 0, slots := 0, locals := 492 } : Room) s m args below meth c 6 (QI below K Γ α s args) Γ α σ 32 [(0, .ref (α 50)), (1, .int x1), (2, .int x2)] [] := by
  obtain ⟨hx, hb, hml, hown, hts, hK, hD, hr, hlk⟩ := id X
  have hA : ∀ q, s.heap.size ≤ q → AM α s.heap.size q := fun q h => Or.inr h
  intro x1 x2 σ hwp H locs ls hP hS hl
  unfold mw_list_32 at hwp
  refine lv_bipush (v := (-5)) hx hb dX4_list_32 (by decide) ?_
  refine lv_istore_n (lv' := [(3, .int (-5)), (0, .ref (α 50)), (1, .int x1), (2, .int x2)]) hx hb dX4_list_34 rfl hl (by decide) rfl (fun ls hl => ?_)
  exact mk_list_35 X _ _ _ σ hwp H locs ls hP hS (lv_sub hl [1, 2, 3, 0] rfl)
def mw_list (K : Int32 → MSt → Prop) (x1 : Int32) (x2 : Int32) (σ : MSt) : Prop :=
  mw_wants σ (fun r1 => ((¬ (r1 = 0)) → (mw_list_35 K x1 x2 r1 σ)) ∧ ((r1 = 0) → (vp_in x1 (lenM 16) ∧ ((((σ.2.1 16 x1.toNatClampNeg) < (σ.1 0)) → (mw_list_32 K x1 x2 σ)) ∧ ((¬ ((σ.2.1 16 x1.toNatClampNeg) < (σ.1 0))) → (((x2 < 0) → (mw_list_32 K x1 x2 σ)) ∧ ((¬ (x2 < 0)) → (((x2 ≤ 2) → (mw_list_35 K x1 x2 r1 σ)) ∧ ((¬ (x2 ≤ 2)) → (mw_list_32 K x1 x2 σ)))))))))) x1
set_option maxHeartbeats 4000000 in
set_option maxRecDepth 100000 in
theorem mt_list {l : Launch} {Γ : GA} {α : Nat → Nat} {σ : MSt} {K : Int32 → MSt → Prop} {x1 : Int32} {x2 : Int32} (hwp : mw_list K x1 x2 σ) : mI l yX4_list cX4_list 6 (some .int) ({ frames := 22, cells := 0, slots := 0, locals := 492 } : Room) Γ α [.int x1, .int x2] σ K := by
  intro sz
  refine m_of (by decide) rfl [(0, .ref (α 50)), (1, .int x1), (2, .int x2)] (fun _ h => h) (Nat.le_of_ble_eq_true rfl) ?_
  intro p e s m args below meth c hsz X H locs ls hP hS hl
  subst hsz
  obtain ⟨hx, hb, hml, hown, hts, hK, hD, hr, hlk⟩ := id X
  have hA : ∀ q, s.heap.size ≤ q → AM α s.heap.size q := fun q h => Or.inr h
  unfold mw_list at hwp
  refine lv_aload_n hx hb dX4_list_0 rfl (lv_at hl 0 rfl) ?_
  refine lv_iload_n hx hb dX4_list_1 rfl (lv_at hl 1 rfl) ?_
  refine m_calli ⟨hx, hb, hml, hown, hts⟩ hK hD hA hP hS (mt_wants hwp) (cwV 1 hts (lw_V q1597 q1599 qs44 q79 q1600) rfl rfl rfl (by decide +kernel) ⟨Nat.le_of_ble_eq_true rfl, Nat.le_of_ble_eq_true rfl⟩) rfl hl.1 rfl (Nat.le_of_ble_eq_true rfl) dX4_list_2 ⟨Nat.zero_le _, Nat.zero_le _⟩ (fun r1 u H locs hk hP hS => ?_)
  obtain ⟨hwp, eu⟩ := hk
  rw [eu] at hP
  refine lv_istore_n (lv' := [(3, .int r1), (0, .ref (α 50)), (1, .int x1), (2, .int x2)]) hx hb dX4_list_5 rfl hl (by decide) rfl (fun ls hl => ?_)
  refine lv_iload_n hx hb dX4_list_6 rfl (lv_at hl 0 rfl) ?_
  refine lv_if_ne (tgt := 35) hx hb dX4_list_7 (by decide) (fun c2 => ?_) (fun c2 => ?_)
  · replace hwp := hwp.1 c2
    exact mk_list_35 X _ _ _ σ hwp H locs ls hP hS (lv_sub hl [1, 2, 3, 0] rfl)
  · replace hwp := hwp.2 c2
    refine lv_aload_n hx hb dX4_list_10 rfl (lv_at hl 1 rfl) ?_
    refine m_geta hx hb hts hown hK hP 16 (by decide) rfl q1362 rfl dX4_list_11 ?_
    refine lv_iload_n hx hb dX4_list_14 rfl (lv_at hl 2 rfl) ?_
    obtain ⟨hi3, hwp⟩ := hwp
    refine m_iald hx hb hK hP 16 rfl hi3 dX4_list_15 ?_
    refine lv_aload_n hx hb dX4_list_16 rfl (lv_at hl 1 rfl) ?_
    refine m_geti hx hb hts hown hK hP 0 (by decide) rfl q1346 rfl dX4_list_17 ?_
    refine lv_icmp_lt (tgt := 32) hx hb dX4_list_20 (by decide) (fun c4 => ?_) (fun c4 => ?_)
    · replace hwp := hwp.1 c4
      exact mk_list_32 X _ _ σ hwp H locs ls hP hS (lv_sub hl [1, 2, 3] rfl)
    · replace hwp := hwp.2 c4
      refine lv_iload_n hx hb dX4_list_23 rfl (lv_at hl 3 rfl) ?_
      refine lv_if_lt (tgt := 32) hx hb dX4_list_24 (by decide) (fun c5 => ?_) (fun c5 => ?_)
      · replace hwp := hwp.1 c5
        exact mk_list_32 X _ _ σ hwp H locs ls hP hS (lv_sub hl [1, 2, 3] rfl)
      · replace hwp := hwp.2 c5
        refine lv_iload_n hx hb dX4_list_27 rfl (lv_at hl 3 rfl) ?_
        refine lv_iconst (v := 2) hx hb dX4_list_28 (by decide) ?_
        refine lv_icmp_le (tgt := 35) hx hb dX4_list_29 (by decide) (fun c6 => ?_) (fun c6 => ?_)
        · replace hwp := hwp.1 c6
          exact mk_list_35 X _ _ _ σ hwp H locs ls hP hS (lv_sub hl [1, 2, 3, 0] rfl)
        · replace hwp := hwp.2 c6
          exact mk_list_32 X _ _ σ hwp H locs ls hP hS (lv_sub hl [1, 2, 3] rfl)
/-! most -/
def mw_most_88 (K : Int32 → MSt → Prop) (L6 : Int32 → Int32 → Int32 → MSt → Prop) (x3 : Int32) (x4 : Int32) (σ : MSt) : Prop :=
  L6 x3 x4 (x3 + 1) σ
set_option maxHeartbeats 4000000 in
set_option maxRecDepth 100000 in
theorem mk_most_88 {p : Program} {l : Launch} {e : Env} {s : State} {m : MethodId} {args : Array Value} {below : List Frame} {meth : Method} {c : Code} {Γ : GA} {α : Nat → Nat} {K : Int32 → MSt → Prop} (X : CM p s m args meth c cX4_most 6 (some .int) Γ α) {L6 : Int32 → Int32 → Int32 → MSt → Prop} (hL6 : ∀ (x1 : Int32) (x2 : Int32) (x3 : Int32) (σ : MSt), L6 x1 x2 x3 σ → TM p l e ({ frames := 20, cells := 0, slots := 0, locals := 446 } : Room) s m args below meth c 6 (QI below K Γ α s args) Γ α σ 6 [(0, .ref (α 50)), (1, .int x1), (2, .int x2), (3, .int x3)] []) : ∀ (x3 : Int32) (x4 : Int32) (σ : MSt), mw_most_88 K L6 x3 x4 σ → TM p l e ({ frames := 20, cells := 0, slots := 0, locals := 446 } : Room) s m args below meth c 6 (QI below K Γ α s args) Γ α σ 88 [(0, .ref (α 50)), (3, .int x3), (4, .int x4)] [] := by
  obtain ⟨hx, hb, hml, hown, hts, hK, hD, hr, hlk⟩ := id X
  have hA : ∀ q, s.heap.size ≤ q → AM α s.heap.size q := fun q h => Or.inr h
  intro x3 x4 σ hwp H locs ls hP hS hl
  unfold mw_most_88 at hwp
  refine lv_iload_n hx hb dX4_most_88 rfl (lv_at hl 1 rfl) ?_
  refine lv_istore_n (lv' := [(1, .int x3), (0, .ref (α 50)), (3, .int x3), (4, .int x4)]) hx hb dX4_most_89 rfl hl (by decide) rfl (fun ls hl => ?_)
  refine lv_iload hx hb dX4_most_90 (lv_at hl 3 rfl) ?_
  refine lv_istore_n (lv' := [(2, .int x4), (1, .int x3), (0, .ref (α 50)), (3, .int x3), (4, .int x4)]) hx hb dX4_most_92 rfl hl (by decide) rfl (fun ls hl => ?_)
  refine lv_iinc (v := x3 + 1) (lv' := [(3, .int (x3 + 1)), (2, .int x4), (1, .int x3), (0, .ref (α 50)), (4, .int x4)]) hx hb dX4_most_93 hl (k := 3) rfl rfl (by decide) rfl (fun ls hl => ?_)
  refine lv_goto (tgt := 6) hx hb dX4_most_96 (by decide) ?_
  exact hL6 _ _ _ σ hwp H locs ls hP hS (lv_sub hl [3, 2, 1, 0] rfl)
def mw_most_31_b (K : Int32 → MSt → Prop) (L6 : Int32 → Int32 → Int32 → MSt → Prop) (L31 : Int32 → Int32 → Int32 → Int32 → Int32 → MSt → Prop) (x1 : Int32) (x2 : Int32) (x3 : Int32) (x4 : Int32) (x5 : Int32) (σ : MSt) : Prop :=
  (((σ.1 0) ≤ x5) → (((x1 = (-1)) → (mw_most_88 K L6 x3 x4 σ)) ∧ ((¬ (x1 = (-1))) → (((x2 < x4) → (mw_most_88 K L6 x3 x4 σ)) ∧ ((¬ (x2 < x4)) → (L6 x1 x2 (x3 + 1) σ)))))) ∧ ((¬ ((σ.1 0) ≤ x5)) → (((x5 = x3) → (L31 x1 x2 x3 x4 (x5 + 1) σ)) ∧ ((¬ (x5 = x3)) → (mw_isHouse σ (fun r5 => ((r5 = 0) → (L31 x1 x2 x3 x4 (x5 + 1) σ)) ∧ ((¬ (r5 = 0)) → (mw_isSeen σ (fun r7 => ((r7 = 0) → (L31 x1 x2 x3 x4 (x5 + 1) σ)) ∧ ((¬ (r7 = 0)) → (L31 x1 x2 x3 (x4 + 1) (x5 + 1) σ))) x3 x5))) x5))))
def mw_most_31 (K : Int32 → MSt → Prop) (L6 : Int32 → Int32 → Int32 → MSt → Prop) : Nat → Int32 → Int32 → Int32 → Int32 → Int32 → MSt → Prop
  | 0 => fun _ _ _ _ _ _ => False
  | n + 1 => fun x1 x2 x3 x4 x5 σ => mw_most_31_b K L6 (mw_most_31 K L6 n) x1 x2 x3 x4 x5 σ
set_option maxHeartbeats 4000000 in
set_option maxRecDepth 100000 in
theorem mk_most_31_b {p : Program} {l : Launch} {e : Env} {s : State} {m : MethodId} {args : Array Value} {below : List Frame} {meth : Method} {c : Code} {Γ : GA} {α : Nat → Nat} {K : Int32 → MSt → Prop} (X : CM p s m args meth c cX4_most 6 (some .int) Γ α) {L6 : Int32 → Int32 → Int32 → MSt → Prop} (hL6 : ∀ (x1 : Int32) (x2 : Int32) (x3 : Int32) (σ : MSt), L6 x1 x2 x3 σ → TM p l e ({ frames := 20, cells := 0, slots := 0, locals := 446 } : Room) s m args below meth c 6 (QI below K Γ α s args) Γ α σ 6 [(0, .ref (α 50)), (1, .int x1), (2, .int x2), (3, .int x3)] []) {L31 : Int32 → Int32 → Int32 → Int32 → Int32 → MSt → Prop} (hL31 : ∀ (x1 : Int32) (x2 : Int32) (x3 : Int32) (x4 : Int32) (x5 : Int32) (σ : MSt), L31 x1 x2 x3 x4 x5 σ → TM p l e ({ frames := 20, cells := 0, slots := 0, locals := 446 } : Room) s m args below meth c 6 (QI below K Γ α s args) Γ α σ 31 [(0, .ref (α 50)), (1, .int x1), (2, .int x2), (3, .int x3), (4, .int x4), (5, .int x5)] []) : ∀ (x1 : Int32) (x2 : Int32) (x3 : Int32) (x4 : Int32) (x5 : Int32) (σ : MSt), mw_most_31_b K L6 L31 x1 x2 x3 x4 x5 σ → TM p l e ({ frames := 20, cells := 0, slots := 0, locals := 446 } : Room) s m args below meth c 6 (QI below K Γ α s args) Γ α σ 31 [(0, .ref (α 50)), (1, .int x1), (2, .int x2), (3, .int x3), (4, .int x4), (5, .int x5)] [] := by
  obtain ⟨hx, hb, hml, hown, hts, hK, hD, hr, hlk⟩ := id X
  have hA : ∀ q, s.heap.size ≤ q → AM α s.heap.size q := fun q h => Or.inr h
  intro x1 x2 x3 x4 x5 σ hwp H locs ls hP hS hl
  unfold mw_most_31_b at hwp
  refine lv_iload hx hb dX4_most_31 (lv_at hl 5 rfl) ?_
  refine lv_aload_n hx hb dX4_most_33 rfl (lv_at hl 0 rfl) ?_
  refine m_geti hx hb hts hown hK hP 0 (by decide) rfl q1346 rfl dX4_most_34 ?_
  refine lv_icmp_ge (tgt := 74) hx hb dX4_most_37 (by decide) (fun c1 => ?_) (fun c1 => ?_)
  · replace hwp := hwp.1 c1
    refine lv_iload_n hx hb dX4_most_74 rfl (lv_at hl 1 rfl) ?_
    refine lv_iconst (v := (-1)) hx hb dX4_most_75 (by decide) ?_
    refine lv_icmp_eq (tgt := 88) hx hb dX4_most_76 (by decide) (fun c2 => ?_) (fun c2 => ?_)
    · replace hwp := hwp.1 c2
      exact mk_most_88 X hL6 _ _ σ hwp H locs ls hP hS (lv_sub hl [0, 3, 4] rfl)
    · replace hwp := hwp.2 c2
      refine lv_iload hx hb dX4_most_79 (lv_at hl 4 rfl) ?_
      refine lv_iload_n hx hb dX4_most_81 rfl (lv_at hl 2 rfl) ?_
      refine lv_icmp_gt (tgt := 88) hx hb dX4_most_82 (by decide) (fun c3 => ?_) (fun c3 => ?_)
      · replace hwp := hwp.1 c3
        exact mk_most_88 X hL6 _ _ σ hwp H locs ls hP hS (lv_sub hl [0, 3, 4] rfl)
      · replace hwp := hwp.2 c3
        refine lv_goto (tgt := 93) hx hb dX4_most_85 (by decide) ?_
        refine lv_iinc (v := x3 + 1) (lv' := [(3, .int (x3 + 1)), (0, .ref (α 50)), (1, .int x1), (2, .int x2), (4, .int x4), (5, .int x5)]) hx hb dX4_most_93 hl (k := 3) rfl rfl (by decide) rfl (fun ls hl => ?_)
        refine lv_goto (tgt := 6) hx hb dX4_most_96 (by decide) ?_
        exact hL6 _ _ _ σ hwp H locs ls hP hS (lv_sub hl [1, 2, 3, 0] rfl)
  · replace hwp := hwp.2 c1
    refine lv_iload hx hb dX4_most_40 (lv_at hl 5 rfl) ?_
    refine lv_iload_n hx hb dX4_most_42 rfl (lv_at hl 3 rfl) ?_
    refine lv_icmp_eq (tgt := 68) hx hb dX4_most_43 (by decide) (fun c4 => ?_) (fun c4 => ?_)
    · replace hwp := hwp.1 c4
      refine lv_iinc (v := x5 + 1) (lv' := [(5, .int (x5 + 1)), (0, .ref (α 50)), (1, .int x1), (2, .int x2), (3, .int x3), (4, .int x4)]) hx hb dX4_most_68 hl (k := 5) rfl rfl (by decide) rfl (fun ls hl => ?_)
      refine lv_goto (tgt := 31) hx hb dX4_most_71 (by decide) ?_
      exact hL31 _ _ _ _ _ σ hwp H locs ls hP hS (lv_sub hl [1, 2, 3, 4, 5, 0] rfl)
    · replace hwp := hwp.2 c4
      refine lv_aload_n hx hb dX4_most_46 rfl (lv_at hl 0 rfl) ?_
      refine lv_iload hx hb dX4_most_47 (lv_at hl 5 rfl) ?_
      refine m_calli ⟨hx, hb, hml, hown, hts⟩ hK hD hA hP hS (mt_isHouse hwp) (cwV 1 hts (lw_V q1501 q1503 qs27 q79 q1504) rfl rfl rfl (by decide +kernel) ⟨Nat.le_of_ble_eq_true rfl, Nat.le_of_ble_eq_true rfl⟩) rfl hl.1 rfl (Nat.le_of_ble_eq_true rfl) dX4_most_49 ⟨Nat.zero_le _, Nat.zero_le _⟩ (fun r5 u H locs hk hP hS => ?_)
      obtain ⟨hwp, eu⟩ := hk
      rw [eu] at hP
      refine lv_if_eq (tgt := 68) hx hb dX4_most_52 (by decide) (fun c6 => ?_) (fun c6 => ?_)
      · replace hwp := hwp.1 c6
        refine lv_iinc (v := x5 + 1) (lv' := [(5, .int (x5 + 1)), (0, .ref (α 50)), (1, .int x1), (2, .int x2), (3, .int x3), (4, .int x4)]) hx hb dX4_most_68 hl (k := 5) rfl rfl (by decide) rfl (fun ls hl => ?_)
        refine lv_goto (tgt := 31) hx hb dX4_most_71 (by decide) ?_
        exact hL31 _ _ _ _ _ σ hwp H locs ls hP hS (lv_sub hl [1, 2, 3, 4, 5, 0] rfl)
      · replace hwp := hwp.2 c6
        refine lv_aload_n hx hb dX4_most_55 rfl (lv_at hl 0 rfl) ?_
        refine lv_iload_n hx hb dX4_most_56 rfl (lv_at hl 3 rfl) ?_
        refine lv_iload hx hb dX4_most_57 (lv_at hl 5 rfl) ?_
        refine m_calli ⟨hx, hb, hml, hown, hts⟩ hK hD hA hP hS (mt_isSeen hwp) (cwV 2 hts (lw_V q1517 q1519 qs31 q79 q1520) rfl rfl rfl (by decide +kernel) ⟨Nat.le_of_ble_eq_true rfl, Nat.le_of_ble_eq_true rfl⟩) rfl hl.1 rfl (Nat.le_of_ble_eq_true rfl) dX4_most_59 ⟨Nat.zero_le _, Nat.zero_le _⟩ (fun r7 u H locs hk hP hS => ?_)
        obtain ⟨hwp, eu⟩ := hk
        rw [eu] at hP
        refine lv_if_eq (tgt := 68) hx hb dX4_most_62 (by decide) (fun c8 => ?_) (fun c8 => ?_)
        · replace hwp := hwp.1 c8
          refine lv_iinc (v := x5 + 1) (lv' := [(5, .int (x5 + 1)), (0, .ref (α 50)), (1, .int x1), (2, .int x2), (3, .int x3), (4, .int x4)]) hx hb dX4_most_68 hl (k := 5) rfl rfl (by decide) rfl (fun ls hl => ?_)
          refine lv_goto (tgt := 31) hx hb dX4_most_71 (by decide) ?_
          exact hL31 _ _ _ _ _ σ hwp H locs ls hP hS (lv_sub hl [1, 2, 3, 4, 5, 0] rfl)
        · replace hwp := hwp.2 c8
          refine lv_iinc (v := x4 + 1) (lv' := [(4, .int (x4 + 1)), (0, .ref (α 50)), (1, .int x1), (2, .int x2), (3, .int x3), (5, .int x5)]) hx hb dX4_most_65 hl (k := 4) rfl rfl (by decide) rfl (fun ls hl => ?_)
          refine lv_iinc (v := x5 + 1) (lv' := [(5, .int (x5 + 1)), (4, .int (x4 + 1)), (0, .ref (α 50)), (1, .int x1), (2, .int x2), (3, .int x3)]) hx hb dX4_most_68 hl (k := 5) rfl rfl (by decide) rfl (fun ls hl => ?_)
          refine lv_goto (tgt := 31) hx hb dX4_most_71 (by decide) ?_
          exact hL31 _ _ _ _ _ σ hwp H locs ls hP hS (lv_sub hl [2, 3, 4, 5, 1, 0] rfl)
set_option maxHeartbeats 4000000 in
set_option maxRecDepth 100000 in
theorem mk_most_31 {p : Program} {l : Launch} {e : Env} {s : State} {m : MethodId} {args : Array Value} {below : List Frame} {meth : Method} {c : Code} {Γ : GA} {α : Nat → Nat} {K : Int32 → MSt → Prop} (X : CM p s m args meth c cX4_most 6 (some .int) Γ α) {L6 : Int32 → Int32 → Int32 → MSt → Prop} (hL6 : ∀ (x1 : Int32) (x2 : Int32) (x3 : Int32) (σ : MSt), L6 x1 x2 x3 σ → TM p l e ({ frames := 20, cells := 0, slots := 0, locals := 446 } : Room) s m args below meth c 6 (QI below K Γ α s args) Γ α σ 6 [(0, .ref (α 50)), (1, .int x1), (2, .int x2), (3, .int x3)] []) : ∀ n (x1 : Int32) (x2 : Int32) (x3 : Int32) (x4 : Int32) (x5 : Int32) (σ : MSt), mw_most_31 K L6 n x1 x2 x3 x4 x5 σ → TM p l e ({ frames := 20, cells := 0, slots := 0, locals := 446 } : Room) s m args below meth c 6 (QI below K Γ α s args) Γ α σ 31 [(0, .ref (α 50)), (1, .int x1), (2, .int x2), (3, .int x3), (4, .int x4), (5, .int x5)] [] := by
  intro n
  induction n with
  | zero => intro _ _ _ _ _ _ hwp; exact hwp.elim
  | succ n ih => intro x1 x2 x3 x4 x5 σ hwp; exact mk_most_31_b X hL6 ih x1 x2 x3 x4 x5 σ hwp
def mw_most_6_b (K : Int32 → MSt → Prop) (L6 : Int32 → Int32 → Int32 → MSt → Prop) (x1 : Int32) (x2 : Int32) (x3 : Int32) (σ : MSt) : Prop :=
  (((σ.1 0) ≤ x3) → (((¬ (x1 = (-1))) → (K x1 σ)) ∧ ((x1 = (-1)) → (mw_no (fun r3 σ4 => K r3 σ4) (-5) σ)))) ∧ ((¬ ((σ.1 0) ≤ x3)) → (mw_isHouse σ (fun r5 => ((¬ (r5 = 0)) → (∃ n, mw_most_31 K L6 n x1 x2 x3 0 0 σ)) ∧ ((r5 = 0) → (L6 x1 x2 (x3 + 1) σ))) x3))
def mw_most_6 (K : Int32 → MSt → Prop) : Nat → Int32 → Int32 → Int32 → MSt → Prop
  | 0 => fun _ _ _ _ => False
  | n + 1 => fun x1 x2 x3 σ => mw_most_6_b K (mw_most_6 K n) x1 x2 x3 σ
set_option maxHeartbeats 4000000 in
set_option maxRecDepth 100000 in
theorem mk_most_6_b {p : Program} {l : Launch} {e : Env} {s : State} {m : MethodId} {args : Array Value} {below : List Frame} {meth : Method} {c : Code} {Γ : GA} {α : Nat → Nat} {K : Int32 → MSt → Prop} (X : CM p s m args meth c cX4_most 6 (some .int) Γ α) {L6 : Int32 → Int32 → Int32 → MSt → Prop} (hL6 : ∀ (x1 : Int32) (x2 : Int32) (x3 : Int32) (σ : MSt), L6 x1 x2 x3 σ → TM p l e ({ frames := 20, cells := 0, slots := 0, locals := 446 } : Room) s m args below meth c 6 (QI below K Γ α s args) Γ α σ 6 [(0, .ref (α 50)), (1, .int x1), (2, .int x2), (3, .int x3)] []) : ∀ (x1 : Int32) (x2 : Int32) (x3 : Int32) (σ : MSt), mw_most_6_b K L6 x1 x2 x3 σ → TM p l e ({ frames := 20, cells := 0, slots := 0, locals := 446 } : Room) s m args below meth c 6 (QI below K Γ α s args) Γ α σ 6 [(0, .ref (α 50)), (1, .int x1), (2, .int x2), (3, .int x3)] [] := by
  obtain ⟨hx, hb, hml, hown, hts, hK, hD, hr, hlk⟩ := id X
  have hA : ∀ q, s.heap.size ≤ q → AM α s.heap.size q := fun q h => Or.inr h
  intro x1 x2 x3 σ hwp H locs ls hP hS hl
  unfold mw_most_6_b at hwp
  refine lv_iload_n hx hb dX4_most_6 rfl (lv_at hl 3 rfl) ?_
  refine lv_aload_n hx hb dX4_most_7 rfl (lv_at hl 0 rfl) ?_
  refine m_geti hx hb hts hown hK hP 0 (by decide) rfl q1346 rfl dX4_most_8 ?_
  refine lv_icmp_ge (tgt := 99) hx hb dX4_most_11 (by decide) (fun c1 => ?_) (fun c1 => ?_)
  · replace hwp := hwp.1 c1
    refine lv_iload_n hx hb dX4_most_99 rfl (lv_at hl 1 rfl) ?_
    refine lv_iconst (v := (-1)) hx hb dX4_most_100 (by decide) ?_
    refine lv_icmp_ne (tgt := 113) hx hb dX4_most_101 (by decide) (fun c2 => ?_) (fun c2 => ?_)
    · replace hwp := hwp.1 c2
      refine lv_iload_n hx hb dX4_most_113 rfl (lv_at hl 1 rfl) ?_
      exact m_iret hx hb hr hlk hK hP hS hwp dX4_most_114
    · replace hwp := hwp.2 c2
      refine lv_aload_n hx hb dX4_most_104 rfl (lv_at hl 0 rfl) ?_
      refine lv_bipush (v := (-5)) hx hb dX4_most_105 (by decide) ?_
      refine m_calli ⟨hx, hb, hml, hown, hts⟩ hK hD hA hP hS (mt_no hwp) (cwV 1 hts (lw_V q1469 q1471 qs25 q79 q1472) rfl rfl rfl (by decide +kernel) ⟨Nat.le_of_ble_eq_true rfl, Nat.le_of_ble_eq_true rfl⟩) rfl hl.1 rfl (Nat.le_of_ble_eq_true rfl) dX4_most_107 ⟨Nat.zero_le _, Nat.zero_le _⟩ (fun r3 σ4 H locs hk hP hS => ?_)
      have hwp := hk
      refine lv_goto (tgt := 114) hx hb dX4_most_110 (by decide) ?_
      exact m_iret hx hb hr hlk hK hP hS hwp dX4_most_114
  · replace hwp := hwp.2 c1
    refine lv_aload_n hx hb dX4_most_14 rfl (lv_at hl 0 rfl) ?_
    refine lv_iload_n hx hb dX4_most_15 rfl (lv_at hl 3 rfl) ?_
    refine m_calli ⟨hx, hb, hml, hown, hts⟩ hK hD hA hP hS (mt_isHouse hwp) (cwV 1 hts (lw_V q1501 q1503 qs27 q79 q1504) rfl rfl rfl (by decide +kernel) ⟨Nat.le_of_ble_eq_true rfl, Nat.le_of_ble_eq_true rfl⟩) rfl hl.1 rfl (Nat.le_of_ble_eq_true rfl) dX4_most_16 ⟨Nat.zero_le _, Nat.zero_le _⟩ (fun r5 u H locs hk hP hS => ?_)
    obtain ⟨hwp, eu⟩ := hk
    rw [eu] at hP
    refine lv_if_ne (tgt := 25) hx hb dX4_most_19 (by decide) (fun c6 => ?_) (fun c6 => ?_)
    · replace hwp := hwp.1 c6
      refine lv_iconst (v := 0) hx hb dX4_most_25 (by decide) ?_
      refine lv_istore (lv' := [(4, .int 0), (0, .ref (α 50)), (1, .int x1), (2, .int x2), (3, .int x3)]) hx hb dX4_most_26 hl (by decide) rfl (fun ls hl => ?_)
      refine lv_iconst (v := 0) hx hb dX4_most_28 (by decide) ?_
      refine lv_istore (lv' := [(5, .int 0), (4, .int 0), (0, .ref (α 50)), (1, .int x1), (2, .int x2), (3, .int x3)]) hx hb dX4_most_29 hl (by decide) rfl (fun ls hl => ?_)
      obtain ⟨n, hwp⟩ := hwp
      exact mk_most_31 X hL6 n _ _ _ _ _ σ hwp H locs ls hP hS (lv_sub hl [2, 3, 4, 5, 1, 0] rfl)
    · replace hwp := hwp.2 c6
      refine lv_goto (tgt := 93) hx hb dX4_most_22 (by decide) ?_
      refine lv_iinc (v := x3 + 1) (lv' := [(3, .int (x3 + 1)), (0, .ref (α 50)), (1, .int x1), (2, .int x2)]) hx hb dX4_most_93 hl (k := 3) rfl rfl (by decide) rfl (fun ls hl => ?_)
      refine lv_goto (tgt := 6) hx hb dX4_most_96 (by decide) ?_
      exact hL6 _ _ _ σ hwp H locs ls hP hS (lv_sub hl [1, 2, 3, 0] rfl)
set_option maxHeartbeats 4000000 in
set_option maxRecDepth 100000 in
theorem mk_most_6 {p : Program} {l : Launch} {e : Env} {s : State} {m : MethodId} {args : Array Value} {below : List Frame} {meth : Method} {c : Code} {Γ : GA} {α : Nat → Nat} {K : Int32 → MSt → Prop} (X : CM p s m args meth c cX4_most 6 (some .int) Γ α) : ∀ n (x1 : Int32) (x2 : Int32) (x3 : Int32) (σ : MSt), mw_most_6 K n x1 x2 x3 σ → TM p l e ({ frames := 20, cells := 0, slots := 0, locals := 446 } : Room) s m args below meth c 6 (QI below K Γ α s args) Γ α σ 6 [(0, .ref (α 50)), (1, .int x1), (2, .int x2), (3, .int x3)] [] := by
  intro n
  induction n with
  | zero => intro _ _ _ _ hwp; exact hwp.elim
  | succ n ih => intro x1 x2 x3 σ hwp; exact mk_most_6_b X ih x1 x2 x3 σ hwp
def mw_most (K : Int32 → MSt → Prop) (σ : MSt) : Prop :=
  ∃ n, mw_most_6 K n (-1) 0 0 σ
set_option maxHeartbeats 4000000 in
set_option maxRecDepth 100000 in
theorem mt_most {l : Launch} {Γ : GA} {α : Nat → Nat} {σ : MSt} {K : Int32 → MSt → Prop} (hwp : mw_most K  σ) : mI l yX4_most cX4_most 6 (some .int) ({ frames := 20, cells := 0, slots := 0, locals := 446 } : Room) Γ α [] σ K := by
  intro sz
  refine m_of (by decide) rfl [(0, .ref (α 50))] (fun _ h => h) (Nat.le_of_ble_eq_true rfl) ?_
  intro p e s m args below meth c hsz X H locs ls hP hS hl
  subst hsz
  obtain ⟨hx, hb, hml, hown, hts, hK, hD, hr, hlk⟩ := id X
  have hA : ∀ q, s.heap.size ≤ q → AM α s.heap.size q := fun q h => Or.inr h
  unfold mw_most at hwp
  refine lv_iconst (v := (-1)) hx hb dX4_most_0 (by decide) ?_
  refine lv_istore_n (lv' := [(1, .int (-1)), (0, .ref (α 50))]) hx hb dX4_most_1 rfl hl (by decide) rfl (fun ls hl => ?_)
  refine lv_iconst (v := 0) hx hb dX4_most_2 (by decide) ?_
  refine lv_istore_n (lv' := [(2, .int 0), (1, .int (-1)), (0, .ref (α 50))]) hx hb dX4_most_3 rfl hl (by decide) rfl (fun ls hl => ?_)
  refine lv_iconst (v := 0) hx hb dX4_most_4 (by decide) ?_
  refine lv_istore_n (lv' := [(3, .int 0), (2, .int 0), (1, .int (-1)), (0, .ref (α 50))]) hx hb dX4_most_5 rfl hl (by decide) rfl (fun ls hl => ?_)
  obtain ⟨n, hwp⟩ := hwp
  exact mk_most_6 X n _ _ _ σ hwp H locs ls hP hS (lv_sub hl [3, 2, 1, 0] rfl)
/-! newly -/
def mw_newly_10 (K : Int32 → MSt → Prop) (σ : MSt) : Prop :=
  mw_no (fun r1 σ2 => K r1 σ2) (-6) σ
set_option maxHeartbeats 4000000 in
set_option maxRecDepth 100000 in
theorem mk_newly_10 {p : Program} {l : Launch} {e : Env} {s : State} {m : MethodId} {args : Array Value} {below : List Frame} {meth : Method} {c : Code} {Γ : GA} {α : Nat → Nat} {K : Int32 → MSt → Prop} (X : CM p s m args meth c cX4_newly 6 (some .int) Γ α) : ∀ (σ : MSt), mw_newly_10 K  σ → TM p l e ({ frames := 24, cells := 0, slots := 0, locals := 535 } : Room) s m args below meth c 6 (QI below K Γ α s args) Γ α σ 10 [(0, .ref (α 50))] [] := by
  obtain ⟨hx, hb, hml, hown, hts, hK, hD, hr, hlk⟩ := id X
  have hA : ∀ q, s.heap.size ≤ q → AM α s.heap.size q := fun q h => Or.inr h
  intro  σ hwp H locs ls hP hS hl
  unfold mw_newly_10 at hwp
  refine lv_aload_n hx hb dX4_newly_10 rfl (lv_at hl 0 rfl) ?_
  refine lv_bipush (v := (-6)) hx hb dX4_newly_11 (by decide) ?_
  refine m_calli ⟨hx, hb, hml, hown, hts⟩ hK hD hA hP hS (mt_no hwp) (cwV 1 hts (lw_V q1469 q1471 qs25 q79 q1472) rfl rfl rfl (by decide +kernel) ⟨Nat.le_of_ble_eq_true rfl, Nat.le_of_ble_eq_true rfl⟩) rfl hl.1 rfl (Nat.le_of_ble_eq_true rfl) dX4_newly_13 ⟨Nat.zero_le _, Nat.zero_le _⟩ (fun r1 σ2 H locs hk hP hS => ?_)
  have hwp := hk
  exact m_iret hx hb hr hlk hK hP hS hwp dX4_newly_16
def mw_newly_120 (K : Int32 → MSt → Prop) (L40 : Int32 → Int32 → Int32 → Int32 → MSt → Prop) (x1 : Int32) (x4 : Int32) (x5 : Int32) (σ : MSt) : Prop :=
  L40 x1 x4 x5 (x4 + 1) σ
set_option maxHeartbeats 4000000 in
set_option maxRecDepth 100000 in
theorem mk_newly_120 {p : Program} {l : Launch} {e : Env} {s : State} {m : MethodId} {args : Array Value} {below : List Frame} {meth : Method} {c : Code} {Γ : GA} {α : Nat → Nat} {K : Int32 → MSt → Prop} (X : CM p s m args meth c cX4_newly 6 (some .int) Γ α) {L40 : Int32 → Int32 → Int32 → Int32 → MSt → Prop} (hL40 : ∀ (x1 : Int32) (x2 : Int32) (x3 : Int32) (x4 : Int32) (σ : MSt), L40 x1 x2 x3 x4 σ → TM p l e ({ frames := 24, cells := 0, slots := 0, locals := 535 } : Room) s m args below meth c 6 (QI below K Γ α s args) Γ α σ 40 [(0, .ref (α 50)), (1, .int x1), (2, .int x2), (3, .int x3), (4, .int x4)] []) : ∀ (x1 : Int32) (x4 : Int32) (x5 : Int32) (σ : MSt), mw_newly_120 K L40 x1 x4 x5 σ → TM p l e ({ frames := 24, cells := 0, slots := 0, locals := 535 } : Room) s m args below meth c 6 (QI below K Γ α s args) Γ α σ 120 [(0, .ref (α 50)), (1, .int x1), (4, .int x4), (5, .int x5)] [] := by
  obtain ⟨hx, hb, hml, hown, hts, hK, hD, hr, hlk⟩ := id X
  have hA : ∀ q, s.heap.size ≤ q → AM α s.heap.size q := fun q h => Or.inr h
  intro x1 x4 x5 σ hwp H locs ls hP hS hl
  unfold mw_newly_120 at hwp
  refine lv_iload hx hb dX4_newly_120 (lv_at hl 2 rfl) ?_
  refine lv_istore_n (lv' := [(2, .int x4), (0, .ref (α 50)), (1, .int x1), (4, .int x4), (5, .int x5)]) hx hb dX4_newly_122 rfl hl (by decide) rfl (fun ls hl => ?_)
  refine lv_iload hx hb dX4_newly_123 (lv_at hl 4 rfl) ?_
  refine lv_istore_n (lv' := [(3, .int x5), (2, .int x4), (0, .ref (α 50)), (1, .int x1), (4, .int x4), (5, .int x5)]) hx hb dX4_newly_125 rfl hl (by decide) rfl (fun ls hl => ?_)
  refine lv_iinc (v := x4 + 1) (lv' := [(4, .int (x4 + 1)), (3, .int x5), (2, .int x4), (0, .ref (α 50)), (1, .int x1), (5, .int x5)]) hx hb dX4_newly_126 hl (k := 4) rfl rfl (by decide) rfl (fun ls hl => ?_)
  refine lv_goto (tgt := 40) hx hb dX4_newly_129 (by decide) ?_
  exact hL40 _ _ _ _ σ hwp H locs ls hP hS (lv_sub hl [3, 4, 2, 1, 0] rfl)
def mw_newly_40_b (K : Int32 → MSt → Prop) (L40 : Int32 → Int32 → Int32 → Int32 → MSt → Prop) (x1 : Int32) (x2 : Int32) (x3 : Int32) (x4 : Int32) (σ : MSt) : Prop :=
  ((100 ≤ x4) → (K x2 σ)) ∧ ((¬ (100 ≤ x4)) → (mw_at σ (fun r2 => ((r2 = (-1)) → (mw_adds (fun r4 σ5 => mw_allRight σ5 (fun r6 => mw_many σ5 (fun r7 => ∀ σ8, σ8 = sF σ5 0 ((σ5.1 0) - 1) → (((x2 = (-1)) → (mw_newly_120 K L40 x1 x4 r7 σ8)) ∧ ((¬ (x2 = (-1))) → (((x3 < r7) → (mw_newly_120 K L40 x1 x4 r7 σ8)) ∧ ((¬ (x3 < r7)) → (L40 x1 x2 x3 (x4 + 1) σ8)))))) r6)) 1 (x4 - x4 / 10 * 10) (x4 / 10) x1 0 σ)) ∧ ((¬ (r2 = (-1))) → (L40 x1 x2 x3 (x4 + 1) σ))) (x4 - x4 / 10 * 10) (x4 / 10)))
def mw_newly_40 (K : Int32 → MSt → Prop) : Nat → Int32 → Int32 → Int32 → Int32 → MSt → Prop
  | 0 => fun _ _ _ _ _ => False
  | n + 1 => fun x1 x2 x3 x4 σ => mw_newly_40_b K (mw_newly_40 K n) x1 x2 x3 x4 σ
set_option maxHeartbeats 4000000 in
set_option maxRecDepth 100000 in
theorem mk_newly_40_b {p : Program} {l : Launch} {e : Env} {s : State} {m : MethodId} {args : Array Value} {below : List Frame} {meth : Method} {c : Code} {Γ : GA} {α : Nat → Nat} {K : Int32 → MSt → Prop} (X : CM p s m args meth c cX4_newly 6 (some .int) Γ α) {L40 : Int32 → Int32 → Int32 → Int32 → MSt → Prop} (hL40 : ∀ (x1 : Int32) (x2 : Int32) (x3 : Int32) (x4 : Int32) (σ : MSt), L40 x1 x2 x3 x4 σ → TM p l e ({ frames := 24, cells := 0, slots := 0, locals := 535 } : Room) s m args below meth c 6 (QI below K Γ α s args) Γ α σ 40 [(0, .ref (α 50)), (1, .int x1), (2, .int x2), (3, .int x3), (4, .int x4)] []) : ∀ (x1 : Int32) (x2 : Int32) (x3 : Int32) (x4 : Int32) (σ : MSt), mw_newly_40_b K L40 x1 x2 x3 x4 σ → TM p l e ({ frames := 24, cells := 0, slots := 0, locals := 535 } : Room) s m args below meth c 6 (QI below K Γ α s args) Γ α σ 40 [(0, .ref (α 50)), (1, .int x1), (2, .int x2), (3, .int x3), (4, .int x4)] [] := by
  obtain ⟨hx, hb, hml, hown, hts, hK, hD, hr, hlk⟩ := id X
  have hA : ∀ q, s.heap.size ≤ q → AM α s.heap.size q := fun q h => Or.inr h
  intro x1 x2 x3 x4 σ hwp H locs ls hP hS hl
  unfold mw_newly_40_b at hwp
  refine lv_iload hx hb dX4_newly_40 (lv_at hl 4 rfl) ?_
  refine lv_bipush (v := 100) hx hb dX4_newly_42 (by decide) ?_
  refine lv_icmp_ge (tgt := 132) hx hb dX4_newly_44 (by decide) (fun c1 => ?_) (fun c1 => ?_)
  · replace hwp := hwp.1 c1
    refine lv_iload_n hx hb dX4_newly_132 rfl (lv_at hl 2 rfl) ?_
    exact m_iret hx hb hr hlk hK hP hS hwp dX4_newly_133
  · replace hwp := hwp.2 c1
    refine lv_aload_n hx hb dX4_newly_47 rfl (lv_at hl 0 rfl) ?_
    refine lv_iload hx hb dX4_newly_48 (lv_at hl 4 rfl) ?_
    refine lv_bipush (v := 10) hx hb dX4_newly_50 (by decide) ?_
    refine lv_irem hx hb dX4_newly_52 (by decide) ?_
    refine lv_iload hx hb dX4_newly_53 (lv_at hl 4 rfl) ?_
    refine lv_bipush (v := 10) hx hb dX4_newly_55 (by decide) ?_
    refine lv_idiv hx hb dX4_newly_57 (by decide) ?_
    refine m_calli ⟨hx, hb, hml, hown, hts⟩ hK hD hA hP hS (mt_at hwp) (cwV 2 hts (lw_V q1541 q1543 qs37 q79 q1544) rfl rfl rfl (by decide +kernel) ⟨Nat.le_of_ble_eq_true rfl, Nat.le_of_ble_eq_true rfl⟩) rfl hl.1 rfl (Nat.le_of_ble_eq_true rfl) dX4_newly_58 ⟨Nat.zero_le _, Nat.zero_le _⟩ (fun r2 u H locs hk hP hS => ?_)
    obtain ⟨hwp, eu⟩ := hk
    rw [eu] at hP
    refine lv_iconst (v := (-1)) hx hb dX4_newly_61 (by decide) ?_
    refine lv_icmp_eq (tgt := 68) hx hb dX4_newly_62 (by decide) (fun c3 => ?_) (fun c3 => ?_)
    · replace hwp := hwp.1 c3
      refine lv_aload_n hx hb dX4_newly_68 rfl (lv_at hl 0 rfl) ?_
      refine lv_iconst (v := 1) hx hb dX4_newly_69 (by decide) ?_
      refine lv_iload hx hb dX4_newly_70 (lv_at hl 4 rfl) ?_
      refine lv_bipush (v := 10) hx hb dX4_newly_72 (by decide) ?_
      refine lv_irem hx hb dX4_newly_74 (by decide) ?_
      refine lv_iload hx hb dX4_newly_75 (lv_at hl 4 rfl) ?_
      refine lv_bipush (v := 10) hx hb dX4_newly_77 (by decide) ?_
      refine lv_idiv hx hb dX4_newly_79 (by decide) ?_
      refine lv_iload_n hx hb dX4_newly_80 rfl (lv_at hl 1 rfl) ?_
      refine lv_iconst (v := 0) hx hb dX4_newly_81 (by decide) ?_
      refine m_calli ⟨hx, hb, hml, hown, hts⟩ hK hD hA hP hS (mt_adds hwp) (cwV 5 hts (lw_V q1561 q1563 qs41 q79 q1564) rfl rfl rfl (by decide +kernel) ⟨Nat.le_of_ble_eq_true rfl, Nat.le_of_ble_eq_true rfl⟩) rfl hl.1 rfl (Nat.le_of_ble_eq_true rfl) dX4_newly_82 ⟨Nat.zero_le _, Nat.zero_le _⟩ (fun r4 σ5 H locs hk hP hS => ?_)
      have hwp := hk
      refine lv_pop hx hb dX4_newly_85 rfl ?_
      refine lv_aload_n hx hb dX4_newly_86 rfl (lv_at hl 0 rfl) ?_
      refine lv_aload_n hx hb dX4_newly_87 rfl (lv_at hl 0 rfl) ?_
      refine m_calli ⟨hx, hb, hml, hown, hts⟩ hK hD hA hP hS (mt_allRight hwp) (cwV 0 hts (lw_V q1665 q1667 qs56 q79 q1668) rfl rfl rfl (by decide +kernel) ⟨Nat.le_of_ble_eq_true rfl, Nat.le_of_ble_eq_true rfl⟩) rfl hl.1 rfl (Nat.le_of_ble_eq_true rfl) dX4_newly_88 ⟨Nat.zero_le _, Nat.zero_le _⟩ (fun r6 u H locs hk hP hS => ?_)
      obtain ⟨hwp, eu⟩ := hk
      rw [eu] at hP
      refine m_calli ⟨hx, hb, hml, hown, hts⟩ hK hD hA hP hS (mt_many hwp) (cwV 1 hts (lw_V q1549 q1551 qs39 q79 q1552) rfl rfl rfl (by decide +kernel) ⟨Nat.le_of_ble_eq_true rfl, Nat.le_of_ble_eq_true rfl⟩) rfl hl.1 rfl (Nat.le_of_ble_eq_true rfl) dX4_newly_91 ⟨Nat.zero_le _, Nat.zero_le _⟩ (fun r7 u H locs hk hP hS => ?_)
      obtain ⟨hwp, eu⟩ := hk
      rw [eu] at hP
      refine lv_istore (lv' := [(5, .int r7), (0, .ref (α 50)), (1, .int x1), (2, .int x2), (3, .int x3), (4, .int x4)]) hx hb dX4_newly_94 hl (by decide) rfl (fun ls hl => ?_)
      refine lv_aload_n hx hb dX4_newly_96 rfl (lv_at hl 1 rfl) ?_
      refine lv_dup hx hb dX4_newly_97 rfl ?_
      refine m_geti hx hb hts hown hK hP 0 (by decide) rfl q1346 rfl dX4_newly_98 ?_
      refine lv_iconst (v := 1) hx hb dX4_newly_101 (by decide) ?_
      refine lv_isub hx hb dX4_newly_102 ?_
      refine m_put hx hb hts hown hK hD hP hS 0 (by decide) rfl q1346 rfl rfl rfl rfl dX4_newly_103 (fun H locs hP hS => ?_)
      obtain ⟨σ8, eσ8⟩ : ∃ z, z = sF σ5 0 ((σ5.1 0) - 1) := ⟨_, rfl⟩
      rw [← eσ8] at hP
      replace hwp := hwp σ8 eσ8
      refine lv_iload_n hx hb dX4_newly_106 rfl (lv_at hl 3 rfl) ?_
      refine lv_iconst (v := (-1)) hx hb dX4_newly_107 (by decide) ?_
      refine lv_icmp_eq (tgt := 120) hx hb dX4_newly_108 (by decide) (fun c9 => ?_) (fun c9 => ?_)
      · replace hwp := hwp.1 c9
        exact mk_newly_120 X hL40 _ _ _ σ8 hwp H locs ls hP hS (lv_sub hl [1, 2, 5, 0] rfl)
      · replace hwp := hwp.2 c9
        refine lv_iload hx hb dX4_newly_111 (lv_at hl 0 rfl) ?_
        refine lv_iload_n hx hb dX4_newly_113 rfl (lv_at hl 4 rfl) ?_
        refine lv_icmp_gt (tgt := 120) hx hb dX4_newly_114 (by decide) (fun c10 => ?_) (fun c10 => ?_)
        · replace hwp := hwp.1 c10
          exact mk_newly_120 X hL40 _ _ _ σ8 hwp H locs ls hP hS (lv_sub hl [1, 2, 5, 0] rfl)
        · replace hwp := hwp.2 c10
          refine lv_goto (tgt := 126) hx hb dX4_newly_117 (by decide) ?_
          refine lv_iinc (v := x4 + 1) (lv' := [(4, .int (x4 + 1)), (5, .int r7), (0, .ref (α 50)), (1, .int x1), (2, .int x2), (3, .int x3)]) hx hb dX4_newly_126 hl (k := 5) rfl rfl (by decide) rfl (fun ls hl => ?_)
          refine lv_goto (tgt := 40) hx hb dX4_newly_129 (by decide) ?_
          exact hL40 _ _ _ _ σ8 hwp H locs ls hP hS (lv_sub hl [2, 3, 4, 5, 0] rfl)
    · replace hwp := hwp.2 c3
      refine lv_goto (tgt := 126) hx hb dX4_newly_65 (by decide) ?_
      refine lv_iinc (v := x4 + 1) (lv' := [(4, .int (x4 + 1)), (0, .ref (α 50)), (1, .int x1), (2, .int x2), (3, .int x3)]) hx hb dX4_newly_126 hl (k := 4) rfl rfl (by decide) rfl (fun ls hl => ?_)
      refine lv_goto (tgt := 40) hx hb dX4_newly_129 (by decide) ?_
      exact hL40 _ _ _ _ σ hwp H locs ls hP hS (lv_sub hl [1, 2, 3, 4, 0] rfl)
set_option maxHeartbeats 4000000 in
set_option maxRecDepth 100000 in
theorem mk_newly_40 {p : Program} {l : Launch} {e : Env} {s : State} {m : MethodId} {args : Array Value} {below : List Frame} {meth : Method} {c : Code} {Γ : GA} {α : Nat → Nat} {K : Int32 → MSt → Prop} (X : CM p s m args meth c cX4_newly 6 (some .int) Γ α) : ∀ n (x1 : Int32) (x2 : Int32) (x3 : Int32) (x4 : Int32) (σ : MSt), mw_newly_40 K n x1 x2 x3 x4 σ → TM p l e ({ frames := 24, cells := 0, slots := 0, locals := 535 } : Room) s m args below meth c 6 (QI below K Γ α s args) Γ α σ 40 [(0, .ref (α 50)), (1, .int x1), (2, .int x2), (3, .int x3), (4, .int x4)] [] := by
  intro n
  induction n with
  | zero => intro _ _ _ _ _ hwp; exact hwp.elim
  | succ n ih => intro x1 x2 x3 x4 σ hwp; exact mk_newly_40_b X ih x1 x2 x3 x4 σ hwp
def mw_newly (K : Int32 → MSt → Prop) (x1 : Int32) (σ : MSt) : Prop :=
  ((x1 < 0) → (mw_newly_10 K σ)) ∧ ((¬ (x1 < 0)) → (((x1 ≤ 20) → (((¬ ((σ.1 0) = 8)) → (∃ n, mw_newly_40 K n x1 (-1) 0 0 σ)) ∧ (((σ.1 0) = 8) → (mw_no (fun r4 σ5 => K r4 σ5) (-7) σ)))) ∧ ((¬ (x1 ≤ 20)) → (mw_newly_10 K σ))))
set_option maxHeartbeats 4000000 in
set_option maxRecDepth 100000 in
theorem mt_newly {l : Launch} {Γ : GA} {α : Nat → Nat} {σ : MSt} {K : Int32 → MSt → Prop} {x1 : Int32} (hwp : mw_newly K x1 σ) : mI l yX4_newly cX4_newly 6 (some .int) ({ frames := 24, cells := 0, slots := 0, locals := 535 } : Room) Γ α [.int x1] σ K := by
  intro sz
  refine m_of (by decide) rfl [(0, .ref (α 50)), (1, .int x1)] (fun _ h => h) (Nat.le_of_ble_eq_true rfl) ?_
  intro p e s m args below meth c hsz X H locs ls hP hS hl
  subst hsz
  obtain ⟨hx, hb, hml, hown, hts, hK, hD, hr, hlk⟩ := id X
  have hA : ∀ q, s.heap.size ≤ q → AM α s.heap.size q := fun q h => Or.inr h
  unfold mw_newly at hwp
  refine lv_iload_n hx hb dX4_newly_0 rfl (lv_at hl 1 rfl) ?_
  refine lv_if_lt (tgt := 10) hx hb dX4_newly_1 (by decide) (fun c1 => ?_) (fun c1 => ?_)
  · replace hwp := hwp.1 c1
    exact mk_newly_10 X σ hwp H locs ls hP hS (lv_sub hl [0] rfl)
  · replace hwp := hwp.2 c1
    refine lv_iload_n hx hb dX4_newly_4 rfl (lv_at hl 1 rfl) ?_
    refine lv_bipush (v := 20) hx hb dX4_newly_5 (by decide) ?_
    refine lv_icmp_le (tgt := 17) hx hb dX4_newly_7 (by decide) (fun c2 => ?_) (fun c2 => ?_)
    · replace hwp := hwp.1 c2
      refine lv_aload_n hx hb dX4_newly_17 rfl (lv_at hl 0 rfl) ?_
      refine m_geti hx hb hts hown hK hP 0 (by decide) rfl q1346 rfl dX4_newly_18 ?_
      refine lv_bipush (v := 8) hx hb dX4_newly_21 (by decide) ?_
      refine lv_icmp_ne (tgt := 33) hx hb dX4_newly_23 (by decide) (fun c3 => ?_) (fun c3 => ?_)
      · replace hwp := hwp.1 c3
        refine lv_iconst (v := (-1)) hx hb dX4_newly_33 (by decide) ?_
        refine lv_istore_n (lv' := [(2, .int (-1)), (0, .ref (α 50)), (1, .int x1)]) hx hb dX4_newly_34 rfl hl (by decide) rfl (fun ls hl => ?_)
        refine lv_iconst (v := 0) hx hb dX4_newly_35 (by decide) ?_
        refine lv_istore_n (lv' := [(3, .int 0), (2, .int (-1)), (0, .ref (α 50)), (1, .int x1)]) hx hb dX4_newly_36 rfl hl (by decide) rfl (fun ls hl => ?_)
        refine lv_iconst (v := 0) hx hb dX4_newly_37 (by decide) ?_
        refine lv_istore (lv' := [(4, .int 0), (3, .int 0), (2, .int (-1)), (0, .ref (α 50)), (1, .int x1)]) hx hb dX4_newly_38 hl (by decide) rfl (fun ls hl => ?_)
        obtain ⟨n, hwp⟩ := hwp
        exact mk_newly_40 X n _ _ _ _ σ hwp H locs ls hP hS (lv_sub hl [3, 4, 2, 1, 0] rfl)
      · replace hwp := hwp.2 c3
        refine lv_aload_n hx hb dX4_newly_26 rfl (lv_at hl 0 rfl) ?_
        refine lv_bipush (v := (-7)) hx hb dX4_newly_27 (by decide) ?_
        refine m_calli ⟨hx, hb, hml, hown, hts⟩ hK hD hA hP hS (mt_no hwp) (cwV 1 hts (lw_V q1469 q1471 qs25 q79 q1472) rfl rfl rfl (by decide +kernel) ⟨Nat.le_of_ble_eq_true rfl, Nat.le_of_ble_eq_true rfl⟩) rfl hl.1 rfl (Nat.le_of_ble_eq_true rfl) dX4_newly_29 ⟨Nat.zero_le _, Nat.zero_le _⟩ (fun r4 σ5 H locs hk hP hS => ?_)
        have hwp := hk
        exact m_iret hx hb hr hlk hK hP hS hwp dX4_newly_32
    · replace hwp := hwp.2 c2
      exact mk_newly_10 X σ hwp H locs ls hP hS (lv_sub hl [0] rfl)
