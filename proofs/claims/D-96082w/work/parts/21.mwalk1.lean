/-! firstOf -/
def mw_firstOf_2_b (σ : MSt) (K : Int32 → Prop) (L2 : Int32 → Int32 → Prop) (x1 : Int32) (x2 : Int32) : Prop :=
  ((8 ≤ x2) → (K (-1))) ∧ ((¬ (8 ≤ x2)) → (((¬ (((x1 >>> (x2 &&& 31)) &&& 1) = 1)) → (L2 x1 (x2 + 1))) ∧ ((((x1 >>> (x2 &&& 31)) &&& 1) = 1) → (K x2))))
def mw_firstOf_2 (σ : MSt) (K : Int32 → Prop) : Nat → Int32 → Int32 → Prop
  | 0 => fun _ _ => False
  | n + 1 => fun x1 x2 => mw_firstOf_2_b σ K (mw_firstOf_2 σ K n) x1 x2
set_option maxHeartbeats 4000000 in
set_option maxRecDepth 100000 in
theorem mk_firstOf_2_b {p : Program} {l : Launch} {e : Env} {s : State} {m : MethodId} {args : Array Value} {below : List Frame} {meth : Method} {c : Code} {Γ : GA} {α : Nat → Nat} {σ : MSt} {K : Int32 → Prop} (X : CM p s m args meth c cX4_firstOf 3 (some .int) Γ α) {L2 : Int32 → Int32 → Prop} (hL2 : ∀ (x1 : Int32) (x2 : Int32), L2 x1 x2 → TM p l e ({ frames := 0, cells := 0, slots := 0, locals := 0 } : Room) s m args below meth c 3 (QI below (fun r u => K r ∧ u = σ) Γ α s args) Γ α σ 2 [(1, .int x1), (2, .int x2)] []) : ∀ (x1 : Int32) (x2 : Int32), mw_firstOf_2_b σ K L2 x1 x2 → TM p l e ({ frames := 0, cells := 0, slots := 0, locals := 0 } : Room) s m args below meth c 3 (QI below (fun r u => K r ∧ u = σ) Γ α s args) Γ α σ 2 [(1, .int x1), (2, .int x2)] [] := by
  obtain ⟨hx, hb, hml, hown, hts, hK, hD, hr, hlk⟩ := id X
  have hA : ∀ q, s.heap.size ≤ q → AM α s.heap.size q := fun q h => Or.inr h
  intro x1 x2 hwp H locs ls hP hS hl
  unfold mw_firstOf_2_b at hwp
  refine lv_iload_n hx hb dX4_firstOf_2 rfl (lv_at hl 1 rfl) ?_
  refine lv_bipush (v := 8) hx hb dX4_firstOf_3 (by decide) ?_
  refine lv_icmp_ge (tgt := 25) hx hb dX4_firstOf_5 (by decide) (fun c1 => ?_) (fun c1 => ?_)
  · replace hwp := hwp.1 c1
    refine lv_iconst (v := (-1)) hx hb dX4_firstOf_25 (by decide) ?_
    exact m_iret hx hb hr hlk hK hP hS ⟨hwp, rfl⟩ dX4_firstOf_26
  · replace hwp := hwp.2 c1
    refine lv_iload_n hx hb dX4_firstOf_8 rfl (lv_at hl 0 rfl) ?_
    refine lv_iload_n hx hb dX4_firstOf_9 rfl (lv_at hl 1 rfl) ?_
    refine lv_ishr hx hb dX4_firstOf_10 ?_
    refine lv_iconst (v := 1) hx hb dX4_firstOf_11 (by decide) ?_
    refine lv_iand hx hb dX4_firstOf_12 ?_
    refine lv_iconst (v := 1) hx hb dX4_firstOf_13 (by decide) ?_
    refine lv_icmp_ne (tgt := 19) hx hb dX4_firstOf_14 (by decide) (fun c2 => ?_) (fun c2 => ?_)
    · replace hwp := hwp.1 c2
      refine lv_iinc (v := x2 + 1) (lv' := [(2, .int (x2 + 1)), (1, .int x1)]) hx hb dX4_firstOf_19 hl (k := 1) rfl rfl (by decide) rfl (fun ls hl => ?_)
      refine lv_goto (tgt := 2) hx hb dX4_firstOf_22 (by decide) ?_
      exact hL2 _ _ hwp H locs ls hP hS (lv_sub hl [1, 0] rfl)
    · replace hwp := hwp.2 c2
      refine lv_iload_n hx hb dX4_firstOf_17 rfl (lv_at hl 1 rfl) ?_
      exact m_iret hx hb hr hlk hK hP hS ⟨hwp, rfl⟩ dX4_firstOf_18
set_option maxHeartbeats 4000000 in
set_option maxRecDepth 100000 in
theorem mk_firstOf_2 {p : Program} {l : Launch} {e : Env} {s : State} {m : MethodId} {args : Array Value} {below : List Frame} {meth : Method} {c : Code} {Γ : GA} {α : Nat → Nat} {σ : MSt} {K : Int32 → Prop} (X : CM p s m args meth c cX4_firstOf 3 (some .int) Γ α) : ∀ n (x1 : Int32) (x2 : Int32), mw_firstOf_2 σ K n x1 x2 → TM p l e ({ frames := 0, cells := 0, slots := 0, locals := 0 } : Room) s m args below meth c 3 (QI below (fun r u => K r ∧ u = σ) Γ α s args) Γ α σ 2 [(1, .int x1), (2, .int x2)] [] := by
  intro n
  induction n with
  | zero => intro _ _ hwp; exact hwp.elim
  | succ n ih => intro x1 x2 hwp; exact mk_firstOf_2_b X ih x1 x2 hwp
def mw_firstOf (σ : MSt) (K : Int32 → Prop) (x1 : Int32) : Prop :=
  ∃ n, mw_firstOf_2 σ K n x1 0
set_option maxHeartbeats 4000000 in
set_option maxRecDepth 100000 in
theorem mt_firstOf {l : Launch} {Γ : GA} {α : Nat → Nat} {σ : MSt} {K : Int32 → Prop} {x1 : Int32} (hwp : mw_firstOf σ K x1) : mI l yX4_firstOf cX4_firstOf 3 (some .int) ({ frames := 0, cells := 0, slots := 0, locals := 0 } : Room) Γ α [.int x1] σ (fun r u => K r ∧ u = σ) := by
  intro sz
  refine m_of (by decide) rfl [(0, .ref (α 50)), (1, .int x1)] (fun _ h => h) (Nat.le_of_ble_eq_true rfl) ?_
  intro p e s m args below meth c hsz X H locs ls hP hS hl
  subst hsz
  obtain ⟨hx, hb, hml, hown, hts, hK, hD, hr, hlk⟩ := id X
  have hA : ∀ q, s.heap.size ≤ q → AM α s.heap.size q := fun q h => Or.inr h
  unfold mw_firstOf at hwp
  refine lv_iconst (v := 0) hx hb dX4_firstOf_0 (by decide) ?_
  refine lv_istore_n (lv' := [(2, .int 0), (0, .ref (α 50)), (1, .int x1)]) hx hb dX4_firstOf_1 rfl hl (by decide) rfl (fun ls hl => ?_)
  obtain ⟨n, hwp⟩ := hwp
  exact mk_firstOf_2 X n _ _ hwp H locs ls hP hS (lv_sub hl [2, 0] rfl)
/-! noTen -/
def mw_noTen (K : Int32 → MSt → Prop) (x1 : Int32) (σ : MSt) : Prop :=
  vp_in (-x1) (lenM 6) ∧ (vp_in (-x1) (lenM 6) ∧ (∀ σ3, σ3 = sI σ 6 (-x1).toNatClampNeg ((σ.2.1 6 (-x1).toNatClampNeg) + 1) → (K (x1 - 10) σ3)))
set_option maxHeartbeats 4000000 in
set_option maxRecDepth 100000 in
theorem mt_noTen {l : Launch} {Γ : GA} {α : Nat → Nat} {σ : MSt} {K : Int32 → MSt → Prop} {x1 : Int32} (hwp : mw_noTen K x1 σ) : mI l yX4_noTen cX4_noTen 2 (some .int) ({ frames := 0, cells := 0, slots := 0, locals := 0 } : Room) Γ α [.int x1] σ K := by
  intro sz
  refine m_of (by decide) rfl [(0, .ref (α 50)), (1, .int x1)] (fun _ h => h) (Nat.le_of_ble_eq_true rfl) ?_
  intro p e s m args below meth c hsz X H locs ls hP hS hl
  subst hsz
  obtain ⟨hx, hb, hml, hown, hts, hK, hD, hr, hlk⟩ := id X
  have hA : ∀ q, s.heap.size ≤ q → AM α s.heap.size q := fun q h => Or.inr h
  unfold mw_noTen at hwp
  refine lv_aload_n hx hb dX4_noTen_0 rfl (lv_at hl 0 rfl) ?_
  refine m_geta hx hb hts hown hK hP 6 (by decide) rfl q1352 rfl dX4_noTen_1 ?_
  refine lv_iload_n hx hb dX4_noTen_4 rfl (lv_at hl 1 rfl) ?_
  refine lv_ineg hx hb dX4_noTen_5 ?_
  refine lv_dup2_11 hx hb dX4_noTen_6 rfl rfl ?_
  obtain ⟨hi1, hwp⟩ := hwp
  refine m_iald hx hb hK hP 6 rfl hi1 dX4_noTen_7 ?_
  refine lv_iconst (v := 1) hx hb dX4_noTen_8 (by decide) ?_
  refine lv_iadd hx hb dX4_noTen_9 ?_
  obtain ⟨hi2, hwp⟩ := hwp
  refine m_iast hx hb hK hD hP hS 6 rfl hi2 dX4_noTen_10 (fun H locs hP hS => ?_)
  obtain ⟨σ3, eσ3⟩ : ∃ z, z = sI σ 6 (-x1).toNatClampNeg ((σ.2.1 6 (-x1).toNatClampNeg) + 1) := ⟨_, rfl⟩
  rw [← eσ3] at hP
  replace hwp := hwp σ3 eσ3
  refine lv_iload_n hx hb dX4_noTen_11 rfl (lv_at hl 1 rfl) ?_
  refine lv_bipush (v := 10) hx hb dX4_noTen_12 (by decide) ?_
  refine lv_isub hx hb dX4_noTen_14 ?_
  exact m_iret hx hb hr hlk hK hP hS hwp dX4_noTen_15
/-! back -/
def mw_back_21_b (K : Int32 → MSt → Prop) (L21 : Int32 → Int32 → Int32 → MSt → Prop) (x1 : Int32) (x3 : Int32) (x4 : Int32) (σ : MSt) : Prop :=
  ((8 < x4) → (K (-1) σ)) ∧ ((¬ (8 < x4)) → (mw_seersOf σ (fun r2 => mw_firstOf σ (fun r3 => ((¬ (r3 = (-1))) → (((¬ (r3 = x1)) → (L21 x1 r3 (x4 + 1) σ)) ∧ ((r3 = x1) → (K x4 σ)))) ∧ ((r3 = (-1)) → (K (-1) σ))) r2) x3))
def mw_back_21 (K : Int32 → MSt → Prop) : Nat → Int32 → Int32 → Int32 → MSt → Prop
  | 0 => fun _ _ _ _ => False
  | n + 1 => fun x1 x3 x4 σ => mw_back_21_b K (mw_back_21 K n) x1 x3 x4 σ
set_option maxHeartbeats 4000000 in
set_option maxRecDepth 100000 in
theorem mk_back_21_b {p : Program} {l : Launch} {e : Env} {s : State} {m : MethodId} {args : Array Value} {below : List Frame} {meth : Method} {c : Code} {Γ : GA} {α : Nat → Nat} {K : Int32 → MSt → Prop} (X : CM p s m args meth c cX4_back 5 (some .int) Γ α) {L21 : Int32 → Int32 → Int32 → MSt → Prop} (hL21 : ∀ (x1 : Int32) (x3 : Int32) (x4 : Int32) (σ : MSt), L21 x1 x3 x4 σ → TM p l e ({ frames := 22, cells := 0, slots := 0, locals := 492 } : Room) s m args below meth c 5 (QI below K Γ α s args) Γ α σ 21 [(0, .ref (α 50)), (1, .int x1), (3, .int x3), (4, .int x4)] []) : ∀ (x1 : Int32) (x3 : Int32) (x4 : Int32) (σ : MSt), mw_back_21_b K L21 x1 x3 x4 σ → TM p l e ({ frames := 22, cells := 0, slots := 0, locals := 492 } : Room) s m args below meth c 5 (QI below K Γ α s args) Γ α σ 21 [(0, .ref (α 50)), (1, .int x1), (3, .int x3), (4, .int x4)] [] := by
  obtain ⟨hx, hb, hml, hown, hts, hK, hD, hr, hlk⟩ := id X
  have hA : ∀ q, s.heap.size ≤ q → AM α s.heap.size q := fun q h => Or.inr h
  intro x1 x3 x4 σ hwp H locs ls hP hS hl
  unfold mw_back_21_b at hwp
  refine lv_iload hx hb dX4_back_21 (lv_at hl 3 rfl) ?_
  refine lv_bipush (v := 8) hx hb dX4_back_23 (by decide) ?_
  refine lv_icmp_gt (tgt := 59) hx hb dX4_back_25 (by decide) (fun c1 => ?_) (fun c1 => ?_)
  · replace hwp := hwp.1 c1
    refine lv_iconst (v := (-1)) hx hb dX4_back_59 (by decide) ?_
    exact m_iret hx hb hr hlk hK hP hS hwp dX4_back_60
  · replace hwp := hwp.2 c1
    refine lv_aload_n hx hb dX4_back_28 rfl (lv_at hl 0 rfl) ?_
    refine lv_aload_n hx hb dX4_back_29 rfl (lv_at hl 0 rfl) ?_
    refine lv_iload_n hx hb dX4_back_30 rfl (lv_at hl 2 rfl) ?_
    refine m_calli ⟨hx, hb, hml, hown, hts⟩ hK hD hA hP hS (mt_seersOf hwp) (cwV 1 hts (lw_V q1509 q1511 qs29 q79 q1512) rfl rfl rfl (by decide +kernel) ⟨Nat.le_of_ble_eq_true rfl, Nat.le_of_ble_eq_true rfl⟩) rfl hl.1 rfl (Nat.le_of_ble_eq_true rfl) dX4_back_31 ⟨Nat.zero_le _, Nat.zero_le _⟩ (fun r2 u H locs hk hP hS => ?_)
    obtain ⟨hwp, eu⟩ := hk
    rw [eu] at hP
    refine m_calli ⟨hx, hb, hml, hown, hts⟩ hK hD hA hP hS (mt_firstOf hwp) (cwV 1 hts (lw_V q1745 q1747 qs65 q79 q1748) rfl rfl rfl (by decide +kernel) ⟨Nat.le_of_ble_eq_true rfl, Nat.le_of_ble_eq_true rfl⟩) rfl hl.1 rfl (Nat.le_of_ble_eq_true rfl) dX4_back_34 ⟨Nat.zero_le _, Nat.zero_le _⟩ (fun r3 u H locs hk hP hS => ?_)
    obtain ⟨hwp, eu⟩ := hk
    rw [eu] at hP
    refine lv_istore_n (lv' := [(3, .int r3), (0, .ref (α 50)), (1, .int x1), (4, .int x4)]) hx hb dX4_back_37 rfl hl (by decide) rfl (fun ls hl => ?_)
    refine lv_iload_n hx hb dX4_back_38 rfl (lv_at hl 0 rfl) ?_
    refine lv_iconst (v := (-1)) hx hb dX4_back_39 (by decide) ?_
    refine lv_icmp_ne (tgt := 45) hx hb dX4_back_40 (by decide) (fun c4 => ?_) (fun c4 => ?_)
    · replace hwp := hwp.1 c4
      refine lv_iload_n hx hb dX4_back_45 rfl (lv_at hl 0 rfl) ?_
      refine lv_iload_n hx hb dX4_back_46 rfl (lv_at hl 2 rfl) ?_
      refine lv_icmp_ne (tgt := 53) hx hb dX4_back_47 (by decide) (fun c5 => ?_) (fun c5 => ?_)
      · replace hwp := hwp.1 c5
        refine lv_iinc (v := x4 + 1) (lv' := [(4, .int (x4 + 1)), (3, .int r3), (0, .ref (α 50)), (1, .int x1)]) hx hb dX4_back_53 hl (k := 3) rfl rfl (by decide) rfl (fun ls hl => ?_)
        refine lv_goto (tgt := 21) hx hb dX4_back_56 (by decide) ?_
        exact hL21 _ _ _ σ hwp H locs ls hP hS (lv_sub hl [2, 3, 1, 0] rfl)
      · replace hwp := hwp.2 c5
        refine lv_iload hx hb dX4_back_50 (lv_at hl 3 rfl) ?_
        exact m_iret hx hb hr hlk hK hP hS hwp dX4_back_52
    · replace hwp := hwp.2 c4
      refine lv_iconst (v := (-1)) hx hb dX4_back_43 (by decide) ?_
      exact m_iret hx hb hr hlk hK hP hS hwp dX4_back_44
set_option maxHeartbeats 4000000 in
set_option maxRecDepth 100000 in
theorem mk_back_21 {p : Program} {l : Launch} {e : Env} {s : State} {m : MethodId} {args : Array Value} {below : List Frame} {meth : Method} {c : Code} {Γ : GA} {α : Nat → Nat} {K : Int32 → MSt → Prop} (X : CM p s m args meth c cX4_back 5 (some .int) Γ α) : ∀ n (x1 : Int32) (x3 : Int32) (x4 : Int32) (σ : MSt), mw_back_21 K n x1 x3 x4 σ → TM p l e ({ frames := 22, cells := 0, slots := 0, locals := 492 } : Room) s m args below meth c 5 (QI below K Γ α s args) Γ α σ 21 [(0, .ref (α 50)), (1, .int x1), (3, .int x3), (4, .int x4)] [] := by
  intro n
  induction n with
  | zero => intro _ _ _ _ hwp; exact hwp.elim
  | succ n ih => intro x1 x3 x4 σ hwp; exact mk_back_21_b X ih x1 x3 x4 σ hwp
def mw_back (K : Int32 → MSt → Prop) (x1 : Int32) (σ : MSt) : Prop :=
  mw_barred σ (fun r1 => ((r1 = 0) → (∃ n, mw_back_21 K n x1 x1 1 σ)) ∧ ((¬ (r1 = 0)) → (mw_noTen (fun r3 σ4 => K r3 σ4) r1 σ))) x1
set_option maxHeartbeats 4000000 in
set_option maxRecDepth 100000 in
theorem mt_back {l : Launch} {Γ : GA} {α : Nat → Nat} {σ : MSt} {K : Int32 → MSt → Prop} {x1 : Int32} (hwp : mw_back K x1 σ) : mI l yX4_back cX4_back 5 (some .int) ({ frames := 22, cells := 0, slots := 0, locals := 492 } : Room) Γ α [.int x1] σ K := by
  intro sz
  refine m_of (by decide) rfl [(0, .ref (α 50)), (1, .int x1)] (fun _ h => h) (Nat.le_of_ble_eq_true rfl) ?_
  intro p e s m args below meth c hsz X H locs ls hP hS hl
  subst hsz
  obtain ⟨hx, hb, hml, hown, hts, hK, hD, hr, hlk⟩ := id X
  have hA : ∀ q, s.heap.size ≤ q → AM α s.heap.size q := fun q h => Or.inr h
  unfold mw_back at hwp
  refine lv_aload_n hx hb dX4_back_0 rfl (lv_at hl 0 rfl) ?_
  refine lv_iload_n hx hb dX4_back_1 rfl (lv_at hl 1 rfl) ?_
  refine m_calli ⟨hx, hb, hml, hown, hts⟩ hK hD hA hP hS (mt_barred hwp) (cwV 1 hts (lw_V q1589 q1591 qs43 q79 q1592) rfl rfl rfl (by decide +kernel) ⟨Nat.le_of_ble_eq_true rfl, Nat.le_of_ble_eq_true rfl⟩) rfl hl.1 rfl (Nat.le_of_ble_eq_true rfl) dX4_back_2 ⟨Nat.zero_le _, Nat.zero_le _⟩ (fun r1 u H locs hk hP hS => ?_)
  obtain ⟨hwp, eu⟩ := hk
  rw [eu] at hP
  refine lv_istore_n (lv' := [(2, .int r1), (0, .ref (α 50)), (1, .int x1)]) hx hb dX4_back_5 rfl hl (by decide) rfl (fun ls hl => ?_)
  refine lv_iload_n hx hb dX4_back_6 rfl (lv_at hl 0 rfl) ?_
  refine lv_if_eq (tgt := 16) hx hb dX4_back_7 (by decide) (fun c2 => ?_) (fun c2 => ?_)
  · replace hwp := hwp.1 c2
    refine lv_iload_n hx hb dX4_back_16 rfl (lv_at hl 2 rfl) ?_
    refine lv_istore_n (lv' := [(3, .int x1), (2, .int r1), (0, .ref (α 50)), (1, .int x1)]) hx hb dX4_back_17 rfl hl (by decide) rfl (fun ls hl => ?_)
    refine lv_iconst (v := 1) hx hb dX4_back_18 (by decide) ?_
    refine lv_istore (lv' := [(4, .int 1), (3, .int x1), (2, .int r1), (0, .ref (α 50)), (1, .int x1)]) hx hb dX4_back_19 hl (by decide) rfl (fun ls hl => ?_)
    obtain ⟨n, hwp⟩ := hwp
    exact mk_back_21 X n _ _ _ σ hwp H locs ls hP hS (lv_sub hl [3, 4, 1, 0] rfl)
  · replace hwp := hwp.2 c2
    refine lv_aload_n hx hb dX4_back_10 rfl (lv_at hl 1 rfl) ?_
    refine lv_iload_n hx hb dX4_back_11 rfl (lv_at hl 0 rfl) ?_
    refine m_calli ⟨hx, hb, hml, hown, hts⟩ hK hD hA hP hS (mt_noTen hwp) (cwV 1 hts (lw_V q1653 q1655 qs55 q79 q1656) rfl rfl rfl (by decide +kernel) ⟨Nat.le_of_ble_eq_true rfl, Nat.le_of_ble_eq_true rfl⟩) rfl hl.1 rfl (Nat.le_of_ble_eq_true rfl) dX4_back_12 ⟨Nat.zero_le _, Nat.zero_le _⟩ (fun r3 σ4 H locs hk hP hS => ?_)
    have hwp := hk
    exact m_iret hx hb hr hlk hK hP hS hwp dX4_back_15
/-! barredTwo -/
def mw_barredTwo (σ : MSt) (K : Int32 → Prop) (x1 : Int32) (x2 : Int32) : Prop :=
  mw_isThing σ (fun r1 => ((r1 = 0) → (K (-1))) ∧ ((¬ (r1 = 0)) → (mw_isThing σ (fun r3 => ((¬ (r3 = 0)) → (mw_isHouse σ (fun r5 => ((r5 = 0) → (K (-2))) ∧ ((¬ (r5 = 0)) → (mw_isHouse σ (fun r7 => ((r7 = 0) → (K (-2))) ∧ ((¬ (r7 = 0)) → (K 0))) x2))) x1)) ∧ ((r3 = 0) → (K (-1)))) x2))) x1
set_option maxHeartbeats 4000000 in
set_option maxRecDepth 100000 in
theorem mt_barredTwo {l : Launch} {Γ : GA} {α : Nat → Nat} {σ : MSt} {K : Int32 → Prop} {x1 : Int32} {x2 : Int32} (hwp : mw_barredTwo σ K x1 x2) : mI l yX4_barredTwo cX4_barredTwo 3 (some .int) ({ frames := 1, cells := 0, slots := 0, locals := 21 } : Room) Γ α [.int x1, .int x2] σ (fun r u => K r ∧ u = σ) := by
  intro sz
  refine m_of (by decide) rfl [(0, .ref (α 50)), (1, .int x1), (2, .int x2)] (fun _ h => h) (Nat.le_of_ble_eq_true rfl) ?_
  intro p e s m args below meth c hsz X H locs ls hP hS hl
  subst hsz
  obtain ⟨hx, hb, hml, hown, hts, hK, hD, hr, hlk⟩ := id X
  have hA : ∀ q, s.heap.size ≤ q → AM α s.heap.size q := fun q h => Or.inr h
  unfold mw_barredTwo at hwp
  refine lv_aload_n hx hb dX4_barredTwo_0 rfl (lv_at hl 0 rfl) ?_
  refine lv_iload_n hx hb dX4_barredTwo_1 rfl (lv_at hl 1 rfl) ?_
  refine m_calli ⟨hx, hb, hml, hown, hts⟩ hK hD hA hP hS (mt_isThing hwp) (cwV 1 hts (lw_V q1489 q1491 qs26 q79 q1492) rfl rfl rfl (by decide +kernel) ⟨Nat.le_of_ble_eq_true rfl, Nat.le_of_ble_eq_true rfl⟩) rfl hl.1 rfl (Nat.le_of_ble_eq_true rfl) dX4_barredTwo_2 ⟨Nat.zero_le _, Nat.zero_le _⟩ (fun r1 u H locs hk hP hS => ?_)
  obtain ⟨hwp, eu⟩ := hk
  rw [eu] at hP
  refine lv_if_eq (tgt := 16) hx hb dX4_barredTwo_5 (by decide) (fun c2 => ?_) (fun c2 => ?_)
  · replace hwp := hwp.1 c2
    refine lv_iconst (v := (-1)) hx hb dX4_barredTwo_16 (by decide) ?_
    exact m_iret hx hb hr hlk hK hP hS ⟨hwp, rfl⟩ dX4_barredTwo_17
  · replace hwp := hwp.2 c2
    refine lv_aload_n hx hb dX4_barredTwo_8 rfl (lv_at hl 0 rfl) ?_
    refine lv_iload_n hx hb dX4_barredTwo_9 rfl (lv_at hl 2 rfl) ?_
    refine m_calli ⟨hx, hb, hml, hown, hts⟩ hK hD hA hP hS (mt_isThing hwp) (cwV 1 hts (lw_V q1489 q1491 qs26 q79 q1492) rfl rfl rfl (by decide +kernel) ⟨Nat.le_of_ble_eq_true rfl, Nat.le_of_ble_eq_true rfl⟩) rfl hl.1 rfl (Nat.le_of_ble_eq_true rfl) dX4_barredTwo_10 ⟨Nat.zero_le _, Nat.zero_le _⟩ (fun r3 u H locs hk hP hS => ?_)
    obtain ⟨hwp, eu⟩ := hk
    rw [eu] at hP
    refine lv_if_ne (tgt := 18) hx hb dX4_barredTwo_13 (by decide) (fun c4 => ?_) (fun c4 => ?_)
    · replace hwp := hwp.1 c4
      refine lv_aload_n hx hb dX4_barredTwo_18 rfl (lv_at hl 0 rfl) ?_
      refine lv_iload_n hx hb dX4_barredTwo_19 rfl (lv_at hl 1 rfl) ?_
      refine m_calli ⟨hx, hb, hml, hown, hts⟩ hK hD hA hP hS (mt_isHouse hwp) (cwV 1 hts (lw_V q1501 q1503 qs27 q79 q1504) rfl rfl rfl (by decide +kernel) ⟨Nat.le_of_ble_eq_true rfl, Nat.le_of_ble_eq_true rfl⟩) rfl hl.1 rfl (Nat.le_of_ble_eq_true rfl) dX4_barredTwo_20 ⟨Nat.zero_le _, Nat.zero_le _⟩ (fun r5 u H locs hk hP hS => ?_)
      obtain ⟨hwp, eu⟩ := hk
      rw [eu] at hP
      refine lv_if_eq (tgt := 38) hx hb dX4_barredTwo_23 (by decide) (fun c6 => ?_) (fun c6 => ?_)
      · replace hwp := hwp.1 c6
        refine lv_bipush (v := (-2)) hx hb dX4_barredTwo_38 (by decide) ?_
        exact m_iret hx hb hr hlk hK hP hS ⟨hwp, rfl⟩ dX4_barredTwo_40
      · replace hwp := hwp.2 c6
        refine lv_aload_n hx hb dX4_barredTwo_26 rfl (lv_at hl 0 rfl) ?_
        refine lv_iload_n hx hb dX4_barredTwo_27 rfl (lv_at hl 2 rfl) ?_
        refine m_calli ⟨hx, hb, hml, hown, hts⟩ hK hD hA hP hS (mt_isHouse hwp) (cwV 1 hts (lw_V q1501 q1503 qs27 q79 q1504) rfl rfl rfl (by decide +kernel) ⟨Nat.le_of_ble_eq_true rfl, Nat.le_of_ble_eq_true rfl⟩) rfl hl.1 rfl (Nat.le_of_ble_eq_true rfl) dX4_barredTwo_28 ⟨Nat.zero_le _, Nat.zero_le _⟩ (fun r7 u H locs hk hP hS => ?_)
        obtain ⟨hwp, eu⟩ := hk
        rw [eu] at hP
        refine lv_if_eq (tgt := 38) hx hb dX4_barredTwo_31 (by decide) (fun c8 => ?_) (fun c8 => ?_)
        · replace hwp := hwp.1 c8
          refine lv_bipush (v := (-2)) hx hb dX4_barredTwo_38 (by decide) ?_
          exact m_iret hx hb hr hlk hK hP hS ⟨hwp, rfl⟩ dX4_barredTwo_40
        · replace hwp := hwp.2 c8
          refine lv_iconst (v := 0) hx hb dX4_barredTwo_34 (by decide) ?_
          refine lv_goto (tgt := 40) hx hb dX4_barredTwo_35 (by decide) ?_
          exact m_iret hx hb hr hlk hK hP hS ⟨hwp, rfl⟩ dX4_barredTwo_40
    · replace hwp := hwp.2 c4
      refine lv_iconst (v := (-1)) hx hb dX4_barredTwo_16 (by decide) ?_
      exact m_iret hx hb hr hlk hK hP hS ⟨hwp, rfl⟩ dX4_barredTwo_17
/-! bars -/
def mw_bars_19 (K : Int32 → MSt → Prop) (x1 : Int32) (x2 : Int32) (x3 : Int32) (σ : MSt) : Prop :=
  ((x3 = 0) → (mw_inWay σ (fun r2 => K r2 σ) x1 x2)) ∧ ((¬ (x3 = 0)) → (mw_noTen (fun r3 σ4 => K r3 σ4) x3 σ))
set_option maxHeartbeats 4000000 in
set_option maxRecDepth 100000 in
theorem mk_bars_19 {p : Program} {l : Launch} {e : Env} {s : State} {m : MethodId} {args : Array Value} {below : List Frame} {meth : Method} {c : Code} {Γ : GA} {α : Nat → Nat} {K : Int32 → MSt → Prop} (X : CM p s m args meth c cX4_bars 4 (some .int) Γ α) : ∀ (x1 : Int32) (x2 : Int32) (x3 : Int32) (σ : MSt), mw_bars_19 K x1 x2 x3 σ → TM p l e ({ frames := 18, cells := 0, slots := 0, locals := 402 } : Room) s m args below meth c 4 (QI below K Γ α s args) Γ α σ 19 [(0, .ref (α 50)), (1, .int x1), (2, .int x2), (3, .int x3)] [] := by
  obtain ⟨hx, hb, hml, hown, hts, hK, hD, hr, hlk⟩ := id X
  have hA : ∀ q, s.heap.size ≤ q → AM α s.heap.size q := fun q h => Or.inr h
  intro x1 x2 x3 σ hwp H locs ls hP hS hl
  unfold mw_bars_19 at hwp
  refine lv_iload_n hx hb dX4_bars_19 rfl (lv_at hl 3 rfl) ?_
  refine lv_if_eq (tgt := 31) hx hb dX4_bars_20 (by decide) (fun c1 => ?_) (fun c1 => ?_)
  · replace hwp := hwp.1 c1
    refine lv_aload_n hx hb dX4_bars_31 rfl (lv_at hl 0 rfl) ?_
    refine lv_iload_n hx hb dX4_bars_32 rfl (lv_at hl 1 rfl) ?_
    refine lv_iload_n hx hb dX4_bars_33 rfl (lv_at hl 2 rfl) ?_
    refine m_calli ⟨hx, hb, hml, hown, hts⟩ hK hD hA hP hS (mt_inWay hwp) (cwV 2 hts (lw_V q1533 q1535 qs35 q79 q1536) rfl rfl rfl (by decide +kernel) ⟨Nat.le_of_ble_eq_true rfl, Nat.le_of_ble_eq_true rfl⟩) rfl hl.1 rfl (Nat.le_of_ble_eq_true rfl) dX4_bars_34 ⟨Nat.zero_le _, Nat.zero_le _⟩ (fun r2 u H locs hk hP hS => ?_)
    obtain ⟨hwp, eu⟩ := hk
    rw [eu] at hP
    exact m_iret hx hb hr hlk hK hP hS hwp dX4_bars_37
  · replace hwp := hwp.2 c1
    refine lv_aload_n hx hb dX4_bars_23 rfl (lv_at hl 0 rfl) ?_
    refine lv_iload_n hx hb dX4_bars_24 rfl (lv_at hl 3 rfl) ?_
    refine m_calli ⟨hx, hb, hml, hown, hts⟩ hK hD hA hP hS (mt_noTen hwp) (cwV 1 hts (lw_V q1653 q1655 qs55 q79 q1656) rfl rfl rfl (by decide +kernel) ⟨Nat.le_of_ble_eq_true rfl, Nat.le_of_ble_eq_true rfl⟩) rfl hl.1 rfl (Nat.le_of_ble_eq_true rfl) dX4_bars_25 ⟨Nat.zero_le _, Nat.zero_le _⟩ (fun r3 σ4 H locs hk hP hS => ?_)
    have hwp := hk
    refine lv_goto (tgt := 37) hx hb dX4_bars_28 (by decide) ?_
    exact m_iret hx hb hr hlk hK hP hS hwp dX4_bars_37
def mw_bars (K : Int32 → MSt → Prop) (x1 : Int32) (x2 : Int32) (σ : MSt) : Prop :=
  mw_barredTwo σ (fun r1 => ((¬ (r1 = 0)) → (mw_bars_19 K x1 x2 r1 σ)) ∧ ((r1 = 0) → (((¬ (x1 = x2)) → (mw_bars_19 K x1 x2 r1 σ)) ∧ ((x1 = x2) → (mw_bars_19 K x1 x2 (-6) σ))))) x1 x2
set_option maxHeartbeats 4000000 in
set_option maxRecDepth 100000 in
theorem mt_bars {l : Launch} {Γ : GA} {α : Nat → Nat} {σ : MSt} {K : Int32 → MSt → Prop} {x1 : Int32} {x2 : Int32} (hwp : mw_bars K x1 x2 σ) : mI l yX4_bars cX4_bars 4 (some .int) ({ frames := 18, cells := 0, slots := 0, locals := 402 } : Room) Γ α [.int x1, .int x2] σ K := by
  intro sz
  refine m_of (by decide) rfl [(0, .ref (α 50)), (1, .int x1), (2, .int x2)] (fun _ h => h) (Nat.le_of_ble_eq_true rfl) ?_
  intro p e s m args below meth c hsz X H locs ls hP hS hl
  subst hsz
  obtain ⟨hx, hb, hml, hown, hts, hK, hD, hr, hlk⟩ := id X
  have hA : ∀ q, s.heap.size ≤ q → AM α s.heap.size q := fun q h => Or.inr h
  unfold mw_bars at hwp
  refine lv_aload_n hx hb dX4_bars_0 rfl (lv_at hl 0 rfl) ?_
  refine lv_iload_n hx hb dX4_bars_1 rfl (lv_at hl 1 rfl) ?_
  refine lv_iload_n hx hb dX4_bars_2 rfl (lv_at hl 2 rfl) ?_
  refine m_calli ⟨hx, hb, hml, hown, hts⟩ hK hD hA hP hS (mt_barredTwo hwp) (cwV 2 hts (lw_V q1581 q1583 qs42 q79 q1584) rfl rfl rfl (by decide +kernel) ⟨Nat.le_of_ble_eq_true rfl, Nat.le_of_ble_eq_true rfl⟩) rfl hl.1 rfl (Nat.le_of_ble_eq_true rfl) dX4_bars_3 ⟨Nat.zero_le _, Nat.zero_le _⟩ (fun r1 u H locs hk hP hS => ?_)
  obtain ⟨hwp, eu⟩ := hk
  rw [eu] at hP
  refine lv_istore_n (lv' := [(3, .int r1), (0, .ref (α 50)), (1, .int x1), (2, .int x2)]) hx hb dX4_bars_6 rfl hl (by decide) rfl (fun ls hl => ?_)
  refine lv_iload_n hx hb dX4_bars_7 rfl (lv_at hl 0 rfl) ?_
  refine lv_if_ne (tgt := 19) hx hb dX4_bars_8 (by decide) (fun c2 => ?_) (fun c2 => ?_)
  · replace hwp := hwp.1 c2
    exact mk_bars_19 X _ _ _ σ hwp H locs ls hP hS (lv_sub hl [1, 2, 3, 0] rfl)
  · replace hwp := hwp.2 c2
    refine lv_iload_n hx hb dX4_bars_11 rfl (lv_at hl 2 rfl) ?_
    refine lv_iload_n hx hb dX4_bars_12 rfl (lv_at hl 3 rfl) ?_
    refine lv_icmp_ne (tgt := 19) hx hb dX4_bars_13 (by decide) (fun c3 => ?_) (fun c3 => ?_)
    · replace hwp := hwp.1 c3
      exact mk_bars_19 X _ _ _ σ hwp H locs ls hP hS (lv_sub hl [1, 2, 3, 0] rfl)
    · replace hwp := hwp.2 c3
      refine lv_bipush (v := (-6)) hx hb dX4_bars_16 (by decide) ?_
      refine lv_istore_n (lv' := [(3, .int (-6)), (0, .ref (α 50)), (1, .int x1), (2, .int x2)]) hx hb dX4_bars_18 rfl hl (by decide) rfl (fun ls hl => ?_)
      exact mk_bars_19 X _ _ _ σ hwp H locs ls hP hS (lv_sub hl [1, 2, 3, 0] rfl)
/-! blinded -/
def mw_blinded_88_b (K : Int32 → MSt → Prop) (L88 : Int32 → Int32 → Int32 → MSt → Prop) (x1 : Int32) (x3 : Int32) (x4 : Int32) (σ : MSt) : Prop :=
  (((σ.1 0) ≤ x4) → (vp_in x1 (lenM 10) ∧ (vp_in x1 (lenM 10) ∧ (∀ σ4, σ4 = sI σ 10 x1.toNatClampNeg ((σ.2.1 10 x1.toNatClampNeg) - 1) → (K x3 σ4))))) ∧ ((¬ ((σ.1 0) ≤ x4)) → (mw_isHouse σ (fun r5 => ((r5 = 0) → (L88 x1 x3 (x4 + 1) σ)) ∧ ((¬ (r5 = 0)) → (vp_in x4 (lenM 32) ∧ (mw_seesInto σ (fun r8 => mw_many σ (fun r9 => L88 x1 (x3 + r9) (x4 + 1) σ) ((σ.2.1 32 x4.toNatClampNeg) &&& (r8 ^^^ (-1)))) x4)))) x4))
def mw_blinded_88 (K : Int32 → MSt → Prop) : Nat → Int32 → Int32 → Int32 → MSt → Prop
  | 0 => fun _ _ _ _ => False
  | n + 1 => fun x1 x3 x4 σ => mw_blinded_88_b K (mw_blinded_88 K n) x1 x3 x4 σ
set_option maxHeartbeats 4000000 in
set_option maxRecDepth 100000 in
theorem mk_blinded_88_b {p : Program} {l : Launch} {e : Env} {s : State} {m : MethodId} {args : Array Value} {below : List Frame} {meth : Method} {c : Code} {Γ : GA} {α : Nat → Nat} {K : Int32 → MSt → Prop} (X : CM p s m args meth c cX4_blinded 5 (some .int) Γ α) {L88 : Int32 → Int32 → Int32 → MSt → Prop} (hL88 : ∀ (x1 : Int32) (x3 : Int32) (x4 : Int32) (σ : MSt), L88 x1 x3 x4 σ → TM p l e ({ frames := 21, cells := 0, slots := 0, locals := 469 } : Room) s m args below meth c 5 (QI below K Γ α s args) Γ α σ 88 [(0, .ref (α 50)), (1, .int x1), (3, .int x3), (4, .int x4)] []) : ∀ (x1 : Int32) (x3 : Int32) (x4 : Int32) (σ : MSt), mw_blinded_88_b K L88 x1 x3 x4 σ → TM p l e ({ frames := 21, cells := 0, slots := 0, locals := 469 } : Room) s m args below meth c 5 (QI below K Γ α s args) Γ α σ 88 [(0, .ref (α 50)), (1, .int x1), (3, .int x3), (4, .int x4)] [] := by
  obtain ⟨hx, hb, hml, hown, hts, hK, hD, hr, hlk⟩ := id X
  have hA : ∀ q, s.heap.size ≤ q → AM α s.heap.size q := fun q h => Or.inr h
  intro x1 x3 x4 σ hwp H locs ls hP hS hl
  unfold mw_blinded_88_b at hwp
  refine lv_iload hx hb dX4_blinded_88 (lv_at hl 3 rfl) ?_
  refine lv_aload_n hx hb dX4_blinded_90 rfl (lv_at hl 0 rfl) ?_
  refine m_geti hx hb hts hown hK hP 0 (by decide) rfl q1346 rfl dX4_blinded_91 ?_
  refine lv_icmp_ge (tgt := 135) hx hb dX4_blinded_94 (by decide) (fun c1 => ?_) (fun c1 => ?_)
  · replace hwp := hwp.1 c1
    refine lv_aload_n hx hb dX4_blinded_135 rfl (lv_at hl 0 rfl) ?_
    refine m_geta hx hb hts hown hK hP 10 (by decide) rfl q1356 rfl dX4_blinded_136 ?_
    refine lv_iload_n hx hb dX4_blinded_139 rfl (lv_at hl 1 rfl) ?_
    refine lv_dup2_11 hx hb dX4_blinded_140 rfl rfl ?_
    obtain ⟨hi2, hwp⟩ := hwp
    refine m_iald hx hb hK hP 10 rfl hi2 dX4_blinded_141 ?_
    refine lv_iconst (v := 1) hx hb dX4_blinded_142 (by decide) ?_
    refine lv_isub hx hb dX4_blinded_143 ?_
    obtain ⟨hi3, hwp⟩ := hwp
    refine m_iast hx hb hK hD hP hS 10 rfl hi3 dX4_blinded_144 (fun H locs hP hS => ?_)
    obtain ⟨σ4, eσ4⟩ : ∃ z, z = sI σ 10 x1.toNatClampNeg ((σ.2.1 10 x1.toNatClampNeg) - 1) := ⟨_, rfl⟩
    rw [← eσ4] at hP
    replace hwp := hwp σ4 eσ4
    refine lv_iload_n hx hb dX4_blinded_145 rfl (lv_at hl 2 rfl) ?_
    exact m_iret hx hb hr hlk hK hP hS hwp dX4_blinded_146
  · replace hwp := hwp.2 c1
    refine lv_aload_n hx hb dX4_blinded_97 rfl (lv_at hl 0 rfl) ?_
    refine lv_iload hx hb dX4_blinded_98 (lv_at hl 3 rfl) ?_
    refine m_calli ⟨hx, hb, hml, hown, hts⟩ hK hD hA hP hS (mt_isHouse hwp) (cwV 1 hts (lw_V q1501 q1503 qs27 q79 q1504) rfl rfl rfl (by decide +kernel) ⟨Nat.le_of_ble_eq_true rfl, Nat.le_of_ble_eq_true rfl⟩) rfl hl.1 rfl (Nat.le_of_ble_eq_true rfl) dX4_blinded_100 ⟨Nat.zero_le _, Nat.zero_le _⟩ (fun r5 u H locs hk hP hS => ?_)
    obtain ⟨hwp, eu⟩ := hk
    rw [eu] at hP
    refine lv_if_eq (tgt := 129) hx hb dX4_blinded_103 (by decide) (fun c6 => ?_) (fun c6 => ?_)
    · replace hwp := hwp.1 c6
      refine lv_iinc (v := x4 + 1) (lv' := [(4, .int (x4 + 1)), (0, .ref (α 50)), (1, .int x1), (3, .int x3)]) hx hb dX4_blinded_129 hl (k := 3) rfl rfl (by decide) rfl (fun ls hl => ?_)
      refine lv_goto (tgt := 88) hx hb dX4_blinded_132 (by decide) ?_
      exact hL88 _ _ _ σ hwp H locs ls hP hS (lv_sub hl [1, 2, 3, 0] rfl)
    · replace hwp := hwp.2 c6
      refine lv_iload_n hx hb dX4_blinded_106 rfl (lv_at hl 2 rfl) ?_
      refine lv_aload_n hx hb dX4_blinded_107 rfl (lv_at hl 0 rfl) ?_
      refine lv_aload_n hx hb dX4_blinded_108 rfl (lv_at hl 0 rfl) ?_
      refine m_geta hx hb hts hown hK hP 32 (by decide) rfl q1378 rfl dX4_blinded_109 ?_
      refine lv_iload hx hb dX4_blinded_112 (lv_at hl 3 rfl) ?_
      obtain ⟨hi7, hwp⟩ := hwp
      refine m_iald hx hb hK hP 32 rfl hi7 dX4_blinded_114 ?_
      refine lv_aload_n hx hb dX4_blinded_115 rfl (lv_at hl 0 rfl) ?_
      refine lv_iload hx hb dX4_blinded_116 (lv_at hl 3 rfl) ?_
      refine m_calli ⟨hx, hb, hml, hown, hts⟩ hK hD hA hP hS (mt_seesInto hwp) (cwV 1 hts (lw_V q1513 q1515 qs30 q79 q1516) rfl rfl rfl (by decide +kernel) ⟨Nat.le_of_ble_eq_true rfl, Nat.le_of_ble_eq_true rfl⟩) rfl hl.1 rfl (Nat.le_of_ble_eq_true rfl) dX4_blinded_118 ⟨Nat.zero_le _, Nat.zero_le _⟩ (fun r8 u H locs hk hP hS => ?_)
      obtain ⟨hwp, eu⟩ := hk
      rw [eu] at hP
      refine lv_iconst (v := (-1)) hx hb dX4_blinded_121 (by decide) ?_
      refine lv_ixor hx hb dX4_blinded_122 ?_
      refine lv_iand hx hb dX4_blinded_123 ?_
      refine m_calli ⟨hx, hb, hml, hown, hts⟩ hK hD hA hP hS (mt_many hwp) (cwV 1 hts (lw_V q1549 q1551 qs39 q79 q1552) rfl rfl rfl (by decide +kernel) ⟨Nat.le_of_ble_eq_true rfl, Nat.le_of_ble_eq_true rfl⟩) rfl hl.1 rfl (Nat.le_of_ble_eq_true rfl) dX4_blinded_124 ⟨Nat.zero_le _, Nat.zero_le _⟩ (fun r9 u H locs hk hP hS => ?_)
      obtain ⟨hwp, eu⟩ := hk
      rw [eu] at hP
      refine lv_iadd hx hb dX4_blinded_127 ?_
      refine lv_istore_n (lv' := [(3, .int (x3 + r9)), (0, .ref (α 50)), (1, .int x1), (4, .int x4)]) hx hb dX4_blinded_128 rfl hl (by decide) rfl (fun ls hl => ?_)
      refine lv_iinc (v := x4 + 1) (lv' := [(4, .int (x4 + 1)), (3, .int (x3 + r9)), (0, .ref (α 50)), (1, .int x1)]) hx hb dX4_blinded_129 hl (k := 3) rfl rfl (by decide) rfl (fun ls hl => ?_)
      refine lv_goto (tgt := 88) hx hb dX4_blinded_132 (by decide) ?_
      exact hL88 _ _ _ σ hwp H locs ls hP hS (lv_sub hl [2, 3, 1, 0] rfl)
set_option maxHeartbeats 4000000 in
set_option maxRecDepth 100000 in
theorem mk_blinded_88 {p : Program} {l : Launch} {e : Env} {s : State} {m : MethodId} {args : Array Value} {below : List Frame} {meth : Method} {c : Code} {Γ : GA} {α : Nat → Nat} {K : Int32 → MSt → Prop} (X : CM p s m args meth c cX4_blinded 5 (some .int) Γ α) : ∀ n (x1 : Int32) (x3 : Int32) (x4 : Int32) (σ : MSt), mw_blinded_88 K n x1 x3 x4 σ → TM p l e ({ frames := 21, cells := 0, slots := 0, locals := 469 } : Room) s m args below meth c 5 (QI below K Γ α s args) Γ α σ 88 [(0, .ref (α 50)), (1, .int x1), (3, .int x3), (4, .int x4)] [] := by
  intro n
  induction n with
  | zero => intro _ _ _ _ hwp; exact hwp.elim
  | succ n ih => intro x1 x3 x4 σ hwp; exact mk_blinded_88_b X ih x1 x3 x4 σ hwp
def mw_blinded_66 (K : Int32 → MSt → Prop) (L36 : Int32 → Int32 → MSt → Prop) (x1 : Int32) (x3 : Int32) (t0 : Int32) (t1 : Int32) (σ : MSt) : Prop :=
  vp_in t1 (lenM 32) ∧ (∀ σ2, σ2 = sI σ 32 t1.toNatClampNeg t0 → (L36 x1 (x3 + 1) σ2))
set_option maxHeartbeats 4000000 in
set_option maxRecDepth 100000 in
theorem mk_blinded_66 {p : Program} {l : Launch} {e : Env} {s : State} {m : MethodId} {args : Array Value} {below : List Frame} {meth : Method} {c : Code} {Γ : GA} {α : Nat → Nat} {K : Int32 → MSt → Prop} (X : CM p s m args meth c cX4_blinded 5 (some .int) Γ α) {L36 : Int32 → Int32 → MSt → Prop} (hL36 : ∀ (x1 : Int32) (x3 : Int32) (σ : MSt), L36 x1 x3 σ → TM p l e ({ frames := 21, cells := 0, slots := 0, locals := 469 } : Room) s m args below meth c 5 (QI below K Γ α s args) Γ α σ 36 [(0, .ref (α 50)), (1, .int x1), (3, .int x3)] []) : ∀ (x1 : Int32) (x3 : Int32) (t0 : Int32) (t1 : Int32) (σ : MSt), mw_blinded_66 K L36 x1 x3 t0 t1 σ → TM p l e ({ frames := 21, cells := 0, slots := 0, locals := 469 } : Room) s m args below meth c 5 (QI below K Γ α s args) Γ α σ 66 [(0, .ref (α 50)), (1, .int x1), (3, .int x3)] [.int t0, .int t1, .ref (α 32)] := by
  obtain ⟨hx, hb, hml, hown, hts, hK, hD, hr, hlk⟩ := id X
  have hA : ∀ q, s.heap.size ≤ q → AM α s.heap.size q := fun q h => Or.inr h
  intro x1 x3 t0 t1 σ hwp H locs ls hP hS hl
  unfold mw_blinded_66 at hwp
  obtain ⟨hi1, hwp⟩ := hwp
  refine m_iast hx hb hK hD hP hS 32 rfl hi1 dX4_blinded_66 (fun H locs hP hS => ?_)
  obtain ⟨σ2, eσ2⟩ : ∃ z, z = sI σ 32 t1.toNatClampNeg t0 := ⟨_, rfl⟩
  rw [← eσ2] at hP
  replace hwp := hwp σ2 eσ2
  refine lv_iinc (v := x3 + 1) (lv' := [(3, .int (x3 + 1)), (0, .ref (α 50)), (1, .int x1)]) hx hb dX4_blinded_67 hl (k := 2) rfl rfl (by decide) rfl (fun ls hl => ?_)
  refine lv_goto (tgt := 36) hx hb dX4_blinded_70 (by decide) ?_
  exact hL36 _ _ σ2 hwp H locs ls hP hS (lv_sub hl [1, 2, 0] rfl)
def mw_blinded_36_b (K : Int32 → MSt → Prop) (L36 : Int32 → Int32 → MSt → Prop) (x1 : Int32) (x3 : Int32) (σ : MSt) : Prop :=
  (((σ.1 0) ≤ x3) → (vp_in x1 (lenM 10) ∧ (vp_in x1 (lenM 10) ∧ (∀ σ4, σ4 = sI σ 10 x1.toNatClampNeg ((σ.2.1 10 x1.toNatClampNeg) + 1) → (∃ n, mw_blinded_88 K n x1 0 0 σ4))))) ∧ ((¬ ((σ.1 0) ≤ x3)) → (mw_isHouse σ (fun r5 => ((r5 = 0) → (mw_blinded_66 K L36 x1 x3 0 x3 σ)) ∧ ((¬ (r5 = 0)) → (mw_seesInto σ (fun r7 => mw_blinded_66 K L36 x1 x3 r7 x3 σ) x3))) x3))
def mw_blinded_36 (K : Int32 → MSt → Prop) : Nat → Int32 → Int32 → MSt → Prop
  | 0 => fun _ _ _ => False
  | n + 1 => fun x1 x3 σ => mw_blinded_36_b K (mw_blinded_36 K n) x1 x3 σ
set_option maxHeartbeats 4000000 in
set_option maxRecDepth 100000 in
theorem mk_blinded_36_b {p : Program} {l : Launch} {e : Env} {s : State} {m : MethodId} {args : Array Value} {below : List Frame} {meth : Method} {c : Code} {Γ : GA} {α : Nat → Nat} {K : Int32 → MSt → Prop} (X : CM p s m args meth c cX4_blinded 5 (some .int) Γ α) {L36 : Int32 → Int32 → MSt → Prop} (hL36 : ∀ (x1 : Int32) (x3 : Int32) (σ : MSt), L36 x1 x3 σ → TM p l e ({ frames := 21, cells := 0, slots := 0, locals := 469 } : Room) s m args below meth c 5 (QI below K Γ α s args) Γ α σ 36 [(0, .ref (α 50)), (1, .int x1), (3, .int x3)] []) : ∀ (x1 : Int32) (x3 : Int32) (σ : MSt), mw_blinded_36_b K L36 x1 x3 σ → TM p l e ({ frames := 21, cells := 0, slots := 0, locals := 469 } : Room) s m args below meth c 5 (QI below K Γ α s args) Γ α σ 36 [(0, .ref (α 50)), (1, .int x1), (3, .int x3)] [] := by
  obtain ⟨hx, hb, hml, hown, hts, hK, hD, hr, hlk⟩ := id X
  have hA : ∀ q, s.heap.size ≤ q → AM α s.heap.size q := fun q h => Or.inr h
  intro x1 x3 σ hwp H locs ls hP hS hl
  unfold mw_blinded_36_b at hwp
  refine lv_iload_n hx hb dX4_blinded_36 rfl (lv_at hl 2 rfl) ?_
  refine lv_aload_n hx hb dX4_blinded_37 rfl (lv_at hl 0 rfl) ?_
  refine m_geti hx hb hts hown hK hP 0 (by decide) rfl q1346 rfl dX4_blinded_38 ?_
  refine lv_icmp_ge (tgt := 73) hx hb dX4_blinded_41 (by decide) (fun c1 => ?_) (fun c1 => ?_)
  · replace hwp := hwp.1 c1
    refine lv_aload_n hx hb dX4_blinded_73 rfl (lv_at hl 0 rfl) ?_
    refine m_geta hx hb hts hown hK hP 10 (by decide) rfl q1356 rfl dX4_blinded_74 ?_
    refine lv_iload_n hx hb dX4_blinded_77 rfl (lv_at hl 1 rfl) ?_
    refine lv_dup2_11 hx hb dX4_blinded_78 rfl rfl ?_
    obtain ⟨hi2, hwp⟩ := hwp
    refine m_iald hx hb hK hP 10 rfl hi2 dX4_blinded_79 ?_
    refine lv_iconst (v := 1) hx hb dX4_blinded_80 (by decide) ?_
    refine lv_iadd hx hb dX4_blinded_81 ?_
    obtain ⟨hi3, hwp⟩ := hwp
    refine m_iast hx hb hK hD hP hS 10 rfl hi3 dX4_blinded_82 (fun H locs hP hS => ?_)
    obtain ⟨σ4, eσ4⟩ : ∃ z, z = sI σ 10 x1.toNatClampNeg ((σ.2.1 10 x1.toNatClampNeg) + 1) := ⟨_, rfl⟩
    rw [← eσ4] at hP
    replace hwp := hwp σ4 eσ4
    refine lv_iconst (v := 0) hx hb dX4_blinded_83 (by decide) ?_
    refine lv_istore_n (lv' := [(3, .int 0), (0, .ref (α 50)), (1, .int x1)]) hx hb dX4_blinded_84 rfl hl (by decide) rfl (fun ls hl => ?_)
    refine lv_iconst (v := 0) hx hb dX4_blinded_85 (by decide) ?_
    refine lv_istore (lv' := [(4, .int 0), (3, .int 0), (0, .ref (α 50)), (1, .int x1)]) hx hb dX4_blinded_86 hl (by decide) rfl (fun ls hl => ?_)
    obtain ⟨n, hwp⟩ := hwp
    exact mk_blinded_88 X n _ _ _ σ4 hwp H locs ls hP hS (lv_sub hl [2, 3, 1, 0] rfl)
  · replace hwp := hwp.2 c1
    refine lv_aload_n hx hb dX4_blinded_44 rfl (lv_at hl 0 rfl) ?_
    refine m_geta hx hb hts hown hK hP 32 (by decide) rfl q1378 rfl dX4_blinded_45 ?_
    refine lv_iload_n hx hb dX4_blinded_48 rfl (lv_at hl 2 rfl) ?_
    refine lv_aload_n hx hb dX4_blinded_49 rfl (lv_at hl 0 rfl) ?_
    refine lv_iload_n hx hb dX4_blinded_50 rfl (lv_at hl 2 rfl) ?_
    refine m_calli ⟨hx, hb, hml, hown, hts⟩ hK hD hA hP hS (mt_isHouse hwp) (cwV 1 hts (lw_V q1501 q1503 qs27 q79 q1504) rfl rfl rfl (by decide +kernel) ⟨Nat.le_of_ble_eq_true rfl, Nat.le_of_ble_eq_true rfl⟩) rfl hl.1 rfl (Nat.le_of_ble_eq_true rfl) dX4_blinded_51 ⟨Nat.zero_le _, Nat.zero_le _⟩ (fun r5 u H locs hk hP hS => ?_)
    obtain ⟨hwp, eu⟩ := hk
    rw [eu] at hP
    refine lv_if_eq (tgt := 65) hx hb dX4_blinded_54 (by decide) (fun c6 => ?_) (fun c6 => ?_)
    · replace hwp := hwp.1 c6
      refine lv_iconst (v := 0) hx hb dX4_blinded_65 (by decide) ?_
      exact mk_blinded_66 X hL36 _ _ _ _ σ hwp H locs ls hP hS (lv_sub hl [0, 1, 2] rfl)
    · replace hwp := hwp.2 c6
      refine lv_aload_n hx hb dX4_blinded_57 rfl (lv_at hl 0 rfl) ?_
      refine lv_iload_n hx hb dX4_blinded_58 rfl (lv_at hl 2 rfl) ?_
      refine m_calli ⟨hx, hb, hml, hown, hts⟩ hK hD hA hP hS (mt_seesInto hwp) (cwV 1 hts (lw_V q1513 q1515 qs30 q79 q1516) rfl rfl rfl (by decide +kernel) ⟨Nat.le_of_ble_eq_true rfl, Nat.le_of_ble_eq_true rfl⟩) rfl hl.1 rfl (Nat.le_of_ble_eq_true rfl) dX4_blinded_59 ⟨Nat.zero_le _, Nat.zero_le _⟩ (fun r7 u H locs hk hP hS => ?_)
      obtain ⟨hwp, eu⟩ := hk
      rw [eu] at hP
      refine lv_goto (tgt := 66) hx hb dX4_blinded_62 (by decide) ?_
      exact mk_blinded_66 X hL36 _ _ _ _ σ hwp H locs ls hP hS (lv_sub hl [0, 1, 2] rfl)
set_option maxHeartbeats 4000000 in
set_option maxRecDepth 100000 in
theorem mk_blinded_36 {p : Program} {l : Launch} {e : Env} {s : State} {m : MethodId} {args : Array Value} {below : List Frame} {meth : Method} {c : Code} {Γ : GA} {α : Nat → Nat} {K : Int32 → MSt → Prop} (X : CM p s m args meth c cX4_blinded 5 (some .int) Γ α) : ∀ n (x1 : Int32) (x3 : Int32) (σ : MSt), mw_blinded_36 K n x1 x3 σ → TM p l e ({ frames := 21, cells := 0, slots := 0, locals := 469 } : Room) s m args below meth c 5 (QI below K Γ α s args) Γ α σ 36 [(0, .ref (α 50)), (1, .int x1), (3, .int x3)] [] := by
  intro n
  induction n with
  | zero => intro _ _ _ hwp; exact hwp.elim
  | succ n ih => intro x1 x3 σ hwp; exact mk_blinded_36_b X ih x1 x3 σ hwp
def mw_blinded_24 (K : Int32 → MSt → Prop) (x1 : Int32) (x2 : Int32) (σ : MSt) : Prop :=
  ((x2 = 0) → (∃ n, mw_blinded_36 K n x1 0 σ)) ∧ ((¬ (x2 = 0)) → (mw_no (fun r2 σ3 => K r2 σ3) x2 σ))
set_option maxHeartbeats 4000000 in
set_option maxRecDepth 100000 in
theorem mk_blinded_24 {p : Program} {l : Launch} {e : Env} {s : State} {m : MethodId} {args : Array Value} {below : List Frame} {meth : Method} {c : Code} {Γ : GA} {α : Nat → Nat} {K : Int32 → MSt → Prop} (X : CM p s m args meth c cX4_blinded 5 (some .int) Γ α) : ∀ (x1 : Int32) (x2 : Int32) (σ : MSt), mw_blinded_24 K x1 x2 σ → TM p l e ({ frames := 21, cells := 0, slots := 0, locals := 469 } : Room) s m args below meth c 5 (QI below K Γ α s args) Γ α σ 24 [(0, .ref (α 50)), (1, .int x1), (2, .int x2)] [] := by
  obtain ⟨hx, hb, hml, hown, hts, hK, hD, hr, hlk⟩ := id X
  have hA : ∀ q, s.heap.size ≤ q → AM α s.heap.size q := fun q h => Or.inr h
  intro x1 x2 σ hwp H locs ls hP hS hl
  unfold mw_blinded_24 at hwp
  refine lv_iload_n hx hb dX4_blinded_24 rfl (lv_at hl 2 rfl) ?_
  refine lv_if_eq (tgt := 34) hx hb dX4_blinded_25 (by decide) (fun c1 => ?_) (fun c1 => ?_)
  · replace hwp := hwp.1 c1
    refine lv_iconst (v := 0) hx hb dX4_blinded_34 (by decide) ?_
    refine lv_istore_n (lv' := [(3, .int 0), (0, .ref (α 50)), (1, .int x1), (2, .int x2)]) hx hb dX4_blinded_35 rfl hl (by decide) rfl (fun ls hl => ?_)
    obtain ⟨n, hwp⟩ := hwp
    exact mk_blinded_36 X n _ _ σ hwp H locs ls hP hS (lv_sub hl [1, 2, 0] rfl)
  · replace hwp := hwp.2 c1
    refine lv_aload_n hx hb dX4_blinded_28 rfl (lv_at hl 0 rfl) ?_
    refine lv_iload_n hx hb dX4_blinded_29 rfl (lv_at hl 2 rfl) ?_
    refine m_calli ⟨hx, hb, hml, hown, hts⟩ hK hD hA hP hS (mt_no hwp) (cwV 1 hts (lw_V q1469 q1471 qs25 q79 q1472) rfl rfl rfl (by decide +kernel) ⟨Nat.le_of_ble_eq_true rfl, Nat.le_of_ble_eq_true rfl⟩) rfl hl.1 rfl (Nat.le_of_ble_eq_true rfl) dX4_blinded_30 ⟨Nat.zero_le _, Nat.zero_le _⟩ (fun r2 σ3 H locs hk hP hS => ?_)
    have hwp := hk
    exact m_iret hx hb hr hlk hK hP hS hwp dX4_blinded_33
def mw_blinded (K : Int32 → MSt → Prop) (x1 : Int32) (σ : MSt) : Prop :=
  mw_barred σ (fun r1 => ((¬ (r1 = 0)) → (mw_blinded_24 K x1 r1 σ)) ∧ ((r1 = 0) → (vp_in x1 (lenM 10) ∧ (((¬ ((σ.2.1 10 x1.toNatClampNeg) = 20)) → (mw_blinded_24 K x1 r1 σ)) ∧ (((σ.2.1 10 x1.toNatClampNeg) = 20) → (mw_blinded_24 K x1 (-6) σ)))))) x1
set_option maxHeartbeats 4000000 in
set_option maxRecDepth 100000 in
theorem mt_blinded {l : Launch} {Γ : GA} {α : Nat → Nat} {σ : MSt} {K : Int32 → MSt → Prop} {x1 : Int32} (hwp : mw_blinded K x1 σ) : mI l yX4_blinded cX4_blinded 5 (some .int) ({ frames := 21, cells := 0, slots := 0, locals := 469 } : Room) Γ α [.int x1] σ K := by
  intro sz
  refine m_of (by decide) rfl [(0, .ref (α 50)), (1, .int x1)] (fun _ h => h) (Nat.le_of_ble_eq_true rfl) ?_
  intro p e s m args below meth c hsz X H locs ls hP hS hl
  subst hsz
  obtain ⟨hx, hb, hml, hown, hts, hK, hD, hr, hlk⟩ := id X
  have hA : ∀ q, s.heap.size ≤ q → AM α s.heap.size q := fun q h => Or.inr h
  unfold mw_blinded at hwp
  refine lv_aload_n hx hb dX4_blinded_0 rfl (lv_at hl 0 rfl) ?_
  refine lv_iload_n hx hb dX4_blinded_1 rfl (lv_at hl 1 rfl) ?_
  refine m_calli ⟨hx, hb, hml, hown, hts⟩ hK hD hA hP hS (mt_barred hwp) (cwV 1 hts (lw_V q1589 q1591 qs43 q79 q1592) rfl rfl rfl (by decide +kernel) ⟨Nat.le_of_ble_eq_true rfl, Nat.le_of_ble_eq_true rfl⟩) rfl hl.1 rfl (Nat.le_of_ble_eq_true rfl) dX4_blinded_2 ⟨Nat.zero_le _, Nat.zero_le _⟩ (fun r1 u H locs hk hP hS => ?_)
  obtain ⟨hwp, eu⟩ := hk
  rw [eu] at hP
  refine lv_istore_n (lv' := [(2, .int r1), (0, .ref (α 50)), (1, .int x1)]) hx hb dX4_blinded_5 rfl hl (by decide) rfl (fun ls hl => ?_)
  refine lv_iload_n hx hb dX4_blinded_6 rfl (lv_at hl 0 rfl) ?_
  refine lv_if_ne (tgt := 24) hx hb dX4_blinded_7 (by decide) (fun c2 => ?_) (fun c2 => ?_)
  · replace hwp := hwp.1 c2
    exact mk_blinded_24 X _ _ σ hwp H locs ls hP hS (lv_sub hl [1, 2, 0] rfl)
  · replace hwp := hwp.2 c2
    refine lv_aload_n hx hb dX4_blinded_10 rfl (lv_at hl 1 rfl) ?_
    refine m_geta hx hb hts hown hK hP 10 (by decide) rfl q1356 rfl dX4_blinded_11 ?_
    refine lv_iload_n hx hb dX4_blinded_14 rfl (lv_at hl 2 rfl) ?_
    obtain ⟨hi3, hwp⟩ := hwp
    refine m_iald hx hb hK hP 10 rfl hi3 dX4_blinded_15 ?_
    refine lv_bipush (v := 20) hx hb dX4_blinded_16 (by decide) ?_
    refine lv_icmp_ne (tgt := 24) hx hb dX4_blinded_18 (by decide) (fun c4 => ?_) (fun c4 => ?_)
    · replace hwp := hwp.1 c4
      exact mk_blinded_24 X _ _ σ hwp H locs ls hP hS (lv_sub hl [1, 2, 0] rfl)
    · replace hwp := hwp.2 c4
      refine lv_bipush (v := (-6)) hx hb dX4_blinded_21 (by decide) ?_
      refine lv_istore_n (lv' := [(2, .int (-6)), (0, .ref (α 50)), (1, .int x1)]) hx hb dX4_blinded_23 rfl hl (by decide) rfl (fun ls hl => ?_)
      exact mk_blinded_24 X _ _ σ hwp H locs ls hP hS (lv_sub hl [1, 2, 0] rfl)
/-! costOf -/
def mw_costOf (σ : MSt) (K : Int32 → Prop) (x1 : Int32) (x2 : Int32) : Prop :=
  mw_distance σ (fun r1 => vp_in x2 (lenM 11) ∧ (K (r1 + (σ.2.1 11 x2.toNatClampNeg)))) x1 x2
set_option maxHeartbeats 4000000 in
set_option maxRecDepth 100000 in
theorem mt_costOf {l : Launch} {Γ : GA} {α : Nat → Nat} {σ : MSt} {K : Int32 → Prop} {x1 : Int32} {x2 : Int32} (hwp : mw_costOf σ K x1 x2) : mI l yX4_costOf cX4_costOf 3 (some .int) ({ frames := 2, cells := 0, slots := 0, locals := 45 } : Room) Γ α [.int x1, .int x2] σ (fun r u => K r ∧ u = σ) := by
  intro sz
  refine m_of (by decide) rfl [(0, .ref (α 50)), (1, .int x1), (2, .int x2)] (fun _ h => h) (Nat.le_of_ble_eq_true rfl) ?_
  intro p e s m args below meth c hsz X H locs ls hP hS hl
  subst hsz
  obtain ⟨hx, hb, hml, hown, hts, hK, hD, hr, hlk⟩ := id X
  have hA : ∀ q, s.heap.size ≤ q → AM α s.heap.size q := fun q h => Or.inr h
  unfold mw_costOf at hwp
  refine lv_aload_n hx hb dX4_costOf_0 rfl (lv_at hl 0 rfl) ?_
  refine lv_iload_n hx hb dX4_costOf_1 rfl (lv_at hl 1 rfl) ?_
  refine lv_iload_n hx hb dX4_costOf_2 rfl (lv_at hl 2 rfl) ?_
  refine m_calli ⟨hx, hb, hml, hown, hts⟩ hK hD hA hP hS (mt_distance hwp) (cwV 2 hts (lw_V q1525 q1527 qs33 q79 q1528) rfl rfl rfl (by decide +kernel) ⟨Nat.le_of_ble_eq_true rfl, Nat.le_of_ble_eq_true rfl⟩) rfl hl.1 rfl (Nat.le_of_ble_eq_true rfl) dX4_costOf_3 ⟨Nat.zero_le _, Nat.zero_le _⟩ (fun r1 u H locs hk hP hS => ?_)
  obtain ⟨hwp, eu⟩ := hk
  rw [eu] at hP
  refine lv_aload_n hx hb dX4_costOf_6 rfl (lv_at hl 0 rfl) ?_
  refine m_geta hx hb hts hown hK hP 11 (by decide) rfl q1357 rfl dX4_costOf_7 ?_
  refine lv_iload_n hx hb dX4_costOf_10 rfl (lv_at hl 2 rfl) ?_
  obtain ⟨hi2, hwp⟩ := hwp
  refine m_iald hx hb hK hP 11 rfl hi2 dX4_costOf_11 ?_
  refine lv_iadd hx hb dX4_costOf_12 ?_
  exact m_iret hx hb hr hlk hK hP hS ⟨hwp, rfl⟩ dX4_costOf_13
/-! keptOf -/
def mw_keptOf_23_b (σ : MSt) (K : Int32 → Prop) (L23 : Int32 → Int32 → Int32 → Int32 → Prop) (x1 : Int32) (x2 : Int32) (x3 : Int32) (x4 : Int32) : Prop :=
  (((σ.1 0) ≤ x4) → (K x3)) ∧ ((¬ ((σ.1 0) ≤ x4)) → (((¬ (((x2 >>> (x4 &&& 31)) &&& 1) = 1)) → (L23 x1 x2 x3 (x4 + 1))) ∧ ((((x2 >>> (x4 &&& 31)) &&& 1) = 1) → (((x3 = (-1)) → (L23 x1 x2 x4 (x4 + 1))) ∧ ((¬ (x3 = (-1))) → (mw_costOf σ (fun r4 => mw_costOf σ (fun r5 => ((r4 ≤ r5) → (L23 x1 x2 x3 (x4 + 1))) ∧ ((¬ (r4 ≤ r5)) → (L23 x1 x2 x4 (x4 + 1)))) x3 x1) x4 x1))))))
def mw_keptOf_23 (σ : MSt) (K : Int32 → Prop) : Nat → Int32 → Int32 → Int32 → Int32 → Prop
  | 0 => fun _ _ _ _ => False
  | n + 1 => fun x1 x2 x3 x4 => mw_keptOf_23_b σ K (mw_keptOf_23 σ K n) x1 x2 x3 x4
set_option maxHeartbeats 4000000 in
set_option maxRecDepth 100000 in
theorem mk_keptOf_23_b {p : Program} {l : Launch} {e : Env} {s : State} {m : MethodId} {args : Array Value} {below : List Frame} {meth : Method} {c : Code} {Γ : GA} {α : Nat → Nat} {σ : MSt} {K : Int32 → Prop} (X : CM p s m args meth c cX4_keptOf 5 (some .int) Γ α) {L23 : Int32 → Int32 → Int32 → Int32 → Prop} (hL23 : ∀ (x1 : Int32) (x2 : Int32) (x3 : Int32) (x4 : Int32), L23 x1 x2 x3 x4 → TM p l e ({ frames := 22, cells := 0, slots := 0, locals := 492 } : Room) s m args below meth c 5 (QI below (fun r u => K r ∧ u = σ) Γ α s args) Γ α σ 23 [(0, .ref (α 50)), (1, .int x1), (2, .int x2), (3, .int x3), (4, .int x4)] []) : ∀ (x1 : Int32) (x2 : Int32) (x3 : Int32) (x4 : Int32), mw_keptOf_23_b σ K L23 x1 x2 x3 x4 → TM p l e ({ frames := 22, cells := 0, slots := 0, locals := 492 } : Room) s m args below meth c 5 (QI below (fun r u => K r ∧ u = σ) Γ α s args) Γ α σ 23 [(0, .ref (α 50)), (1, .int x1), (2, .int x2), (3, .int x3), (4, .int x4)] [] := by
  obtain ⟨hx, hb, hml, hown, hts, hK, hD, hr, hlk⟩ := id X
  have hA : ∀ q, s.heap.size ≤ q → AM α s.heap.size q := fun q h => Or.inr h
  intro x1 x2 x3 x4 hwp H locs ls hP hS hl
  unfold mw_keptOf_23_b at hwp
  refine lv_iload hx hb dX4_keptOf_23 (lv_at hl 4 rfl) ?_
  refine lv_aload_n hx hb dX4_keptOf_25 rfl (lv_at hl 0 rfl) ?_
  refine m_geti hx hb hts hown hK hP 0 (by decide) rfl q1346 rfl dX4_keptOf_26 ?_
  refine lv_icmp_ge (tgt := 72) hx hb dX4_keptOf_29 (by decide) (fun c1 => ?_) (fun c1 => ?_)
  · replace hwp := hwp.1 c1
    refine lv_iload_n hx hb dX4_keptOf_72 rfl (lv_at hl 3 rfl) ?_
    exact m_iret hx hb hr hlk hK hP hS ⟨hwp, rfl⟩ dX4_keptOf_73
  · replace hwp := hwp.2 c1
    refine lv_iload_n hx hb dX4_keptOf_32 rfl (lv_at hl 2 rfl) ?_
    refine lv_iload hx hb dX4_keptOf_33 (lv_at hl 4 rfl) ?_
    refine lv_ishr hx hb dX4_keptOf_35 ?_
    refine lv_iconst (v := 1) hx hb dX4_keptOf_36 (by decide) ?_
    refine lv_iand hx hb dX4_keptOf_37 ?_
    refine lv_iconst (v := 1) hx hb dX4_keptOf_38 (by decide) ?_
    refine lv_icmp_ne (tgt := 66) hx hb dX4_keptOf_39 (by decide) (fun c2 => ?_) (fun c2 => ?_)
    · replace hwp := hwp.1 c2
      refine lv_iinc (v := x4 + 1) (lv' := [(4, .int (x4 + 1)), (0, .ref (α 50)), (1, .int x1), (2, .int x2), (3, .int x3)]) hx hb dX4_keptOf_66 hl (k := 4) rfl rfl (by decide) rfl (fun ls hl => ?_)
      refine lv_goto (tgt := 23) hx hb dX4_keptOf_69 (by decide) ?_
      exact hL23 _ _ _ _ hwp H locs ls hP hS (lv_sub hl [1, 2, 3, 4, 0] rfl)
    · replace hwp := hwp.2 c2
      refine lv_iload_n hx hb dX4_keptOf_42 rfl (lv_at hl 3 rfl) ?_
      refine lv_iconst (v := (-1)) hx hb dX4_keptOf_43 (by decide) ?_
      refine lv_icmp_eq (tgt := 63) hx hb dX4_keptOf_44 (by decide) (fun c3 => ?_) (fun c3 => ?_)
      · replace hwp := hwp.1 c3
        refine lv_iload hx hb dX4_keptOf_63 (lv_at hl 4 rfl) ?_
        refine lv_istore_n (lv' := [(3, .int x4), (0, .ref (α 50)), (1, .int x1), (2, .int x2), (4, .int x4)]) hx hb dX4_keptOf_65 rfl hl (by decide) rfl (fun ls hl => ?_)
        refine lv_iinc (v := x4 + 1) (lv' := [(4, .int (x4 + 1)), (3, .int x4), (0, .ref (α 50)), (1, .int x1), (2, .int x2)]) hx hb dX4_keptOf_66 hl (k := 4) rfl rfl (by decide) rfl (fun ls hl => ?_)
        refine lv_goto (tgt := 23) hx hb dX4_keptOf_69 (by decide) ?_
        exact hL23 _ _ _ _ hwp H locs ls hP hS (lv_sub hl [2, 3, 4, 1, 0] rfl)
      · replace hwp := hwp.2 c3
        refine lv_aload_n hx hb dX4_keptOf_47 rfl (lv_at hl 0 rfl) ?_
        refine lv_iload hx hb dX4_keptOf_48 (lv_at hl 4 rfl) ?_
        refine lv_iload_n hx hb dX4_keptOf_50 rfl (lv_at hl 1 rfl) ?_
        refine m_calli ⟨hx, hb, hml, hown, hts⟩ hK hD hA hP hS (mt_costOf hwp) (cwV 2 hts (lw_V q1677 q1679 qs57 q79 q1680) rfl rfl rfl (by decide +kernel) ⟨Nat.le_of_ble_eq_true rfl, Nat.le_of_ble_eq_true rfl⟩) rfl hl.1 rfl (Nat.le_of_ble_eq_true rfl) dX4_keptOf_51 ⟨Nat.zero_le _, Nat.zero_le _⟩ (fun r4 u H locs hk hP hS => ?_)
        obtain ⟨hwp, eu⟩ := hk
        rw [eu] at hP
        refine lv_aload_n hx hb dX4_keptOf_54 rfl (lv_at hl 0 rfl) ?_
        refine lv_iload_n hx hb dX4_keptOf_55 rfl (lv_at hl 3 rfl) ?_
        refine lv_iload_n hx hb dX4_keptOf_56 rfl (lv_at hl 1 rfl) ?_
        refine m_calli ⟨hx, hb, hml, hown, hts⟩ hK hD hA hP hS (mt_costOf hwp) (cwV 2 hts (lw_V q1677 q1679 qs57 q79 q1680) rfl rfl rfl (by decide +kernel) ⟨Nat.le_of_ble_eq_true rfl, Nat.le_of_ble_eq_true rfl⟩) rfl hl.1 rfl (Nat.le_of_ble_eq_true rfl) dX4_keptOf_57 ⟨Nat.zero_le _, Nat.zero_le _⟩ (fun r5 u H locs hk hP hS => ?_)
        obtain ⟨hwp, eu⟩ := hk
        rw [eu] at hP
        refine lv_icmp_le (tgt := 66) hx hb dX4_keptOf_60 (by decide) (fun c6 => ?_) (fun c6 => ?_)
        · replace hwp := hwp.1 c6
          refine lv_iinc (v := x4 + 1) (lv' := [(4, .int (x4 + 1)), (0, .ref (α 50)), (1, .int x1), (2, .int x2), (3, .int x3)]) hx hb dX4_keptOf_66 hl (k := 4) rfl rfl (by decide) rfl (fun ls hl => ?_)
          refine lv_goto (tgt := 23) hx hb dX4_keptOf_69 (by decide) ?_
          exact hL23 _ _ _ _ hwp H locs ls hP hS (lv_sub hl [1, 2, 3, 4, 0] rfl)
        · replace hwp := hwp.2 c6
          refine lv_iload hx hb dX4_keptOf_63 (lv_at hl 4 rfl) ?_
          refine lv_istore_n (lv' := [(3, .int x4), (0, .ref (α 50)), (1, .int x1), (2, .int x2), (4, .int x4)]) hx hb dX4_keptOf_65 rfl hl (by decide) rfl (fun ls hl => ?_)
          refine lv_iinc (v := x4 + 1) (lv' := [(4, .int (x4 + 1)), (3, .int x4), (0, .ref (α 50)), (1, .int x1), (2, .int x2)]) hx hb dX4_keptOf_66 hl (k := 4) rfl rfl (by decide) rfl (fun ls hl => ?_)
          refine lv_goto (tgt := 23) hx hb dX4_keptOf_69 (by decide) ?_
          exact hL23 _ _ _ _ hwp H locs ls hP hS (lv_sub hl [2, 3, 4, 1, 0] rfl)
set_option maxHeartbeats 4000000 in
set_option maxRecDepth 100000 in
theorem mk_keptOf_23 {p : Program} {l : Launch} {e : Env} {s : State} {m : MethodId} {args : Array Value} {below : List Frame} {meth : Method} {c : Code} {Γ : GA} {α : Nat → Nat} {σ : MSt} {K : Int32 → Prop} (X : CM p s m args meth c cX4_keptOf 5 (some .int) Γ α) : ∀ n (x1 : Int32) (x2 : Int32) (x3 : Int32) (x4 : Int32), mw_keptOf_23 σ K n x1 x2 x3 x4 → TM p l e ({ frames := 22, cells := 0, slots := 0, locals := 492 } : Room) s m args below meth c 5 (QI below (fun r u => K r ∧ u = σ) Γ α s args) Γ α σ 23 [(0, .ref (α 50)), (1, .int x1), (2, .int x2), (3, .int x3), (4, .int x4)] [] := by
  intro n
  induction n with
  | zero => intro _ _ _ _ hwp; exact hwp.elim
  | succ n ih => intro x1 x2 x3 x4 hwp; exact mk_keptOf_23_b X ih x1 x2 x3 x4 hwp
def mw_keptOf (σ : MSt) (K : Int32 → Prop) (x1 : Int32) : Prop :=
  mw_seersOf σ (fun r1 => vp_in x1 (lenM 7) ∧ (((¬ ((σ.2.1 7 x1.toNatClampNeg) = 4)) → (∃ n, mw_keptOf_23 σ K n x1 r1 (-1) 0)) ∧ (((σ.2.1 7 x1.toNatClampNeg) = 4) → (K (-1))))) x1
set_option maxHeartbeats 4000000 in
set_option maxRecDepth 100000 in
theorem mt_keptOf {l : Launch} {Γ : GA} {α : Nat → Nat} {σ : MSt} {K : Int32 → Prop} {x1 : Int32} (hwp : mw_keptOf σ K x1) : mI l yX4_keptOf cX4_keptOf 5 (some .int) ({ frames := 22, cells := 0, slots := 0, locals := 492 } : Room) Γ α [.int x1] σ (fun r u => K r ∧ u = σ) := by
  intro sz
  refine m_of (by decide) rfl [(0, .ref (α 50)), (1, .int x1)] (fun _ h => h) (Nat.le_of_ble_eq_true rfl) ?_
  intro p e s m args below meth c hsz X H locs ls hP hS hl
  subst hsz
  obtain ⟨hx, hb, hml, hown, hts, hK, hD, hr, hlk⟩ := id X
  have hA : ∀ q, s.heap.size ≤ q → AM α s.heap.size q := fun q h => Or.inr h
  unfold mw_keptOf at hwp
  refine lv_aload_n hx hb dX4_keptOf_0 rfl (lv_at hl 0 rfl) ?_
  refine lv_iload_n hx hb dX4_keptOf_1 rfl (lv_at hl 1 rfl) ?_
  refine m_calli ⟨hx, hb, hml, hown, hts⟩ hK hD hA hP hS (mt_seersOf hwp) (cwV 1 hts (lw_V q1509 q1511 qs29 q79 q1512) rfl rfl rfl (by decide +kernel) ⟨Nat.le_of_ble_eq_true rfl, Nat.le_of_ble_eq_true rfl⟩) rfl hl.1 rfl (Nat.le_of_ble_eq_true rfl) dX4_keptOf_2 ⟨Nat.zero_le _, Nat.zero_le _⟩ (fun r1 u H locs hk hP hS => ?_)
  obtain ⟨hwp, eu⟩ := hk
  rw [eu] at hP
  refine lv_istore_n (lv' := [(2, .int r1), (0, .ref (α 50)), (1, .int x1)]) hx hb dX4_keptOf_5 rfl hl (by decide) rfl (fun ls hl => ?_)
  refine lv_iconst (v := (-1)) hx hb dX4_keptOf_6 (by decide) ?_
  refine lv_istore_n (lv' := [(3, .int (-1)), (2, .int r1), (0, .ref (α 50)), (1, .int x1)]) hx hb dX4_keptOf_7 rfl hl (by decide) rfl (fun ls hl => ?_)
  refine lv_aload_n hx hb dX4_keptOf_8 rfl (lv_at hl 2 rfl) ?_
  refine m_geta hx hb hts hown hK hP 7 (by decide) rfl q1353 rfl dX4_keptOf_9 ?_
  refine lv_iload_n hx hb dX4_keptOf_12 rfl (lv_at hl 3 rfl) ?_
  obtain ⟨hi2, hwp⟩ := hwp
  refine m_iald hx hb hK hP 7 rfl hi2 dX4_keptOf_13 ?_
  refine lv_iconst (v := 4) hx hb dX4_keptOf_14 (by decide) ?_
  refine lv_icmp_ne (tgt := 20) hx hb dX4_keptOf_15 (by decide) (fun c3 => ?_) (fun c3 => ?_)
  · replace hwp := hwp.1 c3
    refine lv_iconst (v := 0) hx hb dX4_keptOf_20 (by decide) ?_
    refine lv_istore (lv' := [(4, .int 0), (3, .int (-1)), (2, .int r1), (0, .ref (α 50)), (1, .int x1)]) hx hb dX4_keptOf_21 hl (by decide) rfl (fun ls hl => ?_)
    obtain ⟨n, hwp⟩ := hwp
    exact mk_keptOf_23 X n _ _ _ _ hwp H locs ls hP hS (lv_sub hl [3, 4, 2, 1, 0] rfl)
  · replace hwp := hwp.2 c3
    refine lv_iconst (v := (-1)) hx hb dX4_keptOf_18 (by decide) ?_
    exact m_iret hx hb hr hlk hK hP hS ⟨hwp, rfl⟩ dX4_keptOf_19
/-! shutters -/
def mw_shutters_80_b (K : MSt → Prop) (L17 : Int32 → Int32 → MSt → Prop) (L80 : Int32 → Int32 → Int32 → Int32 → Int32 → MSt → Prop) (x1 : Int32) (x2 : Int32) (x3 : Int32) (x4 : Int32) (x5 : Int32) (σ : MSt) : Prop :=
  (((σ.1 0) ≤ x5) → (L17 x1 (x2 + 1) σ)) ∧ ((¬ ((σ.1 0) ≤ x5)) → (((((x3 >>> (x5 &&& 31)) &&& 1) = 0) → (L80 x1 x2 x3 x4 (x5 + 1) σ)) ∧ ((¬ (((x3 >>> (x5 &&& 31)) &&& 1) = 0)) → (((¬ (x5 = x4)) → (mw_costOf σ (fun r4 => ∀ σ5, σ5 = sF σ 29 ((σ.1 29) + r4) → (∀ σ6, σ6 = sF σ5 31 ((σ5.1 31) + 1) → (((x1 = 0) → (L80 x1 x2 x3 x4 (x5 + 1) σ6)) ∧ ((¬ (x1 = 0)) → (vp_in x5 (lenM 13) ∧ (vp_in x5 (lenM 13) ∧ (∀ σ10, σ10 = sI σ6 13 x5.toNatClampNeg ((σ6.2.1 13 x5.toNatClampNeg) ||| (1 <<< (x2 &&& 31))) → (L80 x1 x2 x3 x4 (x5 + 1) σ10)))))))) x5 x2)) ∧ ((x5 = x4) → (L80 x1 x2 x3 x4 (x5 + 1) σ))))))
def mw_shutters_80 (K : MSt → Prop) (L17 : Int32 → Int32 → MSt → Prop) : Nat → Int32 → Int32 → Int32 → Int32 → Int32 → MSt → Prop
  | 0 => fun _ _ _ _ _ _ => False
  | n + 1 => fun x1 x2 x3 x4 x5 σ => mw_shutters_80_b K L17 (mw_shutters_80 K L17 n) x1 x2 x3 x4 x5 σ
set_option maxHeartbeats 4000000 in
set_option maxRecDepth 100000 in
theorem mk_shutters_80_b {p : Program} {l : Launch} {e : Env} {s : State} {m : MethodId} {args : Array Value} {below : List Frame} {meth : Method} {c : Code} {Γ : GA} {α : Nat → Nat} {K : MSt → Prop} (X : CM p s m args meth c cX4_shutters 6 none Γ α) {L17 : Int32 → Int32 → MSt → Prop} (hL17 : ∀ (x1 : Int32) (x2 : Int32) (σ : MSt), L17 x1 x2 σ → TM p l e ({ frames := 23, cells := 0, slots := 0, locals := 516 } : Room) s m args below meth c 6 (QV below K Γ α s args) Γ α σ 17 [(0, .ref (α 50)), (1, .int x1), (2, .int x2)] []) {L80 : Int32 → Int32 → Int32 → Int32 → Int32 → MSt → Prop} (hL80 : ∀ (x1 : Int32) (x2 : Int32) (x3 : Int32) (x4 : Int32) (x5 : Int32) (σ : MSt), L80 x1 x2 x3 x4 x5 σ → TM p l e ({ frames := 23, cells := 0, slots := 0, locals := 516 } : Room) s m args below meth c 6 (QV below K Γ α s args) Γ α σ 80 [(0, .ref (α 50)), (1, .int x1), (2, .int x2), (3, .int x3), (4, .int x4), (5, .int x5)] []) : ∀ (x1 : Int32) (x2 : Int32) (x3 : Int32) (x4 : Int32) (x5 : Int32) (σ : MSt), mw_shutters_80_b K L17 L80 x1 x2 x3 x4 x5 σ → TM p l e ({ frames := 23, cells := 0, slots := 0, locals := 516 } : Room) s m args below meth c 6 (QV below K Γ α s args) Γ α σ 80 [(0, .ref (α 50)), (1, .int x1), (2, .int x2), (3, .int x3), (4, .int x4), (5, .int x5)] [] := by
  obtain ⟨hx, hb, hml, hown, hts, hK, hD, hr, hlk⟩ := id X
  have hA : ∀ q, s.heap.size ≤ q → AM α s.heap.size q := fun q h => Or.inr h
  intro x1 x2 x3 x4 x5 σ hwp H locs ls hP hS hl
  unfold mw_shutters_80_b at hwp
  refine lv_iload hx hb dX4_shutters_80 (lv_at hl 5 rfl) ?_
  refine lv_aload_n hx hb dX4_shutters_82 rfl (lv_at hl 0 rfl) ?_
  refine m_geti hx hb hts hown hK hP 0 (by decide) rfl q1346 rfl dX4_shutters_83 ?_
  refine lv_icmp_ge (tgt := 157) hx hb dX4_shutters_86 (by decide) (fun c1 => ?_) (fun c1 => ?_)
  · replace hwp := hwp.1 c1
    refine lv_iinc (v := x2 + 1) (lv' := [(2, .int (x2 + 1)), (0, .ref (α 50)), (1, .int x1), (3, .int x3), (4, .int x4), (5, .int x5)]) hx hb dX4_shutters_157 hl (k := 2) rfl rfl (by decide) rfl (fun ls hl => ?_)
    refine lv_goto (tgt := 17) hx hb dX4_shutters_160 (by decide) ?_
    exact hL17 _ _ σ hwp H locs ls hP hS (lv_sub hl [1, 2, 0] rfl)
  · replace hwp := hwp.2 c1
    refine lv_iload_n hx hb dX4_shutters_89 rfl (lv_at hl 3 rfl) ?_
    refine lv_iload hx hb dX4_shutters_90 (lv_at hl 5 rfl) ?_
    refine lv_ishr hx hb dX4_shutters_92 ?_
    refine lv_iconst (v := 1) hx hb dX4_shutters_93 (by decide) ?_
    refine lv_iand hx hb dX4_shutters_94 ?_
    refine lv_if_eq (tgt := 151) hx hb dX4_shutters_95 (by decide) (fun c2 => ?_) (fun c2 => ?_)
    · replace hwp := hwp.1 c2
      refine lv_iinc (v := x5 + 1) (lv' := [(5, .int (x5 + 1)), (0, .ref (α 50)), (1, .int x1), (2, .int x2), (3, .int x3), (4, .int x4)]) hx hb dX4_shutters_151 hl (k := 5) rfl rfl (by decide) rfl (fun ls hl => ?_)
      refine lv_goto (tgt := 80) hx hb dX4_shutters_154 (by decide) ?_
      exact hL80 _ _ _ _ _ σ hwp H locs ls hP hS (lv_sub hl [1, 2, 3, 4, 5, 0] rfl)
    · replace hwp := hwp.2 c2
      refine lv_iload hx hb dX4_shutters_98 (lv_at hl 5 rfl) ?_
      refine lv_iload hx hb dX4_shutters_100 (lv_at hl 4 rfl) ?_
      refine lv_icmp_ne (tgt := 108) hx hb dX4_shutters_102 (by decide) (fun c3 => ?_) (fun c3 => ?_)
      · replace hwp := hwp.1 c3
        refine lv_aload_n hx hb dX4_shutters_108 rfl (lv_at hl 0 rfl) ?_
        refine lv_dup hx hb dX4_shutters_109 rfl ?_
        refine m_geti hx hb hts hown hK hP 29 (by decide) rfl q1375 rfl dX4_shutters_110 ?_
        refine lv_aload_n hx hb dX4_shutters_113 rfl (lv_at hl 0 rfl) ?_
        refine lv_iload hx hb dX4_shutters_114 (lv_at hl 5 rfl) ?_
        refine lv_iload_n hx hb dX4_shutters_116 rfl (lv_at hl 2 rfl) ?_
        refine m_calli ⟨hx, hb, hml, hown, hts⟩ hK hD hA hP hS (mt_costOf hwp) (cwV 2 hts (lw_V q1677 q1679 qs57 q79 q1680) rfl rfl rfl (by decide +kernel) ⟨Nat.le_of_ble_eq_true rfl, Nat.le_of_ble_eq_true rfl⟩) rfl hl.1 rfl (Nat.le_of_ble_eq_true rfl) dX4_shutters_117 ⟨Nat.zero_le _, Nat.zero_le _⟩ (fun r4 u H locs hk hP hS => ?_)
        obtain ⟨hwp, eu⟩ := hk
        rw [eu] at hP
        refine lv_iadd hx hb dX4_shutters_120 ?_
        refine m_put hx hb hts hown hK hD hP hS 29 (by decide) rfl q1375 rfl rfl rfl rfl dX4_shutters_121 (fun H locs hP hS => ?_)
        obtain ⟨σ5, eσ5⟩ : ∃ z, z = sF σ 29 ((σ.1 29) + r4) := ⟨_, rfl⟩
        rw [← eσ5] at hP
        replace hwp := hwp σ5 eσ5
        refine lv_aload_n hx hb dX4_shutters_124 rfl (lv_at hl 0 rfl) ?_
        refine lv_dup hx hb dX4_shutters_125 rfl ?_
        refine m_geti hx hb hts hown hK hP 31 (by decide) rfl q1377 rfl dX4_shutters_126 ?_
        refine lv_iconst (v := 1) hx hb dX4_shutters_129 (by decide) ?_
        refine lv_iadd hx hb dX4_shutters_130 ?_
        refine m_put hx hb hts hown hK hD hP hS 31 (by decide) rfl q1377 rfl rfl rfl rfl dX4_shutters_131 (fun H locs hP hS => ?_)
        obtain ⟨σ6, eσ6⟩ : ∃ z, z = sF σ5 31 ((σ5.1 31) + 1) := ⟨_, rfl⟩
        rw [← eσ6] at hP
        replace hwp := hwp σ6 eσ6
        refine lv_iload_n hx hb dX4_shutters_134 rfl (lv_at hl 1 rfl) ?_
        refine lv_if_eq (tgt := 151) hx hb dX4_shutters_135 (by decide) (fun c7 => ?_) (fun c7 => ?_)
        · replace hwp := hwp.1 c7
          refine lv_iinc (v := x5 + 1) (lv' := [(5, .int (x5 + 1)), (0, .ref (α 50)), (1, .int x1), (2, .int x2), (3, .int x3), (4, .int x4)]) hx hb dX4_shutters_151 hl (k := 5) rfl rfl (by decide) rfl (fun ls hl => ?_)
          refine lv_goto (tgt := 80) hx hb dX4_shutters_154 (by decide) ?_
          exact hL80 _ _ _ _ _ σ6 hwp H locs ls hP hS (lv_sub hl [1, 2, 3, 4, 5, 0] rfl)
        · replace hwp := hwp.2 c7
          refine lv_aload_n hx hb dX4_shutters_138 rfl (lv_at hl 0 rfl) ?_
          refine m_geta hx hb hts hown hK hP 13 (by decide) rfl q1359 rfl dX4_shutters_139 ?_
          refine lv_iload hx hb dX4_shutters_142 (lv_at hl 5 rfl) ?_
          refine lv_dup2_11 hx hb dX4_shutters_144 rfl rfl ?_
          obtain ⟨hi8, hwp⟩ := hwp
          refine m_iald hx hb hK hP 13 rfl hi8 dX4_shutters_145 ?_
          refine lv_iconst (v := 1) hx hb dX4_shutters_146 (by decide) ?_
          refine lv_iload_n hx hb dX4_shutters_147 rfl (lv_at hl 2 rfl) ?_
          refine lv_ishl hx hb dX4_shutters_148 ?_
          refine lv_ior hx hb dX4_shutters_149 ?_
          obtain ⟨hi9, hwp⟩ := hwp
          refine m_iast hx hb hK hD hP hS 13 rfl hi9 dX4_shutters_150 (fun H locs hP hS => ?_)
          obtain ⟨σ10, eσ10⟩ : ∃ z, z = sI σ6 13 x5.toNatClampNeg ((σ6.2.1 13 x5.toNatClampNeg) ||| (1 <<< (x2 &&& 31))) := ⟨_, rfl⟩
          rw [← eσ10] at hP
          replace hwp := hwp σ10 eσ10
          refine lv_iinc (v := x5 + 1) (lv' := [(5, .int (x5 + 1)), (0, .ref (α 50)), (1, .int x1), (2, .int x2), (3, .int x3), (4, .int x4)]) hx hb dX4_shutters_151 hl (k := 5) rfl rfl (by decide) rfl (fun ls hl => ?_)
          refine lv_goto (tgt := 80) hx hb dX4_shutters_154 (by decide) ?_
          exact hL80 _ _ _ _ _ σ10 hwp H locs ls hP hS (lv_sub hl [1, 2, 3, 4, 5, 0] rfl)
      · replace hwp := hwp.2 c3
        refine lv_goto (tgt := 151) hx hb dX4_shutters_105 (by decide) ?_
        refine lv_iinc (v := x5 + 1) (lv' := [(5, .int (x5 + 1)), (0, .ref (α 50)), (1, .int x1), (2, .int x2), (3, .int x3), (4, .int x4)]) hx hb dX4_shutters_151 hl (k := 5) rfl rfl (by decide) rfl (fun ls hl => ?_)
        refine lv_goto (tgt := 80) hx hb dX4_shutters_154 (by decide) ?_
        exact hL80 _ _ _ _ _ σ hwp H locs ls hP hS (lv_sub hl [1, 2, 3, 4, 5, 0] rfl)
set_option maxHeartbeats 4000000 in
set_option maxRecDepth 100000 in
theorem mk_shutters_80 {p : Program} {l : Launch} {e : Env} {s : State} {m : MethodId} {args : Array Value} {below : List Frame} {meth : Method} {c : Code} {Γ : GA} {α : Nat → Nat} {K : MSt → Prop} (X : CM p s m args meth c cX4_shutters 6 none Γ α) {L17 : Int32 → Int32 → MSt → Prop} (hL17 : ∀ (x1 : Int32) (x2 : Int32) (σ : MSt), L17 x1 x2 σ → TM p l e ({ frames := 23, cells := 0, slots := 0, locals := 516 } : Room) s m args below meth c 6 (QV below K Γ α s args) Γ α σ 17 [(0, .ref (α 50)), (1, .int x1), (2, .int x2)] []) : ∀ n (x1 : Int32) (x2 : Int32) (x3 : Int32) (x4 : Int32) (x5 : Int32) (σ : MSt), mw_shutters_80 K L17 n x1 x2 x3 x4 x5 σ → TM p l e ({ frames := 23, cells := 0, slots := 0, locals := 516 } : Room) s m args below meth c 6 (QV below K Γ α s args) Γ α σ 80 [(0, .ref (α 50)), (1, .int x1), (2, .int x2), (3, .int x3), (4, .int x4), (5, .int x5)] [] := by
  intro n
  induction n with
  | zero => intro _ _ _ _ _ _ hwp; exact hwp.elim
  | succ n ih => intro x1 x2 x3 x4 x5 σ hwp; exact mk_shutters_80_b X hL17 ih x1 x2 x3 x4 x5 σ hwp
def mw_shutters_17_b (K : MSt → Prop) (L17 : Int32 → Int32 → MSt → Prop) (x1 : Int32) (x2 : Int32) (σ : MSt) : Prop :=
  (((σ.1 0) ≤ x2) → (K σ)) ∧ ((¬ ((σ.1 0) ≤ x2)) → (mw_isHouse σ (fun r2 => ((¬ (r2 = 0)) → (mw_seersOf σ (fun r4 => mw_keptOf σ (fun r5 => vp_in x2 (lenM 7) ∧ ((((σ.2.1 7 x2.toNatClampNeg) = 4) → (∃ n, mw_shutters_80 K L17 n x1 x2 r4 r5 0 σ)) ∧ ((¬ ((σ.2.1 7 x2.toNatClampNeg) = 4)) → (((¬ (r5 = (-1))) → (∃ n, mw_shutters_80 K L17 n x1 x2 r4 r5 0 σ)) ∧ ((r5 = (-1)) → (∀ σ9, σ9 = sF σ 30 ((σ.1 30) ||| (1 <<< (x2 &&& 31))) → (∃ n, mw_shutters_80 K L17 n x1 x2 r4 r5 0 σ9))))))) x2) x2)) ∧ ((r2 = 0) → (L17 x1 (x2 + 1) σ))) x2))
def mw_shutters_17 (K : MSt → Prop) : Nat → Int32 → Int32 → MSt → Prop
  | 0 => fun _ _ _ => False
  | n + 1 => fun x1 x2 σ => mw_shutters_17_b K (mw_shutters_17 K n) x1 x2 σ
set_option maxHeartbeats 4000000 in
set_option maxRecDepth 100000 in
theorem mk_shutters_17_b {p : Program} {l : Launch} {e : Env} {s : State} {m : MethodId} {args : Array Value} {below : List Frame} {meth : Method} {c : Code} {Γ : GA} {α : Nat → Nat} {K : MSt → Prop} (X : CM p s m args meth c cX4_shutters 6 none Γ α) {L17 : Int32 → Int32 → MSt → Prop} (hL17 : ∀ (x1 : Int32) (x2 : Int32) (σ : MSt), L17 x1 x2 σ → TM p l e ({ frames := 23, cells := 0, slots := 0, locals := 516 } : Room) s m args below meth c 6 (QV below K Γ α s args) Γ α σ 17 [(0, .ref (α 50)), (1, .int x1), (2, .int x2)] []) : ∀ (x1 : Int32) (x2 : Int32) (σ : MSt), mw_shutters_17_b K L17 x1 x2 σ → TM p l e ({ frames := 23, cells := 0, slots := 0, locals := 516 } : Room) s m args below meth c 6 (QV below K Γ α s args) Γ α σ 17 [(0, .ref (α 50)), (1, .int x1), (2, .int x2)] [] := by
  obtain ⟨hx, hb, hml, hown, hts, hK, hD, hr, hlk⟩ := id X
  have hA : ∀ q, s.heap.size ≤ q → AM α s.heap.size q := fun q h => Or.inr h
  intro x1 x2 σ hwp H locs ls hP hS hl
  unfold mw_shutters_17_b at hwp
  refine lv_iload_n hx hb dX4_shutters_17 rfl (lv_at hl 2 rfl) ?_
  refine lv_aload_n hx hb dX4_shutters_18 rfl (lv_at hl 0 rfl) ?_
  refine m_geti hx hb hts hown hK hP 0 (by decide) rfl q1346 rfl dX4_shutters_19 ?_
  refine lv_icmp_ge (tgt := 163) hx hb dX4_shutters_22 (by decide) (fun c1 => ?_) (fun c1 => ?_)
  · replace hwp := hwp.1 c1
    exact m_vret hx hb hr hlk hK hP hS hwp dX4_shutters_163
  · replace hwp := hwp.2 c1
    refine lv_aload_n hx hb dX4_shutters_25 rfl (lv_at hl 0 rfl) ?_
    refine lv_iload_n hx hb dX4_shutters_26 rfl (lv_at hl 2 rfl) ?_
    refine m_calli ⟨hx, hb, hml, hown, hts⟩ hK hD hA hP hS (mt_isHouse hwp) (cwV 1 hts (lw_V q1501 q1503 qs27 q79 q1504) rfl rfl rfl (by decide +kernel) ⟨Nat.le_of_ble_eq_true rfl, Nat.le_of_ble_eq_true rfl⟩) rfl hl.1 rfl (Nat.le_of_ble_eq_true rfl) dX4_shutters_27 ⟨Nat.zero_le _, Nat.zero_le _⟩ (fun r2 u H locs hk hP hS => ?_)
    obtain ⟨hwp, eu⟩ := hk
    rw [eu] at hP
    refine lv_if_ne (tgt := 36) hx hb dX4_shutters_30 (by decide) (fun c3 => ?_) (fun c3 => ?_)
    · replace hwp := hwp.1 c3
      refine lv_aload_n hx hb dX4_shutters_36 rfl (lv_at hl 0 rfl) ?_
      refine lv_iload_n hx hb dX4_shutters_37 rfl (lv_at hl 2 rfl) ?_
      refine m_calli ⟨hx, hb, hml, hown, hts⟩ hK hD hA hP hS (mt_seersOf hwp) (cwV 1 hts (lw_V q1509 q1511 qs29 q79 q1512) rfl rfl rfl (by decide +kernel) ⟨Nat.le_of_ble_eq_true rfl, Nat.le_of_ble_eq_true rfl⟩) rfl hl.1 rfl (Nat.le_of_ble_eq_true rfl) dX4_shutters_38 ⟨Nat.zero_le _, Nat.zero_le _⟩ (fun r4 u H locs hk hP hS => ?_)
      obtain ⟨hwp, eu⟩ := hk
      rw [eu] at hP
      refine lv_istore_n (lv' := [(3, .int r4), (0, .ref (α 50)), (1, .int x1), (2, .int x2)]) hx hb dX4_shutters_41 rfl hl (by decide) rfl (fun ls hl => ?_)
      refine lv_aload_n hx hb dX4_shutters_42 rfl (lv_at hl 1 rfl) ?_
      refine lv_iload_n hx hb dX4_shutters_43 rfl (lv_at hl 3 rfl) ?_
      refine m_calli ⟨hx, hb, hml, hown, hts⟩ hK hD hA hP hS (mt_keptOf hwp) (cwV 1 hts (lw_V q1685 q1687 qs58 q79 q1688) rfl rfl rfl (by decide +kernel) ⟨Nat.le_of_ble_eq_true rfl, Nat.le_of_ble_eq_true rfl⟩) rfl hl.1 rfl (Nat.le_of_ble_eq_true rfl) dX4_shutters_44 ⟨Nat.zero_le _, Nat.zero_le _⟩ (fun r5 u H locs hk hP hS => ?_)
      obtain ⟨hwp, eu⟩ := hk
      rw [eu] at hP
      refine lv_istore (lv' := [(4, .int r5), (3, .int r4), (0, .ref (α 50)), (1, .int x1), (2, .int x2)]) hx hb dX4_shutters_47 hl (by decide) rfl (fun ls hl => ?_)
      refine lv_aload_n hx hb dX4_shutters_49 rfl (lv_at hl 2 rfl) ?_
      refine m_geta hx hb hts hown hK hP 7 (by decide) rfl q1353 rfl dX4_shutters_50 ?_
      refine lv_iload_n hx hb dX4_shutters_53 rfl (lv_at hl 4 rfl) ?_
      obtain ⟨hi6, hwp⟩ := hwp
      refine m_iald hx hb hK hP 7 rfl hi6 dX4_shutters_54 ?_
      refine lv_iconst (v := 4) hx hb dX4_shutters_55 (by decide) ?_
      refine lv_icmp_eq (tgt := 77) hx hb dX4_shutters_56 (by decide) (fun c7 => ?_) (fun c7 => ?_)
      · replace hwp := hwp.1 c7
        refine lv_iconst (v := 0) hx hb dX4_shutters_77 (by decide) ?_
        refine lv_istore (lv' := [(5, .int 0), (4, .int r5), (3, .int r4), (0, .ref (α 50)), (1, .int x1), (2, .int x2)]) hx hb dX4_shutters_78 hl (by decide) rfl (fun ls hl => ?_)
        obtain ⟨n, hwp⟩ := hwp
        exact mk_shutters_80 X hL17 n _ _ _ _ _ σ hwp H locs ls hP hS (lv_sub hl [3, 4, 5, 2, 1, 0] rfl)
      · replace hwp := hwp.2 c7
        refine lv_iload hx hb dX4_shutters_59 (lv_at hl 0 rfl) ?_
        refine lv_iconst (v := (-1)) hx hb dX4_shutters_61 (by decide) ?_
        refine lv_icmp_ne (tgt := 77) hx hb dX4_shutters_62 (by decide) (fun c8 => ?_) (fun c8 => ?_)
        · replace hwp := hwp.1 c8
          refine lv_iconst (v := 0) hx hb dX4_shutters_77 (by decide) ?_
          refine lv_istore (lv' := [(5, .int 0), (4, .int r5), (3, .int r4), (0, .ref (α 50)), (1, .int x1), (2, .int x2)]) hx hb dX4_shutters_78 hl (by decide) rfl (fun ls hl => ?_)
          obtain ⟨n, hwp⟩ := hwp
          exact mk_shutters_80 X hL17 n _ _ _ _ _ σ hwp H locs ls hP hS (lv_sub hl [3, 4, 5, 2, 1, 0] rfl)
        · replace hwp := hwp.2 c8
          refine lv_aload_n hx hb dX4_shutters_65 rfl (lv_at hl 2 rfl) ?_
          refine lv_dup hx hb dX4_shutters_66 rfl ?_
          refine m_geti hx hb hts hown hK hP 30 (by decide) rfl q1376 rfl dX4_shutters_67 ?_
          refine lv_iconst (v := 1) hx hb dX4_shutters_70 (by decide) ?_
          refine lv_iload_n hx hb dX4_shutters_71 rfl (lv_at hl 4 rfl) ?_
          refine lv_ishl hx hb dX4_shutters_72 ?_
          refine lv_ior hx hb dX4_shutters_73 ?_
          refine m_put hx hb hts hown hK hD hP hS 30 (by decide) rfl q1376 rfl rfl rfl rfl dX4_shutters_74 (fun H locs hP hS => ?_)
          obtain ⟨σ9, eσ9⟩ : ∃ z, z = sF σ 30 ((σ.1 30) ||| (1 <<< (x2 &&& 31))) := ⟨_, rfl⟩
          rw [← eσ9] at hP
          replace hwp := hwp σ9 eσ9
          refine lv_iconst (v := 0) hx hb dX4_shutters_77 (by decide) ?_
          refine lv_istore (lv' := [(5, .int 0), (4, .int r5), (3, .int r4), (0, .ref (α 50)), (1, .int x1), (2, .int x2)]) hx hb dX4_shutters_78 hl (by decide) rfl (fun ls hl => ?_)
          obtain ⟨n, hwp⟩ := hwp
          exact mk_shutters_80 X hL17 n _ _ _ _ _ σ9 hwp H locs ls hP hS (lv_sub hl [3, 4, 5, 2, 1, 0] rfl)
    · replace hwp := hwp.2 c3
      refine lv_goto (tgt := 157) hx hb dX4_shutters_33 (by decide) ?_
      refine lv_iinc (v := x2 + 1) (lv' := [(2, .int (x2 + 1)), (0, .ref (α 50)), (1, .int x1)]) hx hb dX4_shutters_157 hl (k := 2) rfl rfl (by decide) rfl (fun ls hl => ?_)
      refine lv_goto (tgt := 17) hx hb dX4_shutters_160 (by decide) ?_
      exact hL17 _ _ σ hwp H locs ls hP hS (lv_sub hl [1, 2, 0] rfl)
set_option maxHeartbeats 4000000 in
set_option maxRecDepth 100000 in
theorem mk_shutters_17 {p : Program} {l : Launch} {e : Env} {s : State} {m : MethodId} {args : Array Value} {below : List Frame} {meth : Method} {c : Code} {Γ : GA} {α : Nat → Nat} {K : MSt → Prop} (X : CM p s m args meth c cX4_shutters 6 none Γ α) : ∀ n (x1 : Int32) (x2 : Int32) (σ : MSt), mw_shutters_17 K n x1 x2 σ → TM p l e ({ frames := 23, cells := 0, slots := 0, locals := 516 } : Room) s m args below meth c 6 (QV below K Γ α s args) Γ α σ 17 [(0, .ref (α 50)), (1, .int x1), (2, .int x2)] [] := by
  intro n
  induction n with
  | zero => intro _ _ _ hwp; exact hwp.elim
  | succ n ih => intro x1 x2 σ hwp; exact mk_shutters_17_b X ih x1 x2 σ hwp
def mw_shutters (K : MSt → Prop) (x1 : Int32) (σ : MSt) : Prop :=
  ∀ σ1, σ1 = sF σ 29 0 → (∀ σ2, σ2 = sF σ1 30 0 → (∀ σ3, σ3 = sF σ2 31 0 → (∃ n, mw_shutters_17 K n x1 0 σ3)))
set_option maxHeartbeats 4000000 in
set_option maxRecDepth 100000 in
theorem mt_shutters {l : Launch} {Γ : GA} {α : Nat → Nat} {σ : MSt} {K : MSt → Prop} {x1 : Int32} (hwp : mw_shutters K x1 σ) : mV l yX4_shutters cX4_shutters 6 none ({ frames := 23, cells := 0, slots := 0, locals := 516 } : Room) Γ α [.int x1] σ K := by
  intro sz
  refine m_of (by decide) rfl [(0, .ref (α 50)), (1, .int x1)] (fun _ h => h) (Nat.le_of_ble_eq_true rfl) ?_
  intro p e s m args below meth c hsz X H locs ls hP hS hl
  subst hsz
  obtain ⟨hx, hb, hml, hown, hts, hK, hD, hr, hlk⟩ := id X
  have hA : ∀ q, s.heap.size ≤ q → AM α s.heap.size q := fun q h => Or.inr h
  unfold mw_shutters at hwp
  refine lv_aload_n hx hb dX4_shutters_0 rfl (lv_at hl 0 rfl) ?_
  refine lv_iconst (v := 0) hx hb dX4_shutters_1 (by decide) ?_
  refine m_put hx hb hts hown hK hD hP hS 29 (by decide) rfl q1375 rfl rfl rfl rfl dX4_shutters_2 (fun H locs hP hS => ?_)
  obtain ⟨σ1, eσ1⟩ : ∃ z, z = sF σ 29 0 := ⟨_, rfl⟩
  rw [← eσ1] at hP
  replace hwp := hwp σ1 eσ1
  refine lv_aload_n hx hb dX4_shutters_5 rfl (lv_at hl 0 rfl) ?_
  refine lv_iconst (v := 0) hx hb dX4_shutters_6 (by decide) ?_
  refine m_put hx hb hts hown hK hD hP hS 30 (by decide) rfl q1376 rfl rfl rfl rfl dX4_shutters_7 (fun H locs hP hS => ?_)
  obtain ⟨σ2, eσ2⟩ : ∃ z, z = sF σ1 30 0 := ⟨_, rfl⟩
  rw [← eσ2] at hP
  replace hwp := hwp σ2 eσ2
  refine lv_aload_n hx hb dX4_shutters_10 rfl (lv_at hl 0 rfl) ?_
  refine lv_iconst (v := 0) hx hb dX4_shutters_11 (by decide) ?_
  refine m_put hx hb hts hown hK hD hP hS 31 (by decide) rfl q1377 rfl rfl rfl rfl dX4_shutters_12 (fun H locs hP hS => ?_)
  obtain ⟨σ3, eσ3⟩ : ∃ z, z = sF σ2 31 0 := ⟨_, rfl⟩
  rw [← eσ3] at hP
  replace hwp := hwp σ3 eσ3
  refine lv_iconst (v := 0) hx hb dX4_shutters_15 (by decide) ?_
  refine lv_istore_n (lv' := [(2, .int 0), (0, .ref (α 50)), (1, .int x1)]) hx hb dX4_shutters_16 rfl hl (by decide) rfl (fun ls hl => ?_)
  obtain ⟨n, hwp⟩ := hwp
  exact mk_shutters_17 X n _ _ σ3 hwp H locs ls hP hS (lv_sub hl [1, 2, 0] rfl)
/-! cheapest -/
def mw_cheapest_9 (K : Int32 → MSt → Prop) (σ : MSt) : Prop :=
  mw_no (fun r1 σ2 => K r1 σ2) (-5) σ
set_option maxHeartbeats 4000000 in
set_option maxRecDepth 100000 in
theorem mk_cheapest_9 {p : Program} {l : Launch} {e : Env} {s : State} {m : MethodId} {args : Array Value} {below : List Frame} {meth : Method} {c : Code} {Γ : GA} {α : Nat → Nat} {K : Int32 → MSt → Prop} (X : CM p s m args meth c cX4_cheapest 2 (some .int) Γ α) : ∀ (σ : MSt), mw_cheapest_9 K  σ → TM p l e ({ frames := 24, cells := 0, slots := 0, locals := 541 } : Room) s m args below meth c 2 (QI below K Γ α s args) Γ α σ 9 [(0, .ref (α 50))] [] := by
  obtain ⟨hx, hb, hml, hown, hts, hK, hD, hr, hlk⟩ := id X
  have hA : ∀ q, s.heap.size ≤ q → AM α s.heap.size q := fun q h => Or.inr h
  intro  σ hwp H locs ls hP hS hl
  unfold mw_cheapest_9 at hwp
  refine lv_aload_n hx hb dX4_cheapest_9 rfl (lv_at hl 0 rfl) ?_
  refine lv_bipush (v := (-5)) hx hb dX4_cheapest_10 (by decide) ?_
  refine m_calli ⟨hx, hb, hml, hown, hts⟩ hK hD hA hP hS (mt_no hwp) (cwV 1 hts (lw_V q1469 q1471 qs25 q79 q1472) rfl rfl rfl (by decide +kernel) ⟨Nat.le_of_ble_eq_true rfl, Nat.le_of_ble_eq_true rfl⟩) rfl hl.1 rfl (Nat.le_of_ble_eq_true rfl) dX4_cheapest_12 ⟨Nat.zero_le _, Nat.zero_le _⟩ (fun r1 σ2 H locs hk hP hS => ?_)
  have hwp := hk
  exact m_iret hx hb hr hlk hK hP hS hwp dX4_cheapest_15
def mw_cheapest (K : Int32 → MSt → Prop) (x1 : Int32) (σ : MSt) : Prop :=
  ((x1 < 0) → (mw_cheapest_9 K σ)) ∧ ((¬ (x1 < 0)) → (((x1 ≤ 2) → (mw_shutters (fun σ3 => ((¬ (x1 = 0)) → (((¬ (x1 = 1)) → (K (σ3.1 31) σ3)) ∧ ((x1 = 1) → (K (σ3.1 30) σ3)))) ∧ ((x1 = 0) → (K (σ3.1 29) σ3))) 0 σ)) ∧ ((¬ (x1 ≤ 2)) → (mw_cheapest_9 K σ))))
set_option maxHeartbeats 4000000 in
set_option maxRecDepth 100000 in
theorem mt_cheapest {l : Launch} {Γ : GA} {α : Nat → Nat} {σ : MSt} {K : Int32 → MSt → Prop} {x1 : Int32} (hwp : mw_cheapest K x1 σ) : mI l yX4_cheapest cX4_cheapest 2 (some .int) ({ frames := 24, cells := 0, slots := 0, locals := 541 } : Room) Γ α [.int x1] σ K := by
  intro sz
  refine m_of (by decide) rfl [(0, .ref (α 50)), (1, .int x1)] (fun _ h => h) (Nat.le_of_ble_eq_true rfl) ?_
  intro p e s m args below meth c hsz X H locs ls hP hS hl
  subst hsz
  obtain ⟨hx, hb, hml, hown, hts, hK, hD, hr, hlk⟩ := id X
  have hA : ∀ q, s.heap.size ≤ q → AM α s.heap.size q := fun q h => Or.inr h
  unfold mw_cheapest at hwp
  refine lv_iload_n hx hb dX4_cheapest_0 rfl (lv_at hl 1 rfl) ?_
  refine lv_if_lt (tgt := 9) hx hb dX4_cheapest_1 (by decide) (fun c1 => ?_) (fun c1 => ?_)
  · replace hwp := hwp.1 c1
    exact mk_cheapest_9 X σ hwp H locs ls hP hS (lv_sub hl [0] rfl)
  · replace hwp := hwp.2 c1
    refine lv_iload_n hx hb dX4_cheapest_4 rfl (lv_at hl 1 rfl) ?_
    refine lv_iconst (v := 2) hx hb dX4_cheapest_5 (by decide) ?_
    refine lv_icmp_le (tgt := 16) hx hb dX4_cheapest_6 (by decide) (fun c2 => ?_) (fun c2 => ?_)
    · replace hwp := hwp.1 c2
      refine lv_aload_n hx hb dX4_cheapest_16 rfl (lv_at hl 0 rfl) ?_
      refine lv_iconst (v := 0) hx hb dX4_cheapest_17 (by decide) ?_
      refine m_callv ⟨hx, hb, hml, hown, hts⟩ hK hD hA hP hS (mt_shutters hwp) (cwV 1 hts (lw_V q1693 q1695 qs59 q79 q1696) rfl rfl rfl (by decide +kernel) ⟨Nat.le_of_ble_eq_true rfl, Nat.le_of_ble_eq_true rfl⟩) rfl hl.1 rfl (Nat.le_of_ble_eq_true rfl) dX4_cheapest_18 ⟨Nat.zero_le _, Nat.zero_le _⟩ (fun σ3 H locs hk hP hS => ?_)
      have hwp := hk
      refine lv_iload_n hx hb dX4_cheapest_21 rfl (lv_at hl 1 rfl) ?_
      refine lv_if_ne (tgt := 32) hx hb dX4_cheapest_22 (by decide) (fun c4 => ?_) (fun c4 => ?_)
      · replace hwp := hwp.1 c4
        refine lv_iload_n hx hb dX4_cheapest_32 rfl (lv_at hl 1 rfl) ?_
        refine lv_iconst (v := 1) hx hb dX4_cheapest_33 (by decide) ?_
        refine lv_icmp_ne (tgt := 44) hx hb dX4_cheapest_34 (by decide) (fun c5 => ?_) (fun c5 => ?_)
        · replace hwp := hwp.1 c5
          refine lv_aload_n hx hb dX4_cheapest_44 rfl (lv_at hl 0 rfl) ?_
          refine m_geti hx hb hts hown hK hP 31 (by decide) rfl q1377 rfl dX4_cheapest_45 ?_
          exact m_iret hx hb hr hlk hK hP hS hwp dX4_cheapest_48
        · replace hwp := hwp.2 c5
          refine lv_aload_n hx hb dX4_cheapest_37 rfl (lv_at hl 0 rfl) ?_
          refine m_geti hx hb hts hown hK hP 30 (by decide) rfl q1376 rfl dX4_cheapest_38 ?_
          refine lv_goto (tgt := 48) hx hb dX4_cheapest_41 (by decide) ?_
          exact m_iret hx hb hr hlk hK hP hS hwp dX4_cheapest_48
      · replace hwp := hwp.2 c4
        refine lv_aload_n hx hb dX4_cheapest_25 rfl (lv_at hl 0 rfl) ?_
        refine m_geti hx hb hts hown hK hP 29 (by decide) rfl q1375 rfl dX4_cheapest_26 ?_
        refine lv_goto (tgt := 48) hx hb dX4_cheapest_29 (by decide) ?_
        exact m_iret hx hb hr hlk hK hP hS hwp dX4_cheapest_48
    · replace hwp := hwp.2 c2
      exact mk_cheapest_9 X σ hwp H locs ls hP hS (lv_sub hl [0] rfl)
/-! isShelf -/
def mw_isShelf (σ : MSt) (K : Int32 → Prop) (x1 : Int32) : Prop :=
  ((x1 < 0) → (K 0)) ∧ ((¬ (x1 < 0)) → (((8 ≤ x1) → (K 0)) ∧ ((¬ (8 ≤ x1)) → (K 1))))
set_option maxHeartbeats 4000000 in
set_option maxRecDepth 100000 in
theorem mt_isShelf {l : Launch} {Γ : GA} {α : Nat → Nat} {σ : MSt} {K : Int32 → Prop} {x1 : Int32} (hwp : mw_isShelf σ K x1) : mI l yX4_isShelf cX4_isShelf 2 (some .boolean) ({ frames := 0, cells := 0, slots := 0, locals := 0 } : Room) Γ α [.int x1] σ (fun r u => K r ∧ u = σ) := by
  intro sz
  refine m_of (by decide) rfl [(0, .ref (α 50)), (1, .int x1)] (fun _ h => h) (Nat.le_of_ble_eq_true rfl) ?_
  intro p e s m args below meth c hsz X H locs ls hP hS hl
  subst hsz
  obtain ⟨hx, hb, hml, hown, hts, hK, hD, hr, hlk⟩ := id X
  have hA : ∀ q, s.heap.size ≤ q → AM α s.heap.size q := fun q h => Or.inr h
  unfold mw_isShelf at hwp
  refine lv_iload_n hx hb dX4_isShelf_0 rfl (lv_at hl 1 rfl) ?_
  refine lv_if_lt (tgt := 14) hx hb dX4_isShelf_1 (by decide) (fun c1 => ?_) (fun c1 => ?_)
  · replace hwp := hwp.1 c1
    refine lv_iconst (v := 0) hx hb dX4_isShelf_14 (by decide) ?_
    exact m_zret (v := 0) hx hb hr hlk hK hP hS (Or.inl rfl) ⟨hwp, rfl⟩ dX4_isShelf_15
  · replace hwp := hwp.2 c1
    refine lv_iload_n hx hb dX4_isShelf_4 rfl (lv_at hl 1 rfl) ?_
    refine lv_bipush (v := 8) hx hb dX4_isShelf_5 (by decide) ?_
    refine lv_icmp_ge (tgt := 14) hx hb dX4_isShelf_7 (by decide) (fun c2 => ?_) (fun c2 => ?_)
    · replace hwp := hwp.1 c2
      refine lv_iconst (v := 0) hx hb dX4_isShelf_14 (by decide) ?_
      exact m_zret (v := 0) hx hb hr hlk hK hP hS (Or.inl rfl) ⟨hwp, rfl⟩ dX4_isShelf_15
    · replace hwp := hwp.2 c2
      refine lv_iconst (v := 1) hx hb dX4_isShelf_10 (by decide) ?_
      refine lv_goto (tgt := 15) hx hb dX4_isShelf_11 (by decide) ?_
      exact m_zret (v := 1) hx hb hr hlk hK hP hS (Or.inr rfl) ⟨hwp, rfl⟩ dX4_isShelf_15
/-! copy -/
def mw_copy_16 (K : Int32 → MSt → Prop) (σ : MSt) : Prop :=
  mw_no (fun r1 σ2 => K r1 σ2) (-1) σ
set_option maxHeartbeats 4000000 in
set_option maxRecDepth 100000 in
theorem mk_copy_16 {p : Program} {l : Launch} {e : Env} {s : State} {m : MethodId} {args : Array Value} {below : List Frame} {meth : Method} {c : Code} {Γ : GA} {α : Nat → Nat} {K : Int32 → MSt → Prop} (X : CM p s m args meth c cX4_copy 7 (some .int) Γ α) : ∀ (σ : MSt), mw_copy_16 K  σ → TM p l e ({ frames := 1, cells := 0, slots := 0, locals := 21 } : Room) s m args below meth c 7 (QI below K Γ α s args) Γ α σ 16 [(0, .ref (α 50))] [] := by
  obtain ⟨hx, hb, hml, hown, hts, hK, hD, hr, hlk⟩ := id X
  have hA : ∀ q, s.heap.size ≤ q → AM α s.heap.size q := fun q h => Or.inr h
  intro  σ hwp H locs ls hP hS hl
  unfold mw_copy_16 at hwp
  refine lv_aload_n hx hb dX4_copy_16 rfl (lv_at hl 0 rfl) ?_
  refine lv_iconst (v := (-1)) hx hb dX4_copy_17 (by decide) ?_
  refine m_calli ⟨hx, hb, hml, hown, hts⟩ hK hD hA hP hS (mt_no hwp) (cwV 1 hts (lw_V q1469 q1471 qs25 q79 q1472) rfl rfl rfl (by decide +kernel) ⟨Nat.le_of_ble_eq_true rfl, Nat.le_of_ble_eq_true rfl⟩) rfl hl.1 rfl (Nat.le_of_ble_eq_true rfl) dX4_copy_18 ⟨Nat.zero_le _, Nat.zero_le _⟩ (fun r1 σ2 H locs hk hP hS => ?_)
  have hwp := hk
  exact m_iret hx hb hr hlk hK hP hS hwp dX4_copy_21
def mw_copy_77 (K : Int32 → MSt → Prop) (σ : MSt) : Prop :=
  mw_no (fun r1 σ2 => K r1 σ2) (-2) σ
set_option maxHeartbeats 4000000 in
set_option maxRecDepth 100000 in
theorem mk_copy_77 {p : Program} {l : Launch} {e : Env} {s : State} {m : MethodId} {args : Array Value} {below : List Frame} {meth : Method} {c : Code} {Γ : GA} {α : Nat → Nat} {K : Int32 → MSt → Prop} (X : CM p s m args meth c cX4_copy 7 (some .int) Γ α) : ∀ (σ : MSt), mw_copy_77 K  σ → TM p l e ({ frames := 1, cells := 0, slots := 0, locals := 21 } : Room) s m args below meth c 7 (QI below K Γ α s args) Γ α σ 77 [(0, .ref (α 50))] [] := by
  obtain ⟨hx, hb, hml, hown, hts, hK, hD, hr, hlk⟩ := id X
  have hA : ∀ q, s.heap.size ≤ q → AM α s.heap.size q := fun q h => Or.inr h
  intro  σ hwp H locs ls hP hS hl
  unfold mw_copy_77 at hwp
  refine lv_aload_n hx hb dX4_copy_77 rfl (lv_at hl 0 rfl) ?_
  refine lv_bipush (v := (-2)) hx hb dX4_copy_78 (by decide) ?_
  refine m_calli ⟨hx, hb, hml, hown, hts⟩ hK hD hA hP hS (mt_no hwp) (cwV 1 hts (lw_V q1469 q1471 qs25 q79 q1472) rfl rfl rfl (by decide +kernel) ⟨Nat.le_of_ble_eq_true rfl, Nat.le_of_ble_eq_true rfl⟩) rfl hl.1 rfl (Nat.le_of_ble_eq_true rfl) dX4_copy_80 ⟨Nat.zero_le _, Nat.zero_le _⟩ (fun r1 σ2 H locs hk hP hS => ?_)
  have hwp := hk
  exact m_iret hx hb hr hlk hK hP hS hwp dX4_copy_83
def mw_copy_205_b (K : Int32 → MSt → Prop) (L205 : Int32 → Int32 → Int32 → Int32 → MSt → Prop) (x2 : Int32) (x4 : Int32) (x5 : Int32) (x6 : Int32) (σ : MSt) : Prop :=
  ((x5 ≤ x6) → (K 1 σ)) ∧ ((¬ (x5 ≤ x6)) → (vp_in x6 (lenM 19) ∧ (vp_in (((160 * x2) + x4) + x6) (lenM 18) ∧ (∀ σ4, σ4 = sJ σ 18 (((160 * x2) + x4) + x6).toNatClampNeg (σ.2.2 19 x6.toNatClampNeg) → (L205 x2 x4 x5 (x6 + 1) σ4)))))
def mw_copy_205 (K : Int32 → MSt → Prop) : Nat → Int32 → Int32 → Int32 → Int32 → MSt → Prop
  | 0 => fun _ _ _ _ _ => False
  | n + 1 => fun x2 x4 x5 x6 σ => mw_copy_205_b K (mw_copy_205 K n) x2 x4 x5 x6 σ
set_option maxHeartbeats 4000000 in
set_option maxRecDepth 100000 in
theorem mk_copy_205_b {p : Program} {l : Launch} {e : Env} {s : State} {m : MethodId} {args : Array Value} {below : List Frame} {meth : Method} {c : Code} {Γ : GA} {α : Nat → Nat} {K : Int32 → MSt → Prop} (X : CM p s m args meth c cX4_copy 7 (some .int) Γ α) {L205 : Int32 → Int32 → Int32 → Int32 → MSt → Prop} (hL205 : ∀ (x2 : Int32) (x4 : Int32) (x5 : Int32) (x6 : Int32) (σ : MSt), L205 x2 x4 x5 x6 σ → TM p l e ({ frames := 1, cells := 0, slots := 0, locals := 21 } : Room) s m args below meth c 7 (QI below K Γ α s args) Γ α σ 205 [(0, .ref (α 50)), (2, .int x2), (4, .int x4), (5, .int x5), (6, .int x6)] []) : ∀ (x2 : Int32) (x4 : Int32) (x5 : Int32) (x6 : Int32) (σ : MSt), mw_copy_205_b K L205 x2 x4 x5 x6 σ → TM p l e ({ frames := 1, cells := 0, slots := 0, locals := 21 } : Room) s m args below meth c 7 (QI below K Γ α s args) Γ α σ 205 [(0, .ref (α 50)), (2, .int x2), (4, .int x4), (5, .int x5), (6, .int x6)] [] := by
  obtain ⟨hx, hb, hml, hown, hts, hK, hD, hr, hlk⟩ := id X
  have hA : ∀ q, s.heap.size ≤ q → AM α s.heap.size q := fun q h => Or.inr h
  intro x2 x4 x5 x6 σ hwp H locs ls hP hS hl
  unfold mw_copy_205_b at hwp
  refine lv_iload hx hb dX4_copy_205 (lv_at hl 4 rfl) ?_
  refine lv_iload hx hb dX4_copy_207 (lv_at hl 3 rfl) ?_
  refine lv_icmp_ge (tgt := 241) hx hb dX4_copy_209 (by decide) (fun c1 => ?_) (fun c1 => ?_)
  · replace hwp := hwp.1 c1
    refine lv_iconst (v := 1) hx hb dX4_copy_241 (by decide) ?_
    exact m_iret hx hb hr hlk hK hP hS hwp dX4_copy_242
  · replace hwp := hwp.2 c1
    refine lv_aload_n hx hb dX4_copy_212 rfl (lv_at hl 0 rfl) ?_
    refine m_geta hx hb hts hown hK hP 18 (by decide) rfl q1364 rfl dX4_copy_213 ?_
    refine lv_sipush (v := 160) hx hb dX4_copy_216 (by decide) ?_
    refine lv_iload_n hx hb dX4_copy_219 rfl (lv_at hl 1 rfl) ?_
    refine lv_imul hx hb dX4_copy_220 ?_
    refine lv_iload hx hb dX4_copy_221 (lv_at hl 2 rfl) ?_
    refine lv_iadd hx hb dX4_copy_223 ?_
    refine lv_iload hx hb dX4_copy_224 (lv_at hl 4 rfl) ?_
    refine lv_iadd hx hb dX4_copy_226 ?_
    refine lv_aload_n hx hb dX4_copy_227 rfl (lv_at hl 0 rfl) ?_
    refine m_geta hx hb hts hown hK hP 19 (by decide) rfl q1365 rfl dX4_copy_228 ?_
    refine lv_iload hx hb dX4_copy_231 (lv_at hl 4 rfl) ?_
    obtain ⟨hi2, hwp⟩ := hwp
    refine m_lald hx hb hK hP 19 (Or.inr rfl) hi2 dX4_copy_233 ?_
    obtain ⟨hi3, hwp⟩ := hwp
    refine m_last hx hb hK hD hP hS 18 (Or.inl rfl) hi3 dX4_copy_234 (fun H locs hP hS => ?_)
    obtain ⟨σ4, eσ4⟩ : ∃ z, z = sJ σ 18 (((160 * x2) + x4) + x6).toNatClampNeg (σ.2.2 19 x6.toNatClampNeg) := ⟨_, rfl⟩
    rw [← eσ4] at hP
    replace hwp := hwp σ4 eσ4
    refine lv_iinc (v := x6 + 1) (lv' := [(6, .int (x6 + 1)), (0, .ref (α 50)), (2, .int x2), (4, .int x4), (5, .int x5)]) hx hb dX4_copy_235 hl (k := 4) rfl rfl (by decide) rfl (fun ls hl => ?_)
    refine lv_goto (tgt := 205) hx hb dX4_copy_238 (by decide) ?_
    exact hL205 _ _ _ _ σ4 hwp H locs ls hP hS (lv_sub hl [1, 2, 3, 4, 0] rfl)
set_option maxHeartbeats 4000000 in
set_option maxRecDepth 100000 in
theorem mk_copy_205 {p : Program} {l : Launch} {e : Env} {s : State} {m : MethodId} {args : Array Value} {below : List Frame} {meth : Method} {c : Code} {Γ : GA} {α : Nat → Nat} {K : Int32 → MSt → Prop} (X : CM p s m args meth c cX4_copy 7 (some .int) Γ α) : ∀ n (x2 : Int32) (x4 : Int32) (x5 : Int32) (x6 : Int32) (σ : MSt), mw_copy_205 K n x2 x4 x5 x6 σ → TM p l e ({ frames := 1, cells := 0, slots := 0, locals := 21 } : Room) s m args below meth c 7 (QI below K Γ α s args) Γ α σ 205 [(0, .ref (α 50)), (2, .int x2), (4, .int x4), (5, .int x5), (6, .int x6)] [] := by
  intro n
  induction n with
  | zero => intro _ _ _ _ _ hwp; exact hwp.elim
  | succ n ih => intro x2 x4 x5 x6 σ hwp; exact mk_copy_205_b X ih x2 x4 x5 x6 σ hwp
def mw_copy_167_b (K : Int32 → MSt → Prop) (L167 : Int32 → Int32 → Int32 → Int32 → Int32 → Int32 → MSt → Prop) (x1 : Int32) (x2 : Int32) (x3 : Int32) (x4 : Int32) (x5 : Int32) (x6 : Int32) (σ : MSt) : Prop :=
  ((x5 ≤ x6) → (∃ n, mw_copy_205 K n x2 x4 x5 0 σ)) ∧ ((¬ (x5 ≤ x6)) → (vp_in (((160 * x1) + x3) + x6) (lenM 18) ∧ (vp_in x6 (lenM 19) ∧ (∀ σ4, σ4 = sJ σ 19 x6.toNatClampNeg (σ.2.2 18 (((160 * x1) + x3) + x6).toNatClampNeg) → (L167 x1 x2 x3 x4 x5 (x6 + 1) σ4)))))
def mw_copy_167 (K : Int32 → MSt → Prop) : Nat → Int32 → Int32 → Int32 → Int32 → Int32 → Int32 → MSt → Prop
  | 0 => fun _ _ _ _ _ _ _ => False
  | n + 1 => fun x1 x2 x3 x4 x5 x6 σ => mw_copy_167_b K (mw_copy_167 K n) x1 x2 x3 x4 x5 x6 σ
set_option maxHeartbeats 4000000 in
set_option maxRecDepth 100000 in
theorem mk_copy_167_b {p : Program} {l : Launch} {e : Env} {s : State} {m : MethodId} {args : Array Value} {below : List Frame} {meth : Method} {c : Code} {Γ : GA} {α : Nat → Nat} {K : Int32 → MSt → Prop} (X : CM p s m args meth c cX4_copy 7 (some .int) Γ α) {L167 : Int32 → Int32 → Int32 → Int32 → Int32 → Int32 → MSt → Prop} (hL167 : ∀ (x1 : Int32) (x2 : Int32) (x3 : Int32) (x4 : Int32) (x5 : Int32) (x6 : Int32) (σ : MSt), L167 x1 x2 x3 x4 x5 x6 σ → TM p l e ({ frames := 1, cells := 0, slots := 0, locals := 21 } : Room) s m args below meth c 7 (QI below K Γ α s args) Γ α σ 167 [(0, .ref (α 50)), (1, .int x1), (2, .int x2), (3, .int x3), (4, .int x4), (5, .int x5), (6, .int x6)] []) : ∀ (x1 : Int32) (x2 : Int32) (x3 : Int32) (x4 : Int32) (x5 : Int32) (x6 : Int32) (σ : MSt), mw_copy_167_b K L167 x1 x2 x3 x4 x5 x6 σ → TM p l e ({ frames := 1, cells := 0, slots := 0, locals := 21 } : Room) s m args below meth c 7 (QI below K Γ α s args) Γ α σ 167 [(0, .ref (α 50)), (1, .int x1), (2, .int x2), (3, .int x3), (4, .int x4), (5, .int x5), (6, .int x6)] [] := by
  obtain ⟨hx, hb, hml, hown, hts, hK, hD, hr, hlk⟩ := id X
  have hA : ∀ q, s.heap.size ≤ q → AM α s.heap.size q := fun q h => Or.inr h
  intro x1 x2 x3 x4 x5 x6 σ hwp H locs ls hP hS hl
  unfold mw_copy_167_b at hwp
  refine lv_iload hx hb dX4_copy_167 (lv_at hl 6 rfl) ?_
  refine lv_iload hx hb dX4_copy_169 (lv_at hl 5 rfl) ?_
  refine lv_icmp_ge (tgt := 202) hx hb dX4_copy_171 (by decide) (fun c1 => ?_) (fun c1 => ?_)
  · replace hwp := hwp.1 c1
    refine lv_iconst (v := 0) hx hb dX4_copy_202 (by decide) ?_
    refine lv_istore (lv' := [(6, .int 0), (0, .ref (α 50)), (1, .int x1), (2, .int x2), (3, .int x3), (4, .int x4), (5, .int x5)]) hx hb dX4_copy_203 hl (by decide) rfl (fun ls hl => ?_)
    obtain ⟨n, hwp⟩ := hwp
    exact mk_copy_205 X n _ _ _ _ σ hwp H locs ls hP hS (lv_sub hl [1, 3, 5, 6, 0] rfl)
  · replace hwp := hwp.2 c1
    refine lv_aload_n hx hb dX4_copy_174 rfl (lv_at hl 0 rfl) ?_
    refine m_geta hx hb hts hown hK hP 19 (by decide) rfl q1365 rfl dX4_copy_175 ?_
    refine lv_iload hx hb dX4_copy_178 (lv_at hl 6 rfl) ?_
    refine lv_aload_n hx hb dX4_copy_180 rfl (lv_at hl 0 rfl) ?_
    refine m_geta hx hb hts hown hK hP 18 (by decide) rfl q1364 rfl dX4_copy_181 ?_
    refine lv_sipush (v := 160) hx hb dX4_copy_184 (by decide) ?_
    refine lv_iload_n hx hb dX4_copy_187 rfl (lv_at hl 1 rfl) ?_
    refine lv_imul hx hb dX4_copy_188 ?_
    refine lv_iload_n hx hb dX4_copy_189 rfl (lv_at hl 3 rfl) ?_
    refine lv_iadd hx hb dX4_copy_190 ?_
    refine lv_iload hx hb dX4_copy_191 (lv_at hl 6 rfl) ?_
    refine lv_iadd hx hb dX4_copy_193 ?_
    obtain ⟨hi2, hwp⟩ := hwp
    refine m_lald hx hb hK hP 18 (Or.inl rfl) hi2 dX4_copy_194 ?_
    obtain ⟨hi3, hwp⟩ := hwp
    refine m_last hx hb hK hD hP hS 19 (Or.inr rfl) hi3 dX4_copy_195 (fun H locs hP hS => ?_)
    obtain ⟨σ4, eσ4⟩ : ∃ z, z = sJ σ 19 x6.toNatClampNeg (σ.2.2 18 (((160 * x1) + x3) + x6).toNatClampNeg) := ⟨_, rfl⟩
    rw [← eσ4] at hP
    replace hwp := hwp σ4 eσ4
    refine lv_iinc (v := x6 + 1) (lv' := [(6, .int (x6 + 1)), (0, .ref (α 50)), (1, .int x1), (2, .int x2), (3, .int x3), (4, .int x4), (5, .int x5)]) hx hb dX4_copy_196 hl (k := 6) rfl rfl (by decide) rfl (fun ls hl => ?_)
    refine lv_goto (tgt := 167) hx hb dX4_copy_199 (by decide) ?_
    exact hL167 _ _ _ _ _ _ σ4 hwp H locs ls hP hS (lv_sub hl [1, 2, 3, 4, 5, 6, 0] rfl)
set_option maxHeartbeats 4000000 in
set_option maxRecDepth 100000 in
theorem mk_copy_167 {p : Program} {l : Launch} {e : Env} {s : State} {m : MethodId} {args : Array Value} {below : List Frame} {meth : Method} {c : Code} {Γ : GA} {α : Nat → Nat} {K : Int32 → MSt → Prop} (X : CM p s m args meth c cX4_copy 7 (some .int) Γ α) : ∀ n (x1 : Int32) (x2 : Int32) (x3 : Int32) (x4 : Int32) (x5 : Int32) (x6 : Int32) (σ : MSt), mw_copy_167 K n x1 x2 x3 x4 x5 x6 σ → TM p l e ({ frames := 1, cells := 0, slots := 0, locals := 21 } : Room) s m args below meth c 7 (QI below K Γ α s args) Γ α σ 167 [(0, .ref (α 50)), (1, .int x1), (2, .int x2), (3, .int x3), (4, .int x4), (5, .int x5), (6, .int x6)] [] := by
  intro n
  induction n with
  | zero => intro _ _ _ _ _ _ _ hwp; exact hwp.elim
  | succ n ih => intro x1 x2 x3 x4 x5 x6 σ hwp; exact mk_copy_167_b X ih x1 x2 x3 x4 x5 x6 σ hwp
def mw_copy_157 (K : Int32 → MSt → Prop) (σ : MSt) : Prop :=
  mw_no (fun r1 σ2 => K r1 σ2) (-5) σ
set_option maxHeartbeats 4000000 in
set_option maxRecDepth 100000 in
theorem mk_copy_157 {p : Program} {l : Launch} {e : Env} {s : State} {m : MethodId} {args : Array Value} {below : List Frame} {meth : Method} {c : Code} {Γ : GA} {α : Nat → Nat} {K : Int32 → MSt → Prop} (X : CM p s m args meth c cX4_copy 7 (some .int) Γ α) : ∀ (σ : MSt), mw_copy_157 K  σ → TM p l e ({ frames := 1, cells := 0, slots := 0, locals := 21 } : Room) s m args below meth c 7 (QI below K Γ α s args) Γ α σ 157 [(0, .ref (α 50))] [] := by
  obtain ⟨hx, hb, hml, hown, hts, hK, hD, hr, hlk⟩ := id X
  have hA : ∀ q, s.heap.size ≤ q → AM α s.heap.size q := fun q h => Or.inr h
  intro  σ hwp H locs ls hP hS hl
  unfold mw_copy_157 at hwp
  refine lv_aload_n hx hb dX4_copy_157 rfl (lv_at hl 0 rfl) ?_
  refine lv_bipush (v := (-5)) hx hb dX4_copy_158 (by decide) ?_
  refine m_calli ⟨hx, hb, hml, hown, hts⟩ hK hD hA hP hS (mt_no hwp) (cwV 1 hts (lw_V q1469 q1471 qs25 q79 q1472) rfl rfl rfl (by decide +kernel) ⟨Nat.le_of_ble_eq_true rfl, Nat.le_of_ble_eq_true rfl⟩) rfl hl.1 rfl (Nat.le_of_ble_eq_true rfl) dX4_copy_160 ⟨Nat.zero_le _, Nat.zero_le _⟩ (fun r1 σ2 H locs hk hP hS => ?_)
  have hwp := hk
  exact m_iret hx hb hr hlk hK hP hS hwp dX4_copy_163
def mw_copy_102 (K : Int32 → MSt → Prop) (σ : MSt) : Prop :=
  mw_no (fun r1 σ2 => K r1 σ2) (-3) σ
set_option maxHeartbeats 4000000 in
set_option maxRecDepth 100000 in
theorem mk_copy_102 {p : Program} {l : Launch} {e : Env} {s : State} {m : MethodId} {args : Array Value} {below : List Frame} {meth : Method} {c : Code} {Γ : GA} {α : Nat → Nat} {K : Int32 → MSt → Prop} (X : CM p s m args meth c cX4_copy 7 (some .int) Γ α) : ∀ (σ : MSt), mw_copy_102 K  σ → TM p l e ({ frames := 1, cells := 0, slots := 0, locals := 21 } : Room) s m args below meth c 7 (QI below K Γ α s args) Γ α σ 102 [(0, .ref (α 50))] [] := by
  obtain ⟨hx, hb, hml, hown, hts, hK, hD, hr, hlk⟩ := id X
  have hA : ∀ q, s.heap.size ≤ q → AM α s.heap.size q := fun q h => Or.inr h
  intro  σ hwp H locs ls hP hS hl
  unfold mw_copy_102 at hwp
  refine lv_aload_n hx hb dX4_copy_102 rfl (lv_at hl 0 rfl) ?_
  refine lv_bipush (v := (-3)) hx hb dX4_copy_103 (by decide) ?_
  refine m_calli ⟨hx, hb, hml, hown, hts⟩ hK hD hA hP hS (mt_no hwp) (cwV 1 hts (lw_V q1469 q1471 qs25 q79 q1472) rfl rfl rfl (by decide +kernel) ⟨Nat.le_of_ble_eq_true rfl, Nat.le_of_ble_eq_true rfl⟩) rfl hl.1 rfl (Nat.le_of_ble_eq_true rfl) dX4_copy_105 ⟨Nat.zero_le _, Nat.zero_le _⟩ (fun r1 σ2 H locs hk hP hS => ?_)
  have hwp := hk
  exact m_iret hx hb hr hlk hK hP hS hwp dX4_copy_108
def mw_copy_84 (K : Int32 → MSt → Prop) (x1 : Int32) (x2 : Int32) (x3 : Int32) (x4 : Int32) (x5 : Int32) (σ : MSt) : Prop :=
  vp_in x1 (lenM 14) ∧ ((((σ.2.1 14 x1.toNatClampNeg) = 0) → (mw_copy_102 K σ)) ∧ ((¬ ((σ.2.1 14 x1.toNatClampNeg) = 0)) → (vp_in x2 (lenM 14) ∧ (((¬ ((σ.2.1 14 x2.toNatClampNeg) = 0)) → (((0 ≤ x5) → (((x3 < 0) → (mw_copy_157 K σ)) ∧ ((¬ (x3 < 0)) → (((x4 < 0) → (mw_copy_157 K σ)) ∧ ((¬ (x4 < 0)) → (vp_in x1 (lenM 16) ∧ (((((σ.2.1 16 x1.toNatClampNeg) - x5) < x3) → (mw_copy_157 K σ)) ∧ ((¬ (((σ.2.1 16 x1.toNatClampNeg) - x5) < x3)) → (vp_in x2 (lenM 16) ∧ (((x4 ≤ ((σ.2.1 16 x2.toNatClampNeg) - x5)) → (∃ n, mw_copy_167 K n x1 x2 x3 x4 x5 0 σ)) ∧ ((¬ (x4 ≤ ((σ.2.1 16 x2.toNatClampNeg) - x5))) → (mw_copy_157 K σ)))))))))))) ∧ ((¬ (0 ≤ x5)) → (mw_no (fun r12 σ13 => K r12 σ13) (-4) σ)))) ∧ (((σ.2.1 14 x2.toNatClampNeg) = 0) → (mw_copy_102 K σ))))))
set_option maxHeartbeats 4000000 in
set_option maxRecDepth 100000 in
theorem mk_copy_84 {p : Program} {l : Launch} {e : Env} {s : State} {m : MethodId} {args : Array Value} {below : List Frame} {meth : Method} {c : Code} {Γ : GA} {α : Nat → Nat} {K : Int32 → MSt → Prop} (X : CM p s m args meth c cX4_copy 7 (some .int) Γ α) : ∀ (x1 : Int32) (x2 : Int32) (x3 : Int32) (x4 : Int32) (x5 : Int32) (σ : MSt), mw_copy_84 K x1 x2 x3 x4 x5 σ → TM p l e ({ frames := 1, cells := 0, slots := 0, locals := 21 } : Room) s m args below meth c 7 (QI below K Γ α s args) Γ α σ 84 [(0, .ref (α 50)), (1, .int x1), (2, .int x2), (3, .int x3), (4, .int x4), (5, .int x5)] [] := by
  obtain ⟨hx, hb, hml, hown, hts, hK, hD, hr, hlk⟩ := id X
  have hA : ∀ q, s.heap.size ≤ q → AM α s.heap.size q := fun q h => Or.inr h
  intro x1 x2 x3 x4 x5 σ hwp H locs ls hP hS hl
  unfold mw_copy_84 at hwp
  refine lv_aload_n hx hb dX4_copy_84 rfl (lv_at hl 0 rfl) ?_
  refine m_geta hx hb hts hown hK hP 14 (by decide) rfl q1360 rfl dX4_copy_85 ?_
  refine lv_iload_n hx hb dX4_copy_88 rfl (lv_at hl 1 rfl) ?_
  obtain ⟨hi1, hwp⟩ := hwp
  refine m_iald hx hb hK hP 14 rfl hi1 dX4_copy_89 ?_
  refine lv_if_eq (tgt := 102) hx hb dX4_copy_90 (by decide) (fun c2 => ?_) (fun c2 => ?_)
  · replace hwp := hwp.1 c2
    exact mk_copy_102 X σ hwp H locs ls hP hS (lv_sub hl [0] rfl)
  · replace hwp := hwp.2 c2
    refine lv_aload_n hx hb dX4_copy_93 rfl (lv_at hl 0 rfl) ?_
    refine m_geta hx hb hts hown hK hP 14 (by decide) rfl q1360 rfl dX4_copy_94 ?_
    refine lv_iload_n hx hb dX4_copy_97 rfl (lv_at hl 2 rfl) ?_
    obtain ⟨hi3, hwp⟩ := hwp
    refine m_iald hx hb hK hP 14 rfl hi3 dX4_copy_98 ?_
    refine lv_if_ne (tgt := 109) hx hb dX4_copy_99 (by decide) (fun c4 => ?_) (fun c4 => ?_)
    · replace hwp := hwp.1 c4
      refine lv_iload hx hb dX4_copy_109 (lv_at hl 5 rfl) ?_
      refine lv_if_ge (tgt := 121) hx hb dX4_copy_111 (by decide) (fun c5 => ?_) (fun c5 => ?_)
      · replace hwp := hwp.1 c5
        refine lv_iload_n hx hb dX4_copy_121 rfl (lv_at hl 3 rfl) ?_
        refine lv_if_lt (tgt := 157) hx hb dX4_copy_122 (by decide) (fun c6 => ?_) (fun c6 => ?_)
        · replace hwp := hwp.1 c6
          exact mk_copy_157 X σ hwp H locs ls hP hS (lv_sub hl [0] rfl)
        · replace hwp := hwp.2 c6
          refine lv_iload hx hb dX4_copy_125 (lv_at hl 4 rfl) ?_
          refine lv_if_lt (tgt := 157) hx hb dX4_copy_127 (by decide) (fun c7 => ?_) (fun c7 => ?_)
          · replace hwp := hwp.1 c7
            exact mk_copy_157 X σ hwp H locs ls hP hS (lv_sub hl [0] rfl)
          · replace hwp := hwp.2 c7
            refine lv_iload_n hx hb dX4_copy_130 rfl (lv_at hl 3 rfl) ?_
            refine lv_aload_n hx hb dX4_copy_131 rfl (lv_at hl 0 rfl) ?_
            refine m_geta hx hb hts hown hK hP 16 (by decide) rfl q1362 rfl dX4_copy_132 ?_
            refine lv_iload_n hx hb dX4_copy_135 rfl (lv_at hl 1 rfl) ?_
            obtain ⟨hi8, hwp⟩ := hwp
            refine m_iald hx hb hK hP 16 rfl hi8 dX4_copy_136 ?_
            refine lv_iload hx hb dX4_copy_137 (lv_at hl 5 rfl) ?_
            refine lv_isub hx hb dX4_copy_139 ?_
            refine lv_icmp_gt (tgt := 157) hx hb dX4_copy_140 (by decide) (fun c9 => ?_) (fun c9 => ?_)
            · replace hwp := hwp.1 c9
              exact mk_copy_157 X σ hwp H locs ls hP hS (lv_sub hl [0] rfl)
            · replace hwp := hwp.2 c9
              refine lv_iload hx hb dX4_copy_143 (lv_at hl 4 rfl) ?_
              refine lv_aload_n hx hb dX4_copy_145 rfl (lv_at hl 0 rfl) ?_
              refine m_geta hx hb hts hown hK hP 16 (by decide) rfl q1362 rfl dX4_copy_146 ?_
              refine lv_iload_n hx hb dX4_copy_149 rfl (lv_at hl 2 rfl) ?_
              obtain ⟨hi10, hwp⟩ := hwp
              refine m_iald hx hb hK hP 16 rfl hi10 dX4_copy_150 ?_
              refine lv_iload hx hb dX4_copy_151 (lv_at hl 5 rfl) ?_
              refine lv_isub hx hb dX4_copy_153 ?_
              refine lv_icmp_le (tgt := 164) hx hb dX4_copy_154 (by decide) (fun c11 => ?_) (fun c11 => ?_)
              · replace hwp := hwp.1 c11
                refine lv_iconst (v := 0) hx hb dX4_copy_164 (by decide) ?_
                refine lv_istore (lv' := [(6, .int 0), (0, .ref (α 50)), (1, .int x1), (2, .int x2), (3, .int x3), (4, .int x4), (5, .int x5)]) hx hb dX4_copy_165 hl (by decide) rfl (fun ls hl => ?_)
                obtain ⟨n, hwp⟩ := hwp
                exact mk_copy_167 X n _ _ _ _ _ _ σ hwp H locs ls hP hS (lv_sub hl [1, 2, 3, 4, 5, 6, 0] rfl)
              · replace hwp := hwp.2 c11
                exact mk_copy_157 X σ hwp H locs ls hP hS (lv_sub hl [0] rfl)
      · replace hwp := hwp.2 c5
        refine lv_aload_n hx hb dX4_copy_114 rfl (lv_at hl 0 rfl) ?_
        refine lv_bipush (v := (-4)) hx hb dX4_copy_115 (by decide) ?_
        refine m_calli ⟨hx, hb, hml, hown, hts⟩ hK hD hA hP hS (mt_no hwp) (cwV 1 hts (lw_V q1469 q1471 qs25 q79 q1472) rfl rfl rfl (by decide +kernel) ⟨Nat.le_of_ble_eq_true rfl, Nat.le_of_ble_eq_true rfl⟩) rfl hl.1 rfl (Nat.le_of_ble_eq_true rfl) dX4_copy_117 ⟨Nat.zero_le _, Nat.zero_le _⟩ (fun r12 σ13 H locs hk hP hS => ?_)
        have hwp := hk
        exact m_iret hx hb hr hlk hK hP hS hwp dX4_copy_120
    · replace hwp := hwp.2 c4
      exact mk_copy_102 X σ hwp H locs ls hP hS (lv_sub hl [0] rfl)
def mw_copy (K : Int32 → MSt → Prop) (x1 : Int32) (x2 : Int32) (x3 : Int32) (x4 : Int32) (x5 : Int32) (σ : MSt) : Prop :=
  mw_isShelf σ (fun r1 => ((r1 = 0) → (mw_copy_16 K σ)) ∧ ((¬ (r1 = 0)) → (mw_isShelf σ (fun r3 => ((¬ (r3 = 0)) → (vp_in x1 (lenM 14) ∧ ((((σ.2.1 14 x1.toNatClampNeg) = 2) → (mw_copy_77 K σ)) ∧ ((¬ ((σ.2.1 14 x1.toNatClampNeg) = 2)) → (vp_in x2 (lenM 14) ∧ ((((σ.2.1 14 x2.toNatClampNeg) = 2) → (mw_copy_77 K σ)) ∧ ((¬ ((σ.2.1 14 x2.toNatClampNeg) = 2)) → (vp_in x1 (lenM 14) ∧ (((¬ ((σ.2.1 14 x1.toNatClampNeg) = 1)) → (mw_copy_84 K x1 x2 x3 x4 x5 σ)) ∧ (((σ.2.1 14 x1.toNatClampNeg) = 1) → (vp_in x2 (lenM 14) ∧ (((¬ ((σ.2.1 14 x2.toNatClampNeg) = 1)) → (mw_copy_84 K x1 x2 x3 x4 x5 σ)) ∧ (((σ.2.1 14 x2.toNatClampNeg) = 1) → (vp_in x1 (lenM 15) ∧ (vp_in x2 (lenM 15) ∧ ((((σ.2.1 15 x1.toNatClampNeg) = (σ.2.1 15 x2.toNatClampNeg)) → (mw_copy_84 K x1 x2 x3 x4 x5 σ)) ∧ ((¬ ((σ.2.1 15 x1.toNatClampNeg) = (σ.2.1 15 x2.toNatClampNeg))) → (mw_copy_77 K σ)))))))))))))))))) ∧ ((r3 = 0) → (mw_copy_16 K σ))) x2))) x1
set_option maxHeartbeats 4000000 in
set_option maxRecDepth 100000 in
theorem mt_copy {l : Launch} {Γ : GA} {α : Nat → Nat} {σ : MSt} {K : Int32 → MSt → Prop} {x1 : Int32} {x2 : Int32} {x3 : Int32} {x4 : Int32} {x5 : Int32} (hwp : mw_copy K x1 x2 x3 x4 x5 σ) : mI l yX4_copy cX4_copy 7 (some .int) ({ frames := 1, cells := 0, slots := 0, locals := 21 } : Room) Γ α [.int x1, .int x2, .int x3, .int x4, .int x5] σ K := by
  intro sz
  refine m_of (by decide) rfl [(0, .ref (α 50)), (1, .int x1), (2, .int x2), (3, .int x3), (4, .int x4), (5, .int x5)] (fun _ h => h) (Nat.le_of_ble_eq_true rfl) ?_
  intro p e s m args below meth c hsz X H locs ls hP hS hl
  subst hsz
  obtain ⟨hx, hb, hml, hown, hts, hK, hD, hr, hlk⟩ := id X
  have hA : ∀ q, s.heap.size ≤ q → AM α s.heap.size q := fun q h => Or.inr h
  unfold mw_copy at hwp
  refine lv_aload_n hx hb dX4_copy_0 rfl (lv_at hl 0 rfl) ?_
  refine lv_iload_n hx hb dX4_copy_1 rfl (lv_at hl 1 rfl) ?_
  refine m_calli ⟨hx, hb, hml, hown, hts⟩ hK hD hA hP hS (mt_isShelf hwp) (cwV 1 hts (lw_V q1465 q1467 qs24 q79 q1468) rfl rfl rfl (by decide +kernel) ⟨Nat.le_of_ble_eq_true rfl, Nat.le_of_ble_eq_true rfl⟩) rfl hl.1 rfl (Nat.le_of_ble_eq_true rfl) dX4_copy_2 ⟨Nat.zero_le _, Nat.zero_le _⟩ (fun r1 u H locs hk hP hS => ?_)
  obtain ⟨hwp, eu⟩ := hk
  rw [eu] at hP
  refine lv_if_eq (tgt := 16) hx hb dX4_copy_5 (by decide) (fun c2 => ?_) (fun c2 => ?_)
  · replace hwp := hwp.1 c2
    exact mk_copy_16 X σ hwp H locs ls hP hS (lv_sub hl [0] rfl)
  · replace hwp := hwp.2 c2
    refine lv_aload_n hx hb dX4_copy_8 rfl (lv_at hl 0 rfl) ?_
    refine lv_iload_n hx hb dX4_copy_9 rfl (lv_at hl 2 rfl) ?_
    refine m_calli ⟨hx, hb, hml, hown, hts⟩ hK hD hA hP hS (mt_isShelf hwp) (cwV 1 hts (lw_V q1465 q1467 qs24 q79 q1468) rfl rfl rfl (by decide +kernel) ⟨Nat.le_of_ble_eq_true rfl, Nat.le_of_ble_eq_true rfl⟩) rfl hl.1 rfl (Nat.le_of_ble_eq_true rfl) dX4_copy_10 ⟨Nat.zero_le _, Nat.zero_le _⟩ (fun r3 u H locs hk hP hS => ?_)
    obtain ⟨hwp, eu⟩ := hk
    rw [eu] at hP
    refine lv_if_ne (tgt := 22) hx hb dX4_copy_13 (by decide) (fun c4 => ?_) (fun c4 => ?_)
    · replace hwp := hwp.1 c4
      refine lv_aload_n hx hb dX4_copy_22 rfl (lv_at hl 0 rfl) ?_
      refine m_geta hx hb hts hown hK hP 14 (by decide) rfl q1360 rfl dX4_copy_23 ?_
      refine lv_iload_n hx hb dX4_copy_26 rfl (lv_at hl 1 rfl) ?_
      obtain ⟨hi5, hwp⟩ := hwp
      refine m_iald hx hb hK hP 14 rfl hi5 dX4_copy_27 ?_
      refine lv_iconst (v := 2) hx hb dX4_copy_28 (by decide) ?_
      refine lv_icmp_eq (tgt := 77) hx hb dX4_copy_29 (by decide) (fun c6 => ?_) (fun c6 => ?_)
      · replace hwp := hwp.1 c6
        exact mk_copy_77 X σ hwp H locs ls hP hS (lv_sub hl [0] rfl)
      · replace hwp := hwp.2 c6
        refine lv_aload_n hx hb dX4_copy_32 rfl (lv_at hl 0 rfl) ?_
        refine m_geta hx hb hts hown hK hP 14 (by decide) rfl q1360 rfl dX4_copy_33 ?_
        refine lv_iload_n hx hb dX4_copy_36 rfl (lv_at hl 2 rfl) ?_
        obtain ⟨hi7, hwp⟩ := hwp
        refine m_iald hx hb hK hP 14 rfl hi7 dX4_copy_37 ?_
        refine lv_iconst (v := 2) hx hb dX4_copy_38 (by decide) ?_
        refine lv_icmp_eq (tgt := 77) hx hb dX4_copy_39 (by decide) (fun c8 => ?_) (fun c8 => ?_)
        · replace hwp := hwp.1 c8
          exact mk_copy_77 X σ hwp H locs ls hP hS (lv_sub hl [0] rfl)
        · replace hwp := hwp.2 c8
          refine lv_aload_n hx hb dX4_copy_42 rfl (lv_at hl 0 rfl) ?_
          refine m_geta hx hb hts hown hK hP 14 (by decide) rfl q1360 rfl dX4_copy_43 ?_
          refine lv_iload_n hx hb dX4_copy_46 rfl (lv_at hl 1 rfl) ?_
          obtain ⟨hi9, hwp⟩ := hwp
          refine m_iald hx hb hK hP 14 rfl hi9 dX4_copy_47 ?_
          refine lv_iconst (v := 1) hx hb dX4_copy_48 (by decide) ?_
          refine lv_icmp_ne (tgt := 84) hx hb dX4_copy_49 (by decide) (fun c10 => ?_) (fun c10 => ?_)
          · replace hwp := hwp.1 c10
            exact mk_copy_84 X _ _ _ _ _ σ hwp H locs ls hP hS (lv_sub hl [0, 1, 2, 3, 4, 5] rfl)
          · replace hwp := hwp.2 c10
            refine lv_aload_n hx hb dX4_copy_52 rfl (lv_at hl 0 rfl) ?_
            refine m_geta hx hb hts hown hK hP 14 (by decide) rfl q1360 rfl dX4_copy_53 ?_
            refine lv_iload_n hx hb dX4_copy_56 rfl (lv_at hl 2 rfl) ?_
            obtain ⟨hi11, hwp⟩ := hwp
            refine m_iald hx hb hK hP 14 rfl hi11 dX4_copy_57 ?_
            refine lv_iconst (v := 1) hx hb dX4_copy_58 (by decide) ?_
            refine lv_icmp_ne (tgt := 84) hx hb dX4_copy_59 (by decide) (fun c12 => ?_) (fun c12 => ?_)
            · replace hwp := hwp.1 c12
              exact mk_copy_84 X _ _ _ _ _ σ hwp H locs ls hP hS (lv_sub hl [0, 1, 2, 3, 4, 5] rfl)
            · replace hwp := hwp.2 c12
              refine lv_aload_n hx hb dX4_copy_62 rfl (lv_at hl 0 rfl) ?_
              refine m_geta hx hb hts hown hK hP 15 (by decide) rfl q1361 rfl dX4_copy_63 ?_
              refine lv_iload_n hx hb dX4_copy_66 rfl (lv_at hl 1 rfl) ?_
              obtain ⟨hi13, hwp⟩ := hwp
              refine m_iald hx hb hK hP 15 rfl hi13 dX4_copy_67 ?_
              refine lv_aload_n hx hb dX4_copy_68 rfl (lv_at hl 0 rfl) ?_
              refine m_geta hx hb hts hown hK hP 15 (by decide) rfl q1361 rfl dX4_copy_69 ?_
              refine lv_iload_n hx hb dX4_copy_72 rfl (lv_at hl 2 rfl) ?_
              obtain ⟨hi14, hwp⟩ := hwp
              refine m_iald hx hb hK hP 15 rfl hi14 dX4_copy_73 ?_
              refine lv_icmp_eq (tgt := 84) hx hb dX4_copy_74 (by decide) (fun c15 => ?_) (fun c15 => ?_)
              · replace hwp := hwp.1 c15
                exact mk_copy_84 X _ _ _ _ _ σ hwp H locs ls hP hS (lv_sub hl [0, 1, 2, 3, 4, 5] rfl)
              · replace hwp := hwp.2 c15
                exact mk_copy_77 X σ hwp H locs ls hP hS (lv_sub hl [0] rfl)
    · replace hwp := hwp.2 c4
      exact mk_copy_16 X σ hwp H locs ls hP hS (lv_sub hl [0] rfl)
/-! cost -/
def mw_cost_19 (K : Int32 → MSt → Prop) (x1 : Int32) (x2 : Int32) (x3 : Int32) (σ : MSt) : Prop :=
  ((x3 = 0) → (mw_costOf σ (fun r2 => K r2 σ) x1 x2)) ∧ ((¬ (x3 = 0)) → (mw_no (fun r3 σ4 => K r3 σ4) x3 σ))
set_option maxHeartbeats 4000000 in
set_option maxRecDepth 100000 in
theorem mk_cost_19 {p : Program} {l : Launch} {e : Env} {s : State} {m : MethodId} {args : Array Value} {below : List Frame} {meth : Method} {c : Code} {Γ : GA} {α : Nat → Nat} {K : Int32 → MSt → Prop} (X : CM p s m args meth c cX4_cost 4 (some .int) Γ α) : ∀ (x1 : Int32) (x2 : Int32) (x3 : Int32) (σ : MSt), mw_cost_19 K x1 x2 x3 σ → TM p l e ({ frames := 3, cells := 0, slots := 0, locals := 67 } : Room) s m args below meth c 4 (QI below K Γ α s args) Γ α σ 19 [(0, .ref (α 50)), (1, .int x1), (2, .int x2), (3, .int x3)] [] := by
  obtain ⟨hx, hb, hml, hown, hts, hK, hD, hr, hlk⟩ := id X
  have hA : ∀ q, s.heap.size ≤ q → AM α s.heap.size q := fun q h => Or.inr h
  intro x1 x2 x3 σ hwp H locs ls hP hS hl
  unfold mw_cost_19 at hwp
  refine lv_iload_n hx hb dX4_cost_19 rfl (lv_at hl 3 rfl) ?_
  refine lv_if_eq (tgt := 31) hx hb dX4_cost_20 (by decide) (fun c1 => ?_) (fun c1 => ?_)
  · replace hwp := hwp.1 c1
    refine lv_aload_n hx hb dX4_cost_31 rfl (lv_at hl 0 rfl) ?_
    refine lv_iload_n hx hb dX4_cost_32 rfl (lv_at hl 1 rfl) ?_
    refine lv_iload_n hx hb dX4_cost_33 rfl (lv_at hl 2 rfl) ?_
    refine m_calli ⟨hx, hb, hml, hown, hts⟩ hK hD hA hP hS (mt_costOf hwp) (cwV 2 hts (lw_V q1677 q1679 qs57 q79 q1680) rfl rfl rfl (by decide +kernel) ⟨Nat.le_of_ble_eq_true rfl, Nat.le_of_ble_eq_true rfl⟩) rfl hl.1 rfl (Nat.le_of_ble_eq_true rfl) dX4_cost_34 ⟨Nat.zero_le _, Nat.zero_le _⟩ (fun r2 u H locs hk hP hS => ?_)
    obtain ⟨hwp, eu⟩ := hk
    rw [eu] at hP
    exact m_iret hx hb hr hlk hK hP hS hwp dX4_cost_37
  · replace hwp := hwp.2 c1
    refine lv_aload_n hx hb dX4_cost_23 rfl (lv_at hl 0 rfl) ?_
    refine lv_iload_n hx hb dX4_cost_24 rfl (lv_at hl 3 rfl) ?_
    refine m_calli ⟨hx, hb, hml, hown, hts⟩ hK hD hA hP hS (mt_no hwp) (cwV 1 hts (lw_V q1469 q1471 qs25 q79 q1472) rfl rfl rfl (by decide +kernel) ⟨Nat.le_of_ble_eq_true rfl, Nat.le_of_ble_eq_true rfl⟩) rfl hl.1 rfl (Nat.le_of_ble_eq_true rfl) dX4_cost_25 ⟨Nat.zero_le _, Nat.zero_le _⟩ (fun r3 σ4 H locs hk hP hS => ?_)
    have hwp := hk
    refine lv_goto (tgt := 37) hx hb dX4_cost_28 (by decide) ?_
    exact m_iret hx hb hr hlk hK hP hS hwp dX4_cost_37
def mw_cost (K : Int32 → MSt → Prop) (x1 : Int32) (x2 : Int32) (σ : MSt) : Prop :=
  mw_barredTwo σ (fun r1 => ((¬ (r1 = 0)) → (mw_cost_19 K x1 x2 r1 σ)) ∧ ((r1 = 0) → (((¬ (x1 = x2)) → (mw_cost_19 K x1 x2 r1 σ)) ∧ ((x1 = x2) → (mw_cost_19 K x1 x2 (-6) σ))))) x1 x2
set_option maxHeartbeats 4000000 in
set_option maxRecDepth 100000 in
theorem mt_cost {l : Launch} {Γ : GA} {α : Nat → Nat} {σ : MSt} {K : Int32 → MSt → Prop} {x1 : Int32} {x2 : Int32} (hwp : mw_cost K x1 x2 σ) : mI l yX4_cost cX4_cost 4 (some .int) ({ frames := 3, cells := 0, slots := 0, locals := 67 } : Room) Γ α [.int x1, .int x2] σ K := by
  intro sz
  refine m_of (by decide) rfl [(0, .ref (α 50)), (1, .int x1), (2, .int x2)] (fun _ h => h) (Nat.le_of_ble_eq_true rfl) ?_
  intro p e s m args below meth c hsz X H locs ls hP hS hl
  subst hsz
  obtain ⟨hx, hb, hml, hown, hts, hK, hD, hr, hlk⟩ := id X
  have hA : ∀ q, s.heap.size ≤ q → AM α s.heap.size q := fun q h => Or.inr h
  unfold mw_cost at hwp
  refine lv_aload_n hx hb dX4_cost_0 rfl (lv_at hl 0 rfl) ?_
  refine lv_iload_n hx hb dX4_cost_1 rfl (lv_at hl 1 rfl) ?_
  refine lv_iload_n hx hb dX4_cost_2 rfl (lv_at hl 2 rfl) ?_
  refine m_calli ⟨hx, hb, hml, hown, hts⟩ hK hD hA hP hS (mt_barredTwo hwp) (cwV 2 hts (lw_V q1581 q1583 qs42 q79 q1584) rfl rfl rfl (by decide +kernel) ⟨Nat.le_of_ble_eq_true rfl, Nat.le_of_ble_eq_true rfl⟩) rfl hl.1 rfl (Nat.le_of_ble_eq_true rfl) dX4_cost_3 ⟨Nat.zero_le _, Nat.zero_le _⟩ (fun r1 u H locs hk hP hS => ?_)
  obtain ⟨hwp, eu⟩ := hk
  rw [eu] at hP
  refine lv_istore_n (lv' := [(3, .int r1), (0, .ref (α 50)), (1, .int x1), (2, .int x2)]) hx hb dX4_cost_6 rfl hl (by decide) rfl (fun ls hl => ?_)
  refine lv_iload_n hx hb dX4_cost_7 rfl (lv_at hl 0 rfl) ?_
  refine lv_if_ne (tgt := 19) hx hb dX4_cost_8 (by decide) (fun c2 => ?_) (fun c2 => ?_)
  · replace hwp := hwp.1 c2
    exact mk_cost_19 X _ _ _ σ hwp H locs ls hP hS (lv_sub hl [1, 2, 3, 0] rfl)
  · replace hwp := hwp.2 c2
    refine lv_iload_n hx hb dX4_cost_11 rfl (lv_at hl 2 rfl) ?_
    refine lv_iload_n hx hb dX4_cost_12 rfl (lv_at hl 3 rfl) ?_
    refine lv_icmp_ne (tgt := 19) hx hb dX4_cost_13 (by decide) (fun c3 => ?_) (fun c3 => ?_)
    · replace hwp := hwp.1 c3
      exact mk_cost_19 X _ _ _ σ hwp H locs ls hP hS (lv_sub hl [1, 2, 3, 0] rfl)
    · replace hwp := hwp.2 c3
      refine lv_bipush (v := (-6)) hx hb dX4_cost_16 (by decide) ?_
      refine lv_istore_n (lv' := [(3, .int (-6)), (0, .ref (α 50)), (1, .int x1), (2, .int x2)]) hx hb dX4_cost_18 rfl hl (by decide) rfl (fun ls hl => ?_)
      exact mk_cost_19 X _ _ _ σ hwp H locs ls hP hS (lv_sub hl [1, 2, 3, 0] rfl)
/-! drawnOnes -/
def mw_drawnOnes_4_b (σ : MSt) (K : Int32 → Prop) (L4 : Int32 → Int32 → Prop) (x1 : Int32) (x2 : Int32) : Prop :=
  (((σ.1 0) ≤ x2) → (K x1)) ∧ ((¬ ((σ.1 0) ≤ x2)) → (vp_in x2 (lenM 12) ∧ (L4 (x1 ||| ((σ.2.1 12 x2.toNatClampNeg) <<< (x2 &&& 31))) (x2 + 1))))
def mw_drawnOnes_4 (σ : MSt) (K : Int32 → Prop) : Nat → Int32 → Int32 → Prop
  | 0 => fun _ _ => False
  | n + 1 => fun x1 x2 => mw_drawnOnes_4_b σ K (mw_drawnOnes_4 σ K n) x1 x2
set_option maxHeartbeats 4000000 in
set_option maxRecDepth 100000 in
theorem mk_drawnOnes_4_b {p : Program} {l : Launch} {e : Env} {s : State} {m : MethodId} {args : Array Value} {below : List Frame} {meth : Method} {c : Code} {Γ : GA} {α : Nat → Nat} {σ : MSt} {K : Int32 → Prop} (X : CM p s m args meth c cX4_drawnOnes 3 (some .int) Γ α) {L4 : Int32 → Int32 → Prop} (hL4 : ∀ (x1 : Int32) (x2 : Int32), L4 x1 x2 → TM p l e ({ frames := 0, cells := 0, slots := 0, locals := 0 } : Room) s m args below meth c 3 (QI below (fun r u => K r ∧ u = σ) Γ α s args) Γ α σ 4 [(0, .ref (α 50)), (1, .int x1), (2, .int x2)] []) : ∀ (x1 : Int32) (x2 : Int32), mw_drawnOnes_4_b σ K L4 x1 x2 → TM p l e ({ frames := 0, cells := 0, slots := 0, locals := 0 } : Room) s m args below meth c 3 (QI below (fun r u => K r ∧ u = σ) Γ α s args) Γ α σ 4 [(0, .ref (α 50)), (1, .int x1), (2, .int x2)] [] := by
  obtain ⟨hx, hb, hml, hown, hts, hK, hD, hr, hlk⟩ := id X
  have hA : ∀ q, s.heap.size ≤ q → AM α s.heap.size q := fun q h => Or.inr h
  intro x1 x2 hwp H locs ls hP hS hl
  unfold mw_drawnOnes_4_b at hwp
  refine lv_iload_n hx hb dX4_drawnOnes_4 rfl (lv_at hl 2 rfl) ?_
  refine lv_aload_n hx hb dX4_drawnOnes_5 rfl (lv_at hl 0 rfl) ?_
  refine m_geti hx hb hts hown hK hP 0 (by decide) rfl q1346 rfl dX4_drawnOnes_6 ?_
  refine lv_icmp_ge (tgt := 29) hx hb dX4_drawnOnes_9 (by decide) (fun c1 => ?_) (fun c1 => ?_)
  · replace hwp := hwp.1 c1
    refine lv_iload_n hx hb dX4_drawnOnes_29 rfl (lv_at hl 1 rfl) ?_
    exact m_iret hx hb hr hlk hK hP hS ⟨hwp, rfl⟩ dX4_drawnOnes_30
  · replace hwp := hwp.2 c1
    refine lv_iload_n hx hb dX4_drawnOnes_12 rfl (lv_at hl 1 rfl) ?_
    refine lv_aload_n hx hb dX4_drawnOnes_13 rfl (lv_at hl 0 rfl) ?_
    refine m_geta hx hb hts hown hK hP 12 (by decide) rfl q1358 rfl dX4_drawnOnes_14 ?_
    refine lv_iload_n hx hb dX4_drawnOnes_17 rfl (lv_at hl 2 rfl) ?_
    obtain ⟨hi2, hwp⟩ := hwp
    refine m_iald hx hb hK hP 12 rfl hi2 dX4_drawnOnes_18 ?_
    refine lv_iload_n hx hb dX4_drawnOnes_19 rfl (lv_at hl 2 rfl) ?_
    refine lv_ishl hx hb dX4_drawnOnes_20 ?_
    refine lv_ior hx hb dX4_drawnOnes_21 ?_
    refine lv_istore_n (lv' := [(1, .int (x1 ||| ((σ.2.1 12 x2.toNatClampNeg) <<< (x2 &&& 31)))), (0, .ref (α 50)), (2, .int x2)]) hx hb dX4_drawnOnes_22 rfl hl (by decide) rfl (fun ls hl => ?_)
    refine lv_iinc (v := x2 + 1) (lv' := [(2, .int (x2 + 1)), (1, .int (x1 ||| ((σ.2.1 12 x2.toNatClampNeg) <<< (x2 &&& 31)))), (0, .ref (α 50))]) hx hb dX4_drawnOnes_23 hl (k := 2) rfl rfl (by decide) rfl (fun ls hl => ?_)
    refine lv_goto (tgt := 4) hx hb dX4_drawnOnes_26 (by decide) ?_
    exact hL4 _ _ hwp H locs ls hP hS (lv_sub hl [2, 1, 0] rfl)
set_option maxHeartbeats 4000000 in
set_option maxRecDepth 100000 in
theorem mk_drawnOnes_4 {p : Program} {l : Launch} {e : Env} {s : State} {m : MethodId} {args : Array Value} {below : List Frame} {meth : Method} {c : Code} {Γ : GA} {α : Nat → Nat} {σ : MSt} {K : Int32 → Prop} (X : CM p s m args meth c cX4_drawnOnes 3 (some .int) Γ α) : ∀ n (x1 : Int32) (x2 : Int32), mw_drawnOnes_4 σ K n x1 x2 → TM p l e ({ frames := 0, cells := 0, slots := 0, locals := 0 } : Room) s m args below meth c 3 (QI below (fun r u => K r ∧ u = σ) Γ α s args) Γ α σ 4 [(0, .ref (α 50)), (1, .int x1), (2, .int x2)] [] := by
  intro n
  induction n with
  | zero => intro _ _ hwp; exact hwp.elim
  | succ n ih => intro x1 x2 hwp; exact mk_drawnOnes_4_b X ih x1 x2 hwp
def mw_drawnOnes (σ : MSt) (K : Int32 → Prop) : Prop :=
  ∃ n, mw_drawnOnes_4 σ K n 0 0
set_option maxHeartbeats 4000000 in
set_option maxRecDepth 100000 in
theorem mt_drawnOnes {l : Launch} {Γ : GA} {α : Nat → Nat} {σ : MSt} {K : Int32 → Prop} (hwp : mw_drawnOnes σ K ) : mI l yX4_drawnOnes cX4_drawnOnes 3 (some .int) ({ frames := 0, cells := 0, slots := 0, locals := 0 } : Room) Γ α [] σ (fun r u => K r ∧ u = σ) := by
  intro sz
  refine m_of (by decide) rfl [(0, .ref (α 50))] (fun _ h => h) (Nat.le_of_ble_eq_true rfl) ?_
  intro p e s m args below meth c hsz X H locs ls hP hS hl
  subst hsz
  obtain ⟨hx, hb, hml, hown, hts, hK, hD, hr, hlk⟩ := id X
  have hA : ∀ q, s.heap.size ≤ q → AM α s.heap.size q := fun q h => Or.inr h
  unfold mw_drawnOnes at hwp
  refine lv_iconst (v := 0) hx hb dX4_drawnOnes_0 (by decide) ?_
  refine lv_istore_n (lv' := [(1, .int 0), (0, .ref (α 50))]) hx hb dX4_drawnOnes_1 rfl hl (by decide) rfl (fun ls hl => ?_)
  refine lv_iconst (v := 0) hx hb dX4_drawnOnes_2 (by decide) ?_
  refine lv_istore_n (lv' := [(2, .int 0), (1, .int 0), (0, .ref (α 50))]) hx hb dX4_drawnOnes_3 rfl hl (by decide) rfl (fun ls hl => ?_)
  obtain ⟨n, hwp⟩ := hwp
  exact mk_drawnOnes_4 X n _ _ hwp H locs ls hP hS (lv_sub hl [2, 1, 0] rfl)
/-! draws -/
def mw_draws_2_b (K : MSt → Prop) (L2 : Int32 → Int32 → MSt → Prop) (x1 : Int32) (x2 : Int32) (σ : MSt) : Prop :=
  (((σ.1 0) ≤ x2) → (K σ)) ∧ ((¬ ((σ.1 0) ≤ x2)) → (vp_in x2 (lenM 12) ∧ (∀ σ3, σ3 = sI σ 12 x2.toNatClampNeg ((x1 >>> (x2 &&& 31)) &&& 1) → (L2 x1 (x2 + 1) σ3))))
def mw_draws_2 (K : MSt → Prop) : Nat → Int32 → Int32 → MSt → Prop
  | 0 => fun _ _ _ => False
  | n + 1 => fun x1 x2 σ => mw_draws_2_b K (mw_draws_2 K n) x1 x2 σ
set_option maxHeartbeats 4000000 in
set_option maxRecDepth 100000 in
theorem mk_draws_2_b {p : Program} {l : Launch} {e : Env} {s : State} {m : MethodId} {args : Array Value} {below : List Frame} {meth : Method} {c : Code} {Γ : GA} {α : Nat → Nat} {K : MSt → Prop} (X : CM p s m args meth c cX4_draws 3 none Γ α) {L2 : Int32 → Int32 → MSt → Prop} (hL2 : ∀ (x1 : Int32) (x2 : Int32) (σ : MSt), L2 x1 x2 σ → TM p l e ({ frames := 0, cells := 0, slots := 0, locals := 0 } : Room) s m args below meth c 3 (QV below K Γ α s args) Γ α σ 2 [(0, .ref (α 50)), (1, .int x1), (2, .int x2)] []) : ∀ (x1 : Int32) (x2 : Int32) (σ : MSt), mw_draws_2_b K L2 x1 x2 σ → TM p l e ({ frames := 0, cells := 0, slots := 0, locals := 0 } : Room) s m args below meth c 3 (QV below K Γ α s args) Γ α σ 2 [(0, .ref (α 50)), (1, .int x1), (2, .int x2)] [] := by
  obtain ⟨hx, hb, hml, hown, hts, hK, hD, hr, hlk⟩ := id X
  have hA : ∀ q, s.heap.size ≤ q → AM α s.heap.size q := fun q h => Or.inr h
  intro x1 x2 σ hwp H locs ls hP hS hl
  unfold mw_draws_2_b at hwp
  refine lv_iload_n hx hb dX4_draws_2 rfl (lv_at hl 2 rfl) ?_
  refine lv_aload_n hx hb dX4_draws_3 rfl (lv_at hl 0 rfl) ?_
  refine m_geti hx hb hts hown hK hP 0 (by decide) rfl q1346 rfl dX4_draws_4 ?_
  refine lv_icmp_ge (tgt := 27) hx hb dX4_draws_7 (by decide) (fun c1 => ?_) (fun c1 => ?_)
  · replace hwp := hwp.1 c1
    exact m_vret hx hb hr hlk hK hP hS hwp dX4_draws_27
  · replace hwp := hwp.2 c1
    refine lv_aload_n hx hb dX4_draws_10 rfl (lv_at hl 0 rfl) ?_
    refine m_geta hx hb hts hown hK hP 12 (by decide) rfl q1358 rfl dX4_draws_11 ?_
    refine lv_iload_n hx hb dX4_draws_14 rfl (lv_at hl 2 rfl) ?_
    refine lv_iload_n hx hb dX4_draws_15 rfl (lv_at hl 1 rfl) ?_
    refine lv_iload_n hx hb dX4_draws_16 rfl (lv_at hl 2 rfl) ?_
    refine lv_ishr hx hb dX4_draws_17 ?_
    refine lv_iconst (v := 1) hx hb dX4_draws_18 (by decide) ?_
    refine lv_iand hx hb dX4_draws_19 ?_
    obtain ⟨hi2, hwp⟩ := hwp
    refine m_iast hx hb hK hD hP hS 12 rfl hi2 dX4_draws_20 (fun H locs hP hS => ?_)
    obtain ⟨σ3, eσ3⟩ : ∃ z, z = sI σ 12 x2.toNatClampNeg ((x1 >>> (x2 &&& 31)) &&& 1) := ⟨_, rfl⟩
    rw [← eσ3] at hP
    replace hwp := hwp σ3 eσ3
    refine lv_iinc (v := x2 + 1) (lv' := [(2, .int (x2 + 1)), (0, .ref (α 50)), (1, .int x1)]) hx hb dX4_draws_21 hl (k := 2) rfl rfl (by decide) rfl (fun ls hl => ?_)
    refine lv_goto (tgt := 2) hx hb dX4_draws_24 (by decide) ?_
    exact hL2 _ _ σ3 hwp H locs ls hP hS (lv_sub hl [1, 2, 0] rfl)
set_option maxHeartbeats 4000000 in
set_option maxRecDepth 100000 in
theorem mk_draws_2 {p : Program} {l : Launch} {e : Env} {s : State} {m : MethodId} {args : Array Value} {below : List Frame} {meth : Method} {c : Code} {Γ : GA} {α : Nat → Nat} {K : MSt → Prop} (X : CM p s m args meth c cX4_draws 3 none Γ α) : ∀ n (x1 : Int32) (x2 : Int32) (σ : MSt), mw_draws_2 K n x1 x2 σ → TM p l e ({ frames := 0, cells := 0, slots := 0, locals := 0 } : Room) s m args below meth c 3 (QV below K Γ α s args) Γ α σ 2 [(0, .ref (α 50)), (1, .int x1), (2, .int x2)] [] := by
  intro n
  induction n with
  | zero => intro _ _ _ hwp; exact hwp.elim
  | succ n ih => intro x1 x2 σ hwp; exact mk_draws_2_b X ih x1 x2 σ hwp
def mw_draws (K : MSt → Prop) (x1 : Int32) (σ : MSt) : Prop :=
  ∃ n, mw_draws_2 K n x1 0 σ
set_option maxHeartbeats 4000000 in
set_option maxRecDepth 100000 in
theorem mt_draws {l : Launch} {Γ : GA} {α : Nat → Nat} {σ : MSt} {K : MSt → Prop} {x1 : Int32} (hwp : mw_draws K x1 σ) : mV l yX4_draws cX4_draws 3 none ({ frames := 0, cells := 0, slots := 0, locals := 0 } : Room) Γ α [.int x1] σ K := by
  intro sz
  refine m_of (by decide) rfl [(0, .ref (α 50)), (1, .int x1)] (fun _ h => h) (Nat.le_of_ble_eq_true rfl) ?_
  intro p e s m args below meth c hsz X H locs ls hP hS hl
  subst hsz
  obtain ⟨hx, hb, hml, hown, hts, hK, hD, hr, hlk⟩ := id X
  have hA : ∀ q, s.heap.size ≤ q → AM α s.heap.size q := fun q h => Or.inr h
  unfold mw_draws at hwp
  refine lv_iconst (v := 0) hx hb dX4_draws_0 (by decide) ?_
  refine lv_istore_n (lv' := [(2, .int 0), (0, .ref (α 50)), (1, .int x1)]) hx hb dX4_draws_1 rfl hl (by decide) rfl (fun ls hl => ?_)
  obtain ⟨n, hwp⟩ := hwp
  exact mk_draws_2 X n _ _ σ hwp H locs ls hP hS (lv_sub hl [1, 2, 0] rfl)
/-! houses -/
def mw_houses_4_b (σ : MSt) (K : Int32 → Prop) (L4 : Int32 → Int32 → Prop) (x1 : Int32) (x2 : Int32) : Prop :=
  (((σ.1 0) ≤ x2) → (K x1)) ∧ ((¬ ((σ.1 0) ≤ x2)) → (mw_isHouse σ (fun r2 => ((r2 = 0) → (L4 x1 (x2 + 1))) ∧ ((¬ (r2 = 0)) → (L4 (x1 ||| (1 <<< (x2 &&& 31))) (x2 + 1)))) x2))
def mw_houses_4 (σ : MSt) (K : Int32 → Prop) : Nat → Int32 → Int32 → Prop
  | 0 => fun _ _ => False
  | n + 1 => fun x1 x2 => mw_houses_4_b σ K (mw_houses_4 σ K n) x1 x2
set_option maxHeartbeats 4000000 in
set_option maxRecDepth 100000 in
theorem mk_houses_4_b {p : Program} {l : Launch} {e : Env} {s : State} {m : MethodId} {args : Array Value} {below : List Frame} {meth : Method} {c : Code} {Γ : GA} {α : Nat → Nat} {σ : MSt} {K : Int32 → Prop} (X : CM p s m args meth c cX4_houses 3 (some .int) Γ α) {L4 : Int32 → Int32 → Prop} (hL4 : ∀ (x1 : Int32) (x2 : Int32), L4 x1 x2 → TM p l e ({ frames := 1, cells := 0, slots := 0, locals := 21 } : Room) s m args below meth c 3 (QI below (fun r u => K r ∧ u = σ) Γ α s args) Γ α σ 4 [(0, .ref (α 50)), (1, .int x1), (2, .int x2)] []) : ∀ (x1 : Int32) (x2 : Int32), mw_houses_4_b σ K L4 x1 x2 → TM p l e ({ frames := 1, cells := 0, slots := 0, locals := 21 } : Room) s m args below meth c 3 (QI below (fun r u => K r ∧ u = σ) Γ α s args) Γ α σ 4 [(0, .ref (α 50)), (1, .int x1), (2, .int x2)] [] := by
  obtain ⟨hx, hb, hml, hown, hts, hK, hD, hr, hlk⟩ := id X
  have hA : ∀ q, s.heap.size ≤ q → AM α s.heap.size q := fun q h => Or.inr h
  intro x1 x2 hwp H locs ls hP hS hl
  unfold mw_houses_4_b at hwp
  refine lv_iload_n hx hb dX4_houses_4 rfl (lv_at hl 2 rfl) ?_
  refine lv_aload_n hx hb dX4_houses_5 rfl (lv_at hl 0 rfl) ?_
  refine m_geti hx hb hts hown hK hP 0 (by decide) rfl q1346 rfl dX4_houses_6 ?_
  refine lv_icmp_ge (tgt := 32) hx hb dX4_houses_9 (by decide) (fun c1 => ?_) (fun c1 => ?_)
  · replace hwp := hwp.1 c1
    refine lv_iload_n hx hb dX4_houses_32 rfl (lv_at hl 1 rfl) ?_
    exact m_iret hx hb hr hlk hK hP hS ⟨hwp, rfl⟩ dX4_houses_33
  · replace hwp := hwp.2 c1
    refine lv_aload_n hx hb dX4_houses_12 rfl (lv_at hl 0 rfl) ?_
    refine lv_iload_n hx hb dX4_houses_13 rfl (lv_at hl 2 rfl) ?_
    refine m_calli ⟨hx, hb, hml, hown, hts⟩ hK hD hA hP hS (mt_isHouse hwp) (cwV 1 hts (lw_V q1501 q1503 qs27 q79 q1504) rfl rfl rfl (by decide +kernel) ⟨Nat.le_of_ble_eq_true rfl, Nat.le_of_ble_eq_true rfl⟩) rfl hl.1 rfl (Nat.le_of_ble_eq_true rfl) dX4_houses_14 ⟨Nat.zero_le _, Nat.zero_le _⟩ (fun r2 u H locs hk hP hS => ?_)
    obtain ⟨hwp, eu⟩ := hk
    rw [eu] at hP
    refine lv_if_eq (tgt := 26) hx hb dX4_houses_17 (by decide) (fun c3 => ?_) (fun c3 => ?_)
    · replace hwp := hwp.1 c3
      refine lv_iinc (v := x2 + 1) (lv' := [(2, .int (x2 + 1)), (0, .ref (α 50)), (1, .int x1)]) hx hb dX4_houses_26 hl (k := 2) rfl rfl (by decide) rfl (fun ls hl => ?_)
      refine lv_goto (tgt := 4) hx hb dX4_houses_29 (by decide) ?_
      exact hL4 _ _ hwp H locs ls hP hS (lv_sub hl [1, 2, 0] rfl)
    · replace hwp := hwp.2 c3
      refine lv_iload_n hx hb dX4_houses_20 rfl (lv_at hl 1 rfl) ?_
      refine lv_iconst (v := 1) hx hb dX4_houses_21 (by decide) ?_
      refine lv_iload_n hx hb dX4_houses_22 rfl (lv_at hl 2 rfl) ?_
      refine lv_ishl hx hb dX4_houses_23 ?_
      refine lv_ior hx hb dX4_houses_24 ?_
      refine lv_istore_n (lv' := [(1, .int (x1 ||| (1 <<< (x2 &&& 31)))), (0, .ref (α 50)), (2, .int x2)]) hx hb dX4_houses_25 rfl hl (by decide) rfl (fun ls hl => ?_)
      refine lv_iinc (v := x2 + 1) (lv' := [(2, .int (x2 + 1)), (1, .int (x1 ||| (1 <<< (x2 &&& 31)))), (0, .ref (α 50))]) hx hb dX4_houses_26 hl (k := 2) rfl rfl (by decide) rfl (fun ls hl => ?_)
      refine lv_goto (tgt := 4) hx hb dX4_houses_29 (by decide) ?_
      exact hL4 _ _ hwp H locs ls hP hS (lv_sub hl [2, 1, 0] rfl)
set_option maxHeartbeats 4000000 in
set_option maxRecDepth 100000 in
theorem mk_houses_4 {p : Program} {l : Launch} {e : Env} {s : State} {m : MethodId} {args : Array Value} {below : List Frame} {meth : Method} {c : Code} {Γ : GA} {α : Nat → Nat} {σ : MSt} {K : Int32 → Prop} (X : CM p s m args meth c cX4_houses 3 (some .int) Γ α) : ∀ n (x1 : Int32) (x2 : Int32), mw_houses_4 σ K n x1 x2 → TM p l e ({ frames := 1, cells := 0, slots := 0, locals := 21 } : Room) s m args below meth c 3 (QI below (fun r u => K r ∧ u = σ) Γ α s args) Γ α σ 4 [(0, .ref (α 50)), (1, .int x1), (2, .int x2)] [] := by
  intro n
  induction n with
  | zero => intro _ _ hwp; exact hwp.elim
  | succ n ih => intro x1 x2 hwp; exact mk_houses_4_b X ih x1 x2 hwp
def mw_houses (σ : MSt) (K : Int32 → Prop) : Prop :=
  ∃ n, mw_houses_4 σ K n 0 0
set_option maxHeartbeats 4000000 in
set_option maxRecDepth 100000 in
theorem mt_houses {l : Launch} {Γ : GA} {α : Nat → Nat} {σ : MSt} {K : Int32 → Prop} (hwp : mw_houses σ K ) : mI l yX4_houses cX4_houses 3 (some .int) ({ frames := 1, cells := 0, slots := 0, locals := 21 } : Room) Γ α [] σ (fun r u => K r ∧ u = σ) := by
  intro sz
  refine m_of (by decide) rfl [(0, .ref (α 50))] (fun _ h => h) (Nat.le_of_ble_eq_true rfl) ?_
  intro p e s m args below meth c hsz X H locs ls hP hS hl
  subst hsz
  obtain ⟨hx, hb, hml, hown, hts, hK, hD, hr, hlk⟩ := id X
  have hA : ∀ q, s.heap.size ≤ q → AM α s.heap.size q := fun q h => Or.inr h
  unfold mw_houses at hwp
  refine lv_iconst (v := 0) hx hb dX4_houses_0 (by decide) ?_
  refine lv_istore_n (lv' := [(1, .int 0), (0, .ref (α 50))]) hx hb dX4_houses_1 rfl hl (by decide) rfl (fun ls hl => ?_)
  refine lv_iconst (v := 0) hx hb dX4_houses_2 (by decide) ?_
  refine lv_istore_n (lv' := [(2, .int 0), (1, .int 0), (0, .ref (α 50))]) hx hb dX4_houses_3 rfl hl (by decide) rfl (fun ls hl => ?_)
  obtain ⟨n, hwp⟩ := hwp
  exact mk_houses_4 X n _ _ hwp H locs ls hP hS (lv_sub hl [2, 1, 0] rfl)
/-! rightInBoth -/
def mw_rightInBoth_12_b (K : Int32 → MSt → Prop) (L12 : Int32 → Int32 → MSt → Prop) (x1 : Int32) (x2 : Int32) (σ : MSt) : Prop :=
  ((2 ≤ (σ.1 1)) → (∀ σ2, σ2 = sF σ 1 x1 → (K x2 σ2))) ∧ ((¬ (2 ≤ (σ.1 1))) → (mw_allRight σ (fun r3 => mw_many σ (fun r4 => ∀ σ5, σ5 = sF σ 1 ((σ.1 1) + 1) → (L12 x1 (x2 + r4) σ5)) r3)))
def mw_rightInBoth_12 (K : Int32 → MSt → Prop) : Nat → Int32 → Int32 → MSt → Prop
  | 0 => fun _ _ _ => False
  | n + 1 => fun x1 x2 σ => mw_rightInBoth_12_b K (mw_rightInBoth_12 K n) x1 x2 σ
set_option maxHeartbeats 4000000 in
set_option maxRecDepth 100000 in
theorem mk_rightInBoth_12_b {p : Program} {l : Launch} {e : Env} {s : State} {m : MethodId} {args : Array Value} {below : List Frame} {meth : Method} {c : Code} {Γ : GA} {α : Nat → Nat} {K : Int32 → MSt → Prop} (X : CM p s m args meth c cX4_rightInBoth 3 (some .int) Γ α) {L12 : Int32 → Int32 → MSt → Prop} (hL12 : ∀ (x1 : Int32) (x2 : Int32) (σ : MSt), L12 x1 x2 σ → TM p l e ({ frames := 24, cells := 0, slots := 0, locals := 535 } : Room) s m args below meth c 3 (QI below K Γ α s args) Γ α σ 12 [(0, .ref (α 50)), (1, .int x1), (2, .int x2)] []) : ∀ (x1 : Int32) (x2 : Int32) (σ : MSt), mw_rightInBoth_12_b K L12 x1 x2 σ → TM p l e ({ frames := 24, cells := 0, slots := 0, locals := 535 } : Room) s m args below meth c 3 (QI below K Γ α s args) Γ α σ 12 [(0, .ref (α 50)), (1, .int x1), (2, .int x2)] [] := by
  obtain ⟨hx, hb, hml, hown, hts, hK, hD, hr, hlk⟩ := id X
  have hA : ∀ q, s.heap.size ≤ q → AM α s.heap.size q := fun q h => Or.inr h
  intro x1 x2 σ hwp H locs ls hP hS hl
  unfold mw_rightInBoth_12_b at hwp
  refine lv_aload_n hx hb dX4_rightInBoth_12 rfl (lv_at hl 0 rfl) ?_
  refine m_geti hx hb hts hown hK hP 1 (by decide) rfl q1347 rfl dX4_rightInBoth_13 ?_
  refine lv_iconst (v := 2) hx hb dX4_rightInBoth_16 (by decide) ?_
  refine lv_icmp_ge (tgt := 44) hx hb dX4_rightInBoth_17 (by decide) (fun c1 => ?_) (fun c1 => ?_)
  · replace hwp := hwp.1 c1
    refine lv_aload_n hx hb dX4_rightInBoth_44 rfl (lv_at hl 0 rfl) ?_
    refine lv_iload_n hx hb dX4_rightInBoth_45 rfl (lv_at hl 1 rfl) ?_
    refine m_put hx hb hts hown hK hD hP hS 1 (by decide) rfl q1347 rfl rfl rfl rfl dX4_rightInBoth_46 (fun H locs hP hS => ?_)
    obtain ⟨σ2, eσ2⟩ : ∃ z, z = sF σ 1 x1 := ⟨_, rfl⟩
    rw [← eσ2] at hP
    replace hwp := hwp σ2 eσ2
    refine lv_iload_n hx hb dX4_rightInBoth_49 rfl (lv_at hl 2 rfl) ?_
    exact m_iret hx hb hr hlk hK hP hS hwp dX4_rightInBoth_50
  · replace hwp := hwp.2 c1
    refine lv_iload_n hx hb dX4_rightInBoth_20 rfl (lv_at hl 2 rfl) ?_
    refine lv_aload_n hx hb dX4_rightInBoth_21 rfl (lv_at hl 0 rfl) ?_
    refine lv_aload_n hx hb dX4_rightInBoth_22 rfl (lv_at hl 0 rfl) ?_
    refine m_calli ⟨hx, hb, hml, hown, hts⟩ hK hD hA hP hS (mt_allRight hwp) (cwV 0 hts (lw_V q1665 q1667 qs56 q79 q1668) rfl rfl rfl (by decide +kernel) ⟨Nat.le_of_ble_eq_true rfl, Nat.le_of_ble_eq_true rfl⟩) rfl hl.1 rfl (Nat.le_of_ble_eq_true rfl) dX4_rightInBoth_23 ⟨Nat.zero_le _, Nat.zero_le _⟩ (fun r3 u H locs hk hP hS => ?_)
    obtain ⟨hwp, eu⟩ := hk
    rw [eu] at hP
    refine m_calli ⟨hx, hb, hml, hown, hts⟩ hK hD hA hP hS (mt_many hwp) (cwV 1 hts (lw_V q1549 q1551 qs39 q79 q1552) rfl rfl rfl (by decide +kernel) ⟨Nat.le_of_ble_eq_true rfl, Nat.le_of_ble_eq_true rfl⟩) rfl hl.1 rfl (Nat.le_of_ble_eq_true rfl) dX4_rightInBoth_26 ⟨Nat.zero_le _, Nat.zero_le _⟩ (fun r4 u H locs hk hP hS => ?_)
    obtain ⟨hwp, eu⟩ := hk
    rw [eu] at hP
    refine lv_iadd hx hb dX4_rightInBoth_29 ?_
    refine lv_istore_n (lv' := [(2, .int (x2 + r4)), (0, .ref (α 50)), (1, .int x1)]) hx hb dX4_rightInBoth_30 rfl hl (by decide) rfl (fun ls hl => ?_)
    refine lv_aload_n hx hb dX4_rightInBoth_31 rfl (lv_at hl 1 rfl) ?_
    refine lv_dup hx hb dX4_rightInBoth_32 rfl ?_
    refine m_geti hx hb hts hown hK hP 1 (by decide) rfl q1347 rfl dX4_rightInBoth_33 ?_
    refine lv_iconst (v := 1) hx hb dX4_rightInBoth_36 (by decide) ?_
    refine lv_iadd hx hb dX4_rightInBoth_37 ?_
    refine m_put hx hb hts hown hK hD hP hS 1 (by decide) rfl q1347 rfl rfl rfl rfl dX4_rightInBoth_38 (fun H locs hP hS => ?_)
    obtain ⟨σ5, eσ5⟩ : ∃ z, z = sF σ 1 ((σ.1 1) + 1) := ⟨_, rfl⟩
    rw [← eσ5] at hP
    replace hwp := hwp σ5 eσ5
    refine lv_goto (tgt := 12) hx hb dX4_rightInBoth_41 (by decide) ?_
    exact hL12 _ _ σ5 hwp H locs ls hP hS (lv_sub hl [1, 2, 0] rfl)
set_option maxHeartbeats 4000000 in
set_option maxRecDepth 100000 in
theorem mk_rightInBoth_12 {p : Program} {l : Launch} {e : Env} {s : State} {m : MethodId} {args : Array Value} {below : List Frame} {meth : Method} {c : Code} {Γ : GA} {α : Nat → Nat} {K : Int32 → MSt → Prop} (X : CM p s m args meth c cX4_rightInBoth 3 (some .int) Γ α) : ∀ n (x1 : Int32) (x2 : Int32) (σ : MSt), mw_rightInBoth_12 K n x1 x2 σ → TM p l e ({ frames := 24, cells := 0, slots := 0, locals := 535 } : Room) s m args below meth c 3 (QI below K Γ α s args) Γ α σ 12 [(0, .ref (α 50)), (1, .int x1), (2, .int x2)] [] := by
  intro n
  induction n with
  | zero => intro _ _ _ hwp; exact hwp.elim
  | succ n ih => intro x1 x2 σ hwp; exact mk_rightInBoth_12_b X ih x1 x2 σ hwp
def mw_rightInBoth (K : Int32 → MSt → Prop) (σ : MSt) : Prop :=
  ∀ σ1, σ1 = sF σ 1 0 → (∃ n, mw_rightInBoth_12 K n (σ.1 1) 0 σ1)
set_option maxHeartbeats 4000000 in
set_option maxRecDepth 100000 in
theorem mt_rightInBoth {l : Launch} {Γ : GA} {α : Nat → Nat} {σ : MSt} {K : Int32 → MSt → Prop} (hwp : mw_rightInBoth K  σ) : mI l yX4_rightInBoth cX4_rightInBoth 3 (some .int) ({ frames := 24, cells := 0, slots := 0, locals := 535 } : Room) Γ α [] σ K := by
  intro sz
  refine m_of (by decide) rfl [(0, .ref (α 50))] (fun _ h => h) (Nat.le_of_ble_eq_true rfl) ?_
  intro p e s m args below meth c hsz X H locs ls hP hS hl
  subst hsz
  obtain ⟨hx, hb, hml, hown, hts, hK, hD, hr, hlk⟩ := id X
  have hA : ∀ q, s.heap.size ≤ q → AM α s.heap.size q := fun q h => Or.inr h
  unfold mw_rightInBoth at hwp
  refine lv_aload_n hx hb dX4_rightInBoth_0 rfl (lv_at hl 0 rfl) ?_
  refine m_geti hx hb hts hown hK hP 1 (by decide) rfl q1347 rfl dX4_rightInBoth_1 ?_
  refine lv_istore_n (lv' := [(1, .int (σ.1 1)), (0, .ref (α 50))]) hx hb dX4_rightInBoth_4 rfl hl (by decide) rfl (fun ls hl => ?_)
  refine lv_iconst (v := 0) hx hb dX4_rightInBoth_5 (by decide) ?_
  refine lv_istore_n (lv' := [(2, .int 0), (1, .int (σ.1 1)), (0, .ref (α 50))]) hx hb dX4_rightInBoth_6 rfl hl (by decide) rfl (fun ls hl => ?_)
  refine lv_aload_n hx hb dX4_rightInBoth_7 rfl (lv_at hl 2 rfl) ?_
  refine lv_iconst (v := 0) hx hb dX4_rightInBoth_8 (by decide) ?_
  refine m_put hx hb hts hown hK hD hP hS 1 (by decide) rfl q1347 rfl rfl rfl rfl dX4_rightInBoth_9 (fun H locs hP hS => ?_)
  obtain ⟨σ1, eσ1⟩ : ∃ z, z = sF σ 1 0 := ⟨_, rfl⟩
  rw [← eσ1] at hP
  replace hwp := hwp σ1 eσ1
  obtain ⟨n, hwp⟩ := hwp
  exact mk_rightInBoth_12 X n _ _ σ1 hwp H locs ls hP hS (lv_sub hl [2, 1, 0] rfl)
/-! curtains -/
def mw_curtains_9 (K : Int32 → MSt → Prop) (σ : MSt) : Prop :=
  mw_no (fun r1 σ2 => K r1 σ2) (-5) σ
set_option maxHeartbeats 4000000 in
set_option maxRecDepth 100000 in
theorem mk_curtains_9 {p : Program} {l : Launch} {e : Env} {s : State} {m : MethodId} {args : Array Value} {below : List Frame} {meth : Method} {c : Code} {Γ : GA} {α : Nat → Nat} {K : Int32 → MSt → Prop} (X : CM p s m args meth c cX4_curtains 8 (some .int) Γ α) : ∀ (σ : MSt), mw_curtains_9 K  σ → TM p l e ({ frames := 25, cells := 0, slots := 0, locals := 557 } : Room) s m args below meth c 8 (QI below K Γ α s args) Γ α σ 9 [(0, .ref (α 50))] [] := by
  obtain ⟨hx, hb, hml, hown, hts, hK, hD, hr, hlk⟩ := id X
  have hA : ∀ q, s.heap.size ≤ q → AM α s.heap.size q := fun q h => Or.inr h
  intro  σ hwp H locs ls hP hS hl
  unfold mw_curtains_9 at hwp
  refine lv_aload_n hx hb dX4_curtains_9 rfl (lv_at hl 0 rfl) ?_
  refine lv_bipush (v := (-5)) hx hb dX4_curtains_10 (by decide) ?_
  refine m_calli ⟨hx, hb, hml, hown, hts⟩ hK hD hA hP hS (mt_no hwp) (cwV 1 hts (lw_V q1469 q1471 qs25 q79 q1472) rfl rfl rfl (by decide +kernel) ⟨Nat.le_of_ble_eq_true rfl, Nat.le_of_ble_eq_true rfl⟩) rfl hl.1 rfl (Nat.le_of_ble_eq_true rfl) dX4_curtains_12 ⟨Nat.zero_le _, Nat.zero_le _⟩ (fun r1 σ2 H locs hk hP hS => ?_)
  have hwp := hk
  exact m_iret hx hb hr hlk hK hP hS hwp dX4_curtains_15
def mw_curtains_121 (K : Int32 → MSt → Prop) (L35 : Int32 → Int32 → Int32 → Int32 → Int32 → Int32 → MSt → Prop) (x1 : Int32) (x2 : Int32) (x3 : Int32) (x6 : Int32) (x7 : Int32) (σ : MSt) : Prop :=
  L35 x1 x2 x3 x6 x7 (x6 + 1) σ
set_option maxHeartbeats 4000000 in
set_option maxRecDepth 100000 in
theorem mk_curtains_121 {p : Program} {l : Launch} {e : Env} {s : State} {m : MethodId} {args : Array Value} {below : List Frame} {meth : Method} {c : Code} {Γ : GA} {α : Nat → Nat} {K : Int32 → MSt → Prop} (X : CM p s m args meth c cX4_curtains 8 (some .int) Γ α) {L35 : Int32 → Int32 → Int32 → Int32 → Int32 → Int32 → MSt → Prop} (hL35 : ∀ (x1 : Int32) (x2 : Int32) (x3 : Int32) (x4 : Int32) (x5 : Int32) (x6 : Int32) (σ : MSt), L35 x1 x2 x3 x4 x5 x6 σ → TM p l e ({ frames := 25, cells := 0, slots := 0, locals := 557 } : Room) s m args below meth c 8 (QI below K Γ α s args) Γ α σ 35 [(0, .ref (α 50)), (1, .int x1), (2, .int x2), (3, .int x3), (4, .int x4), (5, .int x5), (6, .int x6)] []) : ∀ (x1 : Int32) (x2 : Int32) (x3 : Int32) (x6 : Int32) (x7 : Int32) (σ : MSt), mw_curtains_121 K L35 x1 x2 x3 x6 x7 σ → TM p l e ({ frames := 25, cells := 0, slots := 0, locals := 557 } : Room) s m args below meth c 8 (QI below K Γ α s args) Γ α σ 121 [(0, .ref (α 50)), (1, .int x1), (2, .int x2), (3, .int x3), (6, .int x6), (7, .int x7)] [] := by
  obtain ⟨hx, hb, hml, hown, hts, hK, hD, hr, hlk⟩ := id X
  have hA : ∀ q, s.heap.size ≤ q → AM α s.heap.size q := fun q h => Or.inr h
  intro x1 x2 x3 x6 x7 σ hwp H locs ls hP hS hl
  unfold mw_curtains_121 at hwp
  refine lv_iload hx hb dX4_curtains_121 (lv_at hl 4 rfl) ?_
  refine lv_istore (lv' := [(4, .int x6), (0, .ref (α 50)), (1, .int x1), (2, .int x2), (3, .int x3), (6, .int x6), (7, .int x7)]) hx hb dX4_curtains_123 hl (by decide) rfl (fun ls hl => ?_)
  refine lv_iload hx hb dX4_curtains_125 (lv_at hl 6 rfl) ?_
  refine lv_istore (lv' := [(5, .int x7), (4, .int x6), (0, .ref (α 50)), (1, .int x1), (2, .int x2), (3, .int x3), (6, .int x6), (7, .int x7)]) hx hb dX4_curtains_127 hl (by decide) rfl (fun ls hl => ?_)
  refine lv_iinc (v := x6 + 1) (lv' := [(6, .int (x6 + 1)), (5, .int x7), (4, .int x6), (0, .ref (α 50)), (1, .int x1), (2, .int x2), (3, .int x3), (7, .int x7)]) hx hb dX4_curtains_129 hl (k := 6) rfl rfl (by decide) rfl (fun ls hl => ?_)
  refine lv_goto (tgt := 35) hx hb dX4_curtains_132 (by decide) ?_
  exact hL35 _ _ _ _ _ _ σ hwp H locs ls hP hS (lv_sub hl [3, 4, 5, 6, 2, 1, 0] rfl)
def mw_curtains_81 (K : Int32 → MSt → Prop) (L35 : Int32 → Int32 → Int32 → Int32 → Int32 → Int32 → MSt → Prop) (x1 : Int32) (x2 : Int32) (x3 : Int32) (x4 : Int32) (x5 : Int32) (x6 : Int32) (t0 : Int32) (σ : MSt) : Prop :=
  ((x4 = (-1)) → (mw_curtains_121 K L35 x1 x2 x3 x6 t0 σ)) ∧ ((¬ (x4 = (-1))) → (((t0 < x5) → (L35 x1 x2 x3 x4 x5 (x6 + 1) σ)) ∧ ((¬ (t0 < x5)) → (((¬ (t0 = x5)) → (mw_curtains_121 K L35 x1 x2 x3 x6 t0 σ)) ∧ ((t0 = x5) → (mw_many σ (fun r4 => mw_many σ (fun r5 => ((r4 < r5) → (mw_curtains_121 K L35 x1 x2 x3 x6 t0 σ)) ∧ ((¬ (r4 < r5)) → (L35 x1 x2 x3 x4 x5 (x6 + 1) σ))) x4) x6))))))
set_option maxHeartbeats 4000000 in
set_option maxRecDepth 100000 in
theorem mk_curtains_81 {p : Program} {l : Launch} {e : Env} {s : State} {m : MethodId} {args : Array Value} {below : List Frame} {meth : Method} {c : Code} {Γ : GA} {α : Nat → Nat} {K : Int32 → MSt → Prop} (X : CM p s m args meth c cX4_curtains 8 (some .int) Γ α) {L35 : Int32 → Int32 → Int32 → Int32 → Int32 → Int32 → MSt → Prop} (hL35 : ∀ (x1 : Int32) (x2 : Int32) (x3 : Int32) (x4 : Int32) (x5 : Int32) (x6 : Int32) (σ : MSt), L35 x1 x2 x3 x4 x5 x6 σ → TM p l e ({ frames := 25, cells := 0, slots := 0, locals := 557 } : Room) s m args below meth c 8 (QI below K Γ α s args) Γ α σ 35 [(0, .ref (α 50)), (1, .int x1), (2, .int x2), (3, .int x3), (4, .int x4), (5, .int x5), (6, .int x6)] []) : ∀ (x1 : Int32) (x2 : Int32) (x3 : Int32) (x4 : Int32) (x5 : Int32) (x6 : Int32) (t0 : Int32) (σ : MSt), mw_curtains_81 K L35 x1 x2 x3 x4 x5 x6 t0 σ → TM p l e ({ frames := 25, cells := 0, slots := 0, locals := 557 } : Room) s m args below meth c 8 (QI below K Γ α s args) Γ α σ 81 [(0, .ref (α 50)), (1, .int x1), (2, .int x2), (3, .int x3), (4, .int x4), (5, .int x5), (6, .int x6)] [.int t0] := by
  obtain ⟨hx, hb, hml, hown, hts, hK, hD, hr, hlk⟩ := id X
  have hA : ∀ q, s.heap.size ≤ q → AM α s.heap.size q := fun q h => Or.inr h
  intro x1 x2 x3 x4 x5 x6 t0 σ hwp H locs ls hP hS hl
  unfold mw_curtains_81 at hwp
  refine lv_istore (lv' := [(7, .int t0), (0, .ref (α 50)), (1, .int x1), (2, .int x2), (3, .int x3), (4, .int x4), (5, .int x5), (6, .int x6)]) hx hb dX4_curtains_81 hl (by decide) rfl (fun ls hl => ?_)
  refine lv_iload hx hb dX4_curtains_83 (lv_at hl 5 rfl) ?_
  refine lv_iconst (v := (-1)) hx hb dX4_curtains_85 (by decide) ?_
  refine lv_icmp_eq (tgt := 121) hx hb dX4_curtains_86 (by decide) (fun c1 => ?_) (fun c1 => ?_)
  · replace hwp := hwp.1 c1
    exact mk_curtains_121 X hL35 _ _ _ _ _ σ hwp H locs ls hP hS (lv_sub hl [1, 2, 3, 4, 7, 0] rfl)
  · replace hwp := hwp.2 c1
    refine lv_iload hx hb dX4_curtains_89 (lv_at hl 0 rfl) ?_
    refine lv_iload hx hb dX4_curtains_91 (lv_at hl 6 rfl) ?_
    refine lv_icmp_lt (tgt := 129) hx hb dX4_curtains_93 (by decide) (fun c2 => ?_) (fun c2 => ?_)
    · replace hwp := hwp.1 c2
      refine lv_iinc (v := x6 + 1) (lv' := [(6, .int (x6 + 1)), (7, .int t0), (0, .ref (α 50)), (1, .int x1), (2, .int x2), (3, .int x3), (4, .int x4), (5, .int x5)]) hx hb dX4_curtains_129 hl (k := 7) rfl rfl (by decide) rfl (fun ls hl => ?_)
      refine lv_goto (tgt := 35) hx hb dX4_curtains_132 (by decide) ?_
      exact hL35 _ _ _ _ _ _ σ hwp H locs ls hP hS (lv_sub hl [2, 3, 4, 5, 6, 7, 0] rfl)
    · replace hwp := hwp.2 c2
      refine lv_iload hx hb dX4_curtains_96 (lv_at hl 0 rfl) ?_
      refine lv_iload hx hb dX4_curtains_98 (lv_at hl 6 rfl) ?_
      refine lv_icmp_ne (tgt := 121) hx hb dX4_curtains_100 (by decide) (fun c3 => ?_) (fun c3 => ?_)
      · replace hwp := hwp.1 c3
        exact mk_curtains_121 X hL35 _ _ _ _ _ σ hwp H locs ls hP hS (lv_sub hl [1, 2, 3, 4, 7, 0] rfl)
      · replace hwp := hwp.2 c3
        refine lv_aload_n hx hb dX4_curtains_103 rfl (lv_at hl 1 rfl) ?_
        refine lv_iload hx hb dX4_curtains_104 (lv_at hl 7 rfl) ?_
        refine m_calli ⟨hx, hb, hml, hown, hts⟩ hK hD hA hP hS (mt_many hwp) (cwV 1 hts (lw_V q1549 q1551 qs39 q79 q1552) rfl rfl rfl (by decide +kernel) ⟨Nat.le_of_ble_eq_true rfl, Nat.le_of_ble_eq_true rfl⟩) rfl hl.1 rfl (Nat.le_of_ble_eq_true rfl) dX4_curtains_106 ⟨Nat.zero_le _, Nat.zero_le _⟩ (fun r4 u H locs hk hP hS => ?_)
        obtain ⟨hwp, eu⟩ := hk
        rw [eu] at hP
        refine lv_aload_n hx hb dX4_curtains_109 rfl (lv_at hl 1 rfl) ?_
        refine lv_iload hx hb dX4_curtains_110 (lv_at hl 5 rfl) ?_
        refine m_calli ⟨hx, hb, hml, hown, hts⟩ hK hD hA hP hS (mt_many hwp) (cwV 1 hts (lw_V q1549 q1551 qs39 q79 q1552) rfl rfl rfl (by decide +kernel) ⟨Nat.le_of_ble_eq_true rfl, Nat.le_of_ble_eq_true rfl⟩) rfl hl.1 rfl (Nat.le_of_ble_eq_true rfl) dX4_curtains_112 ⟨Nat.zero_le _, Nat.zero_le _⟩ (fun r5 u H locs hk hP hS => ?_)
        obtain ⟨hwp, eu⟩ := hk
        rw [eu] at hP
        refine lv_icmp_lt (tgt := 121) hx hb dX4_curtains_115 (by decide) (fun c6 => ?_) (fun c6 => ?_)
        · replace hwp := hwp.1 c6
          exact mk_curtains_121 X hL35 _ _ _ _ _ σ hwp H locs ls hP hS (lv_sub hl [1, 2, 3, 4, 7, 0] rfl)
        · replace hwp := hwp.2 c6
          refine lv_goto (tgt := 129) hx hb dX4_curtains_118 (by decide) ?_
          refine lv_iinc (v := x6 + 1) (lv' := [(6, .int (x6 + 1)), (7, .int t0), (0, .ref (α 50)), (1, .int x1), (2, .int x2), (3, .int x3), (4, .int x4), (5, .int x5)]) hx hb dX4_curtains_129 hl (k := 7) rfl rfl (by decide) rfl (fun ls hl => ?_)
          refine lv_goto (tgt := 35) hx hb dX4_curtains_132 (by decide) ?_
          exact hL35 _ _ _ _ _ _ σ hwp H locs ls hP hS (lv_sub hl [2, 3, 4, 5, 6, 7, 0] rfl)
def mw_curtains_35_b (K : Int32 → MSt → Prop) (L35 : Int32 → Int32 → Int32 → Int32 → Int32 → Int32 → MSt → Prop) (x1 : Int32) (x2 : Int32) (x3 : Int32) (x4 : Int32) (x5 : Int32) (x6 : Int32) (σ : MSt) : Prop :=
  ((256 ≤ x6) → (mw_draws (fun σ2 => ((¬ ((x1 - x1 / 2 * 2) = 0)) → (K x5 σ2)) ∧ (((x1 - x1 / 2 * 2) = 0) → (K x4 σ2))) x2 σ)) ∧ ((¬ (256 ≤ x6)) → ((((x6 &&& (x3 ^^^ (-1))) = 0) → (mw_draws (fun σ5 => ((2 ≤ x1) → (mw_rightInBoth (fun r7 σ8 => mw_curtains_81 K L35 x1 x2 x3 x4 x5 x6 r7 σ8) σ5)) ∧ ((¬ (2 ≤ x1)) → (mw_allRight σ5 (fun r9 => mw_many σ5 (fun r10 => mw_curtains_81 K L35 x1 x2 x3 x4 x5 x6 r10 σ5) r9)))) x6 σ)) ∧ ((¬ ((x6 &&& (x3 ^^^ (-1))) = 0)) → (L35 x1 x2 x3 x4 x5 (x6 + 1) σ))))
def mw_curtains_35 (K : Int32 → MSt → Prop) : Nat → Int32 → Int32 → Int32 → Int32 → Int32 → Int32 → MSt → Prop
  | 0 => fun _ _ _ _ _ _ _ => False
  | n + 1 => fun x1 x2 x3 x4 x5 x6 σ => mw_curtains_35_b K (mw_curtains_35 K n) x1 x2 x3 x4 x5 x6 σ
set_option maxHeartbeats 4000000 in
set_option maxRecDepth 100000 in
theorem mk_curtains_35_b {p : Program} {l : Launch} {e : Env} {s : State} {m : MethodId} {args : Array Value} {below : List Frame} {meth : Method} {c : Code} {Γ : GA} {α : Nat → Nat} {K : Int32 → MSt → Prop} (X : CM p s m args meth c cX4_curtains 8 (some .int) Γ α) {L35 : Int32 → Int32 → Int32 → Int32 → Int32 → Int32 → MSt → Prop} (hL35 : ∀ (x1 : Int32) (x2 : Int32) (x3 : Int32) (x4 : Int32) (x5 : Int32) (x6 : Int32) (σ : MSt), L35 x1 x2 x3 x4 x5 x6 σ → TM p l e ({ frames := 25, cells := 0, slots := 0, locals := 557 } : Room) s m args below meth c 8 (QI below K Γ α s args) Γ α σ 35 [(0, .ref (α 50)), (1, .int x1), (2, .int x2), (3, .int x3), (4, .int x4), (5, .int x5), (6, .int x6)] []) : ∀ (x1 : Int32) (x2 : Int32) (x3 : Int32) (x4 : Int32) (x5 : Int32) (x6 : Int32) (σ : MSt), mw_curtains_35_b K L35 x1 x2 x3 x4 x5 x6 σ → TM p l e ({ frames := 25, cells := 0, slots := 0, locals := 557 } : Room) s m args below meth c 8 (QI below K Γ α s args) Γ α σ 35 [(0, .ref (α 50)), (1, .int x1), (2, .int x2), (3, .int x3), (4, .int x4), (5, .int x5), (6, .int x6)] [] := by
  obtain ⟨hx, hb, hml, hown, hts, hK, hD, hr, hlk⟩ := id X
  have hA : ∀ q, s.heap.size ≤ q → AM α s.heap.size q := fun q h => Or.inr h
  intro x1 x2 x3 x4 x5 x6 σ hwp H locs ls hP hS hl
  unfold mw_curtains_35_b at hwp
  refine lv_iload hx hb dX4_curtains_35 (lv_at hl 6 rfl) ?_
  refine lv_sipush (v := 256) hx hb dX4_curtains_37 (by decide) ?_
  refine lv_icmp_ge (tgt := 135) hx hb dX4_curtains_40 (by decide) (fun c1 => ?_) (fun c1 => ?_)
  · replace hwp := hwp.1 c1
    refine lv_aload_n hx hb dX4_curtains_135 rfl (lv_at hl 0 rfl) ?_
    refine lv_iload_n hx hb dX4_curtains_136 rfl (lv_at hl 2 rfl) ?_
    refine m_callv ⟨hx, hb, hml, hown, hts⟩ hK hD hA hP hS (mt_draws hwp) (cwV 1 hts (lw_V q1709 q1711 qs62 q79 q1712) rfl rfl rfl (by decide +kernel) ⟨Nat.le_of_ble_eq_true rfl, Nat.le_of_ble_eq_true rfl⟩) rfl hl.1 rfl (Nat.le_of_ble_eq_true rfl) dX4_curtains_137 ⟨Nat.zero_le _, Nat.zero_le _⟩ (fun σ2 H locs hk hP hS => ?_)
    have hwp := hk
    refine lv_iload_n hx hb dX4_curtains_140 rfl (lv_at hl 1 rfl) ?_
    refine lv_iconst (v := 2) hx hb dX4_curtains_141 (by decide) ?_
    refine lv_irem hx hb dX4_curtains_142 (by decide) ?_
    refine lv_if_ne (tgt := 151) hx hb dX4_curtains_143 (by decide) (fun c3 => ?_) (fun c3 => ?_)
    · replace hwp := hwp.1 c3
      refine lv_iload hx hb dX4_curtains_151 (lv_at hl 5 rfl) ?_
      exact m_iret hx hb hr hlk hK hP hS hwp dX4_curtains_153
    · replace hwp := hwp.2 c3
      refine lv_iload hx hb dX4_curtains_146 (lv_at hl 4 rfl) ?_
      refine lv_goto (tgt := 153) hx hb dX4_curtains_148 (by decide) ?_
      exact m_iret hx hb hr hlk hK hP hS hwp dX4_curtains_153
  · replace hwp := hwp.2 c1
    refine lv_iload hx hb dX4_curtains_43 (lv_at hl 6 rfl) ?_
    refine lv_iload_n hx hb dX4_curtains_45 rfl (lv_at hl 3 rfl) ?_
    refine lv_iconst (v := (-1)) hx hb dX4_curtains_46 (by decide) ?_
    refine lv_ixor hx hb dX4_curtains_47 ?_
    refine lv_iand hx hb dX4_curtains_48 ?_
    refine lv_if_eq (tgt := 55) hx hb dX4_curtains_49 (by decide) (fun c4 => ?_) (fun c4 => ?_)
    · replace hwp := hwp.1 c4
      refine lv_aload_n hx hb dX4_curtains_55 rfl (lv_at hl 0 rfl) ?_
      refine lv_iload hx hb dX4_curtains_56 (lv_at hl 6 rfl) ?_
      refine m_callv ⟨hx, hb, hml, hown, hts⟩ hK hD hA hP hS (mt_draws hwp) (cwV 1 hts (lw_V q1709 q1711 qs62 q79 q1712) rfl rfl rfl (by decide +kernel) ⟨Nat.le_of_ble_eq_true rfl, Nat.le_of_ble_eq_true rfl⟩) rfl hl.1 rfl (Nat.le_of_ble_eq_true rfl) dX4_curtains_58 ⟨Nat.zero_le _, Nat.zero_le _⟩ (fun σ5 H locs hk hP hS => ?_)
      have hwp := hk
      refine lv_iload_n hx hb dX4_curtains_61 rfl (lv_at hl 1 rfl) ?_
      refine lv_iconst (v := 2) hx hb dX4_curtains_62 (by decide) ?_
      refine lv_icmp_ge (tgt := 77) hx hb dX4_curtains_63 (by decide) (fun c6 => ?_) (fun c6 => ?_)
      · replace hwp := hwp.1 c6
        refine lv_aload_n hx hb dX4_curtains_77 rfl (lv_at hl 0 rfl) ?_
        refine m_calli ⟨hx, hb, hml, hown, hts⟩ hK hD hA hP hS (mt_rightInBoth hwp) (cwV 0 hts (lw_V q1713 q1715 qs63 q79 q1716) rfl rfl rfl (by decide +kernel) ⟨Nat.le_of_ble_eq_true rfl, Nat.le_of_ble_eq_true rfl⟩) rfl hl.1 rfl (Nat.le_of_ble_eq_true rfl) dX4_curtains_78 ⟨Nat.zero_le _, Nat.zero_le _⟩ (fun r7 σ8 H locs hk hP hS => ?_)
        have hwp := hk
        exact mk_curtains_81 X hL35 _ _ _ _ _ _ _ σ8 hwp H locs ls hP hS (lv_sub hl [0, 1, 2, 3, 4, 5, 6] rfl)
      · replace hwp := hwp.2 c6
        refine lv_aload_n hx hb dX4_curtains_66 rfl (lv_at hl 0 rfl) ?_
        refine lv_aload_n hx hb dX4_curtains_67 rfl (lv_at hl 0 rfl) ?_
        refine m_calli ⟨hx, hb, hml, hown, hts⟩ hK hD hA hP hS (mt_allRight hwp) (cwV 0 hts (lw_V q1665 q1667 qs56 q79 q1668) rfl rfl rfl (by decide +kernel) ⟨Nat.le_of_ble_eq_true rfl, Nat.le_of_ble_eq_true rfl⟩) rfl hl.1 rfl (Nat.le_of_ble_eq_true rfl) dX4_curtains_68 ⟨Nat.zero_le _, Nat.zero_le _⟩ (fun r9 u H locs hk hP hS => ?_)
        obtain ⟨hwp, eu⟩ := hk
        rw [eu] at hP
        refine m_calli ⟨hx, hb, hml, hown, hts⟩ hK hD hA hP hS (mt_many hwp) (cwV 1 hts (lw_V q1549 q1551 qs39 q79 q1552) rfl rfl rfl (by decide +kernel) ⟨Nat.le_of_ble_eq_true rfl, Nat.le_of_ble_eq_true rfl⟩) rfl hl.1 rfl (Nat.le_of_ble_eq_true rfl) dX4_curtains_71 ⟨Nat.zero_le _, Nat.zero_le _⟩ (fun r10 u H locs hk hP hS => ?_)
        obtain ⟨hwp, eu⟩ := hk
        rw [eu] at hP
        refine lv_goto (tgt := 81) hx hb dX4_curtains_74 (by decide) ?_
        exact mk_curtains_81 X hL35 _ _ _ _ _ _ _ σ5 hwp H locs ls hP hS (lv_sub hl [0, 1, 2, 3, 4, 5, 6] rfl)
    · replace hwp := hwp.2 c4
      refine lv_goto (tgt := 129) hx hb dX4_curtains_52 (by decide) ?_
      refine lv_iinc (v := x6 + 1) (lv' := [(6, .int (x6 + 1)), (0, .ref (α 50)), (1, .int x1), (2, .int x2), (3, .int x3), (4, .int x4), (5, .int x5)]) hx hb dX4_curtains_129 hl (k := 6) rfl rfl (by decide) rfl (fun ls hl => ?_)
      refine lv_goto (tgt := 35) hx hb dX4_curtains_132 (by decide) ?_
      exact hL35 _ _ _ _ _ _ σ hwp H locs ls hP hS (lv_sub hl [1, 2, 3, 4, 5, 6, 0] rfl)
set_option maxHeartbeats 4000000 in
set_option maxRecDepth 100000 in
theorem mk_curtains_35 {p : Program} {l : Launch} {e : Env} {s : State} {m : MethodId} {args : Array Value} {below : List Frame} {meth : Method} {c : Code} {Γ : GA} {α : Nat → Nat} {K : Int32 → MSt → Prop} (X : CM p s m args meth c cX4_curtains 8 (some .int) Γ α) : ∀ n (x1 : Int32) (x2 : Int32) (x3 : Int32) (x4 : Int32) (x5 : Int32) (x6 : Int32) (σ : MSt), mw_curtains_35 K n x1 x2 x3 x4 x5 x6 σ → TM p l e ({ frames := 25, cells := 0, slots := 0, locals := 557 } : Room) s m args below meth c 8 (QI below K Γ α s args) Γ α σ 35 [(0, .ref (α 50)), (1, .int x1), (2, .int x2), (3, .int x3), (4, .int x4), (5, .int x5), (6, .int x6)] [] := by
  intro n
  induction n with
  | zero => intro _ _ _ _ _ _ _ hwp; exact hwp.elim
  | succ n ih => intro x1 x2 x3 x4 x5 x6 σ hwp; exact mk_curtains_35_b X ih x1 x2 x3 x4 x5 x6 σ hwp
def mw_curtains (K : Int32 → MSt → Prop) (x1 : Int32) (σ : MSt) : Prop :=
  ((x1 < 0) → (mw_curtains_9 K σ)) ∧ ((¬ (x1 < 0)) → (((x1 ≤ 3) → (mw_drawnOnes σ (fun r3 => mw_houses σ (fun r4 => ∃ n, mw_curtains_35 K n x1 r3 r4 (-1) 0 0 σ)))) ∧ ((¬ (x1 ≤ 3)) → (mw_curtains_9 K σ))))
set_option maxHeartbeats 4000000 in
set_option maxRecDepth 100000 in
theorem mt_curtains {l : Launch} {Γ : GA} {α : Nat → Nat} {σ : MSt} {K : Int32 → MSt → Prop} {x1 : Int32} (hwp : mw_curtains K x1 σ) : mI l yX4_curtains cX4_curtains 8 (some .int) ({ frames := 25, cells := 0, slots := 0, locals := 557 } : Room) Γ α [.int x1] σ K := by
  intro sz
  refine m_of (by decide) rfl [(0, .ref (α 50)), (1, .int x1)] (fun _ h => h) (Nat.le_of_ble_eq_true rfl) ?_
  intro p e s m args below meth c hsz X H locs ls hP hS hl
  subst hsz
  obtain ⟨hx, hb, hml, hown, hts, hK, hD, hr, hlk⟩ := id X
  have hA : ∀ q, s.heap.size ≤ q → AM α s.heap.size q := fun q h => Or.inr h
  unfold mw_curtains at hwp
  refine lv_iload_n hx hb dX4_curtains_0 rfl (lv_at hl 1 rfl) ?_
  refine lv_if_lt (tgt := 9) hx hb dX4_curtains_1 (by decide) (fun c1 => ?_) (fun c1 => ?_)
  · replace hwp := hwp.1 c1
    exact mk_curtains_9 X σ hwp H locs ls hP hS (lv_sub hl [0] rfl)
  · replace hwp := hwp.2 c1
    refine lv_iload_n hx hb dX4_curtains_4 rfl (lv_at hl 1 rfl) ?_
    refine lv_iconst (v := 3) hx hb dX4_curtains_5 (by decide) ?_
    refine lv_icmp_le (tgt := 16) hx hb dX4_curtains_6 (by decide) (fun c2 => ?_) (fun c2 => ?_)
    · replace hwp := hwp.1 c2
      refine lv_aload_n hx hb dX4_curtains_16 rfl (lv_at hl 0 rfl) ?_
      refine m_calli ⟨hx, hb, hml, hown, hts⟩ hK hD hA hP hS (mt_drawnOnes hwp) (cwV 0 hts (lw_V q1701 q1703 qs60 q79 q1704) rfl rfl rfl (by decide +kernel) ⟨Nat.le_of_ble_eq_true rfl, Nat.le_of_ble_eq_true rfl⟩) rfl hl.1 rfl (Nat.le_of_ble_eq_true rfl) dX4_curtains_17 ⟨Nat.zero_le _, Nat.zero_le _⟩ (fun r3 u H locs hk hP hS => ?_)
      obtain ⟨hwp, eu⟩ := hk
      rw [eu] at hP
      refine lv_istore_n (lv' := [(2, .int r3), (0, .ref (α 50)), (1, .int x1)]) hx hb dX4_curtains_20 rfl hl (by decide) rfl (fun ls hl => ?_)
      refine lv_aload_n hx hb dX4_curtains_21 rfl (lv_at hl 1 rfl) ?_
      refine m_calli ⟨hx, hb, hml, hown, hts⟩ hK hD hA hP hS (mt_houses hwp) (cwV 0 hts (lw_V q1705 q1707 qs61 q79 q1708) rfl rfl rfl (by decide +kernel) ⟨Nat.le_of_ble_eq_true rfl, Nat.le_of_ble_eq_true rfl⟩) rfl hl.1 rfl (Nat.le_of_ble_eq_true rfl) dX4_curtains_22 ⟨Nat.zero_le _, Nat.zero_le _⟩ (fun r4 u H locs hk hP hS => ?_)
      obtain ⟨hwp, eu⟩ := hk
      rw [eu] at hP
      refine lv_istore_n (lv' := [(3, .int r4), (2, .int r3), (0, .ref (α 50)), (1, .int x1)]) hx hb dX4_curtains_25 rfl hl (by decide) rfl (fun ls hl => ?_)
      refine lv_iconst (v := (-1)) hx hb dX4_curtains_26 (by decide) ?_
      refine lv_istore (lv' := [(4, .int (-1)), (3, .int r4), (2, .int r3), (0, .ref (α 50)), (1, .int x1)]) hx hb dX4_curtains_27 hl (by decide) rfl (fun ls hl => ?_)
      refine lv_iconst (v := 0) hx hb dX4_curtains_29 (by decide) ?_
      refine lv_istore (lv' := [(5, .int 0), (4, .int (-1)), (3, .int r4), (2, .int r3), (0, .ref (α 50)), (1, .int x1)]) hx hb dX4_curtains_30 hl (by decide) rfl (fun ls hl => ?_)
      refine lv_iconst (v := 0) hx hb dX4_curtains_32 (by decide) ?_
      refine lv_istore (lv' := [(6, .int 0), (5, .int 0), (4, .int (-1)), (3, .int r4), (2, .int r3), (0, .ref (α 50)), (1, .int x1)]) hx hb dX4_curtains_33 hl (by decide) rfl (fun ls hl => ?_)
      obtain ⟨n, hwp⟩ := hwp
      exact mk_curtains_35 X n _ _ _ _ _ _ σ hwp H locs ls hP hS (lv_sub hl [5, 6, 4, 3, 2, 1, 0] rfl)
    · replace hwp := hwp.2 c2
      exact mk_curtains_9 X σ hwp H locs ls hP hS (lv_sub hl [0] rfl)
/-! draw -/
def mw_draw_38 (K : Int32 → MSt → Prop) (x1 : Int32) (x4 : Int32) (t0 : Int32) (t1 : Int32) (σ : MSt) : Prop :=
  vp_in t1 (lenM 12) ∧ (∀ σ2, σ2 = sI σ 12 t1.toNatClampNeg t0 → (vp_in x1 (lenM 12) ∧ (((¬ (x4 = (σ2.2.1 12 x1.toNatClampNeg))) → (K 1 σ2)) ∧ ((x4 = (σ2.2.1 12 x1.toNatClampNeg)) → (K 0 σ2)))))
set_option maxHeartbeats 4000000 in
set_option maxRecDepth 100000 in
theorem mk_draw_38 {p : Program} {l : Launch} {e : Env} {s : State} {m : MethodId} {args : Array Value} {below : List Frame} {meth : Method} {c : Code} {Γ : GA} {α : Nat → Nat} {K : Int32 → MSt → Prop} (X : CM p s m args meth c cX4_draw 5 (some .int) Γ α) : ∀ (x1 : Int32) (x4 : Int32) (t0 : Int32) (t1 : Int32) (σ : MSt), mw_draw_38 K x1 x4 t0 t1 σ → TM p l e ({ frames := 2, cells := 0, slots := 0, locals := 42 } : Room) s m args below meth c 5 (QI below K Γ α s args) Γ α σ 38 [(0, .ref (α 50)), (1, .int x1), (4, .int x4)] [.int t0, .int t1, .ref (α 12)] := by
  obtain ⟨hx, hb, hml, hown, hts, hK, hD, hr, hlk⟩ := id X
  have hA : ∀ q, s.heap.size ≤ q → AM α s.heap.size q := fun q h => Or.inr h
  intro x1 x4 t0 t1 σ hwp H locs ls hP hS hl
  unfold mw_draw_38 at hwp
  obtain ⟨hi1, hwp⟩ := hwp
  refine m_iast hx hb hK hD hP hS 12 rfl hi1 dX4_draw_38 (fun H locs hP hS => ?_)
  obtain ⟨σ2, eσ2⟩ : ∃ z, z = sI σ 12 t1.toNatClampNeg t0 := ⟨_, rfl⟩
  rw [← eσ2] at hP
  replace hwp := hwp σ2 eσ2
  refine lv_iload hx hb dX4_draw_39 (lv_at hl 2 rfl) ?_
  refine lv_aload_n hx hb dX4_draw_41 rfl (lv_at hl 0 rfl) ?_
  refine m_geta hx hb hts hown hK hP 12 (by decide) rfl q1358 rfl dX4_draw_42 ?_
  refine lv_iload_n hx hb dX4_draw_45 rfl (lv_at hl 1 rfl) ?_
  obtain ⟨hi3, hwp⟩ := hwp
  refine m_iald hx hb hK hP 12 rfl hi3 dX4_draw_46 ?_
  refine lv_icmp_ne (tgt := 54) hx hb dX4_draw_47 (by decide) (fun c4 => ?_) (fun c4 => ?_)
  · replace hwp := hwp.1 c4
    refine lv_iconst (v := 1) hx hb dX4_draw_54 (by decide) ?_
    exact m_iret hx hb hr hlk hK hP hS hwp dX4_draw_55
  · replace hwp := hwp.2 c4
    refine lv_iconst (v := 0) hx hb dX4_draw_50 (by decide) ?_
    refine lv_goto (tgt := 55) hx hb dX4_draw_51 (by decide) ?_
    exact m_iret hx hb hr hlk hK hP hS hwp dX4_draw_55
def mw_draw (K : Int32 → MSt → Prop) (x1 : Int32) (x2 : Int32) (σ : MSt) : Prop :=
  mw_barred σ (fun r1 => ((r1 = 0) → (vp_in x1 (lenM 12) ∧ (((x2 = 0) → (mw_draw_38 K x1 (σ.2.1 12 x1.toNatClampNeg) 0 x1 σ)) ∧ ((¬ (x2 = 0)) → (mw_draw_38 K x1 (σ.2.1 12 x1.toNatClampNeg) 1 x1 σ))))) ∧ ((¬ (r1 = 0)) → (mw_no (fun r5 σ6 => K r5 σ6) r1 σ))) x1
set_option maxHeartbeats 4000000 in
set_option maxRecDepth 100000 in
theorem mt_draw {l : Launch} {Γ : GA} {α : Nat → Nat} {σ : MSt} {K : Int32 → MSt → Prop} {x1 : Int32} {x2 : Int32} (hwp : mw_draw K x1 x2 σ) : mI l yX4_draw cX4_draw 5 (some .int) ({ frames := 2, cells := 0, slots := 0, locals := 42 } : Room) Γ α [.int x1, .int x2] σ K := by
  intro sz
  refine m_of (by decide) rfl [(0, .ref (α 50)), (1, .int x1), (2, .int x2)] (fun _ h => h) (Nat.le_of_ble_eq_true rfl) ?_
  intro p e s m args below meth c hsz X H locs ls hP hS hl
  subst hsz
  obtain ⟨hx, hb, hml, hown, hts, hK, hD, hr, hlk⟩ := id X
  have hA : ∀ q, s.heap.size ≤ q → AM α s.heap.size q := fun q h => Or.inr h
  unfold mw_draw at hwp
  refine lv_aload_n hx hb dX4_draw_0 rfl (lv_at hl 0 rfl) ?_
  refine lv_iload_n hx hb dX4_draw_1 rfl (lv_at hl 1 rfl) ?_
  refine m_calli ⟨hx, hb, hml, hown, hts⟩ hK hD hA hP hS (mt_barred hwp) (cwV 1 hts (lw_V q1589 q1591 qs43 q79 q1592) rfl rfl rfl (by decide +kernel) ⟨Nat.le_of_ble_eq_true rfl, Nat.le_of_ble_eq_true rfl⟩) rfl hl.1 rfl (Nat.le_of_ble_eq_true rfl) dX4_draw_2 ⟨Nat.zero_le _, Nat.zero_le _⟩ (fun r1 u H locs hk hP hS => ?_)
  obtain ⟨hwp, eu⟩ := hk
  rw [eu] at hP
  refine lv_istore_n (lv' := [(3, .int r1), (0, .ref (α 50)), (1, .int x1), (2, .int x2)]) hx hb dX4_draw_5 rfl hl (by decide) rfl (fun ls hl => ?_)
  refine lv_iload_n hx hb dX4_draw_6 rfl (lv_at hl 0 rfl) ?_
  refine lv_if_eq (tgt := 16) hx hb dX4_draw_7 (by decide) (fun c2 => ?_) (fun c2 => ?_)
  · replace hwp := hwp.1 c2
    refine lv_aload_n hx hb dX4_draw_16 rfl (lv_at hl 1 rfl) ?_
    refine m_geta hx hb hts hown hK hP 12 (by decide) rfl q1358 rfl dX4_draw_17 ?_
    refine lv_iload_n hx hb dX4_draw_20 rfl (lv_at hl 2 rfl) ?_
    obtain ⟨hi3, hwp⟩ := hwp
    refine m_iald hx hb hK hP 12 rfl hi3 dX4_draw_21 ?_
    refine lv_istore (lv' := [(4, .int (σ.2.1 12 x1.toNatClampNeg)), (3, .int r1), (0, .ref (α 50)), (1, .int x1), (2, .int x2)]) hx hb dX4_draw_22 hl (by decide) rfl (fun ls hl => ?_)
    refine lv_aload_n hx hb dX4_draw_24 rfl (lv_at hl 2 rfl) ?_
    refine m_geta hx hb hts hown hK hP 12 (by decide) rfl q1358 rfl dX4_draw_25 ?_
    refine lv_iload_n hx hb dX4_draw_28 rfl (lv_at hl 3 rfl) ?_
    refine lv_iload_n hx hb dX4_draw_29 rfl (lv_at hl 4 rfl) ?_
    refine lv_if_eq (tgt := 37) hx hb dX4_draw_30 (by decide) (fun c4 => ?_) (fun c4 => ?_)
    · replace hwp := hwp.1 c4
      refine lv_iconst (v := 0) hx hb dX4_draw_37 (by decide) ?_
      exact mk_draw_38 X _ _ _ _ σ hwp H locs ls hP hS (lv_sub hl [2, 3, 0] rfl)
    · replace hwp := hwp.2 c4
      refine lv_iconst (v := 1) hx hb dX4_draw_33 (by decide) ?_
      refine lv_goto (tgt := 38) hx hb dX4_draw_34 (by decide) ?_
      exact mk_draw_38 X _ _ _ _ σ hwp H locs ls hP hS (lv_sub hl [2, 3, 0] rfl)
  · replace hwp := hwp.2 c2
    refine lv_aload_n hx hb dX4_draw_10 rfl (lv_at hl 1 rfl) ?_
    refine lv_iload_n hx hb dX4_draw_11 rfl (lv_at hl 0 rfl) ?_
    refine m_calli ⟨hx, hb, hml, hown, hts⟩ hK hD hA hP hS (mt_no hwp) (cwV 1 hts (lw_V q1469 q1471 qs25 q79 q1472) rfl rfl rfl (by decide +kernel) ⟨Nat.le_of_ble_eq_true rfl, Nat.le_of_ble_eq_true rfl⟩) rfl hl.1 rfl (Nat.le_of_ble_eq_true rfl) dX4_draw_12 ⟨Nat.zero_le _, Nat.zero_le _⟩ (fun r5 σ6 H locs hk hP hS => ?_)
    have hwp := hk
    exact m_iret hx hb hr hlk hK hP hS hwp dX4_draw_15
/-! draws3 -/
def mw_draws3 (K : Int32 → MSt → Prop) (σ : MSt) : Prop :=
  ∀ σ1, σ1 = sF σ 4 (((σ.1 4) * 1103515245) + 12345) → (K ((((σ1.1 4).toUInt32 >>> ((16 : Int32).toUInt32 &&& Int32.toUInt32 31)).toInt32) - (((σ1.1 4).toUInt32 >>> ((16 : Int32).toUInt32 &&& Int32.toUInt32 31)).toInt32) / 3 * 3) σ1)
set_option maxHeartbeats 4000000 in
set_option maxRecDepth 100000 in
theorem mt_draws3 {l : Launch} {Γ : GA} {α : Nat → Nat} {σ : MSt} {K : Int32 → MSt → Prop} (hwp : mw_draws3 K  σ) : mI l yX4_draws3 cX4_draws3 1 (some .int) ({ frames := 0, cells := 0, slots := 0, locals := 0 } : Room) Γ α [] σ K := by
  intro sz
  refine m_of (by decide) rfl [(0, .ref (α 50))] (fun _ h => h) (Nat.le_of_ble_eq_true rfl) ?_
  intro p e s m args below meth c hsz X H locs ls hP hS hl
  subst hsz
  obtain ⟨hx, hb, hml, hown, hts, hK, hD, hr, hlk⟩ := id X
  have hA : ∀ q, s.heap.size ≤ q → AM α s.heap.size q := fun q h => Or.inr h
  unfold mw_draws3 at hwp
  refine lv_aload_n hx hb dX4_draws3_0 rfl (lv_at hl 0 rfl) ?_
  refine lv_aload_n hx hb dX4_draws3_1 rfl (lv_at hl 0 rfl) ?_
  refine m_geti hx hb hts hown hK hP 4 (by decide) rfl q1350 rfl dX4_draws3_2 ?_
  refine lv_ldcw hx hb hown (hts _ q1789) dX4_draws3_5 ?_
  refine lv_imul hx hb dX4_draws3_8 ?_
  refine lv_sipush (v := 12345) hx hb dX4_draws3_9 (by decide) ?_
  refine lv_iadd hx hb dX4_draws3_12 ?_
  refine m_put hx hb hts hown hK hD hP hS 4 (by decide) rfl q1350 rfl rfl rfl rfl dX4_draws3_13 (fun H locs hP hS => ?_)
  obtain ⟨σ1, eσ1⟩ : ∃ z, z = sF σ 4 (((σ.1 4) * 1103515245) + 12345) := ⟨_, rfl⟩
  rw [← eσ1] at hP
  replace hwp := hwp σ1 eσ1
  refine lv_aload_n hx hb dX4_draws3_16 rfl (lv_at hl 0 rfl) ?_
  refine m_geti hx hb hts hown hK hP 4 (by decide) rfl q1350 rfl dX4_draws3_17 ?_
  refine lv_bipush (v := 16) hx hb dX4_draws3_20 (by decide) ?_
  refine lv_iushr (v := ((σ1.1 4).toUInt32 >>> ((16 : Int32).toUInt32 &&& Int32.toUInt32 31)).toInt32) hx hb dX4_draws3_22 rfl ?_
  refine lv_iconst (v := 3) hx hb dX4_draws3_23 (by decide) ?_
  refine lv_irem hx hb dX4_draws3_24 (by decide) ?_
  exact m_iret hx hb hr hlk hK hP hS hwp dX4_draws3_25
/-! element -/
def mw_element (σ : MSt) (K : Int64 → Prop) (x1 : Int32) (x2 : Int32) : Prop :=
  mw_isShelf σ (fun r1 => ((r1 = 0) → (K 0)) ∧ ((¬ (r1 = 0)) → (vp_in x1 (lenM 14) ∧ (((¬ ((σ.2.1 14 x1.toNatClampNeg) = 1)) → (K 0)) ∧ (((σ.2.1 14 x1.toNatClampNeg) = 1) → (((x2 < 0) → (K 0)) ∧ ((¬ (x2 < 0)) → (vp_in x1 (lenM 16) ∧ ((((σ.2.1 16 x1.toNatClampNeg) ≤ x2) → (K 0)) ∧ ((¬ ((σ.2.1 16 x1.toNatClampNeg) ≤ x2)) → (vp_in ((160 * x1) + x2) (lenM 18) ∧ (K (σ.2.2 18 ((160 * x1) + x2).toNatClampNeg))))))))))))) x1
set_option maxHeartbeats 4000000 in
set_option maxRecDepth 100000 in
theorem mt_element {l : Launch} {Γ : GA} {α : Nat → Nat} {σ : MSt} {K : Int64 → Prop} {x1 : Int32} {x2 : Int32} (hwp : mw_element σ K x1 x2) : mL l yX4_element cX4_element 3 (some .long) ({ frames := 1, cells := 0, slots := 0, locals := 21 } : Room) Γ α [.int x1, .int x2] σ (fun r u => K r ∧ u = σ) := by
  intro sz
  refine m_of (by decide) rfl [(0, .ref (α 50)), (1, .int x1), (2, .int x2)] (fun _ h => h) (Nat.le_of_ble_eq_true rfl) ?_
  intro p e s m args below meth c hsz X H locs ls hP hS hl
  subst hsz
  obtain ⟨hx, hb, hml, hown, hts, hK, hD, hr, hlk⟩ := id X
  have hA : ∀ q, s.heap.size ≤ q → AM α s.heap.size q := fun q h => Or.inr h
  unfold mw_element at hwp
  refine lv_aload_n hx hb dX4_element_0 rfl (lv_at hl 0 rfl) ?_
  refine lv_iload_n hx hb dX4_element_1 rfl (lv_at hl 1 rfl) ?_
  refine m_calli ⟨hx, hb, hml, hown, hts⟩ hK hD hA hP hS (mt_isShelf hwp) (cwV 1 hts (lw_V q1465 q1467 qs24 q79 q1468) rfl rfl rfl (by decide +kernel) ⟨Nat.le_of_ble_eq_true rfl, Nat.le_of_ble_eq_true rfl⟩) rfl hl.1 rfl (Nat.le_of_ble_eq_true rfl) dX4_element_2 ⟨Nat.zero_le _, Nat.zero_le _⟩ (fun r1 u H locs hk hP hS => ?_)
  obtain ⟨hwp, eu⟩ := hk
  rw [eu] at hP
  refine lv_if_eq (tgt := 47) hx hb dX4_element_5 (by decide) (fun c2 => ?_) (fun c2 => ?_)
  · replace hwp := hwp.1 c2
    refine lv_lconst (v := 0) hx hb dX4_element_47 (by decide) ?_
    exact m_lret hx hb hr hlk hK hP hS ⟨hwp, rfl⟩ dX4_element_48
  · replace hwp := hwp.2 c2
    refine lv_aload_n hx hb dX4_element_8 rfl (lv_at hl 0 rfl) ?_
    refine m_geta hx hb hts hown hK hP 14 (by decide) rfl q1360 rfl dX4_element_9 ?_
    refine lv_iload_n hx hb dX4_element_12 rfl (lv_at hl 1 rfl) ?_
    obtain ⟨hi3, hwp⟩ := hwp
    refine m_iald hx hb hK hP 14 rfl hi3 dX4_element_13 ?_
    refine lv_iconst (v := 1) hx hb dX4_element_14 (by decide) ?_
    refine lv_icmp_ne (tgt := 47) hx hb dX4_element_15 (by decide) (fun c4 => ?_) (fun c4 => ?_)
    · replace hwp := hwp.1 c4
      refine lv_lconst (v := 0) hx hb dX4_element_47 (by decide) ?_
      exact m_lret hx hb hr hlk hK hP hS ⟨hwp, rfl⟩ dX4_element_48
    · replace hwp := hwp.2 c4
      refine lv_iload_n hx hb dX4_element_18 rfl (lv_at hl 2 rfl) ?_
      refine lv_if_lt (tgt := 47) hx hb dX4_element_19 (by decide) (fun c5 => ?_) (fun c5 => ?_)
      · replace hwp := hwp.1 c5
        refine lv_lconst (v := 0) hx hb dX4_element_47 (by decide) ?_
        exact m_lret hx hb hr hlk hK hP hS ⟨hwp, rfl⟩ dX4_element_48
      · replace hwp := hwp.2 c5
        refine lv_iload_n hx hb dX4_element_22 rfl (lv_at hl 2 rfl) ?_
        refine lv_aload_n hx hb dX4_element_23 rfl (lv_at hl 0 rfl) ?_
        refine m_geta hx hb hts hown hK hP 16 (by decide) rfl q1362 rfl dX4_element_24 ?_
        refine lv_iload_n hx hb dX4_element_27 rfl (lv_at hl 1 rfl) ?_
        obtain ⟨hi6, hwp⟩ := hwp
        refine m_iald hx hb hK hP 16 rfl hi6 dX4_element_28 ?_
        refine lv_icmp_ge (tgt := 47) hx hb dX4_element_29 (by decide) (fun c7 => ?_) (fun c7 => ?_)
        · replace hwp := hwp.1 c7
          refine lv_lconst (v := 0) hx hb dX4_element_47 (by decide) ?_
          exact m_lret hx hb hr hlk hK hP hS ⟨hwp, rfl⟩ dX4_element_48
        · replace hwp := hwp.2 c7
          refine lv_aload_n hx hb dX4_element_32 rfl (lv_at hl 0 rfl) ?_
          refine m_geta hx hb hts hown hK hP 18 (by decide) rfl q1364 rfl dX4_element_33 ?_
          refine lv_sipush (v := 160) hx hb dX4_element_36 (by decide) ?_
          refine lv_iload_n hx hb dX4_element_39 rfl (lv_at hl 1 rfl) ?_
          refine lv_imul hx hb dX4_element_40 ?_
          refine lv_iload_n hx hb dX4_element_41 rfl (lv_at hl 2 rfl) ?_
          refine lv_iadd hx hb dX4_element_42 ?_
          obtain ⟨hi8, hwp⟩ := hwp
          refine m_lald hx hb hK hP 18 (Or.inl rfl) hi8 dX4_element_43 ?_
          refine lv_goto (tgt := 48) hx hb dX4_element_44 (by decide) ?_
          exact m_lret hx hb hr hlk hK hP hS ⟨hwp, rfl⟩ dX4_element_48
/-! fault -/
def mw_fault (σ : MSt) (K : Int32 → Prop) : Prop :=
  K (σ.1 5)
set_option maxHeartbeats 4000000 in
set_option maxRecDepth 100000 in
theorem mt_fault {l : Launch} {Γ : GA} {α : Nat → Nat} {σ : MSt} {K : Int32 → Prop} (hwp : mw_fault σ K ) : mI l yX4_fault cX4_fault 1 (some .int) ({ frames := 0, cells := 0, slots := 0, locals := 0 } : Room) Γ α [] σ (fun r u => K r ∧ u = σ) := by
  intro sz
  refine m_of (by decide) rfl [(0, .ref (α 50))] (fun _ h => h) (Nat.le_of_ble_eq_true rfl) ?_
  intro p e s m args below meth c hsz X H locs ls hP hS hl
  subst hsz
  obtain ⟨hx, hb, hml, hown, hts, hK, hD, hr, hlk⟩ := id X
  have hA : ∀ q, s.heap.size ≤ q → AM α s.heap.size q := fun q h => Or.inr h
  unfold mw_fault at hwp
  refine lv_aload_n hx hb dX4_fault_0 rfl (lv_at hl 0 rfl) ?_
  refine m_geti hx hb hts hown hK hP 5 (by decide) rfl q1351 rfl dX4_fault_1 ?_
  exact m_iret hx hb hr hlk hK hP hS ⟨hwp, rfl⟩ dX4_fault_4
/-! noMuch -/
def mw_noMuch (K : Int32 → MSt → Prop) (x1 : Int32) (σ : MSt) : Prop :=
  vp_in (-x1) (lenM 6) ∧ (vp_in (-x1) (lenM 6) ∧ (∀ σ3, σ3 = sI σ 6 (-x1).toNatClampNeg ((σ.2.1 6 (-x1).toNatClampNeg) + 1) → (K (x1 - 1000) σ3)))
set_option maxHeartbeats 4000000 in
set_option maxRecDepth 100000 in
theorem mt_noMuch {l : Launch} {Γ : GA} {α : Nat → Nat} {σ : MSt} {K : Int32 → MSt → Prop} {x1 : Int32} (hwp : mw_noMuch K x1 σ) : mI l yX4_noMuch cX4_noMuch 2 (some .int) ({ frames := 0, cells := 0, slots := 0, locals := 0 } : Room) Γ α [.int x1] σ K := by
  intro sz
  refine m_of (by decide) rfl [(0, .ref (α 50)), (1, .int x1)] (fun _ h => h) (Nat.le_of_ble_eq_true rfl) ?_
  intro p e s m args below meth c hsz X H locs ls hP hS hl
  subst hsz
  obtain ⟨hx, hb, hml, hown, hts, hK, hD, hr, hlk⟩ := id X
  have hA : ∀ q, s.heap.size ≤ q → AM α s.heap.size q := fun q h => Or.inr h
  unfold mw_noMuch at hwp
  refine lv_aload_n hx hb dX4_noMuch_0 rfl (lv_at hl 0 rfl) ?_
  refine m_geta hx hb hts hown hK hP 6 (by decide) rfl q1352 rfl dX4_noMuch_1 ?_
  refine lv_iload_n hx hb dX4_noMuch_4 rfl (lv_at hl 1 rfl) ?_
  refine lv_ineg hx hb dX4_noMuch_5 ?_
  refine lv_dup2_11 hx hb dX4_noMuch_6 rfl rfl ?_
  obtain ⟨hi1, hwp⟩ := hwp
  refine m_iald hx hb hK hP 6 rfl hi1 dX4_noMuch_7 ?_
  refine lv_iconst (v := 1) hx hb dX4_noMuch_8 (by decide) ?_
  refine lv_iadd hx hb dX4_noMuch_9 ?_
  obtain ⟨hi2, hwp⟩ := hwp
  refine m_iast hx hb hK hD hP hS 6 rfl hi2 dX4_noMuch_10 (fun H locs hP hS => ?_)
  obtain ⟨σ3, eσ3⟩ : ∃ z, z = sI σ 6 (-x1).toNatClampNeg ((σ.2.1 6 (-x1).toNatClampNeg) + 1) := ⟨_, rfl⟩
  rw [← eσ3] at hP
  replace hwp := hwp σ3 eσ3
  refine lv_iload_n hx hb dX4_noMuch_11 rfl (lv_at hl 1 rfl) ?_
  refine lv_sipush (v := 1000) hx hb dX4_noMuch_12 (by decide) ?_
  refine lv_isub hx hb dX4_noMuch_15 ?_
  exact m_iret hx hb hr hlk hK hP hS hwp dX4_noMuch_16
/-! felled -/
def mw_felled (K : Int32 → MSt → Prop) (x1 : Int32) (σ : MSt) : Prop :=
  mw_isThing σ (fun r1 => ((¬ (r1 = 0)) → (mw_isHouse σ (fun r3 => ((r3 = 0) → (mw_allRight σ (fun r5 => mw_many σ (fun r6 => vp_in x1 (lenM 8) ∧ (vp_in x1 (lenM 8) ∧ (∀ σ9, σ9 = sI σ 8 x1.toNatClampNeg (-100) → (mw_allRight σ9 (fun r10 => mw_many σ9 (fun r11 => vp_in x1 (lenM 8) ∧ (∀ σ13, σ13 = sI σ9 8 x1.toNatClampNeg (σ.2.1 8 x1.toNatClampNeg) → (K (r11 - r6) σ13))) r10))))) r5))) ∧ ((¬ (r3 = 0)) → (mw_noMuch (fun r14 σ15 => K r14 σ15) (-2) σ))) x1)) ∧ ((r1 = 0) → (mw_noMuch (fun r16 σ17 => K r16 σ17) (-1) σ))) x1
set_option maxHeartbeats 4000000 in
set_option maxRecDepth 100000 in
theorem mt_felled {l : Launch} {Γ : GA} {α : Nat → Nat} {σ : MSt} {K : Int32 → MSt → Prop} {x1 : Int32} (hwp : mw_felled K x1 σ) : mI l yX4_felled cX4_felled 4 (some .int) ({ frames := 24, cells := 0, slots := 0, locals := 535 } : Room) Γ α [.int x1] σ K := by
  intro sz
  refine m_of (by decide) rfl [(0, .ref (α 50)), (1, .int x1)] (fun _ h => h) (Nat.le_of_ble_eq_true rfl) ?_
  intro p e s m args below meth c hsz X H locs ls hP hS hl
  subst hsz
  obtain ⟨hx, hb, hml, hown, hts, hK, hD, hr, hlk⟩ := id X
  have hA : ∀ q, s.heap.size ≤ q → AM α s.heap.size q := fun q h => Or.inr h
  unfold mw_felled at hwp
  refine lv_aload_n hx hb dX4_felled_0 rfl (lv_at hl 0 rfl) ?_
  refine lv_iload_n hx hb dX4_felled_1 rfl (lv_at hl 1 rfl) ?_
  refine m_calli ⟨hx, hb, hml, hown, hts⟩ hK hD hA hP hS (mt_isThing hwp) (cwV 1 hts (lw_V q1489 q1491 qs26 q79 q1492) rfl rfl rfl (by decide +kernel) ⟨Nat.le_of_ble_eq_true rfl, Nat.le_of_ble_eq_true rfl⟩) rfl hl.1 rfl (Nat.le_of_ble_eq_true rfl) dX4_felled_2 ⟨Nat.zero_le _, Nat.zero_le _⟩ (fun r1 u H locs hk hP hS => ?_)
  obtain ⟨hwp, eu⟩ := hk
  rw [eu] at hP
  refine lv_if_ne (tgt := 14) hx hb dX4_felled_5 (by decide) (fun c2 => ?_) (fun c2 => ?_)
  · replace hwp := hwp.1 c2
    refine lv_aload_n hx hb dX4_felled_14 rfl (lv_at hl 0 rfl) ?_
    refine lv_iload_n hx hb dX4_felled_15 rfl (lv_at hl 1 rfl) ?_
    refine m_calli ⟨hx, hb, hml, hown, hts⟩ hK hD hA hP hS (mt_isHouse hwp) (cwV 1 hts (lw_V q1501 q1503 qs27 q79 q1504) rfl rfl rfl (by decide +kernel) ⟨Nat.le_of_ble_eq_true rfl, Nat.le_of_ble_eq_true rfl⟩) rfl hl.1 rfl (Nat.le_of_ble_eq_true rfl) dX4_felled_16 ⟨Nat.zero_le _, Nat.zero_le _⟩ (fun r3 u H locs hk hP hS => ?_)
    obtain ⟨hwp, eu⟩ := hk
    rw [eu] at hP
    refine lv_if_eq (tgt := 29) hx hb dX4_felled_19 (by decide) (fun c4 => ?_) (fun c4 => ?_)
    · replace hwp := hwp.1 c4
      refine lv_aload_n hx hb dX4_felled_29 rfl (lv_at hl 0 rfl) ?_
      refine lv_aload_n hx hb dX4_felled_30 rfl (lv_at hl 0 rfl) ?_
      refine m_calli ⟨hx, hb, hml, hown, hts⟩ hK hD hA hP hS (mt_allRight hwp) (cwV 0 hts (lw_V q1665 q1667 qs56 q79 q1668) rfl rfl rfl (by decide +kernel) ⟨Nat.le_of_ble_eq_true rfl, Nat.le_of_ble_eq_true rfl⟩) rfl hl.1 rfl (Nat.le_of_ble_eq_true rfl) dX4_felled_31 ⟨Nat.zero_le _, Nat.zero_le _⟩ (fun r5 u H locs hk hP hS => ?_)
      obtain ⟨hwp, eu⟩ := hk
      rw [eu] at hP
      refine m_calli ⟨hx, hb, hml, hown, hts⟩ hK hD hA hP hS (mt_many hwp) (cwV 1 hts (lw_V q1549 q1551 qs39 q79 q1552) rfl rfl rfl (by decide +kernel) ⟨Nat.le_of_ble_eq_true rfl, Nat.le_of_ble_eq_true rfl⟩) rfl hl.1 rfl (Nat.le_of_ble_eq_true rfl) dX4_felled_34 ⟨Nat.zero_le _, Nat.zero_le _⟩ (fun r6 u H locs hk hP hS => ?_)
      obtain ⟨hwp, eu⟩ := hk
      rw [eu] at hP
      refine lv_istore_n (lv' := [(2, .int r6), (0, .ref (α 50)), (1, .int x1)]) hx hb dX4_felled_37 rfl hl (by decide) rfl (fun ls hl => ?_)
      refine lv_aload_n hx hb dX4_felled_38 rfl (lv_at hl 1 rfl) ?_
      refine m_geta hx hb hts hown hK hP 8 (by decide) rfl q1354 rfl dX4_felled_39 ?_
      refine lv_iload_n hx hb dX4_felled_42 rfl (lv_at hl 2 rfl) ?_
      obtain ⟨hi7, hwp⟩ := hwp
      refine m_iald hx hb hK hP 8 rfl hi7 dX4_felled_43 ?_
      refine lv_istore_n (lv' := [(3, .int (σ.2.1 8 x1.toNatClampNeg)), (2, .int r6), (0, .ref (α 50)), (1, .int x1)]) hx hb dX4_felled_44 rfl hl (by decide) rfl (fun ls hl => ?_)
      refine lv_aload_n hx hb dX4_felled_45 rfl (lv_at hl 2 rfl) ?_
      refine m_geta hx hb hts hown hK hP 8 (by decide) rfl q1354 rfl dX4_felled_46 ?_
      refine lv_iload_n hx hb dX4_felled_49 rfl (lv_at hl 3 rfl) ?_
      refine lv_bipush (v := (-100)) hx hb dX4_felled_50 (by decide) ?_
      obtain ⟨hi8, hwp⟩ := hwp
      refine m_iast hx hb hK hD hP hS 8 rfl hi8 dX4_felled_52 (fun H locs hP hS => ?_)
      obtain ⟨σ9, eσ9⟩ : ∃ z, z = sI σ 8 x1.toNatClampNeg (-100) := ⟨_, rfl⟩
      rw [← eσ9] at hP
      replace hwp := hwp σ9 eσ9
      refine lv_aload_n hx hb dX4_felled_53 rfl (lv_at hl 2 rfl) ?_
      refine lv_aload_n hx hb dX4_felled_54 rfl (lv_at hl 2 rfl) ?_
      refine m_calli ⟨hx, hb, hml, hown, hts⟩ hK hD hA hP hS (mt_allRight hwp) (cwV 0 hts (lw_V q1665 q1667 qs56 q79 q1668) rfl rfl rfl (by decide +kernel) ⟨Nat.le_of_ble_eq_true rfl, Nat.le_of_ble_eq_true rfl⟩) rfl hl.1 rfl (Nat.le_of_ble_eq_true rfl) dX4_felled_55 ⟨Nat.zero_le _, Nat.zero_le _⟩ (fun r10 u H locs hk hP hS => ?_)
      obtain ⟨hwp, eu⟩ := hk
      rw [eu] at hP
      refine m_calli ⟨hx, hb, hml, hown, hts⟩ hK hD hA hP hS (mt_many hwp) (cwV 1 hts (lw_V q1549 q1551 qs39 q79 q1552) rfl rfl rfl (by decide +kernel) ⟨Nat.le_of_ble_eq_true rfl, Nat.le_of_ble_eq_true rfl⟩) rfl hl.1 rfl (Nat.le_of_ble_eq_true rfl) dX4_felled_58 ⟨Nat.zero_le _, Nat.zero_le _⟩ (fun r11 u H locs hk hP hS => ?_)
      obtain ⟨hwp, eu⟩ := hk
      rw [eu] at hP
      refine lv_iload_n hx hb dX4_felled_61 rfl (lv_at hl 1 rfl) ?_
      refine lv_isub hx hb dX4_felled_62 ?_
      refine lv_istore_n (lv' := [(2, .int (r11 - r6)), (3, .int (σ.2.1 8 x1.toNatClampNeg)), (0, .ref (α 50)), (1, .int x1)]) hx hb dX4_felled_63 rfl hl (by decide) rfl (fun ls hl => ?_)
      refine lv_aload_n hx hb dX4_felled_64 rfl (lv_at hl 2 rfl) ?_
      refine m_geta hx hb hts hown hK hP 8 (by decide) rfl q1354 rfl dX4_felled_65 ?_
      refine lv_iload_n hx hb dX4_felled_68 rfl (lv_at hl 3 rfl) ?_
      refine lv_iload_n hx hb dX4_felled_69 rfl (lv_at hl 1 rfl) ?_
      obtain ⟨hi12, hwp⟩ := hwp
      refine m_iast hx hb hK hD hP hS 8 rfl hi12 dX4_felled_70 (fun H locs hP hS => ?_)
      obtain ⟨σ13, eσ13⟩ : ∃ z, z = sI σ9 8 x1.toNatClampNeg (σ.2.1 8 x1.toNatClampNeg) := ⟨_, rfl⟩
      rw [← eσ13] at hP
      replace hwp := hwp σ13 eσ13
      refine lv_iload_n hx hb dX4_felled_71 rfl (lv_at hl 0 rfl) ?_
      exact m_iret hx hb hr hlk hK hP hS hwp dX4_felled_72
    · replace hwp := hwp.2 c4
      refine lv_aload_n hx hb dX4_felled_22 rfl (lv_at hl 0 rfl) ?_
      refine lv_bipush (v := (-2)) hx hb dX4_felled_23 (by decide) ?_
      refine m_calli ⟨hx, hb, hml, hown, hts⟩ hK hD hA hP hS (mt_noMuch hwp) (cwV 1 hts (lw_V q1725 q1727 qs64 q79 q1728) rfl rfl rfl (by decide +kernel) ⟨Nat.le_of_ble_eq_true rfl, Nat.le_of_ble_eq_true rfl⟩) rfl hl.1 rfl (Nat.le_of_ble_eq_true rfl) dX4_felled_25 ⟨Nat.zero_le _, Nat.zero_le _⟩ (fun r14 σ15 H locs hk hP hS => ?_)
      have hwp := hk
      exact m_iret hx hb hr hlk hK hP hS hwp dX4_felled_28
  · replace hwp := hwp.2 c2
    refine lv_aload_n hx hb dX4_felled_8 rfl (lv_at hl 0 rfl) ?_
    refine lv_iconst (v := (-1)) hx hb dX4_felled_9 (by decide) ?_
    refine m_calli ⟨hx, hb, hml, hown, hts⟩ hK hD hA hP hS (mt_noMuch hwp) (cwV 1 hts (lw_V q1725 q1727 qs64 q79 q1728) rfl rfl rfl (by decide +kernel) ⟨Nat.le_of_ble_eq_true rfl, Nat.le_of_ble_eq_true rfl⟩) rfl hl.1 rfl (Nat.le_of_ble_eq_true rfl) dX4_felled_10 ⟨Nat.zero_le _, Nat.zero_le _⟩ (fun r16 σ17 H locs hk hP hS => ?_)
    have hwp := hk
    exact m_iret hx hb hr hlk hK hP hS hwp dX4_felled_13
/-! first -/
def mw_first_7_b (σ : MSt) (K : Int32 → Prop) (L7 : Int32 → Int32 → Prop) (x1 : Int32) (x2 : Int32) : Prop :=
  (((σ.1 0) ≤ x2) → (K (-1))) ∧ ((¬ ((σ.1 0) ≤ x2)) → (mw_isHouse σ (fun r2 => ((r2 = 0) → (L7 x1 (x2 + 1))) ∧ ((¬ (r2 = 0)) → (((¬ (((x1 >>> (x2 &&& 31)) &&& 1) = 0)) → (L7 x1 (x2 + 1))) ∧ ((((x1 >>> (x2 &&& 31)) &&& 1) = 0) → (K x2))))) x2))
def mw_first_7 (σ : MSt) (K : Int32 → Prop) : Nat → Int32 → Int32 → Prop
  | 0 => fun _ _ => False
  | n + 1 => fun x1 x2 => mw_first_7_b σ K (mw_first_7 σ K n) x1 x2
set_option maxHeartbeats 4000000 in
set_option maxRecDepth 100000 in
theorem mk_first_7_b {p : Program} {l : Launch} {e : Env} {s : State} {m : MethodId} {args : Array Value} {below : List Frame} {meth : Method} {c : Code} {Γ : GA} {α : Nat → Nat} {σ : MSt} {K : Int32 → Prop} (X : CM p s m args meth c cX4_first 3 (some .int) Γ α) {L7 : Int32 → Int32 → Prop} (hL7 : ∀ (x1 : Int32) (x2 : Int32), L7 x1 x2 → TM p l e ({ frames := 24, cells := 0, slots := 0, locals := 535 } : Room) s m args below meth c 3 (QI below (fun r u => K r ∧ u = σ) Γ α s args) Γ α σ 7 [(0, .ref (α 50)), (1, .int x1), (2, .int x2)] []) : ∀ (x1 : Int32) (x2 : Int32), mw_first_7_b σ K L7 x1 x2 → TM p l e ({ frames := 24, cells := 0, slots := 0, locals := 535 } : Room) s m args below meth c 3 (QI below (fun r u => K r ∧ u = σ) Γ α s args) Γ α σ 7 [(0, .ref (α 50)), (1, .int x1), (2, .int x2)] [] := by
  obtain ⟨hx, hb, hml, hown, hts, hK, hD, hr, hlk⟩ := id X
  have hA : ∀ q, s.heap.size ≤ q → AM α s.heap.size q := fun q h => Or.inr h
  intro x1 x2 hwp H locs ls hP hS hl
  unfold mw_first_7_b at hwp
  refine lv_iload_n hx hb dX4_first_7 rfl (lv_at hl 2 rfl) ?_
  refine lv_aload_n hx hb dX4_first_8 rfl (lv_at hl 0 rfl) ?_
  refine m_geti hx hb hts hown hK hP 0 (by decide) rfl q1346 rfl dX4_first_9 ?_
  refine lv_icmp_ge (tgt := 39) hx hb dX4_first_12 (by decide) (fun c1 => ?_) (fun c1 => ?_)
  · replace hwp := hwp.1 c1
    refine lv_iconst (v := (-1)) hx hb dX4_first_39 (by decide) ?_
    exact m_iret hx hb hr hlk hK hP hS ⟨hwp, rfl⟩ dX4_first_40
  · replace hwp := hwp.2 c1
    refine lv_aload_n hx hb dX4_first_15 rfl (lv_at hl 0 rfl) ?_
    refine lv_iload_n hx hb dX4_first_16 rfl (lv_at hl 2 rfl) ?_
    refine m_calli ⟨hx, hb, hml, hown, hts⟩ hK hD hA hP hS (mt_isHouse hwp) (cwV 1 hts (lw_V q1501 q1503 qs27 q79 q1504) rfl rfl rfl (by decide +kernel) ⟨Nat.le_of_ble_eq_true rfl, Nat.le_of_ble_eq_true rfl⟩) rfl hl.1 rfl (Nat.le_of_ble_eq_true rfl) dX4_first_17 ⟨Nat.zero_le _, Nat.zero_le _⟩ (fun r2 u H locs hk hP hS => ?_)
    obtain ⟨hwp, eu⟩ := hk
    rw [eu] at hP
    refine lv_if_eq (tgt := 33) hx hb dX4_first_20 (by decide) (fun c3 => ?_) (fun c3 => ?_)
    · replace hwp := hwp.1 c3
      refine lv_iinc (v := x2 + 1) (lv' := [(2, .int (x2 + 1)), (0, .ref (α 50)), (1, .int x1)]) hx hb dX4_first_33 hl (k := 2) rfl rfl (by decide) rfl (fun ls hl => ?_)
      refine lv_goto (tgt := 7) hx hb dX4_first_36 (by decide) ?_
      exact hL7 _ _ hwp H locs ls hP hS (lv_sub hl [1, 2, 0] rfl)
    · replace hwp := hwp.2 c3
      refine lv_iload_n hx hb dX4_first_23 rfl (lv_at hl 1 rfl) ?_
      refine lv_iload_n hx hb dX4_first_24 rfl (lv_at hl 2 rfl) ?_
      refine lv_ishr hx hb dX4_first_25 ?_
      refine lv_iconst (v := 1) hx hb dX4_first_26 (by decide) ?_
      refine lv_iand hx hb dX4_first_27 ?_
      refine lv_if_ne (tgt := 33) hx hb dX4_first_28 (by decide) (fun c4 => ?_) (fun c4 => ?_)
      · replace hwp := hwp.1 c4
        refine lv_iinc (v := x2 + 1) (lv' := [(2, .int (x2 + 1)), (0, .ref (α 50)), (1, .int x1)]) hx hb dX4_first_33 hl (k := 2) rfl rfl (by decide) rfl (fun ls hl => ?_)
        refine lv_goto (tgt := 7) hx hb dX4_first_36 (by decide) ?_
        exact hL7 _ _ hwp H locs ls hP hS (lv_sub hl [1, 2, 0] rfl)
      · replace hwp := hwp.2 c4
        refine lv_iload_n hx hb dX4_first_31 rfl (lv_at hl 2 rfl) ?_
        exact m_iret hx hb hr hlk hK hP hS ⟨hwp, rfl⟩ dX4_first_32
set_option maxHeartbeats 4000000 in
set_option maxRecDepth 100000 in
theorem mk_first_7 {p : Program} {l : Launch} {e : Env} {s : State} {m : MethodId} {args : Array Value} {below : List Frame} {meth : Method} {c : Code} {Γ : GA} {α : Nat → Nat} {σ : MSt} {K : Int32 → Prop} (X : CM p s m args meth c cX4_first 3 (some .int) Γ α) : ∀ n (x1 : Int32) (x2 : Int32), mw_first_7 σ K n x1 x2 → TM p l e ({ frames := 24, cells := 0, slots := 0, locals := 535 } : Room) s m args below meth c 3 (QI below (fun r u => K r ∧ u = σ) Γ α s args) Γ α σ 7 [(0, .ref (α 50)), (1, .int x1), (2, .int x2)] [] := by
  intro n
  induction n with
  | zero => intro _ _ hwp; exact hwp.elim
  | succ n ih => intro x1 x2 hwp; exact mk_first_7_b X ih x1 x2 hwp
def mw_first (σ : MSt) (K : Int32 → Prop) : Prop :=
  mw_allRight σ (fun r1 => ∃ n, mw_first_7 σ K n r1 0)
set_option maxHeartbeats 4000000 in
set_option maxRecDepth 100000 in
theorem mt_first {l : Launch} {Γ : GA} {α : Nat → Nat} {σ : MSt} {K : Int32 → Prop} (hwp : mw_first σ K ) : mI l yX4_first cX4_first 3 (some .int) ({ frames := 24, cells := 0, slots := 0, locals := 535 } : Room) Γ α [] σ (fun r u => K r ∧ u = σ) := by
  intro sz
  refine m_of (by decide) rfl [(0, .ref (α 50))] (fun _ h => h) (Nat.le_of_ble_eq_true rfl) ?_
  intro p e s m args below meth c hsz X H locs ls hP hS hl
  subst hsz
  obtain ⟨hx, hb, hml, hown, hts, hK, hD, hr, hlk⟩ := id X
  have hA : ∀ q, s.heap.size ≤ q → AM α s.heap.size q := fun q h => Or.inr h
  unfold mw_first at hwp
  refine lv_aload_n hx hb dX4_first_0 rfl (lv_at hl 0 rfl) ?_
  refine m_calli ⟨hx, hb, hml, hown, hts⟩ hK hD hA hP hS (mt_allRight hwp) (cwV 0 hts (lw_V q1665 q1667 qs56 q79 q1668) rfl rfl rfl (by decide +kernel) ⟨Nat.le_of_ble_eq_true rfl, Nat.le_of_ble_eq_true rfl⟩) rfl hl.1 rfl (Nat.le_of_ble_eq_true rfl) dX4_first_1 ⟨Nat.zero_le _, Nat.zero_le _⟩ (fun r1 u H locs hk hP hS => ?_)
  obtain ⟨hwp, eu⟩ := hk
  rw [eu] at hP
  refine lv_istore_n (lv' := [(1, .int r1), (0, .ref (α 50))]) hx hb dX4_first_4 rfl hl (by decide) rfl (fun ls hl => ?_)
  refine lv_iconst (v := 0) hx hb dX4_first_5 (by decide) ?_
  refine lv_istore_n (lv' := [(2, .int 0), (1, .int r1), (0, .ref (α 50))]) hx hb dX4_first_6 rfl hl (by decide) rfl (fun ls hl => ?_)
  obtain ⟨n, hwp⟩ := hwp
  exact mk_first_7 X n _ _ hwp H locs ls hP hS (lv_sub hl [2, 1, 0] rfl)
/-! isFull -/
def mw_isFull (σ : MSt) (K : Int32 → Prop) (x1 : Int32) : Prop :=
  ((¬ (x1 = 0)) → (K 0)) ∧ ((x1 = 0) → (((¬ ((σ.1 0) = 8)) → (K 0)) ∧ (((σ.1 0) = 8) → (K 1))))
set_option maxHeartbeats 4000000 in
set_option maxRecDepth 100000 in
theorem mt_isFull {l : Launch} {Γ : GA} {α : Nat → Nat} {σ : MSt} {K : Int32 → Prop} {x1 : Int32} (hwp : mw_isFull σ K x1) : mI l yX4_isFull cX4_isFull 2 (some .boolean) ({ frames := 0, cells := 0, slots := 0, locals := 0 } : Room) Γ α [.int x1] σ (fun r u => K r ∧ u = σ) := by
  intro sz
  refine m_of (by decide) rfl [(0, .ref (α 50)), (1, .int x1)] (fun _ h => h) (Nat.le_of_ble_eq_true rfl) ?_
  intro p e s m args below meth c hsz X H locs ls hP hS hl
  subst hsz
  obtain ⟨hx, hb, hml, hown, hts, hK, hD, hr, hlk⟩ := id X
  have hA : ∀ q, s.heap.size ≤ q → AM α s.heap.size q := fun q h => Or.inr h
  unfold mw_isFull at hwp
  refine lv_iload_n hx hb dX4_isFull_0 rfl (lv_at hl 1 rfl) ?_
  refine lv_if_ne (tgt := 17) hx hb dX4_isFull_1 (by decide) (fun c1 => ?_) (fun c1 => ?_)
  · replace hwp := hwp.1 c1
    refine lv_iconst (v := 0) hx hb dX4_isFull_17 (by decide) ?_
    exact m_zret (v := 0) hx hb hr hlk hK hP hS (Or.inl rfl) ⟨hwp, rfl⟩ dX4_isFull_18
  · replace hwp := hwp.2 c1
    refine lv_aload_n hx hb dX4_isFull_4 rfl (lv_at hl 0 rfl) ?_
    refine m_geti hx hb hts hown hK hP 0 (by decide) rfl q1346 rfl dX4_isFull_5 ?_
    refine lv_bipush (v := 8) hx hb dX4_isFull_8 (by decide) ?_
    refine lv_icmp_ne (tgt := 17) hx hb dX4_isFull_10 (by decide) (fun c2 => ?_) (fun c2 => ?_)
    · replace hwp := hwp.1 c2
      refine lv_iconst (v := 0) hx hb dX4_isFull_17 (by decide) ?_
      exact m_zret (v := 0) hx hb hr hlk hK hP hS (Or.inl rfl) ⟨hwp, rfl⟩ dX4_isFull_18
    · replace hwp := hwp.2 c2
      refine lv_iconst (v := 1) hx hb dX4_isFull_13 (by decide) ?_
      refine lv_goto (tgt := 18) hx hb dX4_isFull_14 (by decide) ?_
      exact m_zret (v := 1) hx hb hr hlk hK hP hS (Or.inr rfl) ⟨hwp, rfl⟩ dX4_isFull_18
/-! isSo -/
def mw_isSo (σ : MSt) (K : Int32 → Prop) (x1 : Int32) (x2 : Int32) : Prop :=
  ((x1 < 0 ∨ 2 < x1) → (mw_isThing σ (fun r2 => ((r2 = 0) → (K 0)) ∧ ((¬ (r2 = 0)) → (mw_isHouse σ (fun r4 => ((r4 = 0) → (K 0)) ∧ ((¬ (r4 = 0)) → (((x2 = 0) → (K 1)) ∧ ((¬ (x2 = 0)) → (vp_in 0 (lenM 21) ∧ ((((σ.1 25) = (σ.2.1 21 (0 : Int32).toNatClampNeg)) → (K 0)) ∧ ((¬ ((σ.1 25) = (σ.2.1 21 (0 : Int32).toNatClampNeg))) → (K 1)))))))) (σ.1 25)))) (σ.1 25))) ∧ (x1 = 0 → (((¬ (x2 = 0)) → (((¬ (x2 = 3)) → (((9 < (σ.1 25)) → (K 0)) ∧ ((¬ (9 < (σ.1 25))) → (((¬ (x2 = 2)) → (K 1)) ∧ ((x2 = 2) → (vp_in 1 (lenM 21) ∧ (mw_at σ (fun r14 => ((¬ (r14 = (-1))) → (K 0)) ∧ ((r14 = (-1)) → (K 1))) (σ.2.1 21 (1 : Int32).toNatClampNeg) (σ.1 25)))))))) ∧ ((x2 = 3) → (((20 < (σ.1 25)) → (K 0)) ∧ ((¬ (20 < (σ.1 25))) → (K 1)))))) ∧ ((x2 = 0) → (((6 < (σ.1 25)) → (K 0)) ∧ ((¬ (6 < (σ.1 25))) → (K 1)))))) ∧ (x1 = 1 → (((1 < (σ.1 25)) → (K 0)) ∧ ((¬ (1 < (σ.1 25))) → (K 1)))) ∧ (x1 = 2 → ((((σ.1 25) < 1) → (K 0)) ∧ ((¬ ((σ.1 25) < 1)) → (((9 < (σ.1 25)) → (K 0)) ∧ ((¬ (9 < (σ.1 25))) → (K 1))))))
set_option maxHeartbeats 4000000 in
set_option maxRecDepth 100000 in
theorem mt_isSo {l : Launch} {Γ : GA} {α : Nat → Nat} {σ : MSt} {K : Int32 → Prop} {x1 : Int32} {x2 : Int32} (hwp : mw_isSo σ K x1 x2) : mI l yX4_isSo cX4_isSo 3 (some .boolean) ({ frames := 1, cells := 0, slots := 0, locals := 23 } : Room) Γ α [.int x1, .int x2] σ (fun r u => K r ∧ u = σ) := by
  intro sz
  refine m_of (by decide) rfl [(0, .ref (α 50)), (1, .int x1), (2, .int x2)] (fun _ h => h) (Nat.le_of_ble_eq_true rfl) ?_
  intro p e s m args below meth c hsz X H locs ls hP hS hl
  subst hsz
  obtain ⟨hx, hb, hml, hown, hts, hK, hD, hr, hlk⟩ := id X
  have hA : ∀ q, s.heap.size ≤ q → AM α s.heap.size q := fun q h => Or.inr h
  unfold mw_isSo at hwp
  refine lv_iload_n hx hb dX4_isSo_0 rfl (lv_at hl 1 rfl) ?_
  by_cases c1 : (x1 < 0 ∨ 2 < x1)
  · replace hwp := hwp.1 c1
    refine lv_tableOut (tgt := 146) hx hb dX4_isSo_1 (sw_out c1) (by decide) ?_
    refine lv_aload_n hx hb dX4_isSo_146 rfl (lv_at hl 0 rfl) ?_
    refine lv_aload_n hx hb dX4_isSo_147 rfl (lv_at hl 0 rfl) ?_
    refine m_geti hx hb hts hown hK hP 25 (by decide) rfl q1371 rfl dX4_isSo_148 ?_
    refine m_calli ⟨hx, hb, hml, hown, hts⟩ hK hD hA hP hS (mt_isThing hwp) (cwV 1 hts (lw_V q1489 q1491 qs26 q79 q1492) rfl rfl rfl (by decide +kernel) ⟨Nat.le_of_ble_eq_true rfl, Nat.le_of_ble_eq_true rfl⟩) rfl hl.1 rfl (Nat.le_of_ble_eq_true rfl) dX4_isSo_151 ⟨Nat.zero_le _, Nat.zero_le _⟩ (fun r2 u H locs hk hP hS => ?_)
    obtain ⟨hwp, eu⟩ := hk
    rw [eu] at hP
    refine lv_if_eq (tgt := 189) hx hb dX4_isSo_154 (by decide) (fun c3 => ?_) (fun c3 => ?_)
    · replace hwp := hwp.1 c3
      refine lv_iconst (v := 0) hx hb dX4_isSo_189 (by decide) ?_
      exact m_zret (v := 0) hx hb hr hlk hK hP hS (Or.inl rfl) ⟨hwp, rfl⟩ dX4_isSo_190
    · replace hwp := hwp.2 c3
      refine lv_aload_n hx hb dX4_isSo_157 rfl (lv_at hl 0 rfl) ?_
      refine lv_aload_n hx hb dX4_isSo_158 rfl (lv_at hl 0 rfl) ?_
      refine m_geti hx hb hts hown hK hP 25 (by decide) rfl q1371 rfl dX4_isSo_159 ?_
      refine m_calli ⟨hx, hb, hml, hown, hts⟩ hK hD hA hP hS (mt_isHouse hwp) (cwV 1 hts (lw_V q1501 q1503 qs27 q79 q1504) rfl rfl rfl (by decide +kernel) ⟨Nat.le_of_ble_eq_true rfl, Nat.le_of_ble_eq_true rfl⟩) rfl hl.1 rfl (Nat.le_of_ble_eq_true rfl) dX4_isSo_162 ⟨Nat.zero_le _, Nat.zero_le _⟩ (fun r4 u H locs hk hP hS => ?_)
      obtain ⟨hwp, eu⟩ := hk
      rw [eu] at hP
      refine lv_if_eq (tgt := 189) hx hb dX4_isSo_165 (by decide) (fun c5 => ?_) (fun c5 => ?_)
      · replace hwp := hwp.1 c5
        refine lv_iconst (v := 0) hx hb dX4_isSo_189 (by decide) ?_
        exact m_zret (v := 0) hx hb hr hlk hK hP hS (Or.inl rfl) ⟨hwp, rfl⟩ dX4_isSo_190
      · replace hwp := hwp.2 c5
        refine lv_iload_n hx hb dX4_isSo_168 rfl (lv_at hl 2 rfl) ?_
        refine lv_if_eq (tgt := 185) hx hb dX4_isSo_169 (by decide) (fun c6 => ?_) (fun c6 => ?_)
        · replace hwp := hwp.1 c6
          refine lv_iconst (v := 1) hx hb dX4_isSo_185 (by decide) ?_
          refine lv_goto (tgt := 190) hx hb dX4_isSo_186 (by decide) ?_
          exact m_zret (v := 1) hx hb hr hlk hK hP hS (Or.inr rfl) ⟨hwp, rfl⟩ dX4_isSo_190
        · replace hwp := hwp.2 c6
          refine lv_aload_n hx hb dX4_isSo_172 rfl (lv_at hl 0 rfl) ?_
          refine m_geti hx hb hts hown hK hP 25 (by decide) rfl q1371 rfl dX4_isSo_173 ?_
          refine lv_aload_n hx hb dX4_isSo_176 rfl (lv_at hl 0 rfl) ?_
          refine m_geta hx hb hts hown hK hP 21 (by decide) rfl q1367 rfl dX4_isSo_177 ?_
          refine lv_iconst (v := 0) hx hb dX4_isSo_180 (by decide) ?_
          obtain ⟨hi7, hwp⟩ := hwp
          refine m_iald hx hb hK hP 21 rfl hi7 dX4_isSo_181 ?_
          refine lv_icmp_eq (tgt := 189) hx hb dX4_isSo_182 (by decide) (fun c8 => ?_) (fun c8 => ?_)
          · replace hwp := hwp.1 c8
            refine lv_iconst (v := 0) hx hb dX4_isSo_189 (by decide) ?_
            exact m_zret (v := 0) hx hb hr hlk hK hP hS (Or.inl rfl) ⟨hwp, rfl⟩ dX4_isSo_190
          · replace hwp := hwp.2 c8
            refine lv_iconst (v := 1) hx hb dX4_isSo_185 (by decide) ?_
            refine lv_goto (tgt := 190) hx hb dX4_isSo_186 (by decide) ?_
            exact m_zret (v := 1) hx hb hr hlk hK hP hS (Or.inr rfl) ⟨hwp, rfl⟩ dX4_isSo_190
  · obtain ⟨j, hj, ej⟩ := sw_of (n := 2) (by decide) c1
    match j, hj, ej with
    | 0, _, ej =>
      have ej : x1 = 0 := ej
      replace hwp := hwp.2.1 ej
      refine lv_tableIn (off := 27) (tgt := 28) hx hb dX4_isSo_1 (by rw [ej]; decide) (by rw [ej]; decide) (by rw [ej]; rfl) (by decide) ?_
      refine lv_iload_n hx hb dX4_isSo_28 rfl (lv_at hl 2 rfl) ?_
      refine lv_if_ne (tgt := 49) hx hb dX4_isSo_29 (by decide) (fun c9 => ?_) (fun c9 => ?_)
      · replace hwp := hwp.1 c9
        refine lv_iload_n hx hb dX4_isSo_49 rfl (lv_at hl 2 rfl) ?_
        refine lv_iconst (v := 3) hx hb dX4_isSo_50 (by decide) ?_
        refine lv_icmp_ne (tgt := 71) hx hb dX4_isSo_51 (by decide) (fun c10 => ?_) (fun c10 => ?_)
        · replace hwp := hwp.1 c10
          refine lv_aload_n hx hb dX4_isSo_71 rfl (lv_at hl 0 rfl) ?_
          refine m_geti hx hb hts hown hK hP 25 (by decide) rfl q1371 rfl dX4_isSo_72 ?_
          refine lv_bipush (v := 9) hx hb dX4_isSo_75 (by decide) ?_
          refine lv_icmp_gt (tgt := 107) hx hb dX4_isSo_77 (by decide) (fun c11 => ?_) (fun c11 => ?_)
          · replace hwp := hwp.1 c11
            refine lv_iconst (v := 0) hx hb dX4_isSo_107 (by decide) ?_
            exact m_zret (v := 0) hx hb hr hlk hK hP hS (Or.inl rfl) ⟨hwp, rfl⟩ dX4_isSo_108
          · replace hwp := hwp.2 c11
            refine lv_iload_n hx hb dX4_isSo_80 rfl (lv_at hl 2 rfl) ?_
            refine lv_iconst (v := 2) hx hb dX4_isSo_81 (by decide) ?_
            refine lv_icmp_ne (tgt := 103) hx hb dX4_isSo_82 (by decide) (fun c12 => ?_) (fun c12 => ?_)
            · replace hwp := hwp.1 c12
              refine lv_iconst (v := 1) hx hb dX4_isSo_103 (by decide) ?_
              refine lv_goto (tgt := 108) hx hb dX4_isSo_104 (by decide) ?_
              exact m_zret (v := 1) hx hb hr hlk hK hP hS (Or.inr rfl) ⟨hwp, rfl⟩ dX4_isSo_108
            · replace hwp := hwp.2 c12
              refine lv_aload_n hx hb dX4_isSo_85 rfl (lv_at hl 0 rfl) ?_
              refine lv_aload_n hx hb dX4_isSo_86 rfl (lv_at hl 0 rfl) ?_
              refine m_geta hx hb hts hown hK hP 21 (by decide) rfl q1367 rfl dX4_isSo_87 ?_
              refine lv_iconst (v := 1) hx hb dX4_isSo_90 (by decide) ?_
              obtain ⟨hi13, hwp⟩ := hwp
              refine m_iald hx hb hK hP 21 rfl hi13 dX4_isSo_91 ?_
              refine lv_aload_n hx hb dX4_isSo_92 rfl (lv_at hl 0 rfl) ?_
              refine m_geti hx hb hts hown hK hP 25 (by decide) rfl q1371 rfl dX4_isSo_93 ?_
              refine m_calli ⟨hx, hb, hml, hown, hts⟩ hK hD hA hP hS (mt_at hwp) (cwV 2 hts (lw_V q1541 q1543 qs37 q79 q1544) rfl rfl rfl (by decide +kernel) ⟨Nat.le_of_ble_eq_true rfl, Nat.le_of_ble_eq_true rfl⟩) rfl hl.1 rfl (Nat.le_of_ble_eq_true rfl) dX4_isSo_96 ⟨Nat.zero_le _, Nat.zero_le _⟩ (fun r14 u H locs hk hP hS => ?_)
              obtain ⟨hwp, eu⟩ := hk
              rw [eu] at hP
              refine lv_iconst (v := (-1)) hx hb dX4_isSo_99 (by decide) ?_
              refine lv_icmp_ne (tgt := 107) hx hb dX4_isSo_100 (by decide) (fun c15 => ?_) (fun c15 => ?_)
              · replace hwp := hwp.1 c15
                refine lv_iconst (v := 0) hx hb dX4_isSo_107 (by decide) ?_
                exact m_zret (v := 0) hx hb hr hlk hK hP hS (Or.inl rfl) ⟨hwp, rfl⟩ dX4_isSo_108
              · replace hwp := hwp.2 c15
                refine lv_iconst (v := 1) hx hb dX4_isSo_103 (by decide) ?_
                refine lv_goto (tgt := 108) hx hb dX4_isSo_104 (by decide) ?_
                exact m_zret (v := 1) hx hb hr hlk hK hP hS (Or.inr rfl) ⟨hwp, rfl⟩ dX4_isSo_108
        · replace hwp := hwp.2 c10
          refine lv_aload_n hx hb dX4_isSo_54 rfl (lv_at hl 0 rfl) ?_
          refine m_geti hx hb hts hown hK hP 25 (by decide) rfl q1371 rfl dX4_isSo_55 ?_
          refine lv_bipush (v := 20) hx hb dX4_isSo_58 (by decide) ?_
          refine lv_icmp_gt (tgt := 67) hx hb dX4_isSo_60 (by decide) (fun c16 => ?_) (fun c16 => ?_)
          · replace hwp := hwp.1 c16
            refine lv_iconst (v := 0) hx hb dX4_isSo_67 (by decide) ?_
            refine lv_goto (tgt := 108) hx hb dX4_isSo_68 (by decide) ?_
            exact m_zret (v := 0) hx hb hr hlk hK hP hS (Or.inl rfl) ⟨hwp, rfl⟩ dX4_isSo_108
          · replace hwp := hwp.2 c16
            refine lv_iconst (v := 1) hx hb dX4_isSo_63 (by decide) ?_
            refine lv_goto (tgt := 108) hx hb dX4_isSo_64 (by decide) ?_
            exact m_zret (v := 1) hx hb hr hlk hK hP hS (Or.inr rfl) ⟨hwp, rfl⟩ dX4_isSo_108
      · replace hwp := hwp.2 c9
        refine lv_aload_n hx hb dX4_isSo_32 rfl (lv_at hl 0 rfl) ?_
        refine m_geti hx hb hts hown hK hP 25 (by decide) rfl q1371 rfl dX4_isSo_33 ?_
        refine lv_bipush (v := 6) hx hb dX4_isSo_36 (by decide) ?_
        refine lv_icmp_gt (tgt := 45) hx hb dX4_isSo_38 (by decide) (fun c17 => ?_) (fun c17 => ?_)
        · replace hwp := hwp.1 c17
          refine lv_iconst (v := 0) hx hb dX4_isSo_45 (by decide) ?_
          refine lv_goto (tgt := 108) hx hb dX4_isSo_46 (by decide) ?_
          exact m_zret (v := 0) hx hb hr hlk hK hP hS (Or.inl rfl) ⟨hwp, rfl⟩ dX4_isSo_108
        · replace hwp := hwp.2 c17
          refine lv_iconst (v := 1) hx hb dX4_isSo_41 (by decide) ?_
          refine lv_goto (tgt := 108) hx hb dX4_isSo_42 (by decide) ?_
          exact m_zret (v := 1) hx hb hr hlk hK hP hS (Or.inr rfl) ⟨hwp, rfl⟩ dX4_isSo_108
    | 1, _, ej =>
      have ej : x1 = 1 := ej
      replace hwp := hwp.2.2.1 ej
      refine lv_tableIn (off := 108) (tgt := 109) hx hb dX4_isSo_1 (by rw [ej]; decide) (by rw [ej]; decide) (by rw [ej]; rfl) (by decide) ?_
      refine lv_aload_n hx hb dX4_isSo_109 rfl (lv_at hl 0 rfl) ?_
      refine m_geti hx hb hts hown hK hP 25 (by decide) rfl q1371 rfl dX4_isSo_110 ?_
      refine lv_iconst (v := 1) hx hb dX4_isSo_113 (by decide) ?_
      refine lv_icmp_gt (tgt := 121) hx hb dX4_isSo_114 (by decide) (fun c18 => ?_) (fun c18 => ?_)
      · replace hwp := hwp.1 c18
        refine lv_iconst (v := 0) hx hb dX4_isSo_121 (by decide) ?_
        exact m_zret (v := 0) hx hb hr hlk hK hP hS (Or.inl rfl) ⟨hwp, rfl⟩ dX4_isSo_122
      · replace hwp := hwp.2 c18
        refine lv_iconst (v := 1) hx hb dX4_isSo_117 (by decide) ?_
        refine lv_goto (tgt := 122) hx hb dX4_isSo_118 (by decide) ?_
        exact m_zret (v := 1) hx hb hr hlk hK hP hS (Or.inr rfl) ⟨hwp, rfl⟩ dX4_isSo_122
    | 2, _, ej =>
      have ej : x1 = 2 := ej
      replace hwp := hwp.2.2.2 ej
      refine lv_tableIn (off := 122) (tgt := 123) hx hb dX4_isSo_1 (by rw [ej]; decide) (by rw [ej]; decide) (by rw [ej]; rfl) (by decide) ?_
      refine lv_aload_n hx hb dX4_isSo_123 rfl (lv_at hl 0 rfl) ?_
      refine m_geti hx hb hts hown hK hP 25 (by decide) rfl q1371 rfl dX4_isSo_124 ?_
      refine lv_iconst (v := 1) hx hb dX4_isSo_127 (by decide) ?_
      refine lv_icmp_lt (tgt := 144) hx hb dX4_isSo_128 (by decide) (fun c19 => ?_) (fun c19 => ?_)
      · replace hwp := hwp.1 c19
        refine lv_iconst (v := 0) hx hb dX4_isSo_144 (by decide) ?_
        exact m_zret (v := 0) hx hb hr hlk hK hP hS (Or.inl rfl) ⟨hwp, rfl⟩ dX4_isSo_145
      · replace hwp := hwp.2 c19
        refine lv_aload_n hx hb dX4_isSo_131 rfl (lv_at hl 0 rfl) ?_
        refine m_geti hx hb hts hown hK hP 25 (by decide) rfl q1371 rfl dX4_isSo_132 ?_
        refine lv_bipush (v := 9) hx hb dX4_isSo_135 (by decide) ?_
        refine lv_icmp_gt (tgt := 144) hx hb dX4_isSo_137 (by decide) (fun c20 => ?_) (fun c20 => ?_)
        · replace hwp := hwp.1 c20
          refine lv_iconst (v := 0) hx hb dX4_isSo_144 (by decide) ?_
          exact m_zret (v := 0) hx hb hr hlk hK hP hS (Or.inl rfl) ⟨hwp, rfl⟩ dX4_isSo_145
        · replace hwp := hwp.2 c20
          refine lv_iconst (v := 1) hx hb dX4_isSo_140 (by decide) ?_
          refine lv_goto (tgt := 145) hx hb dX4_isSo_141 (by decide) ?_
          exact m_zret (v := 1) hx hb hr hlk hK hP hS (Or.inr rfl) ⟨hwp, rfl⟩ dX4_isSo_145
    | j + 3, hj, _ => exact absurd hj (by omega)
