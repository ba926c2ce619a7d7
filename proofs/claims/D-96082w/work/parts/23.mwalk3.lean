/-! night -/
def mw_night_15 (K : Int32 → MSt → Prop) (σ : MSt) : Prop :=
  mw_no (fun r1 σ2 => K r1 σ2) (-6) σ
set_option maxHeartbeats 4000000 in
set_option maxRecDepth 100000 in
theorem mk_night_15 {p : Program} {l : Launch} {e : Env} {s : State} {m : MethodId} {args : Array Value} {below : List Frame} {meth : Method} {c : Code} {Γ : GA} {α : Nat → Nat} {K : Int32 → MSt → Prop} (X : CM p s m args meth c cX4_night 4 (some .int) Γ α) : ∀ (σ : MSt), mw_night_15 K  σ → TM p l e ({ frames := 24, cells := 0, slots := 0, locals := 535 } : Room) s m args below meth c 4 (QI below K Γ α s args) Γ α σ 15 [(0, .ref (α 50))] [] := by
  obtain ⟨hx, hb, hml, hown, hts, hK, hD, hr, hlk⟩ := id X
  have hA : ∀ q, s.heap.size ≤ q → AM α s.heap.size q := fun q h => Or.inr h
  intro  σ hwp H locs ls hP hS hl
  unfold mw_night_15 at hwp
  refine lv_aload_n hx hb dX4_night_15 rfl (lv_at hl 0 rfl) ?_
  refine lv_bipush (v := (-6)) hx hb dX4_night_16 (by decide) ?_
  refine m_calli ⟨hx, hb, hml, hown, hts⟩ hK hD hA hP hS (mt_no hwp) (cwV 1 hts (lw_V q1469 q1471 qs25 q79 q1472) rfl rfl rfl (by decide +kernel) ⟨Nat.le_of_ble_eq_true rfl, Nat.le_of_ble_eq_true rfl⟩) rfl hl.1 rfl (Nat.le_of_ble_eq_true rfl) dX4_night_18 ⟨Nat.zero_le _, Nat.zero_le _⟩ (fun r1 σ2 H locs hk hP hS => ?_)
  have hwp := hk
  exact m_iret hx hb hr hlk hK hP hS hwp dX4_night_21
def mw_night_73 (K : Int32 → MSt → Prop) (L26 : Int32 → Int32 → Int32 → MSt → Prop) (x1 : Int32) (x2 : Int32) (x3 : Int32) (σ : MSt) : Prop :=
  vp_in x3 (lenM 12) ∧ (vp_in x3 (lenM 12) ∧ (∀ σ3, σ3 = sI σ 12 x3.toNatClampNeg (1 - (σ.2.1 12 x3.toNatClampNeg)) → (L26 x1 x2 (x3 + 1) σ3)))
set_option maxHeartbeats 4000000 in
set_option maxRecDepth 100000 in
theorem mk_night_73 {p : Program} {l : Launch} {e : Env} {s : State} {m : MethodId} {args : Array Value} {below : List Frame} {meth : Method} {c : Code} {Γ : GA} {α : Nat → Nat} {K : Int32 → MSt → Prop} (X : CM p s m args meth c cX4_night 4 (some .int) Γ α) {L26 : Int32 → Int32 → Int32 → MSt → Prop} (hL26 : ∀ (x1 : Int32) (x2 : Int32) (x3 : Int32) (σ : MSt), L26 x1 x2 x3 σ → TM p l e ({ frames := 24, cells := 0, slots := 0, locals := 535 } : Room) s m args below meth c 4 (QI below K Γ α s args) Γ α σ 26 [(0, .ref (α 50)), (1, .int x1), (2, .int x2), (3, .int x3)] []) : ∀ (x1 : Int32) (x2 : Int32) (x3 : Int32) (σ : MSt), mw_night_73 K L26 x1 x2 x3 σ → TM p l e ({ frames := 24, cells := 0, slots := 0, locals := 535 } : Room) s m args below meth c 4 (QI below K Γ α s args) Γ α σ 73 [(0, .ref (α 50)), (1, .int x1), (2, .int x2), (3, .int x3)] [] := by
  obtain ⟨hx, hb, hml, hown, hts, hK, hD, hr, hlk⟩ := id X
  have hA : ∀ q, s.heap.size ≤ q → AM α s.heap.size q := fun q h => Or.inr h
  intro x1 x2 x3 σ hwp H locs ls hP hS hl
  unfold mw_night_73 at hwp
  refine lv_aload_n hx hb dX4_night_73 rfl (lv_at hl 0 rfl) ?_
  refine m_geta hx hb hts hown hK hP 12 (by decide) rfl q1358 rfl dX4_night_74 ?_
  refine lv_iload_n hx hb dX4_night_77 rfl (lv_at hl 3 rfl) ?_
  refine lv_iconst (v := 1) hx hb dX4_night_78 (by decide) ?_
  refine lv_aload_n hx hb dX4_night_79 rfl (lv_at hl 0 rfl) ?_
  refine m_geta hx hb hts hown hK hP 12 (by decide) rfl q1358 rfl dX4_night_80 ?_
  refine lv_iload_n hx hb dX4_night_83 rfl (lv_at hl 3 rfl) ?_
  obtain ⟨hi1, hwp⟩ := hwp
  refine m_iald hx hb hK hP 12 rfl hi1 dX4_night_84 ?_
  refine lv_isub hx hb dX4_night_85 ?_
  obtain ⟨hi2, hwp⟩ := hwp
  refine m_iast hx hb hK hD hP hS 12 rfl hi2 dX4_night_86 (fun H locs hP hS => ?_)
  obtain ⟨σ3, eσ3⟩ : ∃ z, z = sI σ 12 x3.toNatClampNeg (1 - (σ.2.1 12 x3.toNatClampNeg)) := ⟨_, rfl⟩
  rw [← eσ3] at hP
  replace hwp := hwp σ3 eσ3
  refine lv_iinc (v := x3 + 1) (lv' := [(3, .int (x3 + 1)), (0, .ref (α 50)), (1, .int x1), (2, .int x2)]) hx hb dX4_night_87 hl (k := 3) rfl rfl (by decide) rfl (fun ls hl => ?_)
  refine lv_goto (tgt := 26) hx hb dX4_night_90 (by decide) ?_
  exact hL26 _ _ _ σ3 hwp H locs ls hP hS (lv_sub hl [1, 2, 3, 0] rfl)
def mw_night_26_b (K : Int32 → MSt → Prop) (L26 : Int32 → Int32 → Int32 → MSt → Prop) (x1 : Int32) (x2 : Int32) (x3 : Int32) (σ : MSt) : Prop :=
  (((σ.1 0) ≤ x3) → (K x2 σ)) ∧ ((¬ ((σ.1 0) ≤ x3)) → (mw_isHouse σ (fun r2 => ((¬ (r2 = 0)) → (vp_in x3 (lenM 12) ∧ (vp_in x3 (lenM 12) ∧ (∀ σ6, σ6 = sI σ 12 x3.toNatClampNeg (1 - (σ.2.1 12 x3.toNatClampNeg)) → (mw_allRight σ6 (fun r7 => ((¬ (r7 = x1)) → (mw_night_73 K L26 x1 x2 x3 σ6)) ∧ ((r7 = x1) → (mw_night_73 K L26 x1 (x2 ||| (1 <<< (x3 &&& 31))) x3 σ6)))))))) ∧ ((r2 = 0) → (L26 x1 x2 (x3 + 1) σ))) x3))
def mw_night_26 (K : Int32 → MSt → Prop) : Nat → Int32 → Int32 → Int32 → MSt → Prop
  | 0 => fun _ _ _ _ => False
  | n + 1 => fun x1 x2 x3 σ => mw_night_26_b K (mw_night_26 K n) x1 x2 x3 σ
set_option maxHeartbeats 4000000 in
set_option maxRecDepth 100000 in
theorem mk_night_26_b {p : Program} {l : Launch} {e : Env} {s : State} {m : MethodId} {args : Array Value} {below : List Frame} {meth : Method} {c : Code} {Γ : GA} {α : Nat → Nat} {K : Int32 → MSt → Prop} (X : CM p s m args meth c cX4_night 4 (some .int) Γ α) {L26 : Int32 → Int32 → Int32 → MSt → Prop} (hL26 : ∀ (x1 : Int32) (x2 : Int32) (x3 : Int32) (σ : MSt), L26 x1 x2 x3 σ → TM p l e ({ frames := 24, cells := 0, slots := 0, locals := 535 } : Room) s m args below meth c 4 (QI below K Γ α s args) Γ α σ 26 [(0, .ref (α 50)), (1, .int x1), (2, .int x2), (3, .int x3)] []) : ∀ (x1 : Int32) (x2 : Int32) (x3 : Int32) (σ : MSt), mw_night_26_b K L26 x1 x2 x3 σ → TM p l e ({ frames := 24, cells := 0, slots := 0, locals := 535 } : Room) s m args below meth c 4 (QI below K Γ α s args) Γ α σ 26 [(0, .ref (α 50)), (1, .int x1), (2, .int x2), (3, .int x3)] [] := by
  obtain ⟨hx, hb, hml, hown, hts, hK, hD, hr, hlk⟩ := id X
  have hA : ∀ q, s.heap.size ≤ q → AM α s.heap.size q := fun q h => Or.inr h
  intro x1 x2 x3 σ hwp H locs ls hP hS hl
  unfold mw_night_26_b at hwp
  refine lv_iload_n hx hb dX4_night_26 rfl (lv_at hl 3 rfl) ?_
  refine lv_aload_n hx hb dX4_night_27 rfl (lv_at hl 0 rfl) ?_
  refine m_geti hx hb hts hown hK hP 0 (by decide) rfl q1346 rfl dX4_night_28 ?_
  refine lv_icmp_ge (tgt := 93) hx hb dX4_night_31 (by decide) (fun c1 => ?_) (fun c1 => ?_)
  · replace hwp := hwp.1 c1
    refine lv_iload_n hx hb dX4_night_93 rfl (lv_at hl 2 rfl) ?_
    exact m_iret hx hb hr hlk hK hP hS hwp dX4_night_94
  · replace hwp := hwp.2 c1
    refine lv_aload_n hx hb dX4_night_34 rfl (lv_at hl 0 rfl) ?_
    refine lv_iload_n hx hb dX4_night_35 rfl (lv_at hl 3 rfl) ?_
    refine m_calli ⟨hx, hb, hml, hown, hts⟩ hK hD hA hP hS (mt_isHouse hwp) (cwV 1 hts (lw_V q1501 q1503 qs27 q79 q1504) rfl rfl rfl (by decide +kernel) ⟨Nat.le_of_ble_eq_true rfl, Nat.le_of_ble_eq_true rfl⟩) rfl hl.1 rfl (Nat.le_of_ble_eq_true rfl) dX4_night_36 ⟨Nat.zero_le _, Nat.zero_le _⟩ (fun r2 u H locs hk hP hS => ?_)
    obtain ⟨hwp, eu⟩ := hk
    rw [eu] at hP
    refine lv_if_ne (tgt := 45) hx hb dX4_night_39 (by decide) (fun c3 => ?_) (fun c3 => ?_)
    · replace hwp := hwp.1 c3
      refine lv_aload_n hx hb dX4_night_45 rfl (lv_at hl 0 rfl) ?_
      refine m_geta hx hb hts hown hK hP 12 (by decide) rfl q1358 rfl dX4_night_46 ?_
      refine lv_iload_n hx hb dX4_night_49 rfl (lv_at hl 3 rfl) ?_
      refine lv_iconst (v := 1) hx hb dX4_night_50 (by decide) ?_
      refine lv_aload_n hx hb dX4_night_51 rfl (lv_at hl 0 rfl) ?_
      refine m_geta hx hb hts hown hK hP 12 (by decide) rfl q1358 rfl dX4_night_52 ?_
      refine lv_iload_n hx hb dX4_night_55 rfl (lv_at hl 3 rfl) ?_
      obtain ⟨hi4, hwp⟩ := hwp
      refine m_iald hx hb hK hP 12 rfl hi4 dX4_night_56 ?_
      refine lv_isub hx hb dX4_night_57 ?_
      obtain ⟨hi5, hwp⟩ := hwp
      refine m_iast hx hb hK hD hP hS 12 rfl hi5 dX4_night_58 (fun H locs hP hS => ?_)
      obtain ⟨σ6, eσ6⟩ : ∃ z, z = sI σ 12 x3.toNatClampNeg (1 - (σ.2.1 12 x3.toNatClampNeg)) := ⟨_, rfl⟩
      rw [← eσ6] at hP
      replace hwp := hwp σ6 eσ6
      refine lv_aload_n hx hb dX4_night_59 rfl (lv_at hl 0 rfl) ?_
      refine m_calli ⟨hx, hb, hml, hown, hts⟩ hK hD hA hP hS (mt_allRight hwp) (cwV 0 hts (lw_V q1665 q1667 qs56 q79 q1668) rfl rfl rfl (by decide +kernel) ⟨Nat.le_of_ble_eq_true rfl, Nat.le_of_ble_eq_true rfl⟩) rfl hl.1 rfl (Nat.le_of_ble_eq_true rfl) dX4_night_60 ⟨Nat.zero_le _, Nat.zero_le _⟩ (fun r7 u H locs hk hP hS => ?_)
      obtain ⟨hwp, eu⟩ := hk
      rw [eu] at hP
      refine lv_iload_n hx hb dX4_night_63 rfl (lv_at hl 1 rfl) ?_
      refine lv_icmp_ne (tgt := 73) hx hb dX4_night_64 (by decide) (fun c8 => ?_) (fun c8 => ?_)
      · replace hwp := hwp.1 c8
        exact mk_night_73 X hL26 _ _ _ σ6 hwp H locs ls hP hS (lv_sub hl [0, 1, 2, 3] rfl)
      · replace hwp := hwp.2 c8
        refine lv_iload_n hx hb dX4_night_67 rfl (lv_at hl 2 rfl) ?_
        refine lv_iconst (v := 1) hx hb dX4_night_68 (by decide) ?_
        refine lv_iload_n hx hb dX4_night_69 rfl (lv_at hl 3 rfl) ?_
        refine lv_ishl hx hb dX4_night_70 ?_
        refine lv_ior hx hb dX4_night_71 ?_
        refine lv_istore_n (lv' := [(2, .int (x2 ||| (1 <<< (x3 &&& 31)))), (0, .ref (α 50)), (1, .int x1), (3, .int x3)]) hx hb dX4_night_72 rfl hl (by decide) rfl (fun ls hl => ?_)
        exact mk_night_73 X hL26 _ _ _ σ6 hwp H locs ls hP hS (lv_sub hl [1, 2, 0, 3] rfl)
    · replace hwp := hwp.2 c3
      refine lv_goto (tgt := 87) hx hb dX4_night_42 (by decide) ?_
      refine lv_iinc (v := x3 + 1) (lv' := [(3, .int (x3 + 1)), (0, .ref (α 50)), (1, .int x1), (2, .int x2)]) hx hb dX4_night_87 hl (k := 3) rfl rfl (by decide) rfl (fun ls hl => ?_)
      refine lv_goto (tgt := 26) hx hb dX4_night_90 (by decide) ?_
      exact hL26 _ _ _ σ hwp H locs ls hP hS (lv_sub hl [1, 2, 3, 0] rfl)
set_option maxHeartbeats 4000000 in
set_option maxRecDepth 100000 in
theorem mk_night_26 {p : Program} {l : Launch} {e : Env} {s : State} {m : MethodId} {args : Array Value} {below : List Frame} {meth : Method} {c : Code} {Γ : GA} {α : Nat → Nat} {K : Int32 → MSt → Prop} (X : CM p s m args meth c cX4_night 4 (some .int) Γ α) : ∀ n (x1 : Int32) (x2 : Int32) (x3 : Int32) (σ : MSt), mw_night_26 K n x1 x2 x3 σ → TM p l e ({ frames := 24, cells := 0, slots := 0, locals := 535 } : Room) s m args below meth c 4 (QI below K Γ α s args) Γ α σ 26 [(0, .ref (α 50)), (1, .int x1), (2, .int x2), (3, .int x3)] [] := by
  intro n
  induction n with
  | zero => intro _ _ _ _ hwp; exact hwp.elim
  | succ n ih => intro x1 x2 x3 σ hwp; exact mk_night_26_b X ih x1 x2 x3 σ hwp
def mw_night (K : Int32 → MSt → Prop) (x1 : Int32) (σ : MSt) : Prop :=
  ((x1 < 0) → (mw_night_15 K σ)) ∧ ((¬ (x1 < 0)) → (mw_houses σ (fun r2 => (((x1 &&& (r2 ^^^ (-1))) = 0) → (∃ n, mw_night_26 K n x1 0 0 σ)) ∧ ((¬ ((x1 &&& (r2 ^^^ (-1))) = 0)) → (mw_night_15 K σ)))))
set_option maxHeartbeats 4000000 in
set_option maxRecDepth 100000 in
theorem mt_night {l : Launch} {Γ : GA} {α : Nat → Nat} {σ : MSt} {K : Int32 → MSt → Prop} {x1 : Int32} (hwp : mw_night K x1 σ) : mI l yX4_night cX4_night 4 (some .int) ({ frames := 24, cells := 0, slots := 0, locals := 535 } : Room) Γ α [.int x1] σ K := by
  intro sz
  refine m_of (by decide) rfl [(0, .ref (α 50)), (1, .int x1)] (fun _ h => h) (Nat.le_of_ble_eq_true rfl) ?_
  intro p e s m args below meth c hsz X H locs ls hP hS hl
  subst hsz
  obtain ⟨hx, hb, hml, hown, hts, hK, hD, hr, hlk⟩ := id X
  have hA : ∀ q, s.heap.size ≤ q → AM α s.heap.size q := fun q h => Or.inr h
  unfold mw_night at hwp
  refine lv_iload_n hx hb dX4_night_0 rfl (lv_at hl 1 rfl) ?_
  refine lv_if_lt (tgt := 15) hx hb dX4_night_1 (by decide) (fun c1 => ?_) (fun c1 => ?_)
  · replace hwp := hwp.1 c1
    exact mk_night_15 X σ hwp H locs ls hP hS (lv_sub hl [0] rfl)
  · replace hwp := hwp.2 c1
    refine lv_iload_n hx hb dX4_night_4 rfl (lv_at hl 1 rfl) ?_
    refine lv_aload_n hx hb dX4_night_5 rfl (lv_at hl 0 rfl) ?_
    refine m_calli ⟨hx, hb, hml, hown, hts⟩ hK hD hA hP hS (mt_houses hwp) (cwV 0 hts (lw_V q1705 q1707 qs61 q79 q1708) rfl rfl rfl (by decide +kernel) ⟨Nat.le_of_ble_eq_true rfl, Nat.le_of_ble_eq_true rfl⟩) rfl hl.1 rfl (Nat.le_of_ble_eq_true rfl) dX4_night_6 ⟨Nat.zero_le _, Nat.zero_le _⟩ (fun r2 u H locs hk hP hS => ?_)
    obtain ⟨hwp, eu⟩ := hk
    rw [eu] at hP
    refine lv_iconst (v := (-1)) hx hb dX4_night_9 (by decide) ?_
    refine lv_ixor hx hb dX4_night_10 ?_
    refine lv_iand hx hb dX4_night_11 ?_
    refine lv_if_eq (tgt := 22) hx hb dX4_night_12 (by decide) (fun c3 => ?_) (fun c3 => ?_)
    · replace hwp := hwp.1 c3
      refine lv_iconst (v := 0) hx hb dX4_night_22 (by decide) ?_
      refine lv_istore_n (lv' := [(2, .int 0), (0, .ref (α 50)), (1, .int x1)]) hx hb dX4_night_23 rfl hl (by decide) rfl (fun ls hl => ?_)
      refine lv_iconst (v := 0) hx hb dX4_night_24 (by decide) ?_
      refine lv_istore_n (lv' := [(3, .int 0), (2, .int 0), (0, .ref (α 50)), (1, .int x1)]) hx hb dX4_night_25 rfl hl (by decide) rfl (fun ls hl => ?_)
      obtain ⟨n, hwp⟩ := hwp
      exact mk_night_26 X n _ _ _ σ hwp H locs ls hP hS (lv_sub hl [2, 3, 1, 0] rfl)
    · replace hwp := hwp.2 c3
      exact mk_night_15 X σ hwp H locs ls hP hS (lv_sub hl [0] rfl)
/-! shutMany -/
def mw_shutMany_4_b (σ : MSt) (K : Int32 → Prop) (L4 : Int32 → Int32 → Prop) (x1 : Int32) (x2 : Int32) : Prop :=
  (((σ.1 0) ≤ x2) → (K x1)) ∧ ((¬ ((σ.1 0) ≤ x2)) → (vp_in x2 (lenM 13) ∧ (mw_many σ (fun r3 => L4 (x1 + r3) (x2 + 1)) (σ.2.1 13 x2.toNatClampNeg))))
def mw_shutMany_4 (σ : MSt) (K : Int32 → Prop) : Nat → Int32 → Int32 → Prop
  | 0 => fun _ _ => False
  | n + 1 => fun x1 x2 => mw_shutMany_4_b σ K (mw_shutMany_4 σ K n) x1 x2
set_option maxHeartbeats 4000000 in
set_option maxRecDepth 100000 in
theorem mk_shutMany_4_b {p : Program} {l : Launch} {e : Env} {s : State} {m : MethodId} {args : Array Value} {below : List Frame} {meth : Method} {c : Code} {Γ : GA} {α : Nat → Nat} {σ : MSt} {K : Int32 → Prop} (X : CM p s m args meth c cX4_shutMany 3 (some .int) Γ α) {L4 : Int32 → Int32 → Prop} (hL4 : ∀ (x1 : Int32) (x2 : Int32), L4 x1 x2 → TM p l e ({ frames := 1, cells := 0, slots := 0, locals := 23 } : Room) s m args below meth c 3 (QI below (fun r u => K r ∧ u = σ) Γ α s args) Γ α σ 4 [(0, .ref (α 50)), (1, .int x1), (2, .int x2)] []) : ∀ (x1 : Int32) (x2 : Int32), mw_shutMany_4_b σ K L4 x1 x2 → TM p l e ({ frames := 1, cells := 0, slots := 0, locals := 23 } : Room) s m args below meth c 3 (QI below (fun r u => K r ∧ u = σ) Γ α s args) Γ α σ 4 [(0, .ref (α 50)), (1, .int x1), (2, .int x2)] [] := by
  obtain ⟨hx, hb, hml, hown, hts, hK, hD, hr, hlk⟩ := id X
  have hA : ∀ q, s.heap.size ≤ q → AM α s.heap.size q := fun q h => Or.inr h
  intro x1 x2 hwp H locs ls hP hS hl
  unfold mw_shutMany_4_b at hwp
  refine lv_iload_n hx hb dX4_shutMany_4 rfl (lv_at hl 2 rfl) ?_
  refine lv_aload_n hx hb dX4_shutMany_5 rfl (lv_at hl 0 rfl) ?_
  refine m_geti hx hb hts hown hK hP 0 (by decide) rfl q1346 rfl dX4_shutMany_6 ?_
  refine lv_icmp_ge (tgt := 31) hx hb dX4_shutMany_9 (by decide) (fun c1 => ?_) (fun c1 => ?_)
  · replace hwp := hwp.1 c1
    refine lv_iload_n hx hb dX4_shutMany_31 rfl (lv_at hl 1 rfl) ?_
    exact m_iret hx hb hr hlk hK hP hS ⟨hwp, rfl⟩ dX4_shutMany_32
  · replace hwp := hwp.2 c1
    refine lv_iload_n hx hb dX4_shutMany_12 rfl (lv_at hl 1 rfl) ?_
    refine lv_aload_n hx hb dX4_shutMany_13 rfl (lv_at hl 0 rfl) ?_
    refine lv_aload_n hx hb dX4_shutMany_14 rfl (lv_at hl 0 rfl) ?_
    refine m_geta hx hb hts hown hK hP 13 (by decide) rfl q1359 rfl dX4_shutMany_15 ?_
    refine lv_iload_n hx hb dX4_shutMany_18 rfl (lv_at hl 2 rfl) ?_
    obtain ⟨hi2, hwp⟩ := hwp
    refine m_iald hx hb hK hP 13 rfl hi2 dX4_shutMany_19 ?_
    refine m_calli ⟨hx, hb, hml, hown, hts⟩ hK hD hA hP hS (mt_many hwp) (cwV 1 hts (lw_V q1549 q1551 qs39 q79 q1552) rfl rfl rfl (by decide +kernel) ⟨Nat.le_of_ble_eq_true rfl, Nat.le_of_ble_eq_true rfl⟩) rfl hl.1 rfl (Nat.le_of_ble_eq_true rfl) dX4_shutMany_20 ⟨Nat.zero_le _, Nat.zero_le _⟩ (fun r3 u H locs hk hP hS => ?_)
    obtain ⟨hwp, eu⟩ := hk
    rw [eu] at hP
    refine lv_iadd hx hb dX4_shutMany_23 ?_
    refine lv_istore_n (lv' := [(1, .int (x1 + r3)), (0, .ref (α 50)), (2, .int x2)]) hx hb dX4_shutMany_24 rfl hl (by decide) rfl (fun ls hl => ?_)
    refine lv_iinc (v := x2 + 1) (lv' := [(2, .int (x2 + 1)), (1, .int (x1 + r3)), (0, .ref (α 50))]) hx hb dX4_shutMany_25 hl (k := 2) rfl rfl (by decide) rfl (fun ls hl => ?_)
    refine lv_goto (tgt := 4) hx hb dX4_shutMany_28 (by decide) ?_
    exact hL4 _ _ hwp H locs ls hP hS (lv_sub hl [2, 1, 0] rfl)
set_option maxHeartbeats 4000000 in
set_option maxRecDepth 100000 in
theorem mk_shutMany_4 {p : Program} {l : Launch} {e : Env} {s : State} {m : MethodId} {args : Array Value} {below : List Frame} {meth : Method} {c : Code} {Γ : GA} {α : Nat → Nat} {σ : MSt} {K : Int32 → Prop} (X : CM p s m args meth c cX4_shutMany 3 (some .int) Γ α) : ∀ n (x1 : Int32) (x2 : Int32), mw_shutMany_4 σ K n x1 x2 → TM p l e ({ frames := 1, cells := 0, slots := 0, locals := 23 } : Room) s m args below meth c 3 (QI below (fun r u => K r ∧ u = σ) Γ α s args) Γ α σ 4 [(0, .ref (α 50)), (1, .int x1), (2, .int x2)] [] := by
  intro n
  induction n with
  | zero => intro _ _ hwp; exact hwp.elim
  | succ n ih => intro x1 x2 hwp; exact mk_shutMany_4_b X ih x1 x2 hwp
def mw_shutMany (σ : MSt) (K : Int32 → Prop) : Prop :=
  ∃ n, mw_shutMany_4 σ K n 0 0
set_option maxHeartbeats 4000000 in
set_option maxRecDepth 100000 in
theorem mt_shutMany {l : Launch} {Γ : GA} {α : Nat → Nat} {σ : MSt} {K : Int32 → Prop} (hwp : mw_shutMany σ K ) : mI l yX4_shutMany cX4_shutMany 3 (some .int) ({ frames := 1, cells := 0, slots := 0, locals := 23 } : Room) Γ α [] σ (fun r u => K r ∧ u = σ) := by
  intro sz
  refine m_of (by decide) rfl [(0, .ref (α 50))] (fun _ h => h) (Nat.le_of_ble_eq_true rfl) ?_
  intro p e s m args below meth c hsz X H locs ls hP hS hl
  subst hsz
  obtain ⟨hx, hb, hml, hown, hts, hK, hD, hr, hlk⟩ := id X
  have hA : ∀ q, s.heap.size ≤ q → AM α s.heap.size q := fun q h => Or.inr h
  unfold mw_shutMany at hwp
  refine lv_iconst (v := 0) hx hb dX4_shutMany_0 (by decide) ?_
  refine lv_istore_n (lv' := [(1, .int 0), (0, .ref (α 50))]) hx hb dX4_shutMany_1 rfl hl (by decide) rfl (fun ls hl => ?_)
  refine lv_iconst (v := 0) hx hb dX4_shutMany_2 (by decide) ?_
  refine lv_istore_n (lv' := [(2, .int 0), (1, .int 0), (0, .ref (α 50))]) hx hb dX4_shutMany_3 rfl hl (by decide) rfl (fun ls hl => ?_)
  obtain ⟨n, hwp⟩ := hwp
  exact mk_shutMany_4 X n _ _ hwp H locs ls hP hS (lv_sub hl [2, 1, 0] rfl)
/-! opens -/
def mw_opens_16_b (K : Int32 → MSt → Prop) (L16 : Int32 → Int32 → MSt → Prop) (x1 : Int32) (x2 : Int32) (σ : MSt) : Prop :=
  (((σ.1 0) ≤ x2) → (K x1 σ)) ∧ ((¬ ((σ.1 0) ≤ x2)) → (vp_in x2 (lenM 13) ∧ (∀ σ3, σ3 = sI σ 13 x2.toNatClampNeg 0 → (vp_in x2 (lenM 12) ∧ (∀ σ5, σ5 = sI σ3 12 x2.toNatClampNeg 0 → (L16 x1 (x2 + 1) σ5))))))
def mw_opens_16 (K : Int32 → MSt → Prop) : Nat → Int32 → Int32 → MSt → Prop
  | 0 => fun _ _ _ => False
  | n + 1 => fun x1 x2 σ => mw_opens_16_b K (mw_opens_16 K n) x1 x2 σ
set_option maxHeartbeats 4000000 in
set_option maxRecDepth 100000 in
theorem mk_opens_16_b {p : Program} {l : Launch} {e : Env} {s : State} {m : MethodId} {args : Array Value} {below : List Frame} {meth : Method} {c : Code} {Γ : GA} {α : Nat → Nat} {K : Int32 → MSt → Prop} (X : CM p s m args meth c cX4_opens 3 (some .int) Γ α) {L16 : Int32 → Int32 → MSt → Prop} (hL16 : ∀ (x1 : Int32) (x2 : Int32) (σ : MSt), L16 x1 x2 σ → TM p l e ({ frames := 2, cells := 0, slots := 0, locals := 45 } : Room) s m args below meth c 3 (QI below K Γ α s args) Γ α σ 16 [(0, .ref (α 50)), (1, .int x1), (2, .int x2)] []) : ∀ (x1 : Int32) (x2 : Int32) (σ : MSt), mw_opens_16_b K L16 x1 x2 σ → TM p l e ({ frames := 2, cells := 0, slots := 0, locals := 45 } : Room) s m args below meth c 3 (QI below K Γ α s args) Γ α σ 16 [(0, .ref (α 50)), (1, .int x1), (2, .int x2)] [] := by
  obtain ⟨hx, hb, hml, hown, hts, hK, hD, hr, hlk⟩ := id X
  have hA : ∀ q, s.heap.size ≤ q → AM α s.heap.size q := fun q h => Or.inr h
  intro x1 x2 σ hwp H locs ls hP hS hl
  unfold mw_opens_16_b at hwp
  refine lv_iload_n hx hb dX4_opens_16 rfl (lv_at hl 2 rfl) ?_
  refine lv_aload_n hx hb dX4_opens_17 rfl (lv_at hl 0 rfl) ?_
  refine m_geti hx hb hts hown hK hP 0 (by decide) rfl q1346 rfl dX4_opens_18 ?_
  refine lv_icmp_ge (tgt := 44) hx hb dX4_opens_21 (by decide) (fun c1 => ?_) (fun c1 => ?_)
  · replace hwp := hwp.1 c1
    refine lv_iload_n hx hb dX4_opens_44 rfl (lv_at hl 1 rfl) ?_
    exact m_iret hx hb hr hlk hK hP hS hwp dX4_opens_45
  · replace hwp := hwp.2 c1
    refine lv_aload_n hx hb dX4_opens_24 rfl (lv_at hl 0 rfl) ?_
    refine m_geta hx hb hts hown hK hP 13 (by decide) rfl q1359 rfl dX4_opens_25 ?_
    refine lv_iload_n hx hb dX4_opens_28 rfl (lv_at hl 2 rfl) ?_
    refine lv_iconst (v := 0) hx hb dX4_opens_29 (by decide) ?_
    obtain ⟨hi2, hwp⟩ := hwp
    refine m_iast hx hb hK hD hP hS 13 rfl hi2 dX4_opens_30 (fun H locs hP hS => ?_)
    obtain ⟨σ3, eσ3⟩ : ∃ z, z = sI σ 13 x2.toNatClampNeg 0 := ⟨_, rfl⟩
    rw [← eσ3] at hP
    replace hwp := hwp σ3 eσ3
    refine lv_aload_n hx hb dX4_opens_31 rfl (lv_at hl 0 rfl) ?_
    refine m_geta hx hb hts hown hK hP 12 (by decide) rfl q1358 rfl dX4_opens_32 ?_
    refine lv_iload_n hx hb dX4_opens_35 rfl (lv_at hl 2 rfl) ?_
    refine lv_iconst (v := 0) hx hb dX4_opens_36 (by decide) ?_
    obtain ⟨hi4, hwp⟩ := hwp
    refine m_iast hx hb hK hD hP hS 12 rfl hi4 dX4_opens_37 (fun H locs hP hS => ?_)
    obtain ⟨σ5, eσ5⟩ : ∃ z, z = sI σ3 12 x2.toNatClampNeg 0 := ⟨_, rfl⟩
    rw [← eσ5] at hP
    replace hwp := hwp σ5 eσ5
    refine lv_iinc (v := x2 + 1) (lv' := [(2, .int (x2 + 1)), (0, .ref (α 50)), (1, .int x1)]) hx hb dX4_opens_38 hl (k := 2) rfl rfl (by decide) rfl (fun ls hl => ?_)
    refine lv_goto (tgt := 16) hx hb dX4_opens_41 (by decide) ?_
    exact hL16 _ _ σ5 hwp H locs ls hP hS (lv_sub hl [1, 2, 0] rfl)
set_option maxHeartbeats 4000000 in
set_option maxRecDepth 100000 in
theorem mk_opens_16 {p : Program} {l : Launch} {e : Env} {s : State} {m : MethodId} {args : Array Value} {below : List Frame} {meth : Method} {c : Code} {Γ : GA} {α : Nat → Nat} {K : Int32 → MSt → Prop} (X : CM p s m args meth c cX4_opens 3 (some .int) Γ α) : ∀ n (x1 : Int32) (x2 : Int32) (σ : MSt), mw_opens_16 K n x1 x2 σ → TM p l e ({ frames := 2, cells := 0, slots := 0, locals := 45 } : Room) s m args below meth c 3 (QI below K Γ α s args) Γ α σ 16 [(0, .ref (α 50)), (1, .int x1), (2, .int x2)] [] := by
  intro n
  induction n with
  | zero => intro _ _ _ hwp; exact hwp.elim
  | succ n ih => intro x1 x2 σ hwp; exact mk_opens_16_b X ih x1 x2 σ hwp
def mw_opens (K : Int32 → MSt → Prop) (σ : MSt) : Prop :=
  mw_shutMany σ (fun r1 => mw_drawnOnes σ (fun r2 => mw_many σ (fun r3 => ∃ n, mw_opens_16 K n (r1 + r3) 0 σ) r2))
set_option maxHeartbeats 4000000 in
set_option maxRecDepth 100000 in
theorem mt_opens {l : Launch} {Γ : GA} {α : Nat → Nat} {σ : MSt} {K : Int32 → MSt → Prop} (hwp : mw_opens K  σ) : mI l yX4_opens cX4_opens 3 (some .int) ({ frames := 2, cells := 0, slots := 0, locals := 45 } : Room) Γ α [] σ K := by
  intro sz
  refine m_of (by decide) rfl [(0, .ref (α 50))] (fun _ h => h) (Nat.le_of_ble_eq_true rfl) ?_
  intro p e s m args below meth c hsz X H locs ls hP hS hl
  subst hsz
  obtain ⟨hx, hb, hml, hown, hts, hK, hD, hr, hlk⟩ := id X
  have hA : ∀ q, s.heap.size ≤ q → AM α s.heap.size q := fun q h => Or.inr h
  unfold mw_opens at hwp
  refine lv_aload_n hx hb dX4_opens_0 rfl (lv_at hl 0 rfl) ?_
  refine m_calli ⟨hx, hb, hml, hown, hts⟩ hK hD hA hP hS (mt_shutMany hwp) (cwV 0 hts (lw_V q1777 q1779 qs68 q79 q1780) rfl rfl rfl (by decide +kernel) ⟨Nat.le_of_ble_eq_true rfl, Nat.le_of_ble_eq_true rfl⟩) rfl hl.1 rfl (Nat.le_of_ble_eq_true rfl) dX4_opens_1 ⟨Nat.zero_le _, Nat.zero_le _⟩ (fun r1 u H locs hk hP hS => ?_)
  obtain ⟨hwp, eu⟩ := hk
  rw [eu] at hP
  refine lv_aload_n hx hb dX4_opens_4 rfl (lv_at hl 0 rfl) ?_
  refine lv_aload_n hx hb dX4_opens_5 rfl (lv_at hl 0 rfl) ?_
  refine m_calli ⟨hx, hb, hml, hown, hts⟩ hK hD hA hP hS (mt_drawnOnes hwp) (cwV 0 hts (lw_V q1701 q1703 qs60 q79 q1704) rfl rfl rfl (by decide +kernel) ⟨Nat.le_of_ble_eq_true rfl, Nat.le_of_ble_eq_true rfl⟩) rfl hl.1 rfl (Nat.le_of_ble_eq_true rfl) dX4_opens_6 ⟨Nat.zero_le _, Nat.zero_le _⟩ (fun r2 u H locs hk hP hS => ?_)
  obtain ⟨hwp, eu⟩ := hk
  rw [eu] at hP
  refine m_calli ⟨hx, hb, hml, hown, hts⟩ hK hD hA hP hS (mt_many hwp) (cwV 1 hts (lw_V q1549 q1551 qs39 q79 q1552) rfl rfl rfl (by decide +kernel) ⟨Nat.le_of_ble_eq_true rfl, Nat.le_of_ble_eq_true rfl⟩) rfl hl.1 rfl (Nat.le_of_ble_eq_true rfl) dX4_opens_9 ⟨Nat.zero_le _, Nat.zero_le _⟩ (fun r3 u H locs hk hP hS => ?_)
  obtain ⟨hwp, eu⟩ := hk
  rw [eu] at hP
  refine lv_iadd hx hb dX4_opens_12 ?_
  refine lv_istore_n (lv' := [(1, .int (r1 + r3)), (0, .ref (α 50))]) hx hb dX4_opens_13 rfl hl (by decide) rfl (fun ls hl => ?_)
  refine lv_iconst (v := 0) hx hb dX4_opens_14 (by decide) ?_
  refine lv_istore_n (lv' := [(2, .int 0), (1, .int (r1 + r3)), (0, .ref (α 50))]) hx hb dX4_opens_15 rfl hl (by decide) rfl (fun ls hl => ?_)
  obtain ⟨n, hwp⟩ := hwp
  exact mk_opens_16 X n _ _ σ hwp H locs ls hP hS (lv_sub hl [2, 1, 0] rfl)
/-! pairs -/
def mw_pairs_14_b (σ : MSt) (K : Int32 → Prop) (L4 : Int32 → Int32 → Prop) (L14 : Int32 → Int32 → Int32 → Prop) (x1 : Int32) (x2 : Int32) (x3 : Int32) : Prop :=
  ((x2 ≤ x3) → (L4 x1 (x2 + 1))) ∧ ((¬ (x2 ≤ x3)) → (mw_isHouse σ (fun r2 => ((r2 = 0) → (L14 x1 x2 (x3 + 1))) ∧ ((¬ (r2 = 0)) → (mw_isHouse σ (fun r4 => ((r4 = 0) → (L14 x1 x2 (x3 + 1))) ∧ ((¬ (r4 = 0)) → (mw_isSeen σ (fun r6 => ((r6 = 0) → (L14 x1 x2 (x3 + 1))) ∧ ((¬ (r6 = 0)) → (mw_isSeen σ (fun r8 => ((r8 = 0) → (L14 x1 x2 (x3 + 1))) ∧ ((¬ (r8 = 0)) → (L14 (x1 + 1) x2 (x3 + 1)))) x3 x2))) x2 x3))) x3))) x2))
def mw_pairs_14 (σ : MSt) (K : Int32 → Prop) (L4 : Int32 → Int32 → Prop) : Nat → Int32 → Int32 → Int32 → Prop
  | 0 => fun _ _ _ => False
  | n + 1 => fun x1 x2 x3 => mw_pairs_14_b σ K L4 (mw_pairs_14 σ K L4 n) x1 x2 x3
set_option maxHeartbeats 4000000 in
set_option maxRecDepth 100000 in
theorem mk_pairs_14_b {p : Program} {l : Launch} {e : Env} {s : State} {m : MethodId} {args : Array Value} {below : List Frame} {meth : Method} {c : Code} {Γ : GA} {α : Nat → Nat} {σ : MSt} {K : Int32 → Prop} (X : CM p s m args meth c cX4_pairs 4 (some .int) Γ α) {L4 : Int32 → Int32 → Prop} (hL4 : ∀ (x1 : Int32) (x2 : Int32), L4 x1 x2 → TM p l e ({ frames := 20, cells := 0, slots := 0, locals := 446 } : Room) s m args below meth c 4 (QI below (fun r u => K r ∧ u = σ) Γ α s args) Γ α σ 4 [(0, .ref (α 50)), (1, .int x1), (2, .int x2)] []) {L14 : Int32 → Int32 → Int32 → Prop} (hL14 : ∀ (x1 : Int32) (x2 : Int32) (x3 : Int32), L14 x1 x2 x3 → TM p l e ({ frames := 20, cells := 0, slots := 0, locals := 446 } : Room) s m args below meth c 4 (QI below (fun r u => K r ∧ u = σ) Γ α s args) Γ α σ 14 [(0, .ref (α 50)), (1, .int x1), (2, .int x2), (3, .int x3)] []) : ∀ (x1 : Int32) (x2 : Int32) (x3 : Int32), mw_pairs_14_b σ K L4 L14 x1 x2 x3 → TM p l e ({ frames := 20, cells := 0, slots := 0, locals := 446 } : Room) s m args below meth c 4 (QI below (fun r u => K r ∧ u = σ) Γ α s args) Γ α σ 14 [(0, .ref (α 50)), (1, .int x1), (2, .int x2), (3, .int x3)] [] := by
  obtain ⟨hx, hb, hml, hown, hts, hK, hD, hr, hlk⟩ := id X
  have hA : ∀ q, s.heap.size ≤ q → AM α s.heap.size q := fun q h => Or.inr h
  intro x1 x2 x3 hwp H locs ls hP hS hl
  unfold mw_pairs_14_b at hwp
  refine lv_iload_n hx hb dX4_pairs_14 rfl (lv_at hl 3 rfl) ?_
  refine lv_iload_n hx hb dX4_pairs_15 rfl (lv_at hl 2 rfl) ?_
  refine lv_icmp_ge (tgt := 62) hx hb dX4_pairs_16 (by decide) (fun c1 => ?_) (fun c1 => ?_)
  · replace hwp := hwp.1 c1
    refine lv_iinc (v := x2 + 1) (lv' := [(2, .int (x2 + 1)), (0, .ref (α 50)), (1, .int x1), (3, .int x3)]) hx hb dX4_pairs_62 hl (k := 2) rfl rfl (by decide) rfl (fun ls hl => ?_)
    refine lv_goto (tgt := 4) hx hb dX4_pairs_65 (by decide) ?_
    exact hL4 _ _ hwp H locs ls hP hS (lv_sub hl [1, 2, 0] rfl)
  · replace hwp := hwp.2 c1
    refine lv_aload_n hx hb dX4_pairs_19 rfl (lv_at hl 0 rfl) ?_
    refine lv_iload_n hx hb dX4_pairs_20 rfl (lv_at hl 2 rfl) ?_
    refine m_calli ⟨hx, hb, hml, hown, hts⟩ hK hD hA hP hS (mt_isHouse hwp) (cwV 1 hts (lw_V q1501 q1503 qs27 q79 q1504) rfl rfl rfl (by decide +kernel) ⟨Nat.le_of_ble_eq_true rfl, Nat.le_of_ble_eq_true rfl⟩) rfl hl.1 rfl (Nat.le_of_ble_eq_true rfl) dX4_pairs_21 ⟨Nat.zero_le _, Nat.zero_le _⟩ (fun r2 u H locs hk hP hS => ?_)
    obtain ⟨hwp, eu⟩ := hk
    rw [eu] at hP
    refine lv_if_eq (tgt := 56) hx hb dX4_pairs_24 (by decide) (fun c3 => ?_) (fun c3 => ?_)
    · replace hwp := hwp.1 c3
      refine lv_iinc (v := x3 + 1) (lv' := [(3, .int (x3 + 1)), (0, .ref (α 50)), (1, .int x1), (2, .int x2)]) hx hb dX4_pairs_56 hl (k := 3) rfl rfl (by decide) rfl (fun ls hl => ?_)
      refine lv_goto (tgt := 14) hx hb dX4_pairs_59 (by decide) ?_
      exact hL14 _ _ _ hwp H locs ls hP hS (lv_sub hl [1, 2, 3, 0] rfl)
    · replace hwp := hwp.2 c3
      refine lv_aload_n hx hb dX4_pairs_27 rfl (lv_at hl 0 rfl) ?_
      refine lv_iload_n hx hb dX4_pairs_28 rfl (lv_at hl 3 rfl) ?_
      refine m_calli ⟨hx, hb, hml, hown, hts⟩ hK hD hA hP hS (mt_isHouse hwp) (cwV 1 hts (lw_V q1501 q1503 qs27 q79 q1504) rfl rfl rfl (by decide +kernel) ⟨Nat.le_of_ble_eq_true rfl, Nat.le_of_ble_eq_true rfl⟩) rfl hl.1 rfl (Nat.le_of_ble_eq_true rfl) dX4_pairs_29 ⟨Nat.zero_le _, Nat.zero_le _⟩ (fun r4 u H locs hk hP hS => ?_)
      obtain ⟨hwp, eu⟩ := hk
      rw [eu] at hP
      refine lv_if_eq (tgt := 56) hx hb dX4_pairs_32 (by decide) (fun c5 => ?_) (fun c5 => ?_)
      · replace hwp := hwp.1 c5
        refine lv_iinc (v := x3 + 1) (lv' := [(3, .int (x3 + 1)), (0, .ref (α 50)), (1, .int x1), (2, .int x2)]) hx hb dX4_pairs_56 hl (k := 3) rfl rfl (by decide) rfl (fun ls hl => ?_)
        refine lv_goto (tgt := 14) hx hb dX4_pairs_59 (by decide) ?_
        exact hL14 _ _ _ hwp H locs ls hP hS (lv_sub hl [1, 2, 3, 0] rfl)
      · replace hwp := hwp.2 c5
        refine lv_aload_n hx hb dX4_pairs_35 rfl (lv_at hl 0 rfl) ?_
        refine lv_iload_n hx hb dX4_pairs_36 rfl (lv_at hl 2 rfl) ?_
        refine lv_iload_n hx hb dX4_pairs_37 rfl (lv_at hl 3 rfl) ?_
        refine m_calli ⟨hx, hb, hml, hown, hts⟩ hK hD hA hP hS (mt_isSeen hwp) (cwV 2 hts (lw_V q1517 q1519 qs31 q79 q1520) rfl rfl rfl (by decide +kernel) ⟨Nat.le_of_ble_eq_true rfl, Nat.le_of_ble_eq_true rfl⟩) rfl hl.1 rfl (Nat.le_of_ble_eq_true rfl) dX4_pairs_38 ⟨Nat.zero_le _, Nat.zero_le _⟩ (fun r6 u H locs hk hP hS => ?_)
        obtain ⟨hwp, eu⟩ := hk
        rw [eu] at hP
        refine lv_if_eq (tgt := 56) hx hb dX4_pairs_41 (by decide) (fun c7 => ?_) (fun c7 => ?_)
        · replace hwp := hwp.1 c7
          refine lv_iinc (v := x3 + 1) (lv' := [(3, .int (x3 + 1)), (0, .ref (α 50)), (1, .int x1), (2, .int x2)]) hx hb dX4_pairs_56 hl (k := 3) rfl rfl (by decide) rfl (fun ls hl => ?_)
          refine lv_goto (tgt := 14) hx hb dX4_pairs_59 (by decide) ?_
          exact hL14 _ _ _ hwp H locs ls hP hS (lv_sub hl [1, 2, 3, 0] rfl)
        · replace hwp := hwp.2 c7
          refine lv_aload_n hx hb dX4_pairs_44 rfl (lv_at hl 0 rfl) ?_
          refine lv_iload_n hx hb dX4_pairs_45 rfl (lv_at hl 3 rfl) ?_
          refine lv_iload_n hx hb dX4_pairs_46 rfl (lv_at hl 2 rfl) ?_
          refine m_calli ⟨hx, hb, hml, hown, hts⟩ hK hD hA hP hS (mt_isSeen hwp) (cwV 2 hts (lw_V q1517 q1519 qs31 q79 q1520) rfl rfl rfl (by decide +kernel) ⟨Nat.le_of_ble_eq_true rfl, Nat.le_of_ble_eq_true rfl⟩) rfl hl.1 rfl (Nat.le_of_ble_eq_true rfl) dX4_pairs_47 ⟨Nat.zero_le _, Nat.zero_le _⟩ (fun r8 u H locs hk hP hS => ?_)
          obtain ⟨hwp, eu⟩ := hk
          rw [eu] at hP
          refine lv_if_eq (tgt := 56) hx hb dX4_pairs_50 (by decide) (fun c9 => ?_) (fun c9 => ?_)
          · replace hwp := hwp.1 c9
            refine lv_iinc (v := x3 + 1) (lv' := [(3, .int (x3 + 1)), (0, .ref (α 50)), (1, .int x1), (2, .int x2)]) hx hb dX4_pairs_56 hl (k := 3) rfl rfl (by decide) rfl (fun ls hl => ?_)
            refine lv_goto (tgt := 14) hx hb dX4_pairs_59 (by decide) ?_
            exact hL14 _ _ _ hwp H locs ls hP hS (lv_sub hl [1, 2, 3, 0] rfl)
          · replace hwp := hwp.2 c9
            refine lv_iinc (v := x1 + 1) (lv' := [(1, .int (x1 + 1)), (0, .ref (α 50)), (2, .int x2), (3, .int x3)]) hx hb dX4_pairs_53 hl (k := 1) rfl rfl (by decide) rfl (fun ls hl => ?_)
            refine lv_iinc (v := x3 + 1) (lv' := [(3, .int (x3 + 1)), (1, .int (x1 + 1)), (0, .ref (α 50)), (2, .int x2)]) hx hb dX4_pairs_56 hl (k := 3) rfl rfl (by decide) rfl (fun ls hl => ?_)
            refine lv_goto (tgt := 14) hx hb dX4_pairs_59 (by decide) ?_
            exact hL14 _ _ _ hwp H locs ls hP hS (lv_sub hl [2, 1, 3, 0] rfl)
set_option maxHeartbeats 4000000 in
set_option maxRecDepth 100000 in
theorem mk_pairs_14 {p : Program} {l : Launch} {e : Env} {s : State} {m : MethodId} {args : Array Value} {below : List Frame} {meth : Method} {c : Code} {Γ : GA} {α : Nat → Nat} {σ : MSt} {K : Int32 → Prop} (X : CM p s m args meth c cX4_pairs 4 (some .int) Γ α) {L4 : Int32 → Int32 → Prop} (hL4 : ∀ (x1 : Int32) (x2 : Int32), L4 x1 x2 → TM p l e ({ frames := 20, cells := 0, slots := 0, locals := 446 } : Room) s m args below meth c 4 (QI below (fun r u => K r ∧ u = σ) Γ α s args) Γ α σ 4 [(0, .ref (α 50)), (1, .int x1), (2, .int x2)] []) : ∀ n (x1 : Int32) (x2 : Int32) (x3 : Int32), mw_pairs_14 σ K L4 n x1 x2 x3 → TM p l e ({ frames := 20, cells := 0, slots := 0, locals := 446 } : Room) s m args below meth c 4 (QI below (fun r u => K r ∧ u = σ) Γ α s args) Γ α σ 14 [(0, .ref (α 50)), (1, .int x1), (2, .int x2), (3, .int x3)] [] := by
  intro n
  induction n with
  | zero => intro _ _ _ hwp; exact hwp.elim
  | succ n ih => intro x1 x2 x3 hwp; exact mk_pairs_14_b X hL4 ih x1 x2 x3 hwp
def mw_pairs_4_b (σ : MSt) (K : Int32 → Prop) (L4 : Int32 → Int32 → Prop) (x1 : Int32) (x2 : Int32) : Prop :=
  (((σ.1 0) ≤ x2) → (K x1)) ∧ ((¬ ((σ.1 0) ≤ x2)) → (∃ n, mw_pairs_14 σ K L4 n x1 x2 0))
def mw_pairs_4 (σ : MSt) (K : Int32 → Prop) : Nat → Int32 → Int32 → Prop
  | 0 => fun _ _ => False
  | n + 1 => fun x1 x2 => mw_pairs_4_b σ K (mw_pairs_4 σ K n) x1 x2
set_option maxHeartbeats 4000000 in
set_option maxRecDepth 100000 in
theorem mk_pairs_4_b {p : Program} {l : Launch} {e : Env} {s : State} {m : MethodId} {args : Array Value} {below : List Frame} {meth : Method} {c : Code} {Γ : GA} {α : Nat → Nat} {σ : MSt} {K : Int32 → Prop} (X : CM p s m args meth c cX4_pairs 4 (some .int) Γ α) {L4 : Int32 → Int32 → Prop} (hL4 : ∀ (x1 : Int32) (x2 : Int32), L4 x1 x2 → TM p l e ({ frames := 20, cells := 0, slots := 0, locals := 446 } : Room) s m args below meth c 4 (QI below (fun r u => K r ∧ u = σ) Γ α s args) Γ α σ 4 [(0, .ref (α 50)), (1, .int x1), (2, .int x2)] []) : ∀ (x1 : Int32) (x2 : Int32), mw_pairs_4_b σ K L4 x1 x2 → TM p l e ({ frames := 20, cells := 0, slots := 0, locals := 446 } : Room) s m args below meth c 4 (QI below (fun r u => K r ∧ u = σ) Γ α s args) Γ α σ 4 [(0, .ref (α 50)), (1, .int x1), (2, .int x2)] [] := by
  obtain ⟨hx, hb, hml, hown, hts, hK, hD, hr, hlk⟩ := id X
  have hA : ∀ q, s.heap.size ≤ q → AM α s.heap.size q := fun q h => Or.inr h
  intro x1 x2 hwp H locs ls hP hS hl
  unfold mw_pairs_4_b at hwp
  refine lv_iload_n hx hb dX4_pairs_4 rfl (lv_at hl 2 rfl) ?_
  refine lv_aload_n hx hb dX4_pairs_5 rfl (lv_at hl 0 rfl) ?_
  refine m_geti hx hb hts hown hK hP 0 (by decide) rfl q1346 rfl dX4_pairs_6 ?_
  refine lv_icmp_ge (tgt := 68) hx hb dX4_pairs_9 (by decide) (fun c1 => ?_) (fun c1 => ?_)
  · replace hwp := hwp.1 c1
    refine lv_iload_n hx hb dX4_pairs_68 rfl (lv_at hl 1 rfl) ?_
    exact m_iret hx hb hr hlk hK hP hS ⟨hwp, rfl⟩ dX4_pairs_69
  · replace hwp := hwp.2 c1
    refine lv_iconst (v := 0) hx hb dX4_pairs_12 (by decide) ?_
    refine lv_istore_n (lv' := [(3, .int 0), (0, .ref (α 50)), (1, .int x1), (2, .int x2)]) hx hb dX4_pairs_13 rfl hl (by decide) rfl (fun ls hl => ?_)
    obtain ⟨n, hwp⟩ := hwp
    exact mk_pairs_14 X hL4 n _ _ _ hwp H locs ls hP hS (lv_sub hl [1, 2, 3, 0] rfl)
set_option maxHeartbeats 4000000 in
set_option maxRecDepth 100000 in
theorem mk_pairs_4 {p : Program} {l : Launch} {e : Env} {s : State} {m : MethodId} {args : Array Value} {below : List Frame} {meth : Method} {c : Code} {Γ : GA} {α : Nat → Nat} {σ : MSt} {K : Int32 → Prop} (X : CM p s m args meth c cX4_pairs 4 (some .int) Γ α) : ∀ n (x1 : Int32) (x2 : Int32), mw_pairs_4 σ K n x1 x2 → TM p l e ({ frames := 20, cells := 0, slots := 0, locals := 446 } : Room) s m args below meth c 4 (QI below (fun r u => K r ∧ u = σ) Γ α s args) Γ α σ 4 [(0, .ref (α 50)), (1, .int x1), (2, .int x2)] [] := by
  intro n
  induction n with
  | zero => intro _ _ hwp; exact hwp.elim
  | succ n ih => intro x1 x2 hwp; exact mk_pairs_4_b X ih x1 x2 hwp
def mw_pairs (σ : MSt) (K : Int32 → Prop) : Prop :=
  ∃ n, mw_pairs_4 σ K n 0 0
set_option maxHeartbeats 4000000 in
set_option maxRecDepth 100000 in
theorem mt_pairs {l : Launch} {Γ : GA} {α : Nat → Nat} {σ : MSt} {K : Int32 → Prop} (hwp : mw_pairs σ K ) : mI l yX4_pairs cX4_pairs 4 (some .int) ({ frames := 20, cells := 0, slots := 0, locals := 446 } : Room) Γ α [] σ (fun r u => K r ∧ u = σ) := by
  intro sz
  refine m_of (by decide) rfl [(0, .ref (α 50))] (fun _ h => h) (Nat.le_of_ble_eq_true rfl) ?_
  intro p e s m args below meth c hsz X H locs ls hP hS hl
  subst hsz
  obtain ⟨hx, hb, hml, hown, hts, hK, hD, hr, hlk⟩ := id X
  have hA : ∀ q, s.heap.size ≤ q → AM α s.heap.size q := fun q h => Or.inr h
  unfold mw_pairs at hwp
  refine lv_iconst (v := 0) hx hb dX4_pairs_0 (by decide) ?_
  refine lv_istore_n (lv' := [(1, .int 0), (0, .ref (α 50))]) hx hb dX4_pairs_1 rfl hl (by decide) rfl (fun ls hl => ?_)
  refine lv_iconst (v := 0) hx hb dX4_pairs_2 (by decide) ?_
  refine lv_istore_n (lv' := [(2, .int 0), (1, .int 0), (0, .ref (α 50))]) hx hb dX4_pairs_3 rfl hl (by decide) rfl (fun ls hl => ?_)
  obtain ⟨n, hwp⟩ := hwp
  exact mk_pairs_4 X n _ _ hwp H locs ls hP hS (lv_sub hl [2, 1, 0] rfl)
/-! restore -/
def mw_restore_25_b (K : Int32 → MSt → Prop) (L25 : Int32 → MSt → Prop) (x1 : Int32) (σ : MSt) : Prop :=
  ((8 ≤ x1) → (K (σ.1 0) σ)) ∧ ((¬ (8 ≤ x1)) → (vp_in x1 (lenM 14) ∧ (((¬ ((σ.2.1 14 x1.toNatClampNeg) = 2)) → (L25 (x1 + 1) σ)) ∧ (((σ.2.1 14 x1.toNatClampNeg) = 2) → (vp_in x1 (lenM 17) ∧ ((((σ.2.1 17 x1.toNatClampNeg) < (σ.1 0)) → (L25 (x1 + 1) σ)) ∧ ((¬ ((σ.2.1 17 x1.toNatClampNeg) < (σ.1 0))) → (vp_in x1 (lenM 14) ∧ (∀ σ7, σ7 = sI σ 14 x1.toNatClampNeg 0 → (L25 (x1 + 1) σ7))))))))))
def mw_restore_25 (K : Int32 → MSt → Prop) : Nat → Int32 → MSt → Prop
  | 0 => fun _ _ => False
  | n + 1 => fun x1 σ => mw_restore_25_b K (mw_restore_25 K n) x1 σ
set_option maxHeartbeats 4000000 in
set_option maxRecDepth 100000 in
theorem mk_restore_25_b {p : Program} {l : Launch} {e : Env} {s : State} {m : MethodId} {args : Array Value} {below : List Frame} {meth : Method} {c : Code} {Γ : GA} {α : Nat → Nat} {K : Int32 → MSt → Prop} (X : CM p s m args meth c cX4_restore 2 (some .int) Γ α) {L25 : Int32 → MSt → Prop} (hL25 : ∀ (x1 : Int32) (σ : MSt), L25 x1 σ → TM p l e ({ frames := 2, cells := 0, slots := 0, locals := 48 } : Room) s m args below meth c 2 (QI below K Γ α s args) Γ α σ 25 [(0, .ref (α 50)), (1, .int x1)] []) : ∀ (x1 : Int32) (σ : MSt), mw_restore_25_b K L25 x1 σ → TM p l e ({ frames := 2, cells := 0, slots := 0, locals := 48 } : Room) s m args below meth c 2 (QI below K Γ α s args) Γ α σ 25 [(0, .ref (α 50)), (1, .int x1)] [] := by
  obtain ⟨hx, hb, hml, hown, hts, hK, hD, hr, hlk⟩ := id X
  have hA : ∀ q, s.heap.size ≤ q → AM α s.heap.size q := fun q h => Or.inr h
  intro x1 σ hwp H locs ls hP hS hl
  unfold mw_restore_25_b at hwp
  refine lv_iload_n hx hb dX4_restore_25 rfl (lv_at hl 1 rfl) ?_
  refine lv_bipush (v := 8) hx hb dX4_restore_26 (by decide) ?_
  refine lv_icmp_ge (tgt := 67) hx hb dX4_restore_28 (by decide) (fun c1 => ?_) (fun c1 => ?_)
  · replace hwp := hwp.1 c1
    refine lv_aload_n hx hb dX4_restore_67 rfl (lv_at hl 0 rfl) ?_
    refine m_geti hx hb hts hown hK hP 0 (by decide) rfl q1346 rfl dX4_restore_68 ?_
    exact m_iret hx hb hr hlk hK hP hS hwp dX4_restore_71
  · replace hwp := hwp.2 c1
    refine lv_aload_n hx hb dX4_restore_31 rfl (lv_at hl 0 rfl) ?_
    refine m_geta hx hb hts hown hK hP 14 (by decide) rfl q1360 rfl dX4_restore_32 ?_
    refine lv_iload_n hx hb dX4_restore_35 rfl (lv_at hl 1 rfl) ?_
    obtain ⟨hi2, hwp⟩ := hwp
    refine m_iald hx hb hK hP 14 rfl hi2 dX4_restore_36 ?_
    refine lv_iconst (v := 2) hx hb dX4_restore_37 (by decide) ?_
    refine lv_icmp_ne (tgt := 61) hx hb dX4_restore_38 (by decide) (fun c3 => ?_) (fun c3 => ?_)
    · replace hwp := hwp.1 c3
      refine lv_iinc (v := x1 + 1) (lv' := [(1, .int (x1 + 1)), (0, .ref (α 50))]) hx hb dX4_restore_61 hl (k := 1) rfl rfl (by decide) rfl (fun ls hl => ?_)
      refine lv_goto (tgt := 25) hx hb dX4_restore_64 (by decide) ?_
      exact hL25 _ σ hwp H locs ls hP hS (lv_sub hl [1, 0] rfl)
    · replace hwp := hwp.2 c3
      refine lv_aload_n hx hb dX4_restore_41 rfl (lv_at hl 0 rfl) ?_
      refine m_geta hx hb hts hown hK hP 17 (by decide) rfl q1363 rfl dX4_restore_42 ?_
      refine lv_iload_n hx hb dX4_restore_45 rfl (lv_at hl 1 rfl) ?_
      obtain ⟨hi4, hwp⟩ := hwp
      refine m_iald hx hb hK hP 17 rfl hi4 dX4_restore_46 ?_
      refine lv_aload_n hx hb dX4_restore_47 rfl (lv_at hl 0 rfl) ?_
      refine m_geti hx hb hts hown hK hP 0 (by decide) rfl q1346 rfl dX4_restore_48 ?_
      refine lv_icmp_lt (tgt := 61) hx hb dX4_restore_51 (by decide) (fun c5 => ?_) (fun c5 => ?_)
      · replace hwp := hwp.1 c5
        refine lv_iinc (v := x1 + 1) (lv' := [(1, .int (x1 + 1)), (0, .ref (α 50))]) hx hb dX4_restore_61 hl (k := 1) rfl rfl (by decide) rfl (fun ls hl => ?_)
        refine lv_goto (tgt := 25) hx hb dX4_restore_64 (by decide) ?_
        exact hL25 _ σ hwp H locs ls hP hS (lv_sub hl [1, 0] rfl)
      · replace hwp := hwp.2 c5
        refine lv_aload_n hx hb dX4_restore_54 rfl (lv_at hl 0 rfl) ?_
        refine m_geta hx hb hts hown hK hP 14 (by decide) rfl q1360 rfl dX4_restore_55 ?_
        refine lv_iload_n hx hb dX4_restore_58 rfl (lv_at hl 1 rfl) ?_
        refine lv_iconst (v := 0) hx hb dX4_restore_59 (by decide) ?_
        obtain ⟨hi6, hwp⟩ := hwp
        refine m_iast hx hb hK hD hP hS 14 rfl hi6 dX4_restore_60 (fun H locs hP hS => ?_)
        obtain ⟨σ7, eσ7⟩ : ∃ z, z = sI σ 14 x1.toNatClampNeg 0 := ⟨_, rfl⟩
        rw [← eσ7] at hP
        replace hwp := hwp σ7 eσ7
        refine lv_iinc (v := x1 + 1) (lv' := [(1, .int (x1 + 1)), (0, .ref (α 50))]) hx hb dX4_restore_61 hl (k := 1) rfl rfl (by decide) rfl (fun ls hl => ?_)
        refine lv_goto (tgt := 25) hx hb dX4_restore_64 (by decide) ?_
        exact hL25 _ σ7 hwp H locs ls hP hS (lv_sub hl [1, 0] rfl)
set_option maxHeartbeats 4000000 in
set_option maxRecDepth 100000 in
theorem mk_restore_25 {p : Program} {l : Launch} {e : Env} {s : State} {m : MethodId} {args : Array Value} {below : List Frame} {meth : Method} {c : Code} {Γ : GA} {α : Nat → Nat} {K : Int32 → MSt → Prop} (X : CM p s m args meth c cX4_restore 2 (some .int) Γ α) : ∀ n (x1 : Int32) (σ : MSt), mw_restore_25 K n x1 σ → TM p l e ({ frames := 2, cells := 0, slots := 0, locals := 48 } : Room) s m args below meth c 2 (QI below K Γ α s args) Γ α σ 25 [(0, .ref (α 50)), (1, .int x1)] [] := by
  intro n
  induction n with
  | zero => intro _ _ hwp; exact hwp.elim
  | succ n ih => intro x1 σ hwp; exact mk_restore_25_b X ih x1 σ hwp
def mw_restore (K : Int32 → MSt → Prop) (σ : MSt) : Prop :=
  ((¬ ((σ.1 37) = 0)) → (mw_all (fun σ2 => ∃ n, mw_restore_25 K n 0 σ2) 28 1 σ)) ∧ (((σ.1 37) = 0) → (mw_no (fun r3 σ4 => K r3 σ4) (-6) σ))
set_option maxHeartbeats 4000000 in
set_option maxRecDepth 100000 in
theorem mt_restore {l : Launch} {Γ : GA} {α : Nat → Nat} {σ : MSt} {K : Int32 → MSt → Prop} (hwp : mw_restore K  σ) : mI l yX4_restore cX4_restore 2 (some .int) ({ frames := 2, cells := 0, slots := 0, locals := 48 } : Room) Γ α [] σ K := by
  intro sz
  refine m_of (by decide) rfl [(0, .ref (α 50))] (fun _ h => h) (Nat.le_of_ble_eq_true rfl) ?_
  intro p e s m args below meth c hsz X H locs ls hP hS hl
  subst hsz
  obtain ⟨hx, hb, hml, hown, hts, hK, hD, hr, hlk⟩ := id X
  have hA : ∀ q, s.heap.size ≤ q → AM α s.heap.size q := fun q h => Or.inr h
  unfold mw_restore at hwp
  refine lv_aload_n hx hb dX4_restore_0 rfl (lv_at hl 0 rfl) ?_
  refine m_geti hx hb hts hown hK hP 37 (by decide) rfl q1383 rfl dX4_restore_1 ?_
  refine lv_if_ne (tgt := 14) hx hb dX4_restore_4 (by decide) (fun c1 => ?_) (fun c1 => ?_)
  · replace hwp := hwp.1 c1
    refine lv_aload_n hx hb dX4_restore_14 rfl (lv_at hl 0 rfl) ?_
    refine lv_aload_n hx hb dX4_restore_15 rfl (lv_at hl 0 rfl) ?_
    refine m_geta hx hb hts hown hK hP 28 (by decide) rfl q1374 rfl dX4_restore_16 ?_
    refine lv_iconst (v := 1) hx hb dX4_restore_19 (by decide) ?_
    refine m_callv ⟨hx, hb, hml, hown, hts⟩ hK hD hA hP hS (mt_all rfl hwp) (cwV 2 hts (lw_V q1601 q1603 qs45 q79 q1604) rfl rfl rfl (by decide +kernel) ⟨Nat.le_of_ble_eq_true rfl, Nat.le_of_ble_eq_true rfl⟩) rfl hl.1 rfl (Nat.le_of_ble_eq_true rfl) dX4_restore_20 ⟨Nat.zero_le _, Nat.zero_le _⟩ (fun σ2 H locs hk hP hS => ?_)
    have hwp := hk
    refine lv_iconst (v := 0) hx hb dX4_restore_23 (by decide) ?_
    refine lv_istore_n (lv' := [(1, .int 0), (0, .ref (α 50))]) hx hb dX4_restore_24 rfl hl (by decide) rfl (fun ls hl => ?_)
    obtain ⟨n, hwp⟩ := hwp
    exact mk_restore_25 X n _ σ2 hwp H locs ls hP hS (lv_sub hl [1, 0] rfl)
  · replace hwp := hwp.2 c1
    refine lv_aload_n hx hb dX4_restore_7 rfl (lv_at hl 0 rfl) ?_
    refine lv_bipush (v := (-6)) hx hb dX4_restore_8 (by decide) ?_
    refine m_calli ⟨hx, hb, hml, hown, hts⟩ hK hD hA hP hS (mt_no hwp) (cwV 1 hts (lw_V q1469 q1471 qs25 q79 q1472) rfl rfl rfl (by decide +kernel) ⟨Nat.le_of_ble_eq_true rfl, Nat.le_of_ble_eq_true rfl⟩) rfl hl.1 rfl (Nat.le_of_ble_eq_true rfl) dX4_restore_10 ⟨Nat.zero_le _, Nat.zero_le _⟩ (fun r3 σ4 H locs hk hP hS => ?_)
    have hwp := hk
    exact m_iret hx hb hr hlk hK hP hS hwp dX4_restore_13
/-! right -/
def mw_right (σ : MSt) (K : Int32 → Prop) : Prop :=
  mw_allRight σ (fun r1 => K r1)
set_option maxHeartbeats 4000000 in
set_option maxRecDepth 100000 in
theorem mt_right {l : Launch} {Γ : GA} {α : Nat → Nat} {σ : MSt} {K : Int32 → Prop} (hwp : mw_right σ K ) : mI l yX4_right cX4_right 1 (some .int) ({ frames := 24, cells := 0, slots := 0, locals := 535 } : Room) Γ α [] σ (fun r u => K r ∧ u = σ) := by
  intro sz
  refine m_of (by decide) rfl [(0, .ref (α 50))] (fun _ h => h) (Nat.le_of_ble_eq_true rfl) ?_
  intro p e s m args below meth c hsz X H locs ls hP hS hl
  subst hsz
  obtain ⟨hx, hb, hml, hown, hts, hK, hD, hr, hlk⟩ := id X
  have hA : ∀ q, s.heap.size ≤ q → AM α s.heap.size q := fun q h => Or.inr h
  unfold mw_right at hwp
  refine lv_aload_n hx hb dX4_right_0 rfl (lv_at hl 0 rfl) ?_
  refine m_calli ⟨hx, hb, hml, hown, hts⟩ hK hD hA hP hS (mt_allRight hwp) (cwV 0 hts (lw_V q1665 q1667 qs56 q79 q1668) rfl rfl rfl (by decide +kernel) ⟨Nat.le_of_ble_eq_true rfl, Nat.le_of_ble_eq_true rfl⟩) rfl hl.1 rfl (Nat.le_of_ble_eq_true rfl) dX4_right_1 ⟨Nat.zero_le _, Nat.zero_le _⟩ (fun r1 u H locs hk hP hS => ?_)
  obtain ⟨hwp, eu⟩ := hk
  rw [eu] at hP
  exact m_iret hx hb hr hlk hK hP hS ⟨hwp, rfl⟩ dX4_right_4
/-! row -/
def mw_row_34 (K : Int32 → MSt → Prop) (σ : MSt) : Prop :=
  mw_no (fun r1 σ2 => K r1 σ2) (-6) σ
set_option maxHeartbeats 4000000 in
set_option maxRecDepth 100000 in
theorem mk_row_34 {p : Program} {l : Launch} {e : Env} {s : State} {m : MethodId} {args : Array Value} {below : List Frame} {meth : Method} {c : Code} {Γ : GA} {α : Nat → Nat} {K : Int32 → MSt → Prop} (X : CM p s m args meth c cX4_row 5 (some .int) Γ α) : ∀ (σ : MSt), mw_row_34 K  σ → TM p l e ({ frames := 1, cells := 0, slots := 0, locals := 21 } : Room) s m args below meth c 5 (QI below K Γ α s args) Γ α σ 34 [(0, .ref (α 50))] [] := by
  obtain ⟨hx, hb, hml, hown, hts, hK, hD, hr, hlk⟩ := id X
  have hA : ∀ q, s.heap.size ≤ q → AM α s.heap.size q := fun q h => Or.inr h
  intro  σ hwp H locs ls hP hS hl
  unfold mw_row_34 at hwp
  refine lv_aload_n hx hb dX4_row_34 rfl (lv_at hl 0 rfl) ?_
  refine lv_bipush (v := (-6)) hx hb dX4_row_35 (by decide) ?_
  refine m_calli ⟨hx, hb, hml, hown, hts⟩ hK hD hA hP hS (mt_no hwp) (cwV 1 hts (lw_V q1469 q1471 qs25 q79 q1472) rfl rfl rfl (by decide +kernel) ⟨Nat.le_of_ble_eq_true rfl, Nat.le_of_ble_eq_true rfl⟩) rfl hl.1 rfl (Nat.le_of_ble_eq_true rfl) dX4_row_37 ⟨Nat.zero_le _, Nat.zero_le _⟩ (fun r1 σ2 H locs hk hP hS => ?_)
  have hwp := hk
  exact m_iret hx hb hr hlk hK hP hS hwp dX4_row_40
def mw_row_79_b (K : Int32 → MSt → Prop) (L79 : Int32 → Int32 → MSt → Prop) (x1 : Int32) (x4 : Int32) (σ : MSt) : Prop :=
  ((160 ≤ x4) → (K 1 σ)) ∧ ((¬ (160 ≤ x4)) → (vp_in ((160 * x1) + x4) (lenM 18) ∧ (∀ σ3, σ3 = sJ σ 18 ((160 * x1) + x4).toNatClampNeg 0 → (L79 x1 (x4 + 1) σ3))))
def mw_row_79 (K : Int32 → MSt → Prop) : Nat → Int32 → Int32 → MSt → Prop
  | 0 => fun _ _ _ => False
  | n + 1 => fun x1 x4 σ => mw_row_79_b K (mw_row_79 K n) x1 x4 σ
set_option maxHeartbeats 4000000 in
set_option maxRecDepth 100000 in
theorem mk_row_79_b {p : Program} {l : Launch} {e : Env} {s : State} {m : MethodId} {args : Array Value} {below : List Frame} {meth : Method} {c : Code} {Γ : GA} {α : Nat → Nat} {K : Int32 → MSt → Prop} (X : CM p s m args meth c cX4_row 5 (some .int) Γ α) {L79 : Int32 → Int32 → MSt → Prop} (hL79 : ∀ (x1 : Int32) (x4 : Int32) (σ : MSt), L79 x1 x4 σ → TM p l e ({ frames := 1, cells := 0, slots := 0, locals := 21 } : Room) s m args below meth c 5 (QI below K Γ α s args) Γ α σ 79 [(0, .ref (α 50)), (1, .int x1), (4, .int x4)] []) : ∀ (x1 : Int32) (x4 : Int32) (σ : MSt), mw_row_79_b K L79 x1 x4 σ → TM p l e ({ frames := 1, cells := 0, slots := 0, locals := 21 } : Room) s m args below meth c 5 (QI below K Γ α s args) Γ α σ 79 [(0, .ref (α 50)), (1, .int x1), (4, .int x4)] [] := by
  obtain ⟨hx, hb, hml, hown, hts, hK, hD, hr, hlk⟩ := id X
  have hA : ∀ q, s.heap.size ≤ q → AM α s.heap.size q := fun q h => Or.inr h
  intro x1 x4 σ hwp H locs ls hP hS hl
  unfold mw_row_79_b at hwp
  refine lv_iload hx hb dX4_row_79 (lv_at hl 2 rfl) ?_
  refine lv_sipush (v := 160) hx hb dX4_row_81 (by decide) ?_
  refine lv_icmp_ge (tgt := 107) hx hb dX4_row_84 (by decide) (fun c1 => ?_) (fun c1 => ?_)
  · replace hwp := hwp.1 c1
    refine lv_iconst (v := 1) hx hb dX4_row_107 (by decide) ?_
    exact m_iret hx hb hr hlk hK hP hS hwp dX4_row_108
  · replace hwp := hwp.2 c1
    refine lv_aload_n hx hb dX4_row_87 rfl (lv_at hl 0 rfl) ?_
    refine m_geta hx hb hts hown hK hP 18 (by decide) rfl q1364 rfl dX4_row_88 ?_
    refine lv_sipush (v := 160) hx hb dX4_row_91 (by decide) ?_
    refine lv_iload_n hx hb dX4_row_94 rfl (lv_at hl 1 rfl) ?_
    refine lv_imul hx hb dX4_row_95 ?_
    refine lv_iload hx hb dX4_row_96 (lv_at hl 2 rfl) ?_
    refine lv_iadd hx hb dX4_row_98 ?_
    refine lv_lconst (v := 0) hx hb dX4_row_99 (by decide) ?_
    obtain ⟨hi2, hwp⟩ := hwp
    refine m_last hx hb hK hD hP hS 18 (Or.inl rfl) hi2 dX4_row_100 (fun H locs hP hS => ?_)
    obtain ⟨σ3, eσ3⟩ : ∃ z, z = sJ σ 18 ((160 * x1) + x4).toNatClampNeg 0 := ⟨_, rfl⟩
    rw [← eσ3] at hP
    replace hwp := hwp σ3 eσ3
    refine lv_iinc (v := x4 + 1) (lv' := [(4, .int (x4 + 1)), (0, .ref (α 50)), (1, .int x1)]) hx hb dX4_row_101 hl (k := 2) rfl rfl (by decide) rfl (fun ls hl => ?_)
    refine lv_goto (tgt := 79) hx hb dX4_row_104 (by decide) ?_
    exact hL79 _ _ σ3 hwp H locs ls hP hS (lv_sub hl [1, 2, 0] rfl)
set_option maxHeartbeats 4000000 in
set_option maxRecDepth 100000 in
theorem mk_row_79 {p : Program} {l : Launch} {e : Env} {s : State} {m : MethodId} {args : Array Value} {below : List Frame} {meth : Method} {c : Code} {Γ : GA} {α : Nat → Nat} {K : Int32 → MSt → Prop} (X : CM p s m args meth c cX4_row 5 (some .int) Γ α) : ∀ n (x1 : Int32) (x4 : Int32) (σ : MSt), mw_row_79 K n x1 x4 σ → TM p l e ({ frames := 1, cells := 0, slots := 0, locals := 21 } : Room) s m args below meth c 5 (QI below K Γ α s args) Γ α σ 79 [(0, .ref (α 50)), (1, .int x1), (4, .int x4)] [] := by
  intro n
  induction n with
  | zero => intro _ _ _ hwp; exact hwp.elim
  | succ n ih => intro x1 x4 σ hwp; exact mk_row_79_b X ih x1 x4 σ hwp
def mw_row (K : Int32 → MSt → Prop) (x1 : Int32) (x2 : Int32) (x3 : Int32) (σ : MSt) : Prop :=
  mw_isShelf σ (fun r1 => ((¬ (r1 = 0)) → (((0 ≤ x3) → (((x2 < 0) → (mw_row_34 K σ)) ∧ ((¬ (x2 < 0)) → (((x2 ≤ 3) → (((x3 ≤ 160) → (vp_in x1 (lenM 14) ∧ (∀ σ8, σ8 = sI σ 14 x1.toNatClampNeg 1 → (vp_in x1 (lenM 15) ∧ (∀ σ10, σ10 = sI σ8 15 x1.toNatClampNeg x2 → (vp_in x1 (lenM 16) ∧ (∀ σ12, σ12 = sI σ10 16 x1.toNatClampNeg x3 → (∃ n, mw_row_79 K n x1 0 σ12)))))))) ∧ ((¬ (x3 ≤ 160)) → (mw_no (fun r13 σ14 => K r13 σ14) (-7) σ)))) ∧ ((¬ (x2 ≤ 3)) → (mw_row_34 K σ)))))) ∧ ((¬ (0 ≤ x3)) → (mw_no (fun r15 σ16 => K r15 σ16) (-4) σ)))) ∧ ((r1 = 0) → (mw_no (fun r17 σ18 => K r17 σ18) (-1) σ))) x1
set_option maxHeartbeats 4000000 in
set_option maxRecDepth 100000 in
theorem mt_row {l : Launch} {Γ : GA} {α : Nat → Nat} {σ : MSt} {K : Int32 → MSt → Prop} {x1 : Int32} {x2 : Int32} {x3 : Int32} (hwp : mw_row K x1 x2 x3 σ) : mI l yX4_row cX4_row 5 (some .int) ({ frames := 1, cells := 0, slots := 0, locals := 21 } : Room) Γ α [.int x1, .int x2, .int x3] σ K := by
  intro sz
  refine m_of (by decide) rfl [(0, .ref (α 50)), (1, .int x1), (2, .int x2), (3, .int x3)] (fun _ h => h) (Nat.le_of_ble_eq_true rfl) ?_
  intro p e s m args below meth c hsz X H locs ls hP hS hl
  subst hsz
  obtain ⟨hx, hb, hml, hown, hts, hK, hD, hr, hlk⟩ := id X
  have hA : ∀ q, s.heap.size ≤ q → AM α s.heap.size q := fun q h => Or.inr h
  unfold mw_row at hwp
  refine lv_aload_n hx hb dX4_row_0 rfl (lv_at hl 0 rfl) ?_
  refine lv_iload_n hx hb dX4_row_1 rfl (lv_at hl 1 rfl) ?_
  refine m_calli ⟨hx, hb, hml, hown, hts⟩ hK hD hA hP hS (mt_isShelf hwp) (cwV 1 hts (lw_V q1465 q1467 qs24 q79 q1468) rfl rfl rfl (by decide +kernel) ⟨Nat.le_of_ble_eq_true rfl, Nat.le_of_ble_eq_true rfl⟩) rfl hl.1 rfl (Nat.le_of_ble_eq_true rfl) dX4_row_2 ⟨Nat.zero_le _, Nat.zero_le _⟩ (fun r1 u H locs hk hP hS => ?_)
  obtain ⟨hwp, eu⟩ := hk
  rw [eu] at hP
  refine lv_if_ne (tgt := 14) hx hb dX4_row_5 (by decide) (fun c2 => ?_) (fun c2 => ?_)
  · replace hwp := hwp.1 c2
    refine lv_iload_n hx hb dX4_row_14 rfl (lv_at hl 3 rfl) ?_
    refine lv_if_ge (tgt := 25) hx hb dX4_row_15 (by decide) (fun c3 => ?_) (fun c3 => ?_)
    · replace hwp := hwp.1 c3
      refine lv_iload_n hx hb dX4_row_25 rfl (lv_at hl 2 rfl) ?_
      refine lv_if_lt (tgt := 34) hx hb dX4_row_26 (by decide) (fun c4 => ?_) (fun c4 => ?_)
      · replace hwp := hwp.1 c4
        exact mk_row_34 X σ hwp H locs ls hP hS (lv_sub hl [0] rfl)
      · replace hwp := hwp.2 c4
        refine lv_iload_n hx hb dX4_row_29 rfl (lv_at hl 2 rfl) ?_
        refine lv_iconst (v := 3) hx hb dX4_row_30 (by decide) ?_
        refine lv_icmp_le (tgt := 41) hx hb dX4_row_31 (by decide) (fun c5 => ?_) (fun c5 => ?_)
        · replace hwp := hwp.1 c5
          refine lv_iload_n hx hb dX4_row_41 rfl (lv_at hl 3 rfl) ?_
          refine lv_sipush (v := 160) hx hb dX4_row_42 (by decide) ?_
          refine lv_icmp_le (tgt := 55) hx hb dX4_row_45 (by decide) (fun c6 => ?_) (fun c6 => ?_)
          · replace hwp := hwp.1 c6
            refine lv_aload_n hx hb dX4_row_55 rfl (lv_at hl 0 rfl) ?_
            refine m_geta hx hb hts hown hK hP 14 (by decide) rfl q1360 rfl dX4_row_56 ?_
            refine lv_iload_n hx hb dX4_row_59 rfl (lv_at hl 1 rfl) ?_
            refine lv_iconst (v := 1) hx hb dX4_row_60 (by decide) ?_
            obtain ⟨hi7, hwp⟩ := hwp
            refine m_iast hx hb hK hD hP hS 14 rfl hi7 dX4_row_61 (fun H locs hP hS => ?_)
            obtain ⟨σ8, eσ8⟩ : ∃ z, z = sI σ 14 x1.toNatClampNeg 1 := ⟨_, rfl⟩
            rw [← eσ8] at hP
            replace hwp := hwp σ8 eσ8
            refine lv_aload_n hx hb dX4_row_62 rfl (lv_at hl 0 rfl) ?_
            refine m_geta hx hb hts hown hK hP 15 (by decide) rfl q1361 rfl dX4_row_63 ?_
            refine lv_iload_n hx hb dX4_row_66 rfl (lv_at hl 1 rfl) ?_
            refine lv_iload_n hx hb dX4_row_67 rfl (lv_at hl 2 rfl) ?_
            obtain ⟨hi9, hwp⟩ := hwp
            refine m_iast hx hb hK hD hP hS 15 rfl hi9 dX4_row_68 (fun H locs hP hS => ?_)
            obtain ⟨σ10, eσ10⟩ : ∃ z, z = sI σ8 15 x1.toNatClampNeg x2 := ⟨_, rfl⟩
            rw [← eσ10] at hP
            replace hwp := hwp σ10 eσ10
            refine lv_aload_n hx hb dX4_row_69 rfl (lv_at hl 0 rfl) ?_
            refine m_geta hx hb hts hown hK hP 16 (by decide) rfl q1362 rfl dX4_row_70 ?_
            refine lv_iload_n hx hb dX4_row_73 rfl (lv_at hl 1 rfl) ?_
            refine lv_iload_n hx hb dX4_row_74 rfl (lv_at hl 3 rfl) ?_
            obtain ⟨hi11, hwp⟩ := hwp
            refine m_iast hx hb hK hD hP hS 16 rfl hi11 dX4_row_75 (fun H locs hP hS => ?_)
            obtain ⟨σ12, eσ12⟩ : ∃ z, z = sI σ10 16 x1.toNatClampNeg x3 := ⟨_, rfl⟩
            rw [← eσ12] at hP
            replace hwp := hwp σ12 eσ12
            refine lv_iconst (v := 0) hx hb dX4_row_76 (by decide) ?_
            refine lv_istore (lv' := [(4, .int 0), (0, .ref (α 50)), (1, .int x1), (2, .int x2), (3, .int x3)]) hx hb dX4_row_77 hl (by decide) rfl (fun ls hl => ?_)
            obtain ⟨n, hwp⟩ := hwp
            exact mk_row_79 X n _ _ σ12 hwp H locs ls hP hS (lv_sub hl [1, 2, 0] rfl)
          · replace hwp := hwp.2 c6
            refine lv_aload_n hx hb dX4_row_48 rfl (lv_at hl 0 rfl) ?_
            refine lv_bipush (v := (-7)) hx hb dX4_row_49 (by decide) ?_
            refine m_calli ⟨hx, hb, hml, hown, hts⟩ hK hD hA hP hS (mt_no hwp) (cwV 1 hts (lw_V q1469 q1471 qs25 q79 q1472) rfl rfl rfl (by decide +kernel) ⟨Nat.le_of_ble_eq_true rfl, Nat.le_of_ble_eq_true rfl⟩) rfl hl.1 rfl (Nat.le_of_ble_eq_true rfl) dX4_row_51 ⟨Nat.zero_le _, Nat.zero_le _⟩ (fun r13 σ14 H locs hk hP hS => ?_)
            have hwp := hk
            exact m_iret hx hb hr hlk hK hP hS hwp dX4_row_54
        · replace hwp := hwp.2 c5
          exact mk_row_34 X σ hwp H locs ls hP hS (lv_sub hl [0] rfl)
    · replace hwp := hwp.2 c3
      refine lv_aload_n hx hb dX4_row_18 rfl (lv_at hl 0 rfl) ?_
      refine lv_bipush (v := (-4)) hx hb dX4_row_19 (by decide) ?_
      refine m_calli ⟨hx, hb, hml, hown, hts⟩ hK hD hA hP hS (mt_no hwp) (cwV 1 hts (lw_V q1469 q1471 qs25 q79 q1472) rfl rfl rfl (by decide +kernel) ⟨Nat.le_of_ble_eq_true rfl, Nat.le_of_ble_eq_true rfl⟩) rfl hl.1 rfl (Nat.le_of_ble_eq_true rfl) dX4_row_21 ⟨Nat.zero_le _, Nat.zero_le _⟩ (fun r15 σ16 H locs hk hP hS => ?_)
      have hwp := hk
      exact m_iret hx hb hr hlk hK hP hS hwp dX4_row_24
  · replace hwp := hwp.2 c2
    refine lv_aload_n hx hb dX4_row_8 rfl (lv_at hl 0 rfl) ?_
    refine lv_iconst (v := (-1)) hx hb dX4_row_9 (by decide) ?_
    refine m_calli ⟨hx, hb, hml, hown, hts⟩ hK hD hA hP hS (mt_no hwp) (cwV 1 hts (lw_V q1469 q1471 qs25 q79 q1472) rfl rfl rfl (by decide +kernel) ⟨Nat.le_of_ble_eq_true rfl, Nat.le_of_ble_eq_true rfl⟩) rfl hl.1 rfl (Nat.le_of_ble_eq_true rfl) dX4_row_10 ⟨Nat.zero_le _, Nat.zero_le _⟩ (fun r17 σ18 H locs hk hP hS => ?_)
    have hwp := hk
    exact m_iret hx hb hr hlk hK hP hS hwp dX4_row_13
/-! says -/
def mw_says_18 (K : Int32 → MSt → Prop) (σ : MSt) : Prop :=
  mw_no (fun r1 σ2 => K r1 σ2) (-1) σ
set_option maxHeartbeats 4000000 in
set_option maxRecDepth 100000 in
theorem mk_says_18 {p : Program} {l : Launch} {e : Env} {s : State} {m : MethodId} {args : Array Value} {below : List Frame} {meth : Method} {c : Code} {Γ : GA} {α : Nat → Nat} {K : Int32 → MSt → Prop} (X : CM p s m args meth c cX4_says 5 (some .int) Γ α) : ∀ (σ : MSt), mw_says_18 K  σ → TM p l e ({ frames := 23, cells := 0, slots := 0, locals := 513 } : Room) s m args below meth c 5 (QI below K Γ α s args) Γ α σ 18 [(0, .ref (α 50))] [] := by
  obtain ⟨hx, hb, hml, hown, hts, hK, hD, hr, hlk⟩ := id X
  have hA : ∀ q, s.heap.size ≤ q → AM α s.heap.size q := fun q h => Or.inr h
  intro  σ hwp H locs ls hP hS hl
  unfold mw_says_18 at hwp
  refine lv_aload_n hx hb dX4_says_18 rfl (lv_at hl 0 rfl) ?_
  refine lv_iconst (v := (-1)) hx hb dX4_says_19 (by decide) ?_
  refine m_calli ⟨hx, hb, hml, hown, hts⟩ hK hD hA hP hS (mt_no hwp) (cwV 1 hts (lw_V q1469 q1471 qs25 q79 q1472) rfl rfl rfl (by decide +kernel) ⟨Nat.le_of_ble_eq_true rfl, Nat.le_of_ble_eq_true rfl⟩) rfl hl.1 rfl (Nat.le_of_ble_eq_true rfl) dX4_says_20 ⟨Nat.zero_le _, Nat.zero_le _⟩ (fun r1 σ2 H locs hk hP hS => ?_)
  have hwp := hk
  exact m_iret hx hb hr hlk hK hP hS hwp dX4_says_23
def mw_says_114 (K : Int32 → MSt → Prop) (x2 : Int32) (x3 : Int32) (σ : MSt) : Prop :=
  ((x2 < 0 ∨ 5 < x2) → (vp_in x3 (lenM 11) ∧ (K (σ.2.1 11 x3.toNatClampNeg) σ))) ∧ (x2 = 0 → (mw_tall σ (fun r3 => K r3 σ) x3)) ∧ (x2 = 1 → (mw_seersOf σ (fun r4 => mw_many σ (fun r5 => K r5 σ) r4) x3)) ∧ (x2 = 2 → (mw_tall σ (fun r6 => vp_in x3 (lenM 10) ∧ (((r6 ≤ (σ.2.1 10 x3.toNatClampNeg)) → (K 0 σ)) ∧ ((¬ (r6 ≤ (σ.2.1 10 x3.toNatClampNeg))) → (mw_tall σ (fun r9 => vp_in x3 (lenM 10) ∧ (K (r9 - (σ.2.1 10 x3.toNatClampNeg)) σ)) x3)))) x3)) ∧ (x2 = 3 → (mw_eyes σ (fun r11 => K r11 σ) x3)) ∧ (x2 = 4 → (mw_isRight σ (fun r12 => ((r12 = 0) → (K 0 σ)) ∧ ((¬ (r12 = 0)) → (K 1 σ))) x3)) ∧ (x2 = 5 → (K 0 σ))
set_option maxHeartbeats 4000000 in
set_option maxRecDepth 100000 in
theorem mk_says_114 {p : Program} {l : Launch} {e : Env} {s : State} {m : MethodId} {args : Array Value} {below : List Frame} {meth : Method} {c : Code} {Γ : GA} {α : Nat → Nat} {K : Int32 → MSt → Prop} (X : CM p s m args meth c cX4_says 5 (some .int) Γ α) : ∀ (x2 : Int32) (x3 : Int32) (σ : MSt), mw_says_114 K x2 x3 σ → TM p l e ({ frames := 23, cells := 0, slots := 0, locals := 513 } : Room) s m args below meth c 5 (QI below K Γ α s args) Γ α σ 114 [(0, .ref (α 50)), (2, .int x2), (3, .int x3)] [] := by
  obtain ⟨hx, hb, hml, hown, hts, hK, hD, hr, hlk⟩ := id X
  have hA : ∀ q, s.heap.size ≤ q → AM α s.heap.size q := fun q h => Or.inr h
  intro x2 x3 σ hwp H locs ls hP hS hl
  unfold mw_says_114 at hwp
  refine lv_iload_n hx hb dX4_says_114 rfl (lv_at hl 1 rfl) ?_
  by_cases c1 : (x2 < 0 ∨ 5 < x2)
  · replace hwp := hwp.1 c1
    refine lv_tableOut (tgt := 221) hx hb dX4_says_115 (sw_out c1) (by decide) ?_
    refine lv_aload_n hx hb dX4_says_221 rfl (lv_at hl 0 rfl) ?_
    refine m_geta hx hb hts hown hK hP 11 (by decide) rfl q1357 rfl dX4_says_222 ?_
    refine lv_iload_n hx hb dX4_says_225 rfl (lv_at hl 2 rfl) ?_
    obtain ⟨hi2, hwp⟩ := hwp
    refine m_iald hx hb hK hP 11 rfl hi2 dX4_says_226 ?_
    exact m_iret hx hb hr hlk hK hP hS hwp dX4_says_227
  · obtain ⟨j, hj, ej⟩ := sw_of (n := 5) (by decide) c1
    match j, hj, ej with
    | 0, _, ej =>
      have ej : x2 = 0 := ej
      replace hwp := hwp.2.1 ej
      refine lv_tableIn (off := 37) (tgt := 152) hx hb dX4_says_115 (by rw [ej]; decide) (by rw [ej]; decide) (by rw [ej]; rfl) (by decide) ?_
      refine lv_aload_n hx hb dX4_says_152 rfl (lv_at hl 0 rfl) ?_
      refine lv_iload_n hx hb dX4_says_153 rfl (lv_at hl 2 rfl) ?_
      refine m_calli ⟨hx, hb, hml, hown, hts⟩ hK hD hA hP hS (mt_tall hwp) (cwV 1 hts (lw_V q1505 q1507 qs28 q79 q1508) rfl rfl rfl (by decide +kernel) ⟨Nat.le_of_ble_eq_true rfl, Nat.le_of_ble_eq_true rfl⟩) rfl hl.1 rfl (Nat.le_of_ble_eq_true rfl) dX4_says_154 ⟨Nat.zero_le _, Nat.zero_le _⟩ (fun r3 u H locs hk hP hS => ?_)
      obtain ⟨hwp, eu⟩ := hk
      rw [eu] at hP
      exact m_iret hx hb hr hlk hK hP hS hwp dX4_says_157
    | 1, _, ej =>
      have ej : x2 = 1 := ej
      replace hwp := hwp.2.2.1 ej
      refine lv_tableIn (off := 43) (tgt := 158) hx hb dX4_says_115 (by rw [ej]; decide) (by rw [ej]; decide) (by rw [ej]; rfl) (by decide) ?_
      refine lv_aload_n hx hb dX4_says_158 rfl (lv_at hl 0 rfl) ?_
      refine lv_aload_n hx hb dX4_says_159 rfl (lv_at hl 0 rfl) ?_
      refine lv_iload_n hx hb dX4_says_160 rfl (lv_at hl 2 rfl) ?_
      refine m_calli ⟨hx, hb, hml, hown, hts⟩ hK hD hA hP hS (mt_seersOf hwp) (cwV 1 hts (lw_V q1509 q1511 qs29 q79 q1512) rfl rfl rfl (by decide +kernel) ⟨Nat.le_of_ble_eq_true rfl, Nat.le_of_ble_eq_true rfl⟩) rfl hl.1 rfl (Nat.le_of_ble_eq_true rfl) dX4_says_161 ⟨Nat.zero_le _, Nat.zero_le _⟩ (fun r4 u H locs hk hP hS => ?_)
      obtain ⟨hwp, eu⟩ := hk
      rw [eu] at hP
      refine m_calli ⟨hx, hb, hml, hown, hts⟩ hK hD hA hP hS (mt_many hwp) (cwV 1 hts (lw_V q1549 q1551 qs39 q79 q1552) rfl rfl rfl (by decide +kernel) ⟨Nat.le_of_ble_eq_true rfl, Nat.le_of_ble_eq_true rfl⟩) rfl hl.1 rfl (Nat.le_of_ble_eq_true rfl) dX4_says_164 ⟨Nat.zero_le _, Nat.zero_le _⟩ (fun r5 u H locs hk hP hS => ?_)
      obtain ⟨hwp, eu⟩ := hk
      rw [eu] at hP
      exact m_iret hx hb hr hlk hK hP hS hwp dX4_says_167
    | 2, _, ej =>
      have ej : x2 = 2 := ej
      replace hwp := hwp.2.2.2.1 ej
      refine lv_tableIn (off := 53) (tgt := 168) hx hb dX4_says_115 (by rw [ej]; decide) (by rw [ej]; decide) (by rw [ej]; rfl) (by decide) ?_
      refine lv_aload_n hx hb dX4_says_168 rfl (lv_at hl 0 rfl) ?_
      refine lv_iload_n hx hb dX4_says_169 rfl (lv_at hl 2 rfl) ?_
      refine m_calli ⟨hx, hb, hml, hown, hts⟩ hK hD hA hP hS (mt_tall hwp) (cwV 1 hts (lw_V q1505 q1507 qs28 q79 q1508) rfl rfl rfl (by decide +kernel) ⟨Nat.le_of_ble_eq_true rfl, Nat.le_of_ble_eq_true rfl⟩) rfl hl.1 rfl (Nat.le_of_ble_eq_true rfl) dX4_says_170 ⟨Nat.zero_le _, Nat.zero_le _⟩ (fun r6 u H locs hk hP hS => ?_)
      obtain ⟨hwp, eu⟩ := hk
      rw [eu] at hP
      refine lv_aload_n hx hb dX4_says_173 rfl (lv_at hl 0 rfl) ?_
      refine m_geta hx hb hts hown hK hP 10 (by decide) rfl q1356 rfl dX4_says_174 ?_
      refine lv_iload_n hx hb dX4_says_177 rfl (lv_at hl 2 rfl) ?_
      obtain ⟨hi7, hwp⟩ := hwp
      refine m_iald hx hb hK hP 10 rfl hi7 dX4_says_178 ?_
      refine lv_icmp_le (tgt := 197) hx hb dX4_says_179 (by decide) (fun c8 => ?_) (fun c8 => ?_)
      · replace hwp := hwp.1 c8
        refine lv_iconst (v := 0) hx hb dX4_says_197 (by decide) ?_
        exact m_iret hx hb hr hlk hK hP hS hwp dX4_says_198
      · replace hwp := hwp.2 c8
        refine lv_aload_n hx hb dX4_says_182 rfl (lv_at hl 0 rfl) ?_
        refine lv_iload_n hx hb dX4_says_183 rfl (lv_at hl 2 rfl) ?_
        refine m_calli ⟨hx, hb, hml, hown, hts⟩ hK hD hA hP hS (mt_tall hwp) (cwV 1 hts (lw_V q1505 q1507 qs28 q79 q1508) rfl rfl rfl (by decide +kernel) ⟨Nat.le_of_ble_eq_true rfl, Nat.le_of_ble_eq_true rfl⟩) rfl hl.1 rfl (Nat.le_of_ble_eq_true rfl) dX4_says_184 ⟨Nat.zero_le _, Nat.zero_le _⟩ (fun r9 u H locs hk hP hS => ?_)
        obtain ⟨hwp, eu⟩ := hk
        rw [eu] at hP
        refine lv_aload_n hx hb dX4_says_187 rfl (lv_at hl 0 rfl) ?_
        refine m_geta hx hb hts hown hK hP 10 (by decide) rfl q1356 rfl dX4_says_188 ?_
        refine lv_iload_n hx hb dX4_says_191 rfl (lv_at hl 2 rfl) ?_
        obtain ⟨hi10, hwp⟩ := hwp
        refine m_iald hx hb hK hP 10 rfl hi10 dX4_says_192 ?_
        refine lv_isub hx hb dX4_says_193 ?_
        refine lv_goto (tgt := 198) hx hb dX4_says_194 (by decide) ?_
        exact m_iret hx hb hr hlk hK hP hS hwp dX4_says_198
    | 3, _, ej =>
      have ej : x2 = 3 := ej
      replace hwp := hwp.2.2.2.2.1 ej
      refine lv_tableIn (off := 84) (tgt := 199) hx hb dX4_says_115 (by rw [ej]; decide) (by rw [ej]; decide) (by rw [ej]; rfl) (by decide) ?_
      refine lv_aload_n hx hb dX4_says_199 rfl (lv_at hl 0 rfl) ?_
      refine lv_iload_n hx hb dX4_says_200 rfl (lv_at hl 2 rfl) ?_
      refine m_calli ⟨hx, hb, hml, hown, hts⟩ hK hD hA hP hS (mt_eyes hwp) (cwV 1 hts (lw_V q1545 q1547 qs38 q79 q1548) rfl rfl rfl (by decide +kernel) ⟨Nat.le_of_ble_eq_true rfl, Nat.le_of_ble_eq_true rfl⟩) rfl hl.1 rfl (Nat.le_of_ble_eq_true rfl) dX4_says_201 ⟨Nat.zero_le _, Nat.zero_le _⟩ (fun r11 u H locs hk hP hS => ?_)
      obtain ⟨hwp, eu⟩ := hk
      rw [eu] at hP
      exact m_iret hx hb hr hlk hK hP hS hwp dX4_says_204
    | 4, _, ej =>
      have ej : x2 = 4 := ej
      replace hwp := hwp.2.2.2.2.2.1 ej
      refine lv_tableIn (off := 90) (tgt := 205) hx hb dX4_says_115 (by rw [ej]; decide) (by rw [ej]; decide) (by rw [ej]; rfl) (by decide) ?_
      refine lv_aload_n hx hb dX4_says_205 rfl (lv_at hl 0 rfl) ?_
      refine lv_iload_n hx hb dX4_says_206 rfl (lv_at hl 2 rfl) ?_
      refine m_calli ⟨hx, hb, hml, hown, hts⟩ hK hD hA hP hS (mt_isRight hwp) (cwV 1 hts (lw_V q1553 q1555 qs40 q79 q1556) rfl rfl rfl (by decide +kernel) ⟨Nat.le_of_ble_eq_true rfl, Nat.le_of_ble_eq_true rfl⟩) rfl hl.1 rfl (Nat.le_of_ble_eq_true rfl) dX4_says_207 ⟨Nat.zero_le _, Nat.zero_le _⟩ (fun r12 u H locs hk hP hS => ?_)
      obtain ⟨hwp, eu⟩ := hk
      rw [eu] at hP
      refine lv_if_eq (tgt := 217) hx hb dX4_says_210 (by decide) (fun c13 => ?_) (fun c13 => ?_)
      · replace hwp := hwp.1 c13
        refine lv_iconst (v := 0) hx hb dX4_says_217 (by decide) ?_
        exact m_iret hx hb hr hlk hK hP hS hwp dX4_says_218
      · replace hwp := hwp.2 c13
        refine lv_iconst (v := 1) hx hb dX4_says_213 (by decide) ?_
        refine lv_goto (tgt := 218) hx hb dX4_says_214 (by decide) ?_
        exact m_iret hx hb hr hlk hK hP hS hwp dX4_says_218
    | 5, _, ej =>
      have ej : x2 = 5 := ej
      replace hwp := hwp.2.2.2.2.2.2 ej
      refine lv_tableIn (off := 104) (tgt := 219) hx hb dX4_says_115 (by rw [ej]; decide) (by rw [ej]; decide) (by rw [ej]; rfl) (by decide) ?_
      refine lv_iconst (v := 0) hx hb dX4_says_219 (by decide) ?_
      exact m_iret hx hb hr hlk hK hP hS hwp dX4_says_220
    | j + 6, hj, _ => exact absurd hj (by omega)
def mw_says_107 (K : Int32 → MSt → Prop) (σ : MSt) : Prop :=
  mw_no (fun r1 σ2 => K r1 σ2) (-2) σ
set_option maxHeartbeats 4000000 in
set_option maxRecDepth 100000 in
theorem mk_says_107 {p : Program} {l : Launch} {e : Env} {s : State} {m : MethodId} {args : Array Value} {below : List Frame} {meth : Method} {c : Code} {Γ : GA} {α : Nat → Nat} {K : Int32 → MSt → Prop} (X : CM p s m args meth c cX4_says 5 (some .int) Γ α) : ∀ (σ : MSt), mw_says_107 K  σ → TM p l e ({ frames := 23, cells := 0, slots := 0, locals := 513 } : Room) s m args below meth c 5 (QI below K Γ α s args) Γ α σ 107 [(0, .ref (α 50))] [] := by
  obtain ⟨hx, hb, hml, hown, hts, hK, hD, hr, hlk⟩ := id X
  have hA : ∀ q, s.heap.size ≤ q → AM α s.heap.size q := fun q h => Or.inr h
  intro  σ hwp H locs ls hP hS hl
  unfold mw_says_107 at hwp
  refine lv_aload_n hx hb dX4_says_107 rfl (lv_at hl 0 rfl) ?_
  refine lv_bipush (v := (-2)) hx hb dX4_says_108 (by decide) ?_
  refine m_calli ⟨hx, hb, hml, hown, hts⟩ hK hD hA hP hS (mt_no hwp) (cwV 1 hts (lw_V q1469 q1471 qs25 q79 q1472) rfl rfl rfl (by decide +kernel) ⟨Nat.le_of_ble_eq_true rfl, Nat.le_of_ble_eq_true rfl⟩) rfl hl.1 rfl (Nat.le_of_ble_eq_true rfl) dX4_says_110 ⟨Nat.zero_le _, Nat.zero_le _⟩ (fun r1 σ2 H locs hk hP hS => ?_)
  have hwp := hk
  exact m_iret hx hb hr hlk hK hP hS hwp dX4_says_113
def mw_says_95 (K : Int32 → MSt → Prop) (x2 : Int32) (x3 : Int32) (x4 : Int32) (σ : MSt) : Prop :=
  ((¬ (x2 = 2)) → (mw_says_107 K σ)) ∧ ((x2 = 2) → (((x4 = 6) → (mw_says_114 K x2 x3 σ)) ∧ ((¬ (x4 = 6)) → (mw_says_107 K σ))))
set_option maxHeartbeats 4000000 in
set_option maxRecDepth 100000 in
theorem mk_says_95 {p : Program} {l : Launch} {e : Env} {s : State} {m : MethodId} {args : Array Value} {below : List Frame} {meth : Method} {c : Code} {Γ : GA} {α : Nat → Nat} {K : Int32 → MSt → Prop} (X : CM p s m args meth c cX4_says 5 (some .int) Γ α) : ∀ (x2 : Int32) (x3 : Int32) (x4 : Int32) (σ : MSt), mw_says_95 K x2 x3 x4 σ → TM p l e ({ frames := 23, cells := 0, slots := 0, locals := 513 } : Room) s m args below meth c 5 (QI below K Γ α s args) Γ α σ 95 [(0, .ref (α 50)), (2, .int x2), (3, .int x3), (4, .int x4)] [] := by
  obtain ⟨hx, hb, hml, hown, hts, hK, hD, hr, hlk⟩ := id X
  have hA : ∀ q, s.heap.size ≤ q → AM α s.heap.size q := fun q h => Or.inr h
  intro x2 x3 x4 σ hwp H locs ls hP hS hl
  unfold mw_says_95 at hwp
  refine lv_iload_n hx hb dX4_says_95 rfl (lv_at hl 1 rfl) ?_
  refine lv_iconst (v := 2) hx hb dX4_says_96 (by decide) ?_
  refine lv_icmp_ne (tgt := 107) hx hb dX4_says_97 (by decide) (fun c1 => ?_) (fun c1 => ?_)
  · replace hwp := hwp.1 c1
    exact mk_says_107 X σ hwp H locs ls hP hS (lv_sub hl [0] rfl)
  · replace hwp := hwp.2 c1
    refine lv_iload hx hb dX4_says_100 (lv_at hl 3 rfl) ?_
    refine lv_bipush (v := 6) hx hb dX4_says_102 (by decide) ?_
    refine lv_icmp_eq (tgt := 114) hx hb dX4_says_104 (by decide) (fun c2 => ?_) (fun c2 => ?_)
    · replace hwp := hwp.1 c2
      exact mk_says_114 X _ _ σ hwp H locs ls hP hS (lv_sub hl [0, 1, 2] rfl)
    · replace hwp := hwp.2 c2
      exact mk_says_107 X σ hwp H locs ls hP hS (lv_sub hl [0] rfl)
def mw_says (K : Int32 → MSt → Prop) (x1 : Int32) (x2 : Int32) (σ : MSt) : Prop :=
  mw_isShelf σ (fun r1 => ((r1 = 0) → (mw_says_18 K σ)) ∧ ((¬ (r1 = 0)) → (((x2 < 0) → (mw_says_18 K σ)) ∧ ((¬ (x2 < 0)) → (((x2 ≤ 6) → (vp_in x1 (lenM 14) ∧ (((¬ ((σ.2.1 14 x1.toNatClampNeg) = 1)) → (vp_in x1 (lenM 14) ∧ (((¬ ((σ.2.1 14 x1.toNatClampNeg) = 0)) → (vp_in x1 (lenM 17) ∧ (vp_in (σ.2.1 17 x1.toNatClampNeg) (lenM 7) ∧ (((x2 = 0) → (mw_says_114 K x2 (σ.2.1 17 x1.toNatClampNeg) σ)) ∧ ((¬ (x2 = 0)) → (((x2 = (σ.2.1 7 (σ.2.1 17 x1.toNatClampNeg).toNatClampNeg)) → (mw_says_114 K x2 (σ.2.1 17 x1.toNatClampNeg) σ)) ∧ ((¬ (x2 = (σ.2.1 7 (σ.2.1 17 x1.toNatClampNeg).toNatClampNeg))) → (((¬ (x2 = 1)) → (mw_says_95 K x2 (σ.2.1 17 x1.toNatClampNeg) (σ.2.1 7 (σ.2.1 17 x1.toNatClampNeg).toNatClampNeg) σ)) ∧ ((x2 = 1) → (mw_isHouse σ (fun r14 => ((¬ (r14 = 0)) → (mw_says_114 K x2 (σ.2.1 17 x1.toNatClampNeg) σ)) ∧ ((r14 = 0) → (mw_says_95 K x2 (σ.2.1 17 x1.toNatClampNeg) (σ.2.1 7 (σ.2.1 17 x1.toNatClampNeg).toNatClampNeg) σ))) (σ.2.1 17 x1.toNatClampNeg))))))))))) ∧ (((σ.2.1 14 x1.toNatClampNeg) = 0) → (mw_no (fun r16 σ17 => K r16 σ17) (-3) σ))))) ∧ (((σ.2.1 14 x1.toNatClampNeg) = 1) → (mw_no (fun r18 σ19 => K r18 σ19) (-2) σ))))) ∧ ((¬ (x2 ≤ 6)) → (mw_says_18 K σ))))))) x1
set_option maxHeartbeats 4000000 in
set_option maxRecDepth 100000 in
theorem mt_says {l : Launch} {Γ : GA} {α : Nat → Nat} {σ : MSt} {K : Int32 → MSt → Prop} {x1 : Int32} {x2 : Int32} (hwp : mw_says K x1 x2 σ) : mI l yX4_says cX4_says 5 (some .int) ({ frames := 23, cells := 0, slots := 0, locals := 513 } : Room) Γ α [.int x1, .int x2] σ K := by
  intro sz
  refine m_of (by decide) rfl [(0, .ref (α 50)), (1, .int x1), (2, .int x2)] (fun _ h => h) (Nat.le_of_ble_eq_true rfl) ?_
  intro p e s m args below meth c hsz X H locs ls hP hS hl
  subst hsz
  obtain ⟨hx, hb, hml, hown, hts, hK, hD, hr, hlk⟩ := id X
  have hA : ∀ q, s.heap.size ≤ q → AM α s.heap.size q := fun q h => Or.inr h
  unfold mw_says at hwp
  refine lv_aload_n hx hb dX4_says_0 rfl (lv_at hl 0 rfl) ?_
  refine lv_iload_n hx hb dX4_says_1 rfl (lv_at hl 1 rfl) ?_
  refine m_calli ⟨hx, hb, hml, hown, hts⟩ hK hD hA hP hS (mt_isShelf hwp) (cwV 1 hts (lw_V q1465 q1467 qs24 q79 q1468) rfl rfl rfl (by decide +kernel) ⟨Nat.le_of_ble_eq_true rfl, Nat.le_of_ble_eq_true rfl⟩) rfl hl.1 rfl (Nat.le_of_ble_eq_true rfl) dX4_says_2 ⟨Nat.zero_le _, Nat.zero_le _⟩ (fun r1 u H locs hk hP hS => ?_)
  obtain ⟨hwp, eu⟩ := hk
  rw [eu] at hP
  refine lv_if_eq (tgt := 18) hx hb dX4_says_5 (by decide) (fun c2 => ?_) (fun c2 => ?_)
  · replace hwp := hwp.1 c2
    exact mk_says_18 X σ hwp H locs ls hP hS (lv_sub hl [0] rfl)
  · replace hwp := hwp.2 c2
    refine lv_iload_n hx hb dX4_says_8 rfl (lv_at hl 2 rfl) ?_
    refine lv_if_lt (tgt := 18) hx hb dX4_says_9 (by decide) (fun c3 => ?_) (fun c3 => ?_)
    · replace hwp := hwp.1 c3
      exact mk_says_18 X σ hwp H locs ls hP hS (lv_sub hl [0] rfl)
    · replace hwp := hwp.2 c3
      refine lv_iload_n hx hb dX4_says_12 rfl (lv_at hl 2 rfl) ?_
      refine lv_bipush (v := 6) hx hb dX4_says_13 (by decide) ?_
      refine lv_icmp_le (tgt := 24) hx hb dX4_says_15 (by decide) (fun c4 => ?_) (fun c4 => ?_)
      · replace hwp := hwp.1 c4
        refine lv_aload_n hx hb dX4_says_24 rfl (lv_at hl 0 rfl) ?_
        refine m_geta hx hb hts hown hK hP 14 (by decide) rfl q1360 rfl dX4_says_25 ?_
        refine lv_iload_n hx hb dX4_says_28 rfl (lv_at hl 1 rfl) ?_
        obtain ⟨hi5, hwp⟩ := hwp
        refine m_iald hx hb hK hP 14 rfl hi5 dX4_says_29 ?_
        refine lv_iconst (v := 1) hx hb dX4_says_30 (by decide) ?_
        refine lv_icmp_ne (tgt := 41) hx hb dX4_says_31 (by decide) (fun c6 => ?_) (fun c6 => ?_)
        · replace hwp := hwp.1 c6
          refine lv_aload_n hx hb dX4_says_41 rfl (lv_at hl 0 rfl) ?_
          refine m_geta hx hb hts hown hK hP 14 (by decide) rfl q1360 rfl dX4_says_42 ?_
          refine lv_iload_n hx hb dX4_says_45 rfl (lv_at hl 1 rfl) ?_
          obtain ⟨hi7, hwp⟩ := hwp
          refine m_iald hx hb hK hP 14 rfl hi7 dX4_says_46 ?_
          refine lv_if_ne (tgt := 57) hx hb dX4_says_47 (by decide) (fun c8 => ?_) (fun c8 => ?_)
          · replace hwp := hwp.1 c8
            refine lv_aload_n hx hb dX4_says_57 rfl (lv_at hl 0 rfl) ?_
            refine m_geta hx hb hts hown hK hP 17 (by decide) rfl q1363 rfl dX4_says_58 ?_
            refine lv_iload_n hx hb dX4_says_61 rfl (lv_at hl 1 rfl) ?_
            obtain ⟨hi9, hwp⟩ := hwp
            refine m_iald hx hb hK hP 17 rfl hi9 dX4_says_62 ?_
            refine lv_istore_n (lv' := [(3, .int (σ.2.1 17 x1.toNatClampNeg)), (0, .ref (α 50)), (1, .int x1), (2, .int x2)]) hx hb dX4_says_63 rfl hl (by decide) rfl (fun ls hl => ?_)
            refine lv_aload_n hx hb dX4_says_64 rfl (lv_at hl 1 rfl) ?_
            refine m_geta hx hb hts hown hK hP 7 (by decide) rfl q1353 rfl dX4_says_65 ?_
            refine lv_iload_n hx hb dX4_says_68 rfl (lv_at hl 0 rfl) ?_
            obtain ⟨hi10, hwp⟩ := hwp
            refine m_iald hx hb hK hP 7 rfl hi10 dX4_says_69 ?_
            refine lv_istore (lv' := [(4, .int (σ.2.1 7 (σ.2.1 17 x1.toNatClampNeg).toNatClampNeg)), (3, .int (σ.2.1 17 x1.toNatClampNeg)), (0, .ref (α 50)), (1, .int x1), (2, .int x2)]) hx hb dX4_says_70 hl (by decide) rfl (fun ls hl => ?_)
            refine lv_iload_n hx hb dX4_says_72 rfl (lv_at hl 4 rfl) ?_
            refine lv_if_eq (tgt := 114) hx hb dX4_says_73 (by decide) (fun c11 => ?_) (fun c11 => ?_)
            · replace hwp := hwp.1 c11
              exact mk_says_114 X _ _ σ hwp H locs ls hP hS (lv_sub hl [2, 4, 1] rfl)
            · replace hwp := hwp.2 c11
              refine lv_iload_n hx hb dX4_says_76 rfl (lv_at hl 4 rfl) ?_
              refine lv_iload hx hb dX4_says_77 (lv_at hl 0 rfl) ?_
              refine lv_icmp_eq (tgt := 114) hx hb dX4_says_79 (by decide) (fun c12 => ?_) (fun c12 => ?_)
              · replace hwp := hwp.1 c12
                exact mk_says_114 X _ _ σ hwp H locs ls hP hS (lv_sub hl [2, 4, 1] rfl)
              · replace hwp := hwp.2 c12
                refine lv_iload_n hx hb dX4_says_82 rfl (lv_at hl 4 rfl) ?_
                refine lv_iconst (v := 1) hx hb dX4_says_83 (by decide) ?_
                refine lv_icmp_ne (tgt := 95) hx hb dX4_says_84 (by decide) (fun c13 => ?_) (fun c13 => ?_)
                · replace hwp := hwp.1 c13
                  exact mk_says_95 X _ _ _ σ hwp H locs ls hP hS (lv_sub hl [2, 4, 1, 0] rfl)
                · replace hwp := hwp.2 c13
                  refine lv_aload_n hx hb dX4_says_87 rfl (lv_at hl 2 rfl) ?_
                  refine lv_iload_n hx hb dX4_says_88 rfl (lv_at hl 1 rfl) ?_
                  refine m_calli ⟨hx, hb, hml, hown, hts⟩ hK hD hA hP hS (mt_isHouse hwp) (cwV 1 hts (lw_V q1501 q1503 qs27 q79 q1504) rfl rfl rfl (by decide +kernel) ⟨Nat.le_of_ble_eq_true rfl, Nat.le_of_ble_eq_true rfl⟩) rfl hl.1 rfl (Nat.le_of_ble_eq_true rfl) dX4_says_89 ⟨Nat.zero_le _, Nat.zero_le _⟩ (fun r14 u H locs hk hP hS => ?_)
                  obtain ⟨hwp, eu⟩ := hk
                  rw [eu] at hP
                  refine lv_if_ne (tgt := 114) hx hb dX4_says_92 (by decide) (fun c15 => ?_) (fun c15 => ?_)
                  · replace hwp := hwp.1 c15
                    exact mk_says_114 X _ _ σ hwp H locs ls hP hS (lv_sub hl [2, 4, 1] rfl)
                  · replace hwp := hwp.2 c15
                    exact mk_says_95 X _ _ _ σ hwp H locs ls hP hS (lv_sub hl [2, 4, 1, 0] rfl)
          · replace hwp := hwp.2 c8
            refine lv_aload_n hx hb dX4_says_50 rfl (lv_at hl 0 rfl) ?_
            refine lv_bipush (v := (-3)) hx hb dX4_says_51 (by decide) ?_
            refine m_calli ⟨hx, hb, hml, hown, hts⟩ hK hD hA hP hS (mt_no hwp) (cwV 1 hts (lw_V q1469 q1471 qs25 q79 q1472) rfl rfl rfl (by decide +kernel) ⟨Nat.le_of_ble_eq_true rfl, Nat.le_of_ble_eq_true rfl⟩) rfl hl.1 rfl (Nat.le_of_ble_eq_true rfl) dX4_says_53 ⟨Nat.zero_le _, Nat.zero_le _⟩ (fun r16 σ17 H locs hk hP hS => ?_)
            have hwp := hk
            exact m_iret hx hb hr hlk hK hP hS hwp dX4_says_56
        · replace hwp := hwp.2 c6
          refine lv_aload_n hx hb dX4_says_34 rfl (lv_at hl 0 rfl) ?_
          refine lv_bipush (v := (-2)) hx hb dX4_says_35 (by decide) ?_
          refine m_calli ⟨hx, hb, hml, hown, hts⟩ hK hD hA hP hS (mt_no hwp) (cwV 1 hts (lw_V q1469 q1471 qs25 q79 q1472) rfl rfl rfl (by decide +kernel) ⟨Nat.le_of_ble_eq_true rfl, Nat.le_of_ble_eq_true rfl⟩) rfl hl.1 rfl (Nat.le_of_ble_eq_true rfl) dX4_says_37 ⟨Nat.zero_le _, Nat.zero_le _⟩ (fun r18 σ19 H locs hk hP hS => ?_)
          have hwp := hk
          exact m_iret hx hb hr hlk hK hP hS hwp dX4_says_40
      · replace hwp := hwp.2 c4
        exact mk_says_18 X σ hwp H locs ls hP hS (lv_sub hl [0] rfl)
/-! seed -/
def mw_seed (K : Int32 → MSt → Prop) (x1 : Int32) (σ : MSt) : Prop :=
  ∀ σ1, σ1 = sF σ 4 x1 → (K (σ.1 4) σ1)
set_option maxHeartbeats 4000000 in
set_option maxRecDepth 100000 in
theorem mt_seed {l : Launch} {Γ : GA} {α : Nat → Nat} {σ : MSt} {K : Int32 → MSt → Prop} {x1 : Int32} (hwp : mw_seed K x1 σ) : mI l yX4_seed cX4_seed 3 (some .int) ({ frames := 0, cells := 0, slots := 0, locals := 0 } : Room) Γ α [.int x1] σ K := by
  intro sz
  refine m_of (by decide) rfl [(0, .ref (α 50)), (1, .int x1)] (fun _ h => h) (Nat.le_of_ble_eq_true rfl) ?_
  intro p e s m args below meth c hsz X H locs ls hP hS hl
  subst hsz
  obtain ⟨hx, hb, hml, hown, hts, hK, hD, hr, hlk⟩ := id X
  have hA : ∀ q, s.heap.size ≤ q → AM α s.heap.size q := fun q h => Or.inr h
  unfold mw_seed at hwp
  refine lv_aload_n hx hb dX4_seed_0 rfl (lv_at hl 0 rfl) ?_
  refine m_geti hx hb hts hown hK hP 4 (by decide) rfl q1350 rfl dX4_seed_1 ?_
  refine lv_istore_n (lv' := [(2, .int (σ.1 4)), (0, .ref (α 50)), (1, .int x1)]) hx hb dX4_seed_4 rfl hl (by decide) rfl (fun ls hl => ?_)
  refine lv_aload_n hx hb dX4_seed_5 rfl (lv_at hl 1 rfl) ?_
  refine lv_iload_n hx hb dX4_seed_6 rfl (lv_at hl 2 rfl) ?_
  refine m_put hx hb hts hown hK hD hP hS 4 (by decide) rfl q1350 rfl rfl rfl rfl dX4_seed_7 (fun H locs hP hS => ?_)
  obtain ⟨σ1, eσ1⟩ : ∃ z, z = sF σ 4 x1 := ⟨_, rfl⟩
  rw [← eσ1] at hP
  replace hwp := hwp σ1 eσ1
  refine lv_iload_n hx hb dX4_seed_10 rfl (lv_at hl 0 rfl) ?_
  exact m_iret hx hb hr hlk hK hP hS hwp dX4_seed_11
/-! seers -/
def mw_seers (K : Int32 → MSt → Prop) (x1 : Int32) (σ : MSt) : Prop :=
  mw_barred σ (fun r1 => ((r1 = 0) → (mw_seersOf σ (fun r3 => K r3 σ) x1)) ∧ ((¬ (r1 = 0)) → (mw_no (fun r4 σ5 => K r4 σ5) r1 σ))) x1
set_option maxHeartbeats 4000000 in
set_option maxRecDepth 100000 in
theorem mt_seers {l : Launch} {Γ : GA} {α : Nat → Nat} {σ : MSt} {K : Int32 → MSt → Prop} {x1 : Int32} (hwp : mw_seers K x1 σ) : mI l yX4_seers cX4_seers 3 (some .int) ({ frames := 22, cells := 0, slots := 0, locals := 492 } : Room) Γ α [.int x1] σ K := by
  intro sz
  refine m_of (by decide) rfl [(0, .ref (α 50)), (1, .int x1)] (fun _ h => h) (Nat.le_of_ble_eq_true rfl) ?_
  intro p e s m args below meth c hsz X H locs ls hP hS hl
  subst hsz
  obtain ⟨hx, hb, hml, hown, hts, hK, hD, hr, hlk⟩ := id X
  have hA : ∀ q, s.heap.size ≤ q → AM α s.heap.size q := fun q h => Or.inr h
  unfold mw_seers at hwp
  refine lv_aload_n hx hb dX4_seers_0 rfl (lv_at hl 0 rfl) ?_
  refine lv_iload_n hx hb dX4_seers_1 rfl (lv_at hl 1 rfl) ?_
  refine m_calli ⟨hx, hb, hml, hown, hts⟩ hK hD hA hP hS (mt_barred hwp) (cwV 1 hts (lw_V q1589 q1591 qs43 q79 q1592) rfl rfl rfl (by decide +kernel) ⟨Nat.le_of_ble_eq_true rfl, Nat.le_of_ble_eq_true rfl⟩) rfl hl.1 rfl (Nat.le_of_ble_eq_true rfl) dX4_seers_2 ⟨Nat.zero_le _, Nat.zero_le _⟩ (fun r1 u H locs hk hP hS => ?_)
  obtain ⟨hwp, eu⟩ := hk
  rw [eu] at hP
  refine lv_istore_n (lv' := [(2, .int r1), (0, .ref (α 50)), (1, .int x1)]) hx hb dX4_seers_5 rfl hl (by decide) rfl (fun ls hl => ?_)
  refine lv_iload_n hx hb dX4_seers_6 rfl (lv_at hl 0 rfl) ?_
  refine lv_if_eq (tgt := 18) hx hb dX4_seers_7 (by decide) (fun c2 => ?_) (fun c2 => ?_)
  · replace hwp := hwp.1 c2
    refine lv_aload_n hx hb dX4_seers_18 rfl (lv_at hl 1 rfl) ?_
    refine lv_iload_n hx hb dX4_seers_19 rfl (lv_at hl 2 rfl) ?_
    refine m_calli ⟨hx, hb, hml, hown, hts⟩ hK hD hA hP hS (mt_seersOf hwp) (cwV 1 hts (lw_V q1509 q1511 qs29 q79 q1512) rfl rfl rfl (by decide +kernel) ⟨Nat.le_of_ble_eq_true rfl, Nat.le_of_ble_eq_true rfl⟩) rfl hl.1 rfl (Nat.le_of_ble_eq_true rfl) dX4_seers_20 ⟨Nat.zero_le _, Nat.zero_le _⟩ (fun r3 u H locs hk hP hS => ?_)
    obtain ⟨hwp, eu⟩ := hk
    rw [eu] at hP
    exact m_iret hx hb hr hlk hK hP hS hwp dX4_seers_23
  · replace hwp := hwp.2 c2
    refine lv_aload_n hx hb dX4_seers_10 rfl (lv_at hl 1 rfl) ?_
    refine lv_iload_n hx hb dX4_seers_11 rfl (lv_at hl 0 rfl) ?_
    refine m_calli ⟨hx, hb, hml, hown, hts⟩ hK hD hA hP hS (mt_no hwp) (cwV 1 hts (lw_V q1469 q1471 qs25 q79 q1472) rfl rfl rfl (by decide +kernel) ⟨Nat.le_of_ble_eq_true rfl, Nat.le_of_ble_eq_true rfl⟩) rfl hl.1 rfl (Nat.le_of_ble_eq_true rfl) dX4_seers_12 ⟨Nat.zero_le _, Nat.zero_le _⟩ (fun r4 σ5 H locs hk hP hS => ?_)
    have hwp := hk
    refine lv_goto (tgt := 23) hx hb dX4_seers_15 (by decide) ?_
    exact m_iret hx hb hr hlk hK hP hS hwp dX4_seers_23
/-! sees -/
def mw_sees_40 (K : Int32 → MSt → Prop) (x1 : Int32) (x2 : Int32) (x3 : Int32) (x4 : Int32) (σ : MSt) : Prop :=
  ((x4 = 0) → (((¬ (x3 = 0)) → (mw_isSeen σ (fun r3 => ((r3 = 0) → (K 0 σ)) ∧ ((¬ (r3 = 0)) → (K 1 σ))) x1 x2)) ∧ ((x3 = 0) → (mw_looks σ (fun r5 => ((r5 = 0) → (K 0 σ)) ∧ ((¬ (r5 = 0)) → (K 1 σ))) x1 x2)))) ∧ ((¬ (x4 = 0)) → (mw_no (fun r7 σ8 => K r7 σ8) x4 σ))
set_option maxHeartbeats 4000000 in
set_option maxRecDepth 100000 in
theorem mk_sees_40 {p : Program} {l : Launch} {e : Env} {s : State} {m : MethodId} {args : Array Value} {below : List Frame} {meth : Method} {c : Code} {Γ : GA} {α : Nat → Nat} {K : Int32 → MSt → Prop} (X : CM p s m args meth c cX4_sees 5 (some .int) Γ α) : ∀ (x1 : Int32) (x2 : Int32) (x3 : Int32) (x4 : Int32) (σ : MSt), mw_sees_40 K x1 x2 x3 x4 σ → TM p l e ({ frames := 20, cells := 0, slots := 0, locals := 446 } : Room) s m args below meth c 5 (QI below K Γ α s args) Γ α σ 40 [(0, .ref (α 50)), (1, .int x1), (2, .int x2), (3, .int x3), (4, .int x4)] [] := by
  obtain ⟨hx, hb, hml, hown, hts, hK, hD, hr, hlk⟩ := id X
  have hA : ∀ q, s.heap.size ≤ q → AM α s.heap.size q := fun q h => Or.inr h
  intro x1 x2 x3 x4 σ hwp H locs ls hP hS hl
  unfold mw_sees_40 at hwp
  refine lv_iload hx hb dX4_sees_40 (lv_at hl 4 rfl) ?_
  refine lv_if_eq (tgt := 52) hx hb dX4_sees_42 (by decide) (fun c1 => ?_) (fun c1 => ?_)
  · replace hwp := hwp.1 c1
    refine lv_iload_n hx hb dX4_sees_52 rfl (lv_at hl 3 rfl) ?_
    refine lv_if_ne (tgt := 68) hx hb dX4_sees_53 (by decide) (fun c2 => ?_) (fun c2 => ?_)
    · replace hwp := hwp.1 c2
      refine lv_aload_n hx hb dX4_sees_68 rfl (lv_at hl 0 rfl) ?_
      refine lv_iload_n hx hb dX4_sees_69 rfl (lv_at hl 1 rfl) ?_
      refine lv_iload_n hx hb dX4_sees_70 rfl (lv_at hl 2 rfl) ?_
      refine m_calli ⟨hx, hb, hml, hown, hts⟩ hK hD hA hP hS (mt_isSeen hwp) (cwV 2 hts (lw_V q1517 q1519 qs31 q79 q1520) rfl rfl rfl (by decide +kernel) ⟨Nat.le_of_ble_eq_true rfl, Nat.le_of_ble_eq_true rfl⟩) rfl hl.1 rfl (Nat.le_of_ble_eq_true rfl) dX4_sees_71 ⟨Nat.zero_le _, Nat.zero_le _⟩ (fun r3 u H locs hk hP hS => ?_)
      obtain ⟨hwp, eu⟩ := hk
      rw [eu] at hP
      refine lv_if_eq (tgt := 81) hx hb dX4_sees_74 (by decide) (fun c4 => ?_) (fun c4 => ?_)
      · replace hwp := hwp.1 c4
        refine lv_iconst (v := 0) hx hb dX4_sees_81 (by decide) ?_
        exact m_iret hx hb hr hlk hK hP hS hwp dX4_sees_82
      · replace hwp := hwp.2 c4
        refine lv_iconst (v := 1) hx hb dX4_sees_77 (by decide) ?_
        refine lv_goto (tgt := 82) hx hb dX4_sees_78 (by decide) ?_
        exact m_iret hx hb hr hlk hK hP hS hwp dX4_sees_82
    · replace hwp := hwp.2 c2
      refine lv_aload_n hx hb dX4_sees_56 rfl (lv_at hl 0 rfl) ?_
      refine lv_iload_n hx hb dX4_sees_57 rfl (lv_at hl 1 rfl) ?_
      refine lv_iload_n hx hb dX4_sees_58 rfl (lv_at hl 2 rfl) ?_
      refine m_calli ⟨hx, hb, hml, hown, hts⟩ hK hD hA hP hS (mt_looks hwp) (cwV 2 hts (lw_V q1521 q1523 qs32 q79 q1524) rfl rfl rfl (by decide +kernel) ⟨Nat.le_of_ble_eq_true rfl, Nat.le_of_ble_eq_true rfl⟩) rfl hl.1 rfl (Nat.le_of_ble_eq_true rfl) dX4_sees_59 ⟨Nat.zero_le _, Nat.zero_le _⟩ (fun r5 u H locs hk hP hS => ?_)
      obtain ⟨hwp, eu⟩ := hk
      rw [eu] at hP
      refine lv_if_eq (tgt := 81) hx hb dX4_sees_62 (by decide) (fun c6 => ?_) (fun c6 => ?_)
      · replace hwp := hwp.1 c6
        refine lv_iconst (v := 0) hx hb dX4_sees_81 (by decide) ?_
        exact m_iret hx hb hr hlk hK hP hS hwp dX4_sees_82
      · replace hwp := hwp.2 c6
        refine lv_goto (tgt := 77) hx hb dX4_sees_65 (by decide) ?_
        refine lv_iconst (v := 1) hx hb dX4_sees_77 (by decide) ?_
        refine lv_goto (tgt := 82) hx hb dX4_sees_78 (by decide) ?_
        exact m_iret hx hb hr hlk hK hP hS hwp dX4_sees_82
  · replace hwp := hwp.2 c1
    refine lv_aload_n hx hb dX4_sees_45 rfl (lv_at hl 0 rfl) ?_
    refine lv_iload hx hb dX4_sees_46 (lv_at hl 4 rfl) ?_
    refine m_calli ⟨hx, hb, hml, hown, hts⟩ hK hD hA hP hS (mt_no hwp) (cwV 1 hts (lw_V q1469 q1471 qs25 q79 q1472) rfl rfl rfl (by decide +kernel) ⟨Nat.le_of_ble_eq_true rfl, Nat.le_of_ble_eq_true rfl⟩) rfl hl.1 rfl (Nat.le_of_ble_eq_true rfl) dX4_sees_48 ⟨Nat.zero_le _, Nat.zero_le _⟩ (fun r7 σ8 H locs hk hP hS => ?_)
    have hwp := hk
    exact m_iret hx hb hr hlk hK hP hS hwp dX4_sees_51
def mw_sees_26 (K : Int32 → MSt → Prop) (x1 : Int32) (x2 : Int32) (x3 : Int32) (x4 : Int32) (σ : MSt) : Prop :=
  ((¬ (x4 = 0)) → (mw_sees_40 K x1 x2 x3 x4 σ)) ∧ ((x4 = 0) → (((¬ (x1 = x2)) → (mw_sees_40 K x1 x2 x3 x4 σ)) ∧ ((x1 = x2) → (mw_sees_40 K x1 x2 x3 (-6) σ))))
set_option maxHeartbeats 4000000 in
set_option maxRecDepth 100000 in
theorem mk_sees_26 {p : Program} {l : Launch} {e : Env} {s : State} {m : MethodId} {args : Array Value} {below : List Frame} {meth : Method} {c : Code} {Γ : GA} {α : Nat → Nat} {K : Int32 → MSt → Prop} (X : CM p s m args meth c cX4_sees 5 (some .int) Γ α) : ∀ (x1 : Int32) (x2 : Int32) (x3 : Int32) (x4 : Int32) (σ : MSt), mw_sees_26 K x1 x2 x3 x4 σ → TM p l e ({ frames := 20, cells := 0, slots := 0, locals := 446 } : Room) s m args below meth c 5 (QI below K Γ α s args) Γ α σ 26 [(0, .ref (α 50)), (1, .int x1), (2, .int x2), (3, .int x3), (4, .int x4)] [] := by
  obtain ⟨hx, hb, hml, hown, hts, hK, hD, hr, hlk⟩ := id X
  have hA : ∀ q, s.heap.size ≤ q → AM α s.heap.size q := fun q h => Or.inr h
  intro x1 x2 x3 x4 σ hwp H locs ls hP hS hl
  unfold mw_sees_26 at hwp
  refine lv_iload hx hb dX4_sees_26 (lv_at hl 4 rfl) ?_
  refine lv_if_ne (tgt := 40) hx hb dX4_sees_28 (by decide) (fun c1 => ?_) (fun c1 => ?_)
  · replace hwp := hwp.1 c1
    exact mk_sees_40 X _ _ _ _ σ hwp H locs ls hP hS (lv_sub hl [0, 1, 2, 3, 4] rfl)
  · replace hwp := hwp.2 c1
    refine lv_iload_n hx hb dX4_sees_31 rfl (lv_at hl 1 rfl) ?_
    refine lv_iload_n hx hb dX4_sees_32 rfl (lv_at hl 2 rfl) ?_
    refine lv_icmp_ne (tgt := 40) hx hb dX4_sees_33 (by decide) (fun c2 => ?_) (fun c2 => ?_)
    · replace hwp := hwp.1 c2
      exact mk_sees_40 X _ _ _ _ σ hwp H locs ls hP hS (lv_sub hl [0, 1, 2, 3, 4] rfl)
    · replace hwp := hwp.2 c2
      refine lv_bipush (v := (-6)) hx hb dX4_sees_36 (by decide) ?_
      refine lv_istore (lv' := [(4, .int (-6)), (0, .ref (α 50)), (1, .int x1), (2, .int x2), (3, .int x3)]) hx hb dX4_sees_38 hl (by decide) rfl (fun ls hl => ?_)
      exact mk_sees_40 X _ _ _ _ σ hwp H locs ls hP hS (lv_sub hl [1, 2, 3, 4, 0] rfl)
def mw_sees_22 (K : Int32 → MSt → Prop) (x1 : Int32) (x2 : Int32) (x3 : Int32) (σ : MSt) : Prop :=
  mw_sees_26 K x1 x2 x3 (-5) σ
set_option maxHeartbeats 4000000 in
set_option maxRecDepth 100000 in
theorem mk_sees_22 {p : Program} {l : Launch} {e : Env} {s : State} {m : MethodId} {args : Array Value} {below : List Frame} {meth : Method} {c : Code} {Γ : GA} {α : Nat → Nat} {K : Int32 → MSt → Prop} (X : CM p s m args meth c cX4_sees 5 (some .int) Γ α) : ∀ (x1 : Int32) (x2 : Int32) (x3 : Int32) (σ : MSt), mw_sees_22 K x1 x2 x3 σ → TM p l e ({ frames := 20, cells := 0, slots := 0, locals := 446 } : Room) s m args below meth c 5 (QI below K Γ α s args) Γ α σ 22 [(0, .ref (α 50)), (1, .int x1), (2, .int x2), (3, .int x3)] [] := by
  obtain ⟨hx, hb, hml, hown, hts, hK, hD, hr, hlk⟩ := id X
  have hA : ∀ q, s.heap.size ≤ q → AM α s.heap.size q := fun q h => Or.inr h
  intro x1 x2 x3 σ hwp H locs ls hP hS hl
  unfold mw_sees_22 at hwp
  refine lv_bipush (v := (-5)) hx hb dX4_sees_22 (by decide) ?_
  refine lv_istore (lv' := [(4, .int (-5)), (0, .ref (α 50)), (1, .int x1), (2, .int x2), (3, .int x3)]) hx hb dX4_sees_24 hl (by decide) rfl (fun ls hl => ?_)
  exact mk_sees_26 X _ _ _ _ σ hwp H locs ls hP hS (lv_sub hl [1, 2, 3, 4, 0] rfl)
def mw_sees (K : Int32 → MSt → Prop) (x1 : Int32) (x2 : Int32) (x3 : Int32) (σ : MSt) : Prop :=
  mw_barredTwo σ (fun r1 => ((¬ (r1 = 0)) → (mw_sees_26 K x1 x2 x3 r1 σ)) ∧ ((r1 = 0) → (((x3 < 0) → (mw_sees_22 K x1 x2 x3 σ)) ∧ ((¬ (x3 < 0)) → (((x3 ≤ 1) → (mw_sees_26 K x1 x2 x3 r1 σ)) ∧ ((¬ (x3 ≤ 1)) → (mw_sees_22 K x1 x2 x3 σ))))))) x1 x2
set_option maxHeartbeats 4000000 in
set_option maxRecDepth 100000 in
theorem mt_sees {l : Launch} {Γ : GA} {α : Nat → Nat} {σ : MSt} {K : Int32 → MSt → Prop} {x1 : Int32} {x2 : Int32} {x3 : Int32} (hwp : mw_sees K x1 x2 x3 σ) : mI l yX4_sees cX4_sees 5 (some .int) ({ frames := 20, cells := 0, slots := 0, locals := 446 } : Room) Γ α [.int x1, .int x2, .int x3] σ K := by
  intro sz
  refine m_of (by decide) rfl [(0, .ref (α 50)), (1, .int x1), (2, .int x2), (3, .int x3)] (fun _ h => h) (Nat.le_of_ble_eq_true rfl) ?_
  intro p e s m args below meth c hsz X H locs ls hP hS hl
  subst hsz
  obtain ⟨hx, hb, hml, hown, hts, hK, hD, hr, hlk⟩ := id X
  have hA : ∀ q, s.heap.size ≤ q → AM α s.heap.size q := fun q h => Or.inr h
  unfold mw_sees at hwp
  refine lv_aload_n hx hb dX4_sees_0 rfl (lv_at hl 0 rfl) ?_
  refine lv_iload_n hx hb dX4_sees_1 rfl (lv_at hl 1 rfl) ?_
  refine lv_iload_n hx hb dX4_sees_2 rfl (lv_at hl 2 rfl) ?_
  refine m_calli ⟨hx, hb, hml, hown, hts⟩ hK hD hA hP hS (mt_barredTwo hwp) (cwV 2 hts (lw_V q1581 q1583 qs42 q79 q1584) rfl rfl rfl (by decide +kernel) ⟨Nat.le_of_ble_eq_true rfl, Nat.le_of_ble_eq_true rfl⟩) rfl hl.1 rfl (Nat.le_of_ble_eq_true rfl) dX4_sees_3 ⟨Nat.zero_le _, Nat.zero_le _⟩ (fun r1 u H locs hk hP hS => ?_)
  obtain ⟨hwp, eu⟩ := hk
  rw [eu] at hP
  refine lv_istore (lv' := [(4, .int r1), (0, .ref (α 50)), (1, .int x1), (2, .int x2), (3, .int x3)]) hx hb dX4_sees_6 hl (by decide) rfl (fun ls hl => ?_)
  refine lv_iload hx hb dX4_sees_8 (lv_at hl 0 rfl) ?_
  refine lv_if_ne (tgt := 26) hx hb dX4_sees_10 (by decide) (fun c2 => ?_) (fun c2 => ?_)
  · replace hwp := hwp.1 c2
    exact mk_sees_26 X _ _ _ _ σ hwp H locs ls hP hS (lv_sub hl [1, 2, 3, 4, 0] rfl)
  · replace hwp := hwp.2 c2
    refine lv_iload_n hx hb dX4_sees_13 rfl (lv_at hl 4 rfl) ?_
    refine lv_if_lt (tgt := 22) hx hb dX4_sees_14 (by decide) (fun c3 => ?_) (fun c3 => ?_)
    · replace hwp := hwp.1 c3
      exact mk_sees_22 X _ _ _ σ hwp H locs ls hP hS (lv_sub hl [1, 2, 3, 4] rfl)
    · replace hwp := hwp.2 c3
      refine lv_iload_n hx hb dX4_sees_17 rfl (lv_at hl 4 rfl) ?_
      refine lv_iconst (v := 1) hx hb dX4_sees_18 (by decide) ?_
      refine lv_icmp_le (tgt := 26) hx hb dX4_sees_19 (by decide) (fun c4 => ?_) (fun c4 => ?_)
      · replace hwp := hwp.1 c4
        exact mk_sees_26 X _ _ _ _ σ hwp H locs ls hP hS (lv_sub hl [1, 2, 3, 4, 0] rfl)
      · replace hwp := hwp.2 c4
        exact mk_sees_22 X _ _ _ σ hwp H locs ls hP hS (lv_sub hl [1, 2, 3, 4] rfl)
/-! set -/
def mw_set_61 (K : Int32 → MSt → Prop) (σ : MSt) : Prop :=
  mw_no (fun r1 σ2 => K r1 σ2) (-5) σ
set_option maxHeartbeats 4000000 in
set_option maxRecDepth 100000 in
theorem mk_set_61 {p : Program} {l : Launch} {e : Env} {s : State} {m : MethodId} {args : Array Value} {below : List Frame} {meth : Method} {c : Code} {Γ : GA} {α : Nat → Nat} {K : Int32 → MSt → Prop} (X : CM p s m args meth c cX4_set 5 (some .int) Γ α) : ∀ (σ : MSt), mw_set_61 K  σ → TM p l e ({ frames := 1, cells := 0, slots := 0, locals := 21 } : Room) s m args below meth c 5 (QI below K Γ α s args) Γ α σ 61 [(0, .ref (α 50))] [] := by
  obtain ⟨hx, hb, hml, hown, hts, hK, hD, hr, hlk⟩ := id X
  have hA : ∀ q, s.heap.size ≤ q → AM α s.heap.size q := fun q h => Or.inr h
  intro  σ hwp H locs ls hP hS hl
  unfold mw_set_61 at hwp
  refine lv_aload_n hx hb dX4_set_61 rfl (lv_at hl 0 rfl) ?_
  refine lv_bipush (v := (-5)) hx hb dX4_set_62 (by decide) ?_
  refine m_calli ⟨hx, hb, hml, hown, hts⟩ hK hD hA hP hS (mt_no hwp) (cwV 1 hts (lw_V q1469 q1471 qs25 q79 q1472) rfl rfl rfl (by decide +kernel) ⟨Nat.le_of_ble_eq_true rfl, Nat.le_of_ble_eq_true rfl⟩) rfl hl.1 rfl (Nat.le_of_ble_eq_true rfl) dX4_set_64 ⟨Nat.zero_le _, Nat.zero_le _⟩ (fun r1 σ2 H locs hk hP hS => ?_)
  have hwp := hk
  exact m_iret hx hb hr hlk hK hP hS hwp dX4_set_67
def mw_set_129 (K : Int32 → MSt → Prop) (t0 : Int64) (t1 : Int32) (σ : MSt) : Prop :=
  vp_in t1 (lenM 18) ∧ (∀ σ2, σ2 = sJ σ 18 t1.toNatClampNeg t0 → (K 1 σ2))
set_option maxHeartbeats 4000000 in
set_option maxRecDepth 100000 in
theorem mk_set_129 {p : Program} {l : Launch} {e : Env} {s : State} {m : MethodId} {args : Array Value} {below : List Frame} {meth : Method} {c : Code} {Γ : GA} {α : Nat → Nat} {K : Int32 → MSt → Prop} (X : CM p s m args meth c cX4_set 5 (some .int) Γ α) : ∀ (t0 : Int64) (t1 : Int32) (σ : MSt), mw_set_129 K t0 t1 σ → TM p l e ({ frames := 1, cells := 0, slots := 0, locals := 21 } : Room) s m args below meth c 5 (QI below K Γ α s args) Γ α σ 129 [] [.long t0, .int t1, .ref (α 18)] := by
  obtain ⟨hx, hb, hml, hown, hts, hK, hD, hr, hlk⟩ := id X
  have hA : ∀ q, s.heap.size ≤ q → AM α s.heap.size q := fun q h => Or.inr h
  intro t0 t1 σ hwp H locs ls hP hS hl
  unfold mw_set_129 at hwp
  obtain ⟨hi1, hwp⟩ := hwp
  refine m_last hx hb hK hD hP hS 18 (Or.inl rfl) hi1 dX4_set_129 (fun H locs hP hS => ?_)
  obtain ⟨σ2, eσ2⟩ : ∃ z, z = sJ σ 18 t1.toNatClampNeg t0 := ⟨_, rfl⟩
  rw [← eσ2] at hP
  replace hwp := hwp σ2 eσ2
  refine lv_iconst (v := 1) hx hb dX4_set_130 (by decide) ?_
  exact m_iret hx hb hr hlk hK hP hS hwp dX4_set_131
def mw_set (K : Int32 → MSt → Prop) (x1 : Int32) (x2 : Int32) (x3 : Int64) (σ : MSt) : Prop :=
  mw_isShelf σ (fun r1 => ((¬ (r1 = 0)) → (vp_in x1 (lenM 14) ∧ (((¬ ((σ.2.1 14 x1.toNatClampNeg) = 2)) → (vp_in x1 (lenM 14) ∧ (((¬ ((σ.2.1 14 x1.toNatClampNeg) = 0)) → (((x2 < 0) → (mw_set_61 K σ)) ∧ ((¬ (x2 < 0)) → (vp_in x1 (lenM 16) ∧ (((x2 < (σ.2.1 16 x1.toNatClampNeg)) → (vp_in x1 (lenM 15) ∧ (((¬ ((σ.2.1 15 x1.toNatClampNeg) = 0)) → (vp_in x1 (lenM 15) ∧ (((¬ ((σ.2.1 15 x1.toNatClampNeg) = 1)) → (vp_in x1 (lenM 15) ∧ (((¬ ((σ.2.1 15 x1.toNatClampNeg) = 2)) → (mw_set_129 K x3 ((160 * x1) + x2) σ)) ∧ (((σ.2.1 15 x1.toNatClampNeg) = 2) → (mw_set_129 K x3.toInt32.toInt64 ((160 * x1) + x2) σ))))) ∧ (((σ.2.1 15 x1.toNatClampNeg) = 1) → (mw_set_129 K x3.toInt32.toInt16.toInt32.toInt64 ((160 * x1) + x2) σ))))) ∧ (((σ.2.1 15 x1.toNatClampNeg) = 0) → (mw_set_129 K x3.toInt32.toInt8.toInt32.toInt64 ((160 * x1) + x2) σ))))) ∧ ((¬ (x2 < (σ.2.1 16 x1.toNatClampNeg))) → (mw_set_61 K σ))))))) ∧ (((σ.2.1 14 x1.toNatClampNeg) = 0) → (mw_no (fun r16 σ17 => K r16 σ17) (-3) σ))))) ∧ (((σ.2.1 14 x1.toNatClampNeg) = 2) → (mw_no (fun r18 σ19 => K r18 σ19) (-2) σ))))) ∧ ((r1 = 0) → (mw_no (fun r20 σ21 => K r20 σ21) (-1) σ))) x1
set_option maxHeartbeats 4000000 in
set_option maxRecDepth 100000 in
theorem mt_set {l : Launch} {Γ : GA} {α : Nat → Nat} {σ : MSt} {K : Int32 → MSt → Prop} {x1 : Int32} {x2 : Int32} {x3 : Int64} (hwp : mw_set K x1 x2 x3 σ) : mI l yX4_set cX4_set 5 (some .int) ({ frames := 1, cells := 0, slots := 0, locals := 21 } : Room) Γ α [.int x1, .int x2, .long x3] σ K := by
  intro sz
  refine m_of (by decide) rfl [(0, .ref (α 50)), (1, .int x1), (2, .int x2), (3, .long x3)] (fun _ h => h) (Nat.le_of_ble_eq_true rfl) ?_
  intro p e s m args below meth c hsz X H locs ls hP hS hl
  subst hsz
  obtain ⟨hx, hb, hml, hown, hts, hK, hD, hr, hlk⟩ := id X
  have hA : ∀ q, s.heap.size ≤ q → AM α s.heap.size q := fun q h => Or.inr h
  unfold mw_set at hwp
  refine lv_aload_n hx hb dX4_set_0 rfl (lv_at hl 0 rfl) ?_
  refine lv_iload_n hx hb dX4_set_1 rfl (lv_at hl 1 rfl) ?_
  refine m_calli ⟨hx, hb, hml, hown, hts⟩ hK hD hA hP hS (mt_isShelf hwp) (cwV 1 hts (lw_V q1465 q1467 qs24 q79 q1468) rfl rfl rfl (by decide +kernel) ⟨Nat.le_of_ble_eq_true rfl, Nat.le_of_ble_eq_true rfl⟩) rfl hl.1 rfl (Nat.le_of_ble_eq_true rfl) dX4_set_2 ⟨Nat.zero_le _, Nat.zero_le _⟩ (fun r1 u H locs hk hP hS => ?_)
  obtain ⟨hwp, eu⟩ := hk
  rw [eu] at hP
  refine lv_if_ne (tgt := 14) hx hb dX4_set_5 (by decide) (fun c2 => ?_) (fun c2 => ?_)
  · replace hwp := hwp.1 c2
    refine lv_aload_n hx hb dX4_set_14 rfl (lv_at hl 0 rfl) ?_
    refine m_geta hx hb hts hown hK hP 14 (by decide) rfl q1360 rfl dX4_set_15 ?_
    refine lv_iload_n hx hb dX4_set_18 rfl (lv_at hl 1 rfl) ?_
    obtain ⟨hi3, hwp⟩ := hwp
    refine m_iald hx hb hK hP 14 rfl hi3 dX4_set_19 ?_
    refine lv_iconst (v := 2) hx hb dX4_set_20 (by decide) ?_
    refine lv_icmp_ne (tgt := 31) hx hb dX4_set_21 (by decide) (fun c4 => ?_) (fun c4 => ?_)
    · replace hwp := hwp.1 c4
      refine lv_aload_n hx hb dX4_set_31 rfl (lv_at hl 0 rfl) ?_
      refine m_geta hx hb hts hown hK hP 14 (by decide) rfl q1360 rfl dX4_set_32 ?_
      refine lv_iload_n hx hb dX4_set_35 rfl (lv_at hl 1 rfl) ?_
      obtain ⟨hi5, hwp⟩ := hwp
      refine m_iald hx hb hK hP 14 rfl hi5 dX4_set_36 ?_
      refine lv_if_ne (tgt := 47) hx hb dX4_set_37 (by decide) (fun c6 => ?_) (fun c6 => ?_)
      · replace hwp := hwp.1 c6
        refine lv_iload_n hx hb dX4_set_47 rfl (lv_at hl 2 rfl) ?_
        refine lv_if_lt (tgt := 61) hx hb dX4_set_48 (by decide) (fun c7 => ?_) (fun c7 => ?_)
        · replace hwp := hwp.1 c7
          exact mk_set_61 X σ hwp H locs ls hP hS (lv_sub hl [0] rfl)
        · replace hwp := hwp.2 c7
          refine lv_iload_n hx hb dX4_set_51 rfl (lv_at hl 2 rfl) ?_
          refine lv_aload_n hx hb dX4_set_52 rfl (lv_at hl 0 rfl) ?_
          refine m_geta hx hb hts hown hK hP 16 (by decide) rfl q1362 rfl dX4_set_53 ?_
          refine lv_iload_n hx hb dX4_set_56 rfl (lv_at hl 1 rfl) ?_
          obtain ⟨hi8, hwp⟩ := hwp
          refine m_iald hx hb hK hP 16 rfl hi8 dX4_set_57 ?_
          refine lv_icmp_lt (tgt := 68) hx hb dX4_set_58 (by decide) (fun c9 => ?_) (fun c9 => ?_)
          · replace hwp := hwp.1 c9
            refine lv_aload_n hx hb dX4_set_68 rfl (lv_at hl 0 rfl) ?_
            refine m_geta hx hb hts hown hK hP 18 (by decide) rfl q1364 rfl dX4_set_69 ?_
            refine lv_sipush (v := 160) hx hb dX4_set_72 (by decide) ?_
            refine lv_iload_n hx hb dX4_set_75 rfl (lv_at hl 1 rfl) ?_
            refine lv_imul hx hb dX4_set_76 ?_
            refine lv_iload_n hx hb dX4_set_77 rfl (lv_at hl 2 rfl) ?_
            refine lv_iadd hx hb dX4_set_78 ?_
            refine lv_aload_n hx hb dX4_set_79 rfl (lv_at hl 0 rfl) ?_
            refine m_geta hx hb hts hown hK hP 15 (by decide) rfl q1361 rfl dX4_set_80 ?_
            refine lv_iload_n hx hb dX4_set_83 rfl (lv_at hl 1 rfl) ?_
            obtain ⟨hi10, hwp⟩ := hwp
            refine m_iald hx hb hK hP 15 rfl hi10 dX4_set_84 ?_
            refine lv_if_ne (tgt := 95) hx hb dX4_set_85 (by decide) (fun c11 => ?_) (fun c11 => ?_)
            · replace hwp := hwp.1 c11
              refine lv_aload_n hx hb dX4_set_95 rfl (lv_at hl 0 rfl) ?_
              refine m_geta hx hb hts hown hK hP 15 (by decide) rfl q1361 rfl dX4_set_96 ?_
              refine lv_iload_n hx hb dX4_set_99 rfl (lv_at hl 1 rfl) ?_
              obtain ⟨hi12, hwp⟩ := hwp
              refine m_iald hx hb hK hP 15 rfl hi12 dX4_set_100 ?_
              refine lv_iconst (v := 1) hx hb dX4_set_101 (by decide) ?_
              refine lv_icmp_ne (tgt := 112) hx hb dX4_set_102 (by decide) (fun c13 => ?_) (fun c13 => ?_)
              · replace hwp := hwp.1 c13
                refine lv_aload_n hx hb dX4_set_112 rfl (lv_at hl 0 rfl) ?_
                refine m_geta hx hb hts hown hK hP 15 (by decide) rfl q1361 rfl dX4_set_113 ?_
                refine lv_iload_n hx hb dX4_set_116 rfl (lv_at hl 1 rfl) ?_
                obtain ⟨hi14, hwp⟩ := hwp
                refine m_iald hx hb hK hP 15 rfl hi14 dX4_set_117 ?_
                refine lv_iconst (v := 2) hx hb dX4_set_118 (by decide) ?_
                refine lv_icmp_ne (tgt := 128) hx hb dX4_set_119 (by decide) (fun c15 => ?_) (fun c15 => ?_)
                · replace hwp := hwp.1 c15
                  refine lv_lload_n hx hb dX4_set_128 rfl (lv_at hl 3 rfl) ?_
                  exact mk_set_129 X _ _ σ hwp H locs ls hP hS (lv_sub hl [] rfl)
                · replace hwp := hwp.2 c15
                  refine lv_lload_n hx hb dX4_set_122 rfl (lv_at hl 3 rfl) ?_
                  refine lv_l2i (v := x3.toInt32) hx hb dX4_set_123 rfl ?_
                  refine lv_i2l (v := x3.toInt32.toInt64) hx hb dX4_set_124 rfl ?_
                  refine lv_goto (tgt := 129) hx hb dX4_set_125 (by decide) ?_
                  exact mk_set_129 X _ _ σ hwp H locs ls hP hS (lv_sub hl [] rfl)
              · replace hwp := hwp.2 c13
                refine lv_lload_n hx hb dX4_set_105 rfl (lv_at hl 3 rfl) ?_
                refine lv_l2i (v := x3.toInt32) hx hb dX4_set_106 rfl ?_
                refine lv_i2s (v := x3.toInt32.toInt16.toInt32) hx hb dX4_set_107 rfl ?_
                refine lv_i2l (v := x3.toInt32.toInt16.toInt32.toInt64) hx hb dX4_set_108 rfl ?_
                refine lv_goto (tgt := 129) hx hb dX4_set_109 (by decide) ?_
                exact mk_set_129 X _ _ σ hwp H locs ls hP hS (lv_sub hl [] rfl)
            · replace hwp := hwp.2 c11
              refine lv_lload_n hx hb dX4_set_88 rfl (lv_at hl 3 rfl) ?_
              refine lv_l2i (v := x3.toInt32) hx hb dX4_set_89 rfl ?_
              refine lv_i2b (v := x3.toInt32.toInt8.toInt32) hx hb dX4_set_90 rfl ?_
              refine lv_i2l (v := x3.toInt32.toInt8.toInt32.toInt64) hx hb dX4_set_91 rfl ?_
              refine lv_goto (tgt := 129) hx hb dX4_set_92 (by decide) ?_
              exact mk_set_129 X _ _ σ hwp H locs ls hP hS (lv_sub hl [] rfl)
          · replace hwp := hwp.2 c9
            exact mk_set_61 X σ hwp H locs ls hP hS (lv_sub hl [0] rfl)
      · replace hwp := hwp.2 c6
        refine lv_aload_n hx hb dX4_set_40 rfl (lv_at hl 0 rfl) ?_
        refine lv_bipush (v := (-3)) hx hb dX4_set_41 (by decide) ?_
        refine m_calli ⟨hx, hb, hml, hown, hts⟩ hK hD hA hP hS (mt_no hwp) (cwV 1 hts (lw_V q1469 q1471 qs25 q79 q1472) rfl rfl rfl (by decide +kernel) ⟨Nat.le_of_ble_eq_true rfl, Nat.le_of_ble_eq_true rfl⟩) rfl hl.1 rfl (Nat.le_of_ble_eq_true rfl) dX4_set_43 ⟨Nat.zero_le _, Nat.zero_le _⟩ (fun r16 σ17 H locs hk hP hS => ?_)
        have hwp := hk
        exact m_iret hx hb hr hlk hK hP hS hwp dX4_set_46
    · replace hwp := hwp.2 c4
      refine lv_aload_n hx hb dX4_set_24 rfl (lv_at hl 0 rfl) ?_
      refine lv_bipush (v := (-2)) hx hb dX4_set_25 (by decide) ?_
      refine m_calli ⟨hx, hb, hml, hown, hts⟩ hK hD hA hP hS (mt_no hwp) (cwV 1 hts (lw_V q1469 q1471 qs25 q79 q1472) rfl rfl rfl (by decide +kernel) ⟨Nat.le_of_ble_eq_true rfl, Nat.le_of_ble_eq_true rfl⟩) rfl hl.1 rfl (Nat.le_of_ble_eq_true rfl) dX4_set_27 ⟨Nat.zero_le _, Nat.zero_le _⟩ (fun r18 σ19 H locs hk hP hS => ?_)
      have hwp := hk
      exact m_iret hx hb hr hlk hK hP hS hwp dX4_set_30
  · replace hwp := hwp.2 c2
    refine lv_aload_n hx hb dX4_set_8 rfl (lv_at hl 0 rfl) ?_
    refine lv_iconst (v := (-1)) hx hb dX4_set_9 (by decide) ?_
    refine m_calli ⟨hx, hb, hml, hown, hts⟩ hK hD hA hP hS (mt_no hwp) (cwV 1 hts (lw_V q1469 q1471 qs25 q79 q1472) rfl rfl rfl (by decide +kernel) ⟨Nat.le_of_ble_eq_true rfl, Nat.le_of_ble_eq_true rfl⟩) rfl hl.1 rfl (Nat.le_of_ble_eq_true rfl) dX4_set_10 ⟨Nat.zero_le _, Nat.zero_le _⟩ (fun r20 σ21 H locs hk hP hS => ?_)
    have hwp := hk
    exact m_iret hx hb hr hlk hK hP hS hwp dX4_set_13
/-! show -/
def mw_show_21 (K : Int32 → MSt → Prop) (σ : MSt) : Prop :=
  mw_no (fun r1 σ2 => K r1 σ2) (-1) σ
set_option maxHeartbeats 4000000 in
set_option maxRecDepth 100000 in
theorem mk_show_21 {p : Program} {l : Launch} {e : Env} {s : State} {m : MethodId} {args : Array Value} {below : List Frame} {meth : Method} {c : Code} {Γ : GA} {α : Nat → Nat} {K : Int32 → MSt → Prop} (X : CM p s m args meth c cX4_show 3 (some .int) Γ α) : ∀ (σ : MSt), mw_show_21 K  σ → TM p l e ({ frames := 1, cells := 0, slots := 0, locals := 21 } : Room) s m args below meth c 3 (QI below K Γ α s args) Γ α σ 21 [(0, .ref (α 50))] [] := by
  obtain ⟨hx, hb, hml, hown, hts, hK, hD, hr, hlk⟩ := id X
  have hA : ∀ q, s.heap.size ≤ q → AM α s.heap.size q := fun q h => Or.inr h
  intro  σ hwp H locs ls hP hS hl
  unfold mw_show_21 at hwp
  refine lv_aload_n hx hb dX4_show_21 rfl (lv_at hl 0 rfl) ?_
  refine lv_iconst (v := (-1)) hx hb dX4_show_22 (by decide) ?_
  refine m_calli ⟨hx, hb, hml, hown, hts⟩ hK hD hA hP hS (mt_no hwp) (cwV 1 hts (lw_V q1469 q1471 qs25 q79 q1472) rfl rfl rfl (by decide +kernel) ⟨Nat.le_of_ble_eq_true rfl, Nat.le_of_ble_eq_true rfl⟩) rfl hl.1 rfl (Nat.le_of_ble_eq_true rfl) dX4_show_23 ⟨Nat.zero_le _, Nat.zero_le _⟩ (fun r1 σ2 H locs hk hP hS => ?_)
  have hwp := hk
  exact m_iret hx hb hr hlk hK hP hS hwp dX4_show_26
def mw_show_42 (K : Int32 → MSt → Prop) (x1 : Int32) (x2 : Int32) (t0 : Int32) (t1 : Int32) (σ : MSt) : Prop :=
  vp_in t1 (lenM 14) ∧ (∀ σ2, σ2 = sI σ 14 t1.toNatClampNeg t0 → (vp_in x1 (lenM 17) ∧ (∀ σ4, σ4 = sI σ2 17 x1.toNatClampNeg x2 → (((¬ (x2 = (-1))) → (K 1 σ4)) ∧ ((x2 = (-1)) → (K 0 σ4))))))
set_option maxHeartbeats 4000000 in
set_option maxRecDepth 100000 in
theorem mk_show_42 {p : Program} {l : Launch} {e : Env} {s : State} {m : MethodId} {args : Array Value} {below : List Frame} {meth : Method} {c : Code} {Γ : GA} {α : Nat → Nat} {K : Int32 → MSt → Prop} (X : CM p s m args meth c cX4_show 3 (some .int) Γ α) : ∀ (x1 : Int32) (x2 : Int32) (t0 : Int32) (t1 : Int32) (σ : MSt), mw_show_42 K x1 x2 t0 t1 σ → TM p l e ({ frames := 1, cells := 0, slots := 0, locals := 21 } : Room) s m args below meth c 3 (QI below K Γ α s args) Γ α σ 42 [(0, .ref (α 50)), (1, .int x1), (2, .int x2)] [.int t0, .int t1, .ref (α 14)] := by
  obtain ⟨hx, hb, hml, hown, hts, hK, hD, hr, hlk⟩ := id X
  have hA : ∀ q, s.heap.size ≤ q → AM α s.heap.size q := fun q h => Or.inr h
  intro x1 x2 t0 t1 σ hwp H locs ls hP hS hl
  unfold mw_show_42 at hwp
  obtain ⟨hi1, hwp⟩ := hwp
  refine m_iast hx hb hK hD hP hS 14 rfl hi1 dX4_show_42 (fun H locs hP hS => ?_)
  obtain ⟨σ2, eσ2⟩ : ∃ z, z = sI σ 14 t1.toNatClampNeg t0 := ⟨_, rfl⟩
  rw [← eσ2] at hP
  replace hwp := hwp σ2 eσ2
  refine lv_aload_n hx hb dX4_show_43 rfl (lv_at hl 0 rfl) ?_
  refine m_geta hx hb hts hown hK hP 17 (by decide) rfl q1363 rfl dX4_show_44 ?_
  refine lv_iload_n hx hb dX4_show_47 rfl (lv_at hl 1 rfl) ?_
  refine lv_iload_n hx hb dX4_show_48 rfl (lv_at hl 2 rfl) ?_
  obtain ⟨hi3, hwp⟩ := hwp
  refine m_iast hx hb hK hD hP hS 17 rfl hi3 dX4_show_49 (fun H locs hP hS => ?_)
  obtain ⟨σ4, eσ4⟩ : ∃ z, z = sI σ2 17 x1.toNatClampNeg x2 := ⟨_, rfl⟩
  rw [← eσ4] at hP
  replace hwp := hwp σ4 eσ4
  refine lv_iload_n hx hb dX4_show_50 rfl (lv_at hl 2 rfl) ?_
  refine lv_iconst (v := (-1)) hx hb dX4_show_51 (by decide) ?_
  refine lv_icmp_ne (tgt := 59) hx hb dX4_show_52 (by decide) (fun c5 => ?_) (fun c5 => ?_)
  · replace hwp := hwp.1 c5
    refine lv_iconst (v := 1) hx hb dX4_show_59 (by decide) ?_
    exact m_iret hx hb hr hlk hK hP hS hwp dX4_show_60
  · replace hwp := hwp.2 c5
    refine lv_iconst (v := 0) hx hb dX4_show_55 (by decide) ?_
    refine lv_goto (tgt := 60) hx hb dX4_show_56 (by decide) ?_
    exact m_iret hx hb hr hlk hK hP hS hwp dX4_show_60
def mw_show_27 (K : Int32 → MSt → Prop) (x1 : Int32) (x2 : Int32) (σ : MSt) : Prop :=
  ((¬ (x2 = (-1))) → (mw_show_42 K x1 x2 2 x1 σ)) ∧ ((x2 = (-1)) → (mw_show_42 K x1 x2 0 x1 σ))
set_option maxHeartbeats 4000000 in
set_option maxRecDepth 100000 in
theorem mk_show_27 {p : Program} {l : Launch} {e : Env} {s : State} {m : MethodId} {args : Array Value} {below : List Frame} {meth : Method} {c : Code} {Γ : GA} {α : Nat → Nat} {K : Int32 → MSt → Prop} (X : CM p s m args meth c cX4_show 3 (some .int) Γ α) : ∀ (x1 : Int32) (x2 : Int32) (σ : MSt), mw_show_27 K x1 x2 σ → TM p l e ({ frames := 1, cells := 0, slots := 0, locals := 21 } : Room) s m args below meth c 3 (QI below K Γ α s args) Γ α σ 27 [(0, .ref (α 50)), (1, .int x1), (2, .int x2)] [] := by
  obtain ⟨hx, hb, hml, hown, hts, hK, hD, hr, hlk⟩ := id X
  have hA : ∀ q, s.heap.size ≤ q → AM α s.heap.size q := fun q h => Or.inr h
  intro x1 x2 σ hwp H locs ls hP hS hl
  unfold mw_show_27 at hwp
  refine lv_aload_n hx hb dX4_show_27 rfl (lv_at hl 0 rfl) ?_
  refine m_geta hx hb hts hown hK hP 14 (by decide) rfl q1360 rfl dX4_show_28 ?_
  refine lv_iload_n hx hb dX4_show_31 rfl (lv_at hl 1 rfl) ?_
  refine lv_iload_n hx hb dX4_show_32 rfl (lv_at hl 2 rfl) ?_
  refine lv_iconst (v := (-1)) hx hb dX4_show_33 (by decide) ?_
  refine lv_icmp_ne (tgt := 41) hx hb dX4_show_34 (by decide) (fun c1 => ?_) (fun c1 => ?_)
  · replace hwp := hwp.1 c1
    refine lv_iconst (v := 2) hx hb dX4_show_41 (by decide) ?_
    exact mk_show_42 X _ _ _ _ σ hwp H locs ls hP hS (lv_sub hl [0, 1, 2] rfl)
  · replace hwp := hwp.2 c1
    refine lv_iconst (v := 0) hx hb dX4_show_37 (by decide) ?_
    refine lv_goto (tgt := 42) hx hb dX4_show_38 (by decide) ?_
    exact mk_show_42 X _ _ _ _ σ hwp H locs ls hP hS (lv_sub hl [0, 1, 2] rfl)
def mw_show (K : Int32 → MSt → Prop) (x1 : Int32) (x2 : Int32) (σ : MSt) : Prop :=
  mw_isShelf σ (fun r1 => ((r1 = 0) → (mw_show_21 K σ)) ∧ ((¬ (r1 = 0)) → (((x2 = (-1)) → (mw_show_27 K x1 x2 σ)) ∧ ((¬ (x2 = (-1))) → (mw_isThing σ (fun r4 => ((¬ (r4 = 0)) → (mw_show_27 K x1 x2 σ)) ∧ ((r4 = 0) → (mw_show_21 K σ))) x2))))) x1
set_option maxHeartbeats 4000000 in
set_option maxRecDepth 100000 in
theorem mt_show {l : Launch} {Γ : GA} {α : Nat → Nat} {σ : MSt} {K : Int32 → MSt → Prop} {x1 : Int32} {x2 : Int32} (hwp : mw_show K x1 x2 σ) : mI l yX4_show cX4_show 3 (some .int) ({ frames := 1, cells := 0, slots := 0, locals := 21 } : Room) Γ α [.int x1, .int x2] σ K := by
  intro sz
  refine m_of (by decide) rfl [(0, .ref (α 50)), (1, .int x1), (2, .int x2)] (fun _ h => h) (Nat.le_of_ble_eq_true rfl) ?_
  intro p e s m args below meth c hsz X H locs ls hP hS hl
  subst hsz
  obtain ⟨hx, hb, hml, hown, hts, hK, hD, hr, hlk⟩ := id X
  have hA : ∀ q, s.heap.size ≤ q → AM α s.heap.size q := fun q h => Or.inr h
  unfold mw_show at hwp
  refine lv_aload_n hx hb dX4_show_0 rfl (lv_at hl 0 rfl) ?_
  refine lv_iload_n hx hb dX4_show_1 rfl (lv_at hl 1 rfl) ?_
  refine m_calli ⟨hx, hb, hml, hown, hts⟩ hK hD hA hP hS (mt_isShelf hwp) (cwV 1 hts (lw_V q1465 q1467 qs24 q79 q1468) rfl rfl rfl (by decide +kernel) ⟨Nat.le_of_ble_eq_true rfl, Nat.le_of_ble_eq_true rfl⟩) rfl hl.1 rfl (Nat.le_of_ble_eq_true rfl) dX4_show_2 ⟨Nat.zero_le _, Nat.zero_le _⟩ (fun r1 u H locs hk hP hS => ?_)
  obtain ⟨hwp, eu⟩ := hk
  rw [eu] at hP
  refine lv_if_eq (tgt := 21) hx hb dX4_show_5 (by decide) (fun c2 => ?_) (fun c2 => ?_)
  · replace hwp := hwp.1 c2
    exact mk_show_21 X σ hwp H locs ls hP hS (lv_sub hl [0] rfl)
  · replace hwp := hwp.2 c2
    refine lv_iload_n hx hb dX4_show_8 rfl (lv_at hl 2 rfl) ?_
    refine lv_iconst (v := (-1)) hx hb dX4_show_9 (by decide) ?_
    refine lv_icmp_eq (tgt := 27) hx hb dX4_show_10 (by decide) (fun c3 => ?_) (fun c3 => ?_)
    · replace hwp := hwp.1 c3
      exact mk_show_27 X _ _ σ hwp H locs ls hP hS (lv_sub hl [0, 1, 2] rfl)
    · replace hwp := hwp.2 c3
      refine lv_aload_n hx hb dX4_show_13 rfl (lv_at hl 0 rfl) ?_
      refine lv_iload_n hx hb dX4_show_14 rfl (lv_at hl 2 rfl) ?_
      refine m_calli ⟨hx, hb, hml, hown, hts⟩ hK hD hA hP hS (mt_isThing hwp) (cwV 1 hts (lw_V q1489 q1491 qs26 q79 q1492) rfl rfl rfl (by decide +kernel) ⟨Nat.le_of_ble_eq_true rfl, Nat.le_of_ble_eq_true rfl⟩) rfl hl.1 rfl (Nat.le_of_ble_eq_true rfl) dX4_show_15 ⟨Nat.zero_le _, Nat.zero_le _⟩ (fun r4 u H locs hk hP hS => ?_)
      obtain ⟨hwp, eu⟩ := hk
      rw [eu] at hP
      refine lv_if_ne (tgt := 27) hx hb dX4_show_18 (by decide) (fun c5 => ?_) (fun c5 => ?_)
      · replace hwp := hwp.1 c5
        exact mk_show_27 X _ _ σ hwp H locs ls hP hS (lv_sub hl [0, 1, 2] rfl)
      · replace hwp := hwp.2 c5
        exact mk_show_21 X σ hwp H locs ls hP hS (lv_sub hl [0] rfl)
/-! shut -/
def mw_shut_66 (K : Int32 → MSt → Prop) (x1 : Int32) (x5 : Int32) (t0 : Int32) (t1 : Int32) (σ : MSt) : Prop :=
  vp_in t1 (lenM 13) ∧ (∀ σ2, σ2 = sI σ 13 t1.toNatClampNeg t0 → (vp_in x1 (lenM 13) ∧ (((¬ (x5 = (σ2.2.1 13 x1.toNatClampNeg))) → (K 1 σ2)) ∧ ((x5 = (σ2.2.1 13 x1.toNatClampNeg)) → (K 0 σ2)))))
set_option maxHeartbeats 4000000 in
set_option maxRecDepth 100000 in
theorem mk_shut_66 {p : Program} {l : Launch} {e : Env} {s : State} {m : MethodId} {args : Array Value} {below : List Frame} {meth : Method} {c : Code} {Γ : GA} {α : Nat → Nat} {K : Int32 → MSt → Prop} (X : CM p s m args meth c cX4_shut 6 (some .int) Γ α) : ∀ (x1 : Int32) (x5 : Int32) (t0 : Int32) (t1 : Int32) (σ : MSt), mw_shut_66 K x1 x5 t0 t1 σ → TM p l e ({ frames := 2, cells := 0, slots := 0, locals := 43 } : Room) s m args below meth c 6 (QI below K Γ α s args) Γ α σ 66 [(0, .ref (α 50)), (1, .int x1), (5, .int x5)] [.int t0, .int t1, .ref (α 13)] := by
  obtain ⟨hx, hb, hml, hown, hts, hK, hD, hr, hlk⟩ := id X
  have hA : ∀ q, s.heap.size ≤ q → AM α s.heap.size q := fun q h => Or.inr h
  intro x1 x5 t0 t1 σ hwp H locs ls hP hS hl
  unfold mw_shut_66 at hwp
  obtain ⟨hi1, hwp⟩ := hwp
  refine m_iast hx hb hK hD hP hS 13 rfl hi1 dX4_shut_66 (fun H locs hP hS => ?_)
  obtain ⟨σ2, eσ2⟩ : ∃ z, z = sI σ 13 t1.toNatClampNeg t0 := ⟨_, rfl⟩
  rw [← eσ2] at hP
  replace hwp := hwp σ2 eσ2
  refine lv_iload hx hb dX4_shut_67 (lv_at hl 2 rfl) ?_
  refine lv_aload_n hx hb dX4_shut_69 rfl (lv_at hl 0 rfl) ?_
  refine m_geta hx hb hts hown hK hP 13 (by decide) rfl q1359 rfl dX4_shut_70 ?_
  refine lv_iload_n hx hb dX4_shut_73 rfl (lv_at hl 1 rfl) ?_
  obtain ⟨hi3, hwp⟩ := hwp
  refine m_iald hx hb hK hP 13 rfl hi3 dX4_shut_74 ?_
  refine lv_icmp_ne (tgt := 82) hx hb dX4_shut_75 (by decide) (fun c4 => ?_) (fun c4 => ?_)
  · replace hwp := hwp.1 c4
    refine lv_iconst (v := 1) hx hb dX4_shut_82 (by decide) ?_
    exact m_iret hx hb hr hlk hK hP hS hwp dX4_shut_83
  · replace hwp := hwp.2 c4
    refine lv_iconst (v := 0) hx hb dX4_shut_78 (by decide) ?_
    refine lv_goto (tgt := 83) hx hb dX4_shut_79 (by decide) ?_
    exact m_iret hx hb hr hlk hK hP hS hwp dX4_shut_83
def mw_shut (K : Int32 → MSt → Prop) (x1 : Int32) (x2 : Int32) (x3 : Int32) (σ : MSt) : Prop :=
  mw_barredTwo σ (fun r1 => ((r1 = 0) → (((¬ (x1 = x2)) → (vp_in x1 (lenM 13) ∧ (((x3 = 0) → (mw_shut_66 K x1 (σ.2.1 13 x1.toNatClampNeg) ((σ.2.1 13 x1.toNatClampNeg) &&& ((1 <<< (x2 &&& 31)) ^^^ (-1))) x1 σ)) ∧ ((¬ (x3 = 0)) → (mw_shut_66 K x1 (σ.2.1 13 x1.toNatClampNeg) ((σ.2.1 13 x1.toNatClampNeg) ||| (1 <<< (x2 &&& 31))) x1 σ))))) ∧ ((x1 = x2) → (mw_no (fun r6 σ7 => K r6 σ7) (-6) σ)))) ∧ ((¬ (r1 = 0)) → (mw_no (fun r8 σ9 => K r8 σ9) r1 σ))) x1 x2
set_option maxHeartbeats 4000000 in
set_option maxRecDepth 100000 in
theorem mt_shut {l : Launch} {Γ : GA} {α : Nat → Nat} {σ : MSt} {K : Int32 → MSt → Prop} {x1 : Int32} {x2 : Int32} {x3 : Int32} (hwp : mw_shut K x1 x2 x3 σ) : mI l yX4_shut cX4_shut 6 (some .int) ({ frames := 2, cells := 0, slots := 0, locals := 43 } : Room) Γ α [.int x1, .int x2, .int x3] σ K := by
  intro sz
  refine m_of (by decide) rfl [(0, .ref (α 50)), (1, .int x1), (2, .int x2), (3, .int x3)] (fun _ h => h) (Nat.le_of_ble_eq_true rfl) ?_
  intro p e s m args below meth c hsz X H locs ls hP hS hl
  subst hsz
  obtain ⟨hx, hb, hml, hown, hts, hK, hD, hr, hlk⟩ := id X
  have hA : ∀ q, s.heap.size ≤ q → AM α s.heap.size q := fun q h => Or.inr h
  unfold mw_shut at hwp
  refine lv_aload_n hx hb dX4_shut_0 rfl (lv_at hl 0 rfl) ?_
  refine lv_iload_n hx hb dX4_shut_1 rfl (lv_at hl 1 rfl) ?_
  refine lv_iload_n hx hb dX4_shut_2 rfl (lv_at hl 2 rfl) ?_
  refine m_calli ⟨hx, hb, hml, hown, hts⟩ hK hD hA hP hS (mt_barredTwo hwp) (cwV 2 hts (lw_V q1581 q1583 qs42 q79 q1584) rfl rfl rfl (by decide +kernel) ⟨Nat.le_of_ble_eq_true rfl, Nat.le_of_ble_eq_true rfl⟩) rfl hl.1 rfl (Nat.le_of_ble_eq_true rfl) dX4_shut_3 ⟨Nat.zero_le _, Nat.zero_le _⟩ (fun r1 u H locs hk hP hS => ?_)
  obtain ⟨hwp, eu⟩ := hk
  rw [eu] at hP
  refine lv_istore (lv' := [(4, .int r1), (0, .ref (α 50)), (1, .int x1), (2, .int x2), (3, .int x3)]) hx hb dX4_shut_6 hl (by decide) rfl (fun ls hl => ?_)
  refine lv_iload hx hb dX4_shut_8 (lv_at hl 0 rfl) ?_
  refine lv_if_eq (tgt := 20) hx hb dX4_shut_10 (by decide) (fun c2 => ?_) (fun c2 => ?_)
  · replace hwp := hwp.1 c2
    refine lv_iload_n hx hb dX4_shut_20 rfl (lv_at hl 2 rfl) ?_
    refine lv_iload_n hx hb dX4_shut_21 rfl (lv_at hl 3 rfl) ?_
    refine lv_icmp_ne (tgt := 32) hx hb dX4_shut_22 (by decide) (fun c3 => ?_) (fun c3 => ?_)
    · replace hwp := hwp.1 c3
      refine lv_aload_n hx hb dX4_shut_32 rfl (lv_at hl 1 rfl) ?_
      refine m_geta hx hb hts hown hK hP 13 (by decide) rfl q1359 rfl dX4_shut_33 ?_
      refine lv_iload_n hx hb dX4_shut_36 rfl (lv_at hl 2 rfl) ?_
      obtain ⟨hi4, hwp⟩ := hwp
      refine m_iald hx hb hK hP 13 rfl hi4 dX4_shut_37 ?_
      refine lv_istore (lv' := [(5, .int (σ.2.1 13 x1.toNatClampNeg)), (4, .int r1), (0, .ref (α 50)), (1, .int x1), (2, .int x2), (3, .int x3)]) hx hb dX4_shut_38 hl (by decide) rfl (fun ls hl => ?_)
      refine lv_aload_n hx hb dX4_shut_40 rfl (lv_at hl 2 rfl) ?_
      refine m_geta hx hb hts hown hK hP 13 (by decide) rfl q1359 rfl dX4_shut_41 ?_
      refine lv_iload_n hx hb dX4_shut_44 rfl (lv_at hl 3 rfl) ?_
      refine lv_iload_n hx hb dX4_shut_45 rfl (lv_at hl 5 rfl) ?_
      refine lv_if_eq (tgt := 58) hx hb dX4_shut_46 (by decide) (fun c5 => ?_) (fun c5 => ?_)
      · replace hwp := hwp.1 c5
        refine lv_iload hx hb dX4_shut_58 (lv_at hl 0 rfl) ?_
        refine lv_iconst (v := 1) hx hb dX4_shut_60 (by decide) ?_
        refine lv_iload_n hx hb dX4_shut_61 rfl (lv_at hl 4 rfl) ?_
        refine lv_ishl hx hb dX4_shut_62 ?_
        refine lv_iconst (v := (-1)) hx hb dX4_shut_63 (by decide) ?_
        refine lv_ixor hx hb dX4_shut_64 ?_
        refine lv_iand hx hb dX4_shut_65 ?_
        exact mk_shut_66 X _ _ _ _ σ hwp H locs ls hP hS (lv_sub hl [2, 3, 0] rfl)
      · replace hwp := hwp.2 c5
        refine lv_iload hx hb dX4_shut_49 (lv_at hl 0 rfl) ?_
        refine lv_iconst (v := 1) hx hb dX4_shut_51 (by decide) ?_
        refine lv_iload_n hx hb dX4_shut_52 rfl (lv_at hl 4 rfl) ?_
        refine lv_ishl hx hb dX4_shut_53 ?_
        refine lv_ior hx hb dX4_shut_54 ?_
        refine lv_goto (tgt := 66) hx hb dX4_shut_55 (by decide) ?_
        exact mk_shut_66 X _ _ _ _ σ hwp H locs ls hP hS (lv_sub hl [2, 3, 0] rfl)
    · replace hwp := hwp.2 c3
      refine lv_aload_n hx hb dX4_shut_25 rfl (lv_at hl 1 rfl) ?_
      refine lv_bipush (v := (-6)) hx hb dX4_shut_26 (by decide) ?_
      refine m_calli ⟨hx, hb, hml, hown, hts⟩ hK hD hA hP hS (mt_no hwp) (cwV 1 hts (lw_V q1469 q1471 qs25 q79 q1472) rfl rfl rfl (by decide +kernel) ⟨Nat.le_of_ble_eq_true rfl, Nat.le_of_ble_eq_true rfl⟩) rfl hl.1 rfl (Nat.le_of_ble_eq_true rfl) dX4_shut_28 ⟨Nat.zero_le _, Nat.zero_le _⟩ (fun r6 σ7 H locs hk hP hS => ?_)
      have hwp := hk
      exact m_iret hx hb hr hlk hK hP hS hwp dX4_shut_31
  · replace hwp := hwp.2 c2
    refine lv_aload_n hx hb dX4_shut_13 rfl (lv_at hl 1 rfl) ?_
    refine lv_iload hx hb dX4_shut_14 (lv_at hl 0 rfl) ?_
    refine m_calli ⟨hx, hb, hml, hown, hts⟩ hK hD hA hP hS (mt_no hwp) (cwV 1 hts (lw_V q1469 q1471 qs25 q79 q1472) rfl rfl rfl (by decide +kernel) ⟨Nat.le_of_ble_eq_true rfl, Nat.le_of_ble_eq_true rfl⟩) rfl hl.1 rfl (Nat.le_of_ble_eq_true rfl) dX4_shut_16 ⟨Nat.zero_le _, Nat.zero_le _⟩ (fun r8 σ9 H locs hk hP hS => ?_)
    have hwp := hk
    exact m_iret hx hb hr hlk hK hP hS hwp dX4_shut_19
/-! shuts -/
def mw_shuts (K : Int32 → MSt → Prop) (σ : MSt) : Prop :=
  mw_shutters (fun σ1 => (((σ1.1 30) = 0) → (mw_shutters (fun σ3 => K (σ3.1 29) σ3) 1 σ1)) ∧ ((¬ ((σ1.1 30) = 0)) → (mw_no (fun r4 σ5 => K r4 σ5) (-6) σ1))) 0 σ
set_option maxHeartbeats 4000000 in
set_option maxRecDepth 100000 in
theorem mt_shuts {l : Launch} {Γ : GA} {α : Nat → Nat} {σ : MSt} {K : Int32 → MSt → Prop} (hwp : mw_shuts K  σ) : mI l yX4_shuts cX4_shuts 1 (some .int) ({ frames := 24, cells := 0, slots := 0, locals := 541 } : Room) Γ α [] σ K := by
  intro sz
  refine m_of (by decide) rfl [(0, .ref (α 50))] (fun _ h => h) (Nat.le_of_ble_eq_true rfl) ?_
  intro p e s m args below meth c hsz X H locs ls hP hS hl
  subst hsz
  obtain ⟨hx, hb, hml, hown, hts, hK, hD, hr, hlk⟩ := id X
  have hA : ∀ q, s.heap.size ≤ q → AM α s.heap.size q := fun q h => Or.inr h
  unfold mw_shuts at hwp
  refine lv_aload_n hx hb dX4_shuts_0 rfl (lv_at hl 0 rfl) ?_
  refine lv_iconst (v := 0) hx hb dX4_shuts_1 (by decide) ?_
  refine m_callv ⟨hx, hb, hml, hown, hts⟩ hK hD hA hP hS (mt_shutters hwp) (cwV 1 hts (lw_V q1693 q1695 qs59 q79 q1696) rfl rfl rfl (by decide +kernel) ⟨Nat.le_of_ble_eq_true rfl, Nat.le_of_ble_eq_true rfl⟩) rfl hl.1 rfl (Nat.le_of_ble_eq_true rfl) dX4_shuts_2 ⟨Nat.zero_le _, Nat.zero_le _⟩ (fun σ1 H locs hk hP hS => ?_)
  have hwp := hk
  refine lv_aload_n hx hb dX4_shuts_5 rfl (lv_at hl 0 rfl) ?_
  refine m_geti hx hb hts hown hK hP 30 (by decide) rfl q1376 rfl dX4_shuts_6 ?_
  refine lv_if_eq (tgt := 19) hx hb dX4_shuts_9 (by decide) (fun c2 => ?_) (fun c2 => ?_)
  · replace hwp := hwp.1 c2
    refine lv_aload_n hx hb dX4_shuts_19 rfl (lv_at hl 0 rfl) ?_
    refine lv_iconst (v := 1) hx hb dX4_shuts_20 (by decide) ?_
    refine m_callv ⟨hx, hb, hml, hown, hts⟩ hK hD hA hP hS (mt_shutters hwp) (cwV 1 hts (lw_V q1693 q1695 qs59 q79 q1696) rfl rfl rfl (by decide +kernel) ⟨Nat.le_of_ble_eq_true rfl, Nat.le_of_ble_eq_true rfl⟩) rfl hl.1 rfl (Nat.le_of_ble_eq_true rfl) dX4_shuts_21 ⟨Nat.zero_le _, Nat.zero_le _⟩ (fun σ3 H locs hk hP hS => ?_)
    have hwp := hk
    refine lv_aload_n hx hb dX4_shuts_24 rfl (lv_at hl 0 rfl) ?_
    refine m_geti hx hb hts hown hK hP 29 (by decide) rfl q1375 rfl dX4_shuts_25 ?_
    exact m_iret hx hb hr hlk hK hP hS hwp dX4_shuts_28
  · replace hwp := hwp.2 c2
    refine lv_aload_n hx hb dX4_shuts_12 rfl (lv_at hl 0 rfl) ?_
    refine lv_bipush (v := (-6)) hx hb dX4_shuts_13 (by decide) ?_
    refine m_calli ⟨hx, hb, hml, hown, hts⟩ hK hD hA hP hS (mt_no hwp) (cwV 1 hts (lw_V q1469 q1471 qs25 q79 q1472) rfl rfl rfl (by decide +kernel) ⟨Nat.le_of_ble_eq_true rfl, Nat.le_of_ble_eq_true rfl⟩) rfl hl.1 rfl (Nat.le_of_ble_eq_true rfl) dX4_shuts_15 ⟨Nat.zero_le _, Nat.zero_le _⟩ (fun r4 σ5 H locs hk hP hS => ?_)
    have hwp := hk
    exact m_iret hx hb hr hlk hK hP hS hwp dX4_shuts_18
/-! status -/
def mw_status_22 (σ : MSt) (K : Int32 → Prop) (x1 : Int32) : Prop :=
  ((x1 < 0 ∨ 8 < x1) → (K (-1))) ∧ (x1 = 0 → (K (σ.1 0))) ∧ (x1 = 1 → (mw_houses σ (fun r2 => K r2))) ∧ (x1 = 2 → (K (σ.1 1))) ∧ (x1 = 3 → (K (σ.1 2))) ∧ (x1 = 4 → (mw_shutMany σ (fun r3 => K r3))) ∧ (x1 = 5 → (mw_drawnOnes σ (fun r4 => mw_many σ (fun r5 => K r5) r4))) ∧ (x1 = 6 → (K (σ.1 3))) ∧ (x1 = 7 → (K (σ.1 4))) ∧ (x1 = 8 → (K (σ.1 36)))
set_option maxHeartbeats 4000000 in
set_option maxRecDepth 100000 in
theorem mk_status_22 {p : Program} {l : Launch} {e : Env} {s : State} {m : MethodId} {args : Array Value} {below : List Frame} {meth : Method} {c : Code} {Γ : GA} {α : Nat → Nat} {σ : MSt} {K : Int32 → Prop} (X : CM p s m args meth c cX4_status 2 (some .int) Γ α) : ∀ (x1 : Int32), mw_status_22 σ K x1 → TM p l e ({ frames := 2, cells := 0, slots := 0, locals := 45 } : Room) s m args below meth c 2 (QI below (fun r u => K r ∧ u = σ) Γ α s args) Γ α σ 22 [(0, .ref (α 50)), (1, .int x1)] [] := by
  obtain ⟨hx, hb, hml, hown, hts, hK, hD, hr, hlk⟩ := id X
  have hA : ∀ q, s.heap.size ≤ q → AM α s.heap.size q := fun q h => Or.inr h
  intro x1 hwp H locs ls hP hS hl
  unfold mw_status_22 at hwp
  refine lv_iload_n hx hb dX4_status_22 rfl (lv_at hl 1 rfl) ?_
  by_cases c1 : (x1 < 0 ∨ 8 < x1)
  · replace hwp := hwp.1 c1
    refine lv_tableOut (tgt := 121) hx hb dX4_status_23 (sw_out c1) (by decide) ?_
    refine lv_iconst (v := (-1)) hx hb dX4_status_121 (by decide) ?_
    exact m_iret hx hb hr hlk hK hP hS ⟨hwp, rfl⟩ dX4_status_122
  · obtain ⟨j, hj, ej⟩ := sw_of (n := 8) (by decide) c1
    match j, hj, ej with
    | 0, _, ej =>
      have ej : x1 = 0 := ej
      replace hwp := hwp.2.1 ej
      refine lv_tableIn (off := 49) (tgt := 72) hx hb dX4_status_23 (by rw [ej]; decide) (by rw [ej]; decide) (by rw [ej]; rfl) (by decide) ?_
      refine lv_aload_n hx hb dX4_status_72 rfl (lv_at hl 0 rfl) ?_
      refine m_geti hx hb hts hown hK hP 0 (by decide) rfl q1346 rfl dX4_status_73 ?_
      exact m_iret hx hb hr hlk hK hP hS ⟨hwp, rfl⟩ dX4_status_76
    | 1, _, ej =>
      have ej : x1 = 1 := ej
      replace hwp := hwp.2.2.1 ej
      refine lv_tableIn (off := 54) (tgt := 77) hx hb dX4_status_23 (by rw [ej]; decide) (by rw [ej]; decide) (by rw [ej]; rfl) (by decide) ?_
      refine lv_aload_n hx hb dX4_status_77 rfl (lv_at hl 0 rfl) ?_
      refine m_calli ⟨hx, hb, hml, hown, hts⟩ hK hD hA hP hS (mt_houses hwp) (cwV 0 hts (lw_V q1705 q1707 qs61 q79 q1708) rfl rfl rfl (by decide +kernel) ⟨Nat.le_of_ble_eq_true rfl, Nat.le_of_ble_eq_true rfl⟩) rfl hl.1 rfl (Nat.le_of_ble_eq_true rfl) dX4_status_78 ⟨Nat.zero_le _, Nat.zero_le _⟩ (fun r2 u H locs hk hP hS => ?_)
      obtain ⟨hwp, eu⟩ := hk
      rw [eu] at hP
      exact m_iret hx hb hr hlk hK hP hS ⟨hwp, rfl⟩ dX4_status_81
    | 2, _, ej =>
      have ej : x1 = 2 := ej
      replace hwp := hwp.2.2.2.1 ej
      refine lv_tableIn (off := 59) (tgt := 82) hx hb dX4_status_23 (by rw [ej]; decide) (by rw [ej]; decide) (by rw [ej]; rfl) (by decide) ?_
      refine lv_aload_n hx hb dX4_status_82 rfl (lv_at hl 0 rfl) ?_
      refine m_geti hx hb hts hown hK hP 1 (by decide) rfl q1347 rfl dX4_status_83 ?_
      exact m_iret hx hb hr hlk hK hP hS ⟨hwp, rfl⟩ dX4_status_86
    | 3, _, ej =>
      have ej : x1 = 3 := ej
      replace hwp := hwp.2.2.2.2.1 ej
      refine lv_tableIn (off := 64) (tgt := 87) hx hb dX4_status_23 (by rw [ej]; decide) (by rw [ej]; decide) (by rw [ej]; rfl) (by decide) ?_
      refine lv_aload_n hx hb dX4_status_87 rfl (lv_at hl 0 rfl) ?_
      refine m_geti hx hb hts hown hK hP 2 (by decide) rfl q1348 rfl dX4_status_88 ?_
      exact m_iret hx hb hr hlk hK hP hS ⟨hwp, rfl⟩ dX4_status_91
    | 4, _, ej =>
      have ej : x1 = 4 := ej
      replace hwp := hwp.2.2.2.2.2.1 ej
      refine lv_tableIn (off := 69) (tgt := 92) hx hb dX4_status_23 (by rw [ej]; decide) (by rw [ej]; decide) (by rw [ej]; rfl) (by decide) ?_
      refine lv_aload_n hx hb dX4_status_92 rfl (lv_at hl 0 rfl) ?_
      refine m_calli ⟨hx, hb, hml, hown, hts⟩ hK hD hA hP hS (mt_shutMany hwp) (cwV 0 hts (lw_V q1777 q1779 qs68 q79 q1780) rfl rfl rfl (by decide +kernel) ⟨Nat.le_of_ble_eq_true rfl, Nat.le_of_ble_eq_true rfl⟩) rfl hl.1 rfl (Nat.le_of_ble_eq_true rfl) dX4_status_93 ⟨Nat.zero_le _, Nat.zero_le _⟩ (fun r3 u H locs hk hP hS => ?_)
      obtain ⟨hwp, eu⟩ := hk
      rw [eu] at hP
      exact m_iret hx hb hr hlk hK hP hS ⟨hwp, rfl⟩ dX4_status_96
    | 5, _, ej =>
      have ej : x1 = 5 := ej
      replace hwp := hwp.2.2.2.2.2.2.1 ej
      refine lv_tableIn (off := 74) (tgt := 97) hx hb dX4_status_23 (by rw [ej]; decide) (by rw [ej]; decide) (by rw [ej]; rfl) (by decide) ?_
      refine lv_aload_n hx hb dX4_status_97 rfl (lv_at hl 0 rfl) ?_
      refine lv_aload_n hx hb dX4_status_98 rfl (lv_at hl 0 rfl) ?_
      refine m_calli ⟨hx, hb, hml, hown, hts⟩ hK hD hA hP hS (mt_drawnOnes hwp) (cwV 0 hts (lw_V q1701 q1703 qs60 q79 q1704) rfl rfl rfl (by decide +kernel) ⟨Nat.le_of_ble_eq_true rfl, Nat.le_of_ble_eq_true rfl⟩) rfl hl.1 rfl (Nat.le_of_ble_eq_true rfl) dX4_status_99 ⟨Nat.zero_le _, Nat.zero_le _⟩ (fun r4 u H locs hk hP hS => ?_)
      obtain ⟨hwp, eu⟩ := hk
      rw [eu] at hP
      refine m_calli ⟨hx, hb, hml, hown, hts⟩ hK hD hA hP hS (mt_many hwp) (cwV 1 hts (lw_V q1549 q1551 qs39 q79 q1552) rfl rfl rfl (by decide +kernel) ⟨Nat.le_of_ble_eq_true rfl, Nat.le_of_ble_eq_true rfl⟩) rfl hl.1 rfl (Nat.le_of_ble_eq_true rfl) dX4_status_102 ⟨Nat.zero_le _, Nat.zero_le _⟩ (fun r5 u H locs hk hP hS => ?_)
      obtain ⟨hwp, eu⟩ := hk
      rw [eu] at hP
      exact m_iret hx hb hr hlk hK hP hS ⟨hwp, rfl⟩ dX4_status_105
    | 6, _, ej =>
      have ej : x1 = 6 := ej
      replace hwp := hwp.2.2.2.2.2.2.2.1 ej
      refine lv_tableIn (off := 83) (tgt := 106) hx hb dX4_status_23 (by rw [ej]; decide) (by rw [ej]; decide) (by rw [ej]; rfl) (by decide) ?_
      refine lv_aload_n hx hb dX4_status_106 rfl (lv_at hl 0 rfl) ?_
      refine m_geti hx hb hts hown hK hP 3 (by decide) rfl q1349 rfl dX4_status_107 ?_
      exact m_iret hx hb hr hlk hK hP hS ⟨hwp, rfl⟩ dX4_status_110
    | 7, _, ej =>
      have ej : x1 = 7 := ej
      replace hwp := hwp.2.2.2.2.2.2.2.2.1 ej
      refine lv_tableIn (off := 88) (tgt := 111) hx hb dX4_status_23 (by rw [ej]; decide) (by rw [ej]; decide) (by rw [ej]; rfl) (by decide) ?_
      refine lv_aload_n hx hb dX4_status_111 rfl (lv_at hl 0 rfl) ?_
      refine m_geti hx hb hts hown hK hP 4 (by decide) rfl q1350 rfl dX4_status_112 ?_
      exact m_iret hx hb hr hlk hK hP hS ⟨hwp, rfl⟩ dX4_status_115
    | 8, _, ej =>
      have ej : x1 = 8 := ej
      replace hwp := hwp.2.2.2.2.2.2.2.2.2 ej
      refine lv_tableIn (off := 93) (tgt := 116) hx hb dX4_status_23 (by rw [ej]; decide) (by rw [ej]; decide) (by rw [ej]; rfl) (by decide) ?_
      refine lv_aload_n hx hb dX4_status_116 rfl (lv_at hl 0 rfl) ?_
      refine m_geti hx hb hts hown hK hP 36 (by decide) rfl q1382 rfl dX4_status_117 ?_
      exact m_iret hx hb hr hlk hK hP hS ⟨hwp, rfl⟩ dX4_status_120
    | j + 9, hj, _ => exact absurd hj (by omega)
def mw_status (σ : MSt) (K : Int32 → Prop) (x1 : Int32) : Prop :=
  ((x1 < 11) → (mw_status_22 σ K x1)) ∧ ((¬ (x1 < 11)) → (((17 < x1) → (mw_status_22 σ K x1)) ∧ ((¬ (17 < x1)) → (vp_in (x1 - 10) (lenM 6) ∧ (K (σ.2.1 6 (x1 - 10).toNatClampNeg))))))
set_option maxHeartbeats 4000000 in
set_option maxRecDepth 100000 in
theorem mt_status {l : Launch} {Γ : GA} {α : Nat → Nat} {σ : MSt} {K : Int32 → Prop} {x1 : Int32} (hwp : mw_status σ K x1) : mI l yX4_status cX4_status 2 (some .int) ({ frames := 2, cells := 0, slots := 0, locals := 45 } : Room) Γ α [.int x1] σ (fun r u => K r ∧ u = σ) := by
  intro sz
  refine m_of (by decide) rfl [(0, .ref (α 50)), (1, .int x1)] (fun _ h => h) (Nat.le_of_ble_eq_true rfl) ?_
  intro p e s m args below meth c hsz X H locs ls hP hS hl
  subst hsz
  obtain ⟨hx, hb, hml, hown, hts, hK, hD, hr, hlk⟩ := id X
  have hA : ∀ q, s.heap.size ≤ q → AM α s.heap.size q := fun q h => Or.inr h
  unfold mw_status at hwp
  refine lv_iload_n hx hb dX4_status_0 rfl (lv_at hl 1 rfl) ?_
  refine lv_bipush (v := 11) hx hb dX4_status_1 (by decide) ?_
  refine lv_icmp_lt (tgt := 22) hx hb dX4_status_3 (by decide) (fun c1 => ?_) (fun c1 => ?_)
  · replace hwp := hwp.1 c1
    exact mk_status_22 X _ hwp H locs ls hP hS (lv_sub hl [0, 1] rfl)
  · replace hwp := hwp.2 c1
    refine lv_iload_n hx hb dX4_status_6 rfl (lv_at hl 1 rfl) ?_
    refine lv_bipush (v := 17) hx hb dX4_status_7 (by decide) ?_
    refine lv_icmp_gt (tgt := 22) hx hb dX4_status_9 (by decide) (fun c2 => ?_) (fun c2 => ?_)
    · replace hwp := hwp.1 c2
      exact mk_status_22 X _ hwp H locs ls hP hS (lv_sub hl [0, 1] rfl)
    · replace hwp := hwp.2 c2
      refine lv_aload_n hx hb dX4_status_12 rfl (lv_at hl 0 rfl) ?_
      refine m_geta hx hb hts hown hK hP 6 (by decide) rfl q1352 rfl dX4_status_13 ?_
      refine lv_iload_n hx hb dX4_status_16 rfl (lv_at hl 1 rfl) ?_
      refine lv_bipush (v := 10) hx hb dX4_status_17 (by decide) ?_
      refine lv_isub hx hb dX4_status_19 ?_
      obtain ⟨hi3, hwp⟩ := hwp
      refine m_iald hx hb hK hP 6 rfl hi3 dX4_status_20 ?_
      exact m_iret hx hb hr hlk hK hP hS ⟨hwp, rfl⟩ dX4_status_21
/-! storey -/
def mw_storey_24 (K : Int32 → MSt → Prop) (x1 : Int32) (x2 : Int32) (σ : MSt) : Prop :=
  ((x2 = 0) → (mw_allRight σ (fun r2 => mw_many σ (fun r3 => vp_in x1 (lenM 10) ∧ (vp_in x1 (lenM 10) ∧ (∀ σ6, σ6 = sI σ 10 x1.toNatClampNeg ((σ.2.1 10 x1.toNatClampNeg) + 1) → (mw_allRight σ6 (fun r7 => mw_many σ6 (fun r8 => vp_in x1 (lenM 10) ∧ (vp_in x1 (lenM 10) ∧ (∀ σ11, σ11 = sI σ6 10 x1.toNatClampNeg ((σ6.2.1 10 x1.toNatClampNeg) - 1) → (K (r8 - r3) σ11)))) r7))))) r2))) ∧ ((¬ (x2 = 0)) → (mw_noMuch (fun r12 σ13 => K r12 σ13) x2 σ))
set_option maxHeartbeats 4000000 in
set_option maxRecDepth 100000 in
theorem mk_storey_24 {p : Program} {l : Launch} {e : Env} {s : State} {m : MethodId} {args : Array Value} {below : List Frame} {meth : Method} {c : Code} {Γ : GA} {α : Nat → Nat} {K : Int32 → MSt → Prop} (X : CM p s m args meth c cX4_storey 4 (some .int) Γ α) : ∀ (x1 : Int32) (x2 : Int32) (σ : MSt), mw_storey_24 K x1 x2 σ → TM p l e ({ frames := 24, cells := 0, slots := 0, locals := 535 } : Room) s m args below meth c 4 (QI below K Γ α s args) Γ α σ 24 [(0, .ref (α 50)), (1, .int x1), (2, .int x2)] [] := by
  obtain ⟨hx, hb, hml, hown, hts, hK, hD, hr, hlk⟩ := id X
  have hA : ∀ q, s.heap.size ≤ q → AM α s.heap.size q := fun q h => Or.inr h
  intro x1 x2 σ hwp H locs ls hP hS hl
  unfold mw_storey_24 at hwp
  refine lv_iload_n hx hb dX4_storey_24 rfl (lv_at hl 2 rfl) ?_
  refine lv_if_eq (tgt := 34) hx hb dX4_storey_25 (by decide) (fun c1 => ?_) (fun c1 => ?_)
  · replace hwp := hwp.1 c1
    refine lv_aload_n hx hb dX4_storey_34 rfl (lv_at hl 0 rfl) ?_
    refine lv_aload_n hx hb dX4_storey_35 rfl (lv_at hl 0 rfl) ?_
    refine m_calli ⟨hx, hb, hml, hown, hts⟩ hK hD hA hP hS (mt_allRight hwp) (cwV 0 hts (lw_V q1665 q1667 qs56 q79 q1668) rfl rfl rfl (by decide +kernel) ⟨Nat.le_of_ble_eq_true rfl, Nat.le_of_ble_eq_true rfl⟩) rfl hl.1 rfl (Nat.le_of_ble_eq_true rfl) dX4_storey_36 ⟨Nat.zero_le _, Nat.zero_le _⟩ (fun r2 u H locs hk hP hS => ?_)
    obtain ⟨hwp, eu⟩ := hk
    rw [eu] at hP
    refine m_calli ⟨hx, hb, hml, hown, hts⟩ hK hD hA hP hS (mt_many hwp) (cwV 1 hts (lw_V q1549 q1551 qs39 q79 q1552) rfl rfl rfl (by decide +kernel) ⟨Nat.le_of_ble_eq_true rfl, Nat.le_of_ble_eq_true rfl⟩) rfl hl.1 rfl (Nat.le_of_ble_eq_true rfl) dX4_storey_39 ⟨Nat.zero_le _, Nat.zero_le _⟩ (fun r3 u H locs hk hP hS => ?_)
    obtain ⟨hwp, eu⟩ := hk
    rw [eu] at hP
    refine lv_istore_n (lv' := [(3, .int r3), (0, .ref (α 50)), (1, .int x1), (2, .int x2)]) hx hb dX4_storey_42 rfl hl (by decide) rfl (fun ls hl => ?_)
    refine lv_aload_n hx hb dX4_storey_43 rfl (lv_at hl 1 rfl) ?_
    refine m_geta hx hb hts hown hK hP 10 (by decide) rfl q1356 rfl dX4_storey_44 ?_
    refine lv_iload_n hx hb dX4_storey_47 rfl (lv_at hl 2 rfl) ?_
    refine lv_dup2_11 hx hb dX4_storey_48 rfl rfl ?_
    obtain ⟨hi4, hwp⟩ := hwp
    refine m_iald hx hb hK hP 10 rfl hi4 dX4_storey_49 ?_
    refine lv_iconst (v := 1) hx hb dX4_storey_50 (by decide) ?_
    refine lv_iadd hx hb dX4_storey_51 ?_
    obtain ⟨hi5, hwp⟩ := hwp
    refine m_iast hx hb hK hD hP hS 10 rfl hi5 dX4_storey_52 (fun H locs hP hS => ?_)
    obtain ⟨σ6, eσ6⟩ : ∃ z, z = sI σ 10 x1.toNatClampNeg ((σ.2.1 10 x1.toNatClampNeg) + 1) := ⟨_, rfl⟩
    rw [← eσ6] at hP
    replace hwp := hwp σ6 eσ6
    refine lv_aload_n hx hb dX4_storey_53 rfl (lv_at hl 1 rfl) ?_
    refine lv_aload_n hx hb dX4_storey_54 rfl (lv_at hl 1 rfl) ?_
    refine m_calli ⟨hx, hb, hml, hown, hts⟩ hK hD hA hP hS (mt_allRight hwp) (cwV 0 hts (lw_V q1665 q1667 qs56 q79 q1668) rfl rfl rfl (by decide +kernel) ⟨Nat.le_of_ble_eq_true rfl, Nat.le_of_ble_eq_true rfl⟩) rfl hl.1 rfl (Nat.le_of_ble_eq_true rfl) dX4_storey_55 ⟨Nat.zero_le _, Nat.zero_le _⟩ (fun r7 u H locs hk hP hS => ?_)
    obtain ⟨hwp, eu⟩ := hk
    rw [eu] at hP
    refine m_calli ⟨hx, hb, hml, hown, hts⟩ hK hD hA hP hS (mt_many hwp) (cwV 1 hts (lw_V q1549 q1551 qs39 q79 q1552) rfl rfl rfl (by decide +kernel) ⟨Nat.le_of_ble_eq_true rfl, Nat.le_of_ble_eq_true rfl⟩) rfl hl.1 rfl (Nat.le_of_ble_eq_true rfl) dX4_storey_58 ⟨Nat.zero_le _, Nat.zero_le _⟩ (fun r8 u H locs hk hP hS => ?_)
    obtain ⟨hwp, eu⟩ := hk
    rw [eu] at hP
    refine lv_iload_n hx hb dX4_storey_61 rfl (lv_at hl 0 rfl) ?_
    refine lv_isub hx hb dX4_storey_62 ?_
    refine lv_istore_n (lv' := [(3, .int (r8 - r3)), (0, .ref (α 50)), (1, .int x1), (2, .int x2)]) hx hb dX4_storey_63 rfl hl (by decide) rfl (fun ls hl => ?_)
    refine lv_aload_n hx hb dX4_storey_64 rfl (lv_at hl 1 rfl) ?_
    refine m_geta hx hb hts hown hK hP 10 (by decide) rfl q1356 rfl dX4_storey_65 ?_
    refine lv_iload_n hx hb dX4_storey_68 rfl (lv_at hl 2 rfl) ?_
    refine lv_dup2_11 hx hb dX4_storey_69 rfl rfl ?_
    obtain ⟨hi9, hwp⟩ := hwp
    refine m_iald hx hb hK hP 10 rfl hi9 dX4_storey_70 ?_
    refine lv_iconst (v := 1) hx hb dX4_storey_71 (by decide) ?_
    refine lv_isub hx hb dX4_storey_72 ?_
    obtain ⟨hi10, hwp⟩ := hwp
    refine m_iast hx hb hK hD hP hS 10 rfl hi10 dX4_storey_73 (fun H locs hP hS => ?_)
    obtain ⟨σ11, eσ11⟩ : ∃ z, z = sI σ6 10 x1.toNatClampNeg ((σ6.2.1 10 x1.toNatClampNeg) - 1) := ⟨_, rfl⟩
    rw [← eσ11] at hP
    replace hwp := hwp σ11 eσ11
    refine lv_iload_n hx hb dX4_storey_74 rfl (lv_at hl 0 rfl) ?_
    exact m_iret hx hb hr hlk hK hP hS hwp dX4_storey_75
  · replace hwp := hwp.2 c1
    refine lv_aload_n hx hb dX4_storey_28 rfl (lv_at hl 0 rfl) ?_
    refine lv_iload_n hx hb dX4_storey_29 rfl (lv_at hl 2 rfl) ?_
    refine m_calli ⟨hx, hb, hml, hown, hts⟩ hK hD hA hP hS (mt_noMuch hwp) (cwV 1 hts (lw_V q1725 q1727 qs64 q79 q1728) rfl rfl rfl (by decide +kernel) ⟨Nat.le_of_ble_eq_true rfl, Nat.le_of_ble_eq_true rfl⟩) rfl hl.1 rfl (Nat.le_of_ble_eq_true rfl) dX4_storey_30 ⟨Nat.zero_le _, Nat.zero_le _⟩ (fun r12 σ13 H locs hk hP hS => ?_)
    have hwp := hk
    exact m_iret hx hb hr hlk hK hP hS hwp dX4_storey_33
def mw_storey (K : Int32 → MSt → Prop) (x1 : Int32) (σ : MSt) : Prop :=
  mw_barred σ (fun r1 => ((¬ (r1 = 0)) → (mw_storey_24 K x1 r1 σ)) ∧ ((r1 = 0) → (vp_in x1 (lenM 10) ∧ (((¬ ((σ.2.1 10 x1.toNatClampNeg) = 20)) → (mw_storey_24 K x1 r1 σ)) ∧ (((σ.2.1 10 x1.toNatClampNeg) = 20) → (mw_storey_24 K x1 (-6) σ)))))) x1
set_option maxHeartbeats 4000000 in
set_option maxRecDepth 100000 in
theorem mt_storey {l : Launch} {Γ : GA} {α : Nat → Nat} {σ : MSt} {K : Int32 → MSt → Prop} {x1 : Int32} (hwp : mw_storey K x1 σ) : mI l yX4_storey cX4_storey 4 (some .int) ({ frames := 24, cells := 0, slots := 0, locals := 535 } : Room) Γ α [.int x1] σ K := by
  intro sz
  refine m_of (by decide) rfl [(0, .ref (α 50)), (1, .int x1)] (fun _ h => h) (Nat.le_of_ble_eq_true rfl) ?_
  intro p e s m args below meth c hsz X H locs ls hP hS hl
  subst hsz
  obtain ⟨hx, hb, hml, hown, hts, hK, hD, hr, hlk⟩ := id X
  have hA : ∀ q, s.heap.size ≤ q → AM α s.heap.size q := fun q h => Or.inr h
  unfold mw_storey at hwp
  refine lv_aload_n hx hb dX4_storey_0 rfl (lv_at hl 0 rfl) ?_
  refine lv_iload_n hx hb dX4_storey_1 rfl (lv_at hl 1 rfl) ?_
  refine m_calli ⟨hx, hb, hml, hown, hts⟩ hK hD hA hP hS (mt_barred hwp) (cwV 1 hts (lw_V q1589 q1591 qs43 q79 q1592) rfl rfl rfl (by decide +kernel) ⟨Nat.le_of_ble_eq_true rfl, Nat.le_of_ble_eq_true rfl⟩) rfl hl.1 rfl (Nat.le_of_ble_eq_true rfl) dX4_storey_2 ⟨Nat.zero_le _, Nat.zero_le _⟩ (fun r1 u H locs hk hP hS => ?_)
  obtain ⟨hwp, eu⟩ := hk
  rw [eu] at hP
  refine lv_istore_n (lv' := [(2, .int r1), (0, .ref (α 50)), (1, .int x1)]) hx hb dX4_storey_5 rfl hl (by decide) rfl (fun ls hl => ?_)
  refine lv_iload_n hx hb dX4_storey_6 rfl (lv_at hl 0 rfl) ?_
  refine lv_if_ne (tgt := 24) hx hb dX4_storey_7 (by decide) (fun c2 => ?_) (fun c2 => ?_)
  · replace hwp := hwp.1 c2
    exact mk_storey_24 X _ _ σ hwp H locs ls hP hS (lv_sub hl [1, 2, 0] rfl)
  · replace hwp := hwp.2 c2
    refine lv_aload_n hx hb dX4_storey_10 rfl (lv_at hl 1 rfl) ?_
    refine m_geta hx hb hts hown hK hP 10 (by decide) rfl q1356 rfl dX4_storey_11 ?_
    refine lv_iload_n hx hb dX4_storey_14 rfl (lv_at hl 2 rfl) ?_
    obtain ⟨hi3, hwp⟩ := hwp
    refine m_iald hx hb hK hP 10 rfl hi3 dX4_storey_15 ?_
    refine lv_bipush (v := 20) hx hb dX4_storey_16 (by decide) ?_
    refine lv_icmp_ne (tgt := 24) hx hb dX4_storey_18 (by decide) (fun c4 => ?_) (fun c4 => ?_)
    · replace hwp := hwp.1 c4
      exact mk_storey_24 X _ _ σ hwp H locs ls hP hS (lv_sub hl [1, 2, 0] rfl)
    · replace hwp := hwp.2 c4
      refine lv_bipush (v := (-6)) hx hb dX4_storey_21 (by decide) ?_
      refine lv_istore_n (lv' := [(2, .int (-6)), (0, .ref (α 50)), (1, .int x1)]) hx hb dX4_storey_23 rfl hl (by decide) rfl (fun ls hl => ?_)
      exact mk_storey_24 X _ _ σ hwp H locs ls hP hS (lv_sub hl [1, 2, 0] rfl)
/-! thing -/
def mw_thing_10 (K : Int32 → MSt → Prop) (σ : MSt) : Prop :=
  mw_no (fun r1 σ2 => K r1 σ2) (-1) σ
set_option maxHeartbeats 4000000 in
set_option maxRecDepth 100000 in
theorem mk_thing_10 {p : Program} {l : Launch} {e : Env} {s : State} {m : MethodId} {args : Array Value} {below : List Frame} {meth : Method} {c : Code} {Γ : GA} {α : Nat → Nat} {K : Int32 → MSt → Prop} (X : CM p s m args meth c cX4_thing 6 (some .int) Γ α) : ∀ (σ : MSt), mw_thing_10 K  σ → TM p l e ({ frames := 1, cells := 0, slots := 0, locals := 26 } : Room) s m args below meth c 6 (QI below K Γ α s args) Γ α σ 10 [(0, .ref (α 50))] [] := by
  obtain ⟨hx, hb, hml, hown, hts, hK, hD, hr, hlk⟩ := id X
  have hA : ∀ q, s.heap.size ≤ q → AM α s.heap.size q := fun q h => Or.inr h
  intro  σ hwp H locs ls hP hS hl
  unfold mw_thing_10 at hwp
  refine lv_aload_n hx hb dX4_thing_10 rfl (lv_at hl 0 rfl) ?_
  refine lv_iconst (v := (-1)) hx hb dX4_thing_11 (by decide) ?_
  refine m_calli ⟨hx, hb, hml, hown, hts⟩ hK hD hA hP hS (mt_no hwp) (cwV 1 hts (lw_V q1469 q1471 qs25 q79 q1472) rfl rfl rfl (by decide +kernel) ⟨Nat.le_of_ble_eq_true rfl, Nat.le_of_ble_eq_true rfl⟩) rfl hl.1 rfl (Nat.le_of_ble_eq_true rfl) dX4_thing_12 ⟨Nat.zero_le _, Nat.zero_le _⟩ (fun r1 σ2 H locs hk hP hS => ?_)
  have hwp := hk
  exact m_iret hx hb hr hlk hK hP hS hwp dX4_thing_15
def mw_thing_70 (K : Int32 → MSt → Prop) (σ : MSt) : Prop :=
  mw_no (fun r1 σ2 => K r1 σ2) (-6) σ
set_option maxHeartbeats 4000000 in
set_option maxRecDepth 100000 in
theorem mk_thing_70 {p : Program} {l : Launch} {e : Env} {s : State} {m : MethodId} {args : Array Value} {below : List Frame} {meth : Method} {c : Code} {Γ : GA} {α : Nat → Nat} {K : Int32 → MSt → Prop} (X : CM p s m args meth c cX4_thing 6 (some .int) Γ α) : ∀ (σ : MSt), mw_thing_70 K  σ → TM p l e ({ frames := 1, cells := 0, slots := 0, locals := 26 } : Room) s m args below meth c 6 (QI below K Γ α s args) Γ α σ 70 [(0, .ref (α 50))] [] := by
  obtain ⟨hx, hb, hml, hown, hts, hK, hD, hr, hlk⟩ := id X
  have hA : ∀ q, s.heap.size ≤ q → AM α s.heap.size q := fun q h => Or.inr h
  intro  σ hwp H locs ls hP hS hl
  unfold mw_thing_70 at hwp
  refine lv_aload_n hx hb dX4_thing_70 rfl (lv_at hl 0 rfl) ?_
  refine lv_bipush (v := (-6)) hx hb dX4_thing_71 (by decide) ?_
  refine m_calli ⟨hx, hb, hml, hown, hts⟩ hK hD hA hP hS (mt_no hwp) (cwV 1 hts (lw_V q1469 q1471 qs25 q79 q1472) rfl rfl rfl (by decide +kernel) ⟨Nat.le_of_ble_eq_true rfl, Nat.le_of_ble_eq_true rfl⟩) rfl hl.1 rfl (Nat.le_of_ble_eq_true rfl) dX4_thing_73 ⟨Nat.zero_le _, Nat.zero_le _⟩ (fun r1 σ2 H locs hk hP hS => ?_)
  have hwp := hk
  exact m_iret hx hb hr hlk hK hP hS hwp dX4_thing_76
def mw_thing (K : Int32 → MSt → Prop) (x1 : Int32) (x2 : Int32) (x3 : Int32) (x4 : Int32) (x5 : Int32) (σ : MSt) : Prop :=
  ((x1 < 0) → (mw_thing_10 K σ)) ∧ ((¬ (x1 < 0)) → (((x1 ≤ 6) → (((x2 < 0) → (mw_thing_70 K σ)) ∧ ((¬ (x2 < 0)) → (((9 < x2) → (mw_thing_70 K σ)) ∧ ((¬ (9 < x2)) → (((x3 < 0) → (mw_thing_70 K σ)) ∧ ((¬ (x3 < 0)) → (((9 < x3) → (mw_thing_70 K σ)) ∧ ((¬ (9 < x3)) → (((x4 < 0) → (mw_thing_70 K σ)) ∧ ((¬ (x4 < 0)) → (((20 < x4) → (mw_thing_70 K σ)) ∧ ((¬ (20 < x4)) → (((x5 < 0) → (mw_thing_70 K σ)) ∧ ((¬ (x5 < 0)) → (((9 < x5) → (mw_thing_70 K σ)) ∧ ((¬ (9 < x5)) → (mw_at σ (fun r11 => ((r11 = (-1)) → (((¬ ((σ.1 0) = 8)) → (mw_adds (fun r14 σ15 => K r14 σ15) x1 x2 x3 x4 x5 σ)) ∧ (((σ.1 0) = 8) → (mw_no (fun r16 σ17 => K r16 σ17) (-7) σ)))) ∧ ((¬ (r11 = (-1))) → (mw_thing_70 K σ))) x2 x3)))))))))))))))))) ∧ ((¬ (x1 ≤ 6)) → (mw_thing_10 K σ))))
set_option maxHeartbeats 4000000 in
set_option maxRecDepth 100000 in
theorem mt_thing {l : Launch} {Γ : GA} {α : Nat → Nat} {σ : MSt} {K : Int32 → MSt → Prop} {x1 : Int32} {x2 : Int32} {x3 : Int32} {x4 : Int32} {x5 : Int32} (hwp : mw_thing K x1 x2 x3 x4 x5 σ) : mI l yX4_thing cX4_thing 6 (some .int) ({ frames := 1, cells := 0, slots := 0, locals := 26 } : Room) Γ α [.int x1, .int x2, .int x3, .int x4, .int x5] σ K := by
  intro sz
  refine m_of (by decide) rfl [(0, .ref (α 50)), (1, .int x1), (2, .int x2), (3, .int x3), (4, .int x4), (5, .int x5)] (fun _ h => h) (Nat.le_of_ble_eq_true rfl) ?_
  intro p e s m args below meth c hsz X H locs ls hP hS hl
  subst hsz
  obtain ⟨hx, hb, hml, hown, hts, hK, hD, hr, hlk⟩ := id X
  have hA : ∀ q, s.heap.size ≤ q → AM α s.heap.size q := fun q h => Or.inr h
  unfold mw_thing at hwp
  refine lv_iload_n hx hb dX4_thing_0 rfl (lv_at hl 1 rfl) ?_
  refine lv_if_lt (tgt := 10) hx hb dX4_thing_1 (by decide) (fun c1 => ?_) (fun c1 => ?_)
  · replace hwp := hwp.1 c1
    exact mk_thing_10 X σ hwp H locs ls hP hS (lv_sub hl [0] rfl)
  · replace hwp := hwp.2 c1
    refine lv_iload_n hx hb dX4_thing_4 rfl (lv_at hl 1 rfl) ?_
    refine lv_bipush (v := 6) hx hb dX4_thing_5 (by decide) ?_
    refine lv_icmp_le (tgt := 16) hx hb dX4_thing_7 (by decide) (fun c2 => ?_) (fun c2 => ?_)
    · replace hwp := hwp.1 c2
      refine lv_iload_n hx hb dX4_thing_16 rfl (lv_at hl 2 rfl) ?_
      refine lv_if_lt (tgt := 70) hx hb dX4_thing_17 (by decide) (fun c3 => ?_) (fun c3 => ?_)
      · replace hwp := hwp.1 c3
        exact mk_thing_70 X σ hwp H locs ls hP hS (lv_sub hl [0] rfl)
      · replace hwp := hwp.2 c3
        refine lv_iload_n hx hb dX4_thing_20 rfl (lv_at hl 2 rfl) ?_
        refine lv_bipush (v := 9) hx hb dX4_thing_21 (by decide) ?_
        refine lv_icmp_gt (tgt := 70) hx hb dX4_thing_23 (by decide) (fun c4 => ?_) (fun c4 => ?_)
        · replace hwp := hwp.1 c4
          exact mk_thing_70 X σ hwp H locs ls hP hS (lv_sub hl [0] rfl)
        · replace hwp := hwp.2 c4
          refine lv_iload_n hx hb dX4_thing_26 rfl (lv_at hl 3 rfl) ?_
          refine lv_if_lt (tgt := 70) hx hb dX4_thing_27 (by decide) (fun c5 => ?_) (fun c5 => ?_)
          · replace hwp := hwp.1 c5
            exact mk_thing_70 X σ hwp H locs ls hP hS (lv_sub hl [0] rfl)
          · replace hwp := hwp.2 c5
            refine lv_iload_n hx hb dX4_thing_30 rfl (lv_at hl 3 rfl) ?_
            refine lv_bipush (v := 9) hx hb dX4_thing_31 (by decide) ?_
            refine lv_icmp_gt (tgt := 70) hx hb dX4_thing_33 (by decide) (fun c6 => ?_) (fun c6 => ?_)
            · replace hwp := hwp.1 c6
              exact mk_thing_70 X σ hwp H locs ls hP hS (lv_sub hl [0] rfl)
            · replace hwp := hwp.2 c6
              refine lv_iload hx hb dX4_thing_36 (lv_at hl 4 rfl) ?_
              refine lv_if_lt (tgt := 70) hx hb dX4_thing_38 (by decide) (fun c7 => ?_) (fun c7 => ?_)
              · replace hwp := hwp.1 c7
                exact mk_thing_70 X σ hwp H locs ls hP hS (lv_sub hl [0] rfl)
              · replace hwp := hwp.2 c7
                refine lv_iload hx hb dX4_thing_41 (lv_at hl 4 rfl) ?_
                refine lv_bipush (v := 20) hx hb dX4_thing_43 (by decide) ?_
                refine lv_icmp_gt (tgt := 70) hx hb dX4_thing_45 (by decide) (fun c8 => ?_) (fun c8 => ?_)
                · replace hwp := hwp.1 c8
                  exact mk_thing_70 X σ hwp H locs ls hP hS (lv_sub hl [0] rfl)
                · replace hwp := hwp.2 c8
                  refine lv_iload hx hb dX4_thing_48 (lv_at hl 5 rfl) ?_
                  refine lv_if_lt (tgt := 70) hx hb dX4_thing_50 (by decide) (fun c9 => ?_) (fun c9 => ?_)
                  · replace hwp := hwp.1 c9
                    exact mk_thing_70 X σ hwp H locs ls hP hS (lv_sub hl [0] rfl)
                  · replace hwp := hwp.2 c9
                    refine lv_iload hx hb dX4_thing_53 (lv_at hl 5 rfl) ?_
                    refine lv_bipush (v := 9) hx hb dX4_thing_55 (by decide) ?_
                    refine lv_icmp_gt (tgt := 70) hx hb dX4_thing_57 (by decide) (fun c10 => ?_) (fun c10 => ?_)
                    · replace hwp := hwp.1 c10
                      exact mk_thing_70 X σ hwp H locs ls hP hS (lv_sub hl [0] rfl)
                    · replace hwp := hwp.2 c10
                      refine lv_aload_n hx hb dX4_thing_60 rfl (lv_at hl 0 rfl) ?_
                      refine lv_iload_n hx hb dX4_thing_61 rfl (lv_at hl 2 rfl) ?_
                      refine lv_iload_n hx hb dX4_thing_62 rfl (lv_at hl 3 rfl) ?_
                      refine m_calli ⟨hx, hb, hml, hown, hts⟩ hK hD hA hP hS (mt_at hwp) (cwV 2 hts (lw_V q1541 q1543 qs37 q79 q1544) rfl rfl rfl (by decide +kernel) ⟨Nat.le_of_ble_eq_true rfl, Nat.le_of_ble_eq_true rfl⟩) rfl hl.1 rfl (Nat.le_of_ble_eq_true rfl) dX4_thing_63 ⟨Nat.zero_le _, Nat.zero_le _⟩ (fun r11 u H locs hk hP hS => ?_)
                      obtain ⟨hwp, eu⟩ := hk
                      rw [eu] at hP
                      refine lv_iconst (v := (-1)) hx hb dX4_thing_66 (by decide) ?_
                      refine lv_icmp_eq (tgt := 77) hx hb dX4_thing_67 (by decide) (fun c12 => ?_) (fun c12 => ?_)
                      · replace hwp := hwp.1 c12
                        refine lv_aload_n hx hb dX4_thing_77 rfl (lv_at hl 0 rfl) ?_
                        refine m_geti hx hb hts hown hK hP 0 (by decide) rfl q1346 rfl dX4_thing_78 ?_
                        refine lv_bipush (v := 8) hx hb dX4_thing_81 (by decide) ?_
                        refine lv_icmp_ne (tgt := 95) hx hb dX4_thing_83 (by decide) (fun c13 => ?_) (fun c13 => ?_)
                        · replace hwp := hwp.1 c13
                          refine lv_aload_n hx hb dX4_thing_95 rfl (lv_at hl 0 rfl) ?_
                          refine lv_iload_n hx hb dX4_thing_96 rfl (lv_at hl 1 rfl) ?_
                          refine lv_iload_n hx hb dX4_thing_97 rfl (lv_at hl 2 rfl) ?_
                          refine lv_iload_n hx hb dX4_thing_98 rfl (lv_at hl 3 rfl) ?_
                          refine lv_iload hx hb dX4_thing_99 (lv_at hl 4 rfl) ?_
                          refine lv_iload hx hb dX4_thing_101 (lv_at hl 5 rfl) ?_
                          refine m_calli ⟨hx, hb, hml, hown, hts⟩ hK hD hA hP hS (mt_adds hwp) (cwV 5 hts (lw_V q1561 q1563 qs41 q79 q1564) rfl rfl rfl (by decide +kernel) ⟨Nat.le_of_ble_eq_true rfl, Nat.le_of_ble_eq_true rfl⟩) rfl hl.1 rfl (Nat.le_of_ble_eq_true rfl) dX4_thing_103 ⟨Nat.zero_le _, Nat.zero_le _⟩ (fun r14 σ15 H locs hk hP hS => ?_)
                          have hwp := hk
                          exact m_iret hx hb hr hlk hK hP hS hwp dX4_thing_106
                        · replace hwp := hwp.2 c13
                          refine lv_aload_n hx hb dX4_thing_86 rfl (lv_at hl 0 rfl) ?_
                          refine lv_bipush (v := (-7)) hx hb dX4_thing_87 (by decide) ?_
                          refine m_calli ⟨hx, hb, hml, hown, hts⟩ hK hD hA hP hS (mt_no hwp) (cwV 1 hts (lw_V q1469 q1471 qs25 q79 q1472) rfl rfl rfl (by decide +kernel) ⟨Nat.le_of_ble_eq_true rfl, Nat.le_of_ble_eq_true rfl⟩) rfl hl.1 rfl (Nat.le_of_ble_eq_true rfl) dX4_thing_89 ⟨Nat.zero_le _, Nat.zero_le _⟩ (fun r16 σ17 H locs hk hP hS => ?_)
                          have hwp := hk
                          refine lv_goto (tgt := 106) hx hb dX4_thing_92 (by decide) ?_
                          exact m_iret hx hb hr hlk hK hP hS hwp dX4_thing_106
                      · replace hwp := hwp.2 c12
                        exact mk_thing_70 X σ hwp H locs ls hP hS (lv_sub hl [0] rfl)
    · replace hwp := hwp.2 c2
      exact mk_thing_10 X σ hwp H locs ls hP hS (lv_sub hl [0] rfl)
/-! thingOf -/
def mw_thingOf_18 (K : Int32 → MSt → Prop) (σ : MSt) : Prop :=
  mw_no (fun r1 σ2 => K r1 σ2) (-5) σ
set_option maxHeartbeats 4000000 in
set_option maxRecDepth 100000 in
theorem mk_thingOf_18 {p : Program} {l : Launch} {e : Env} {s : State} {m : MethodId} {args : Array Value} {below : List Frame} {meth : Method} {c : Code} {Γ : GA} {α : Nat → Nat} {K : Int32 → MSt → Prop} (X : CM p s m args meth c cX4_thingOf 3 (some .int) Γ α) : ∀ (σ : MSt), mw_thingOf_18 K  σ → TM p l e ({ frames := 1, cells := 0, slots := 0, locals := 21 } : Room) s m args below meth c 3 (QI below K Γ α s args) Γ α σ 18 [(0, .ref (α 50))] [] := by
  obtain ⟨hx, hb, hml, hown, hts, hK, hD, hr, hlk⟩ := id X
  have hA : ∀ q, s.heap.size ≤ q → AM α s.heap.size q := fun q h => Or.inr h
  intro  σ hwp H locs ls hP hS hl
  unfold mw_thingOf_18 at hwp
  refine lv_aload_n hx hb dX4_thingOf_18 rfl (lv_at hl 0 rfl) ?_
  refine lv_bipush (v := (-5)) hx hb dX4_thingOf_19 (by decide) ?_
  refine m_calli ⟨hx, hb, hml, hown, hts⟩ hK hD hA hP hS (mt_no hwp) (cwV 1 hts (lw_V q1469 q1471 qs25 q79 q1472) rfl rfl rfl (by decide +kernel) ⟨Nat.le_of_ble_eq_true rfl, Nat.le_of_ble_eq_true rfl⟩) rfl hl.1 rfl (Nat.le_of_ble_eq_true rfl) dX4_thingOf_21 ⟨Nat.zero_le _, Nat.zero_le _⟩ (fun r1 σ2 H locs hk hP hS => ?_)
  have hwp := hk
  exact m_iret hx hb hr hlk hK hP hS hwp dX4_thingOf_24
def mw_thingOf (K : Int32 → MSt → Prop) (x1 : Int32) (x2 : Int32) (σ : MSt) : Prop :=
  mw_isThing σ (fun r1 => ((r1 = 0) → (mw_thingOf_18 K σ)) ∧ ((¬ (r1 = 0)) → (((x2 < 0) → (mw_thingOf_18 K σ)) ∧ ((¬ (x2 < 0)) → (((x2 ≤ 6) → (((x2 < 0 ∨ 5 < x2) → (vp_in x1 (lenM 12) ∧ (K (σ.2.1 12 x1.toNatClampNeg) σ))) ∧ (x2 = 0 → (vp_in x1 (lenM 7) ∧ (K (σ.2.1 7 x1.toNatClampNeg) σ))) ∧ (x2 = 1 → (vp_in x1 (lenM 8) ∧ (K (σ.2.1 8 x1.toNatClampNeg) σ))) ∧ (x2 = 2 → (vp_in x1 (lenM 9) ∧ (K (σ.2.1 9 x1.toNatClampNeg) σ))) ∧ (x2 = 3 → (vp_in x1 (lenM 10) ∧ (K (σ.2.1 10 x1.toNatClampNeg) σ))) ∧ (x2 = 4 → (vp_in x1 (lenM 11) ∧ (K (σ.2.1 11 x1.toNatClampNeg) σ))) ∧ (x2 = 5 → (mw_tall σ (fun r12 => K r12 σ) x1)))) ∧ ((¬ (x2 ≤ 6)) → (mw_thingOf_18 K σ))))))) x1
set_option maxHeartbeats 4000000 in
set_option maxRecDepth 100000 in
theorem mt_thingOf {l : Launch} {Γ : GA} {α : Nat → Nat} {σ : MSt} {K : Int32 → MSt → Prop} {x1 : Int32} {x2 : Int32} (hwp : mw_thingOf K x1 x2 σ) : mI l yX4_thingOf cX4_thingOf 3 (some .int) ({ frames := 1, cells := 0, slots := 0, locals := 21 } : Room) Γ α [.int x1, .int x2] σ K := by
  intro sz
  refine m_of (by decide) rfl [(0, .ref (α 50)), (1, .int x1), (2, .int x2)] (fun _ h => h) (Nat.le_of_ble_eq_true rfl) ?_
  intro p e s m args below meth c hsz X H locs ls hP hS hl
  subst hsz
  obtain ⟨hx, hb, hml, hown, hts, hK, hD, hr, hlk⟩ := id X
  have hA : ∀ q, s.heap.size ≤ q → AM α s.heap.size q := fun q h => Or.inr h
  unfold mw_thingOf at hwp
  refine lv_aload_n hx hb dX4_thingOf_0 rfl (lv_at hl 0 rfl) ?_
  refine lv_iload_n hx hb dX4_thingOf_1 rfl (lv_at hl 1 rfl) ?_
  refine m_calli ⟨hx, hb, hml, hown, hts⟩ hK hD hA hP hS (mt_isThing hwp) (cwV 1 hts (lw_V q1489 q1491 qs26 q79 q1492) rfl rfl rfl (by decide +kernel) ⟨Nat.le_of_ble_eq_true rfl, Nat.le_of_ble_eq_true rfl⟩) rfl hl.1 rfl (Nat.le_of_ble_eq_true rfl) dX4_thingOf_2 ⟨Nat.zero_le _, Nat.zero_le _⟩ (fun r1 u H locs hk hP hS => ?_)
  obtain ⟨hwp, eu⟩ := hk
  rw [eu] at hP
  refine lv_if_eq (tgt := 18) hx hb dX4_thingOf_5 (by decide) (fun c2 => ?_) (fun c2 => ?_)
  · replace hwp := hwp.1 c2
    exact mk_thingOf_18 X σ hwp H locs ls hP hS (lv_sub hl [0] rfl)
  · replace hwp := hwp.2 c2
    refine lv_iload_n hx hb dX4_thingOf_8 rfl (lv_at hl 2 rfl) ?_
    refine lv_if_lt (tgt := 18) hx hb dX4_thingOf_9 (by decide) (fun c3 => ?_) (fun c3 => ?_)
    · replace hwp := hwp.1 c3
      exact mk_thingOf_18 X σ hwp H locs ls hP hS (lv_sub hl [0] rfl)
    · replace hwp := hwp.2 c3
      refine lv_iload_n hx hb dX4_thingOf_12 rfl (lv_at hl 2 rfl) ?_
      refine lv_bipush (v := 6) hx hb dX4_thingOf_13 (by decide) ?_
      refine lv_icmp_le (tgt := 25) hx hb dX4_thingOf_15 (by decide) (fun c4 => ?_) (fun c4 => ?_)
      · replace hwp := hwp.1 c4
        refine lv_iload_n hx hb dX4_thingOf_25 rfl (lv_at hl 2 rfl) ?_
        by_cases c5 : (x2 < 0 ∨ 5 < x2)
        · replace hwp := hwp.1 c5
          refine lv_tableOut (tgt := 105) hx hb dX4_thingOf_26 (sw_out c5) (by decide) ?_
          refine lv_aload_n hx hb dX4_thingOf_105 rfl (lv_at hl 0 rfl) ?_
          refine m_geta hx hb hts hown hK hP 12 (by decide) rfl q1358 rfl dX4_thingOf_106 ?_
          refine lv_iload_n hx hb dX4_thingOf_109 rfl (lv_at hl 1 rfl) ?_
          obtain ⟨hi6, hwp⟩ := hwp
          refine m_iald hx hb hK hP 12 rfl hi6 dX4_thingOf_110 ?_
          exact m_iret hx hb hr hlk hK hP hS hwp dX4_thingOf_111
        · obtain ⟨j, hj, ej⟩ := sw_of (n := 5) (by decide) c5
          match j, hj, ej with
          | 0, _, ej =>
            have ej : x2 = 0 := ej
            replace hwp := hwp.2.1 ej
            refine lv_tableIn (off := 38) (tgt := 64) hx hb dX4_thingOf_26 (by rw [ej]; decide) (by rw [ej]; decide) (by rw [ej]; rfl) (by decide) ?_
            refine lv_aload_n hx hb dX4_thingOf_64 rfl (lv_at hl 0 rfl) ?_
            refine m_geta hx hb hts hown hK hP 7 (by decide) rfl q1353 rfl dX4_thingOf_65 ?_
            refine lv_iload_n hx hb dX4_thingOf_68 rfl (lv_at hl 1 rfl) ?_
            obtain ⟨hi7, hwp⟩ := hwp
            refine m_iald hx hb hK hP 7 rfl hi7 dX4_thingOf_69 ?_
            exact m_iret hx hb hr hlk hK hP hS hwp dX4_thingOf_70
          | 1, _, ej =>
            have ej : x2 = 1 := ej
            replace hwp := hwp.2.2.1 ej
            refine lv_tableIn (off := 45) (tgt := 71) hx hb dX4_thingOf_26 (by rw [ej]; decide) (by rw [ej]; decide) (by rw [ej]; rfl) (by decide) ?_
            refine lv_aload_n hx hb dX4_thingOf_71 rfl (lv_at hl 0 rfl) ?_
            refine m_geta hx hb hts hown hK hP 8 (by decide) rfl q1354 rfl dX4_thingOf_72 ?_
            refine lv_iload_n hx hb dX4_thingOf_75 rfl (lv_at hl 1 rfl) ?_
            obtain ⟨hi8, hwp⟩ := hwp
            refine m_iald hx hb hK hP 8 rfl hi8 dX4_thingOf_76 ?_
            exact m_iret hx hb hr hlk hK hP hS hwp dX4_thingOf_77
          | 2, _, ej =>
            have ej : x2 = 2 := ej
            replace hwp := hwp.2.2.2.1 ej
            refine lv_tableIn (off := 52) (tgt := 78) hx hb dX4_thingOf_26 (by rw [ej]; decide) (by rw [ej]; decide) (by rw [ej]; rfl) (by decide) ?_
            refine lv_aload_n hx hb dX4_thingOf_78 rfl (lv_at hl 0 rfl) ?_
            refine m_geta hx hb hts hown hK hP 9 (by decide) rfl q1355 rfl dX4_thingOf_79 ?_
            refine lv_iload_n hx hb dX4_thingOf_82 rfl (lv_at hl 1 rfl) ?_
            obtain ⟨hi9, hwp⟩ := hwp
            refine m_iald hx hb hK hP 9 rfl hi9 dX4_thingOf_83 ?_
            exact m_iret hx hb hr hlk hK hP hS hwp dX4_thingOf_84
          | 3, _, ej =>
            have ej : x2 = 3 := ej
            replace hwp := hwp.2.2.2.2.1 ej
            refine lv_tableIn (off := 59) (tgt := 85) hx hb dX4_thingOf_26 (by rw [ej]; decide) (by rw [ej]; decide) (by rw [ej]; rfl) (by decide) ?_
            refine lv_aload_n hx hb dX4_thingOf_85 rfl (lv_at hl 0 rfl) ?_
            refine m_geta hx hb hts hown hK hP 10 (by decide) rfl q1356 rfl dX4_thingOf_86 ?_
            refine lv_iload_n hx hb dX4_thingOf_89 rfl (lv_at hl 1 rfl) ?_
            obtain ⟨hi10, hwp⟩ := hwp
            refine m_iald hx hb hK hP 10 rfl hi10 dX4_thingOf_90 ?_
            exact m_iret hx hb hr hlk hK hP hS hwp dX4_thingOf_91
          | 4, _, ej =>
            have ej : x2 = 4 := ej
            replace hwp := hwp.2.2.2.2.2.1 ej
            refine lv_tableIn (off := 66) (tgt := 92) hx hb dX4_thingOf_26 (by rw [ej]; decide) (by rw [ej]; decide) (by rw [ej]; rfl) (by decide) ?_
            refine lv_aload_n hx hb dX4_thingOf_92 rfl (lv_at hl 0 rfl) ?_
            refine m_geta hx hb hts hown hK hP 11 (by decide) rfl q1357 rfl dX4_thingOf_93 ?_
            refine lv_iload_n hx hb dX4_thingOf_96 rfl (lv_at hl 1 rfl) ?_
            obtain ⟨hi11, hwp⟩ := hwp
            refine m_iald hx hb hK hP 11 rfl hi11 dX4_thingOf_97 ?_
            exact m_iret hx hb hr hlk hK hP hS hwp dX4_thingOf_98
          | 5, _, ej =>
            have ej : x2 = 5 := ej
            replace hwp := hwp.2.2.2.2.2.2 ej
            refine lv_tableIn (off := 73) (tgt := 99) hx hb dX4_thingOf_26 (by rw [ej]; decide) (by rw [ej]; decide) (by rw [ej]; rfl) (by decide) ?_
            refine lv_aload_n hx hb dX4_thingOf_99 rfl (lv_at hl 0 rfl) ?_
            refine lv_iload_n hx hb dX4_thingOf_100 rfl (lv_at hl 1 rfl) ?_
            refine m_calli ⟨hx, hb, hml, hown, hts⟩ hK hD hA hP hS (mt_tall hwp) (cwV 1 hts (lw_V q1505 q1507 qs28 q79 q1508) rfl rfl rfl (by decide +kernel) ⟨Nat.le_of_ble_eq_true rfl, Nat.le_of_ble_eq_true rfl⟩) rfl hl.1 rfl (Nat.le_of_ble_eq_true rfl) dX4_thingOf_101 ⟨Nat.zero_le _, Nat.zero_le _⟩ (fun r12 u H locs hk hP hS => ?_)
            obtain ⟨hwp, eu⟩ := hk
            rw [eu] at hP
            exact m_iret hx hb hr hlk hK hP hS hwp dX4_thingOf_104
          | j + 6, hj, _ => exact absurd hj (by omega)
      · replace hwp := hwp.2 c4
        exact mk_thingOf_18 X σ hwp H locs ls hP hS (lv_sub hl [0] rfl)
/-! trace -/
def mw_trace (σ : MSt) (K : Int32 → Prop) (x1 : Int32) : Prop :=
  ((x1 < 0) → (K (-1))) ∧ ((¬ (x1 < 0)) → (((20 ≤ x1) → (K (-1))) ∧ ((¬ (20 ≤ x1)) → ((((σ.1 36) ≤ x1) → (K (-1))) ∧ ((¬ ((σ.1 36) ≤ x1)) → (vp_in x1 (lenM 35) ∧ (K (σ.2.1 35 x1.toNatClampNeg))))))))
set_option maxHeartbeats 4000000 in
set_option maxRecDepth 100000 in
theorem mt_trace {l : Launch} {Γ : GA} {α : Nat → Nat} {σ : MSt} {K : Int32 → Prop} {x1 : Int32} (hwp : mw_trace σ K x1) : mI l yX4_trace cX4_trace 2 (some .int) ({ frames := 0, cells := 0, slots := 0, locals := 0 } : Room) Γ α [.int x1] σ (fun r u => K r ∧ u = σ) := by
  intro sz
  refine m_of (by decide) rfl [(0, .ref (α 50)), (1, .int x1)] (fun _ h => h) (Nat.le_of_ble_eq_true rfl) ?_
  intro p e s m args below meth c hsz X H locs ls hP hS hl
  subst hsz
  obtain ⟨hx, hb, hml, hown, hts, hK, hD, hr, hlk⟩ := id X
  have hA : ∀ q, s.heap.size ≤ q → AM α s.heap.size q := fun q h => Or.inr h
  unfold mw_trace at hwp
  refine lv_iload_n hx hb dX4_trace_0 rfl (lv_at hl 1 rfl) ?_
  refine lv_if_lt (tgt := 27) hx hb dX4_trace_1 (by decide) (fun c1 => ?_) (fun c1 => ?_)
  · replace hwp := hwp.1 c1
    refine lv_iconst (v := (-1)) hx hb dX4_trace_27 (by decide) ?_
    exact m_iret hx hb hr hlk hK hP hS ⟨hwp, rfl⟩ dX4_trace_28
  · replace hwp := hwp.2 c1
    refine lv_iload_n hx hb dX4_trace_4 rfl (lv_at hl 1 rfl) ?_
    refine lv_bipush (v := 20) hx hb dX4_trace_5 (by decide) ?_
    refine lv_icmp_ge (tgt := 27) hx hb dX4_trace_7 (by decide) (fun c2 => ?_) (fun c2 => ?_)
    · replace hwp := hwp.1 c2
      refine lv_iconst (v := (-1)) hx hb dX4_trace_27 (by decide) ?_
      exact m_iret hx hb hr hlk hK hP hS ⟨hwp, rfl⟩ dX4_trace_28
    · replace hwp := hwp.2 c2
      refine lv_iload_n hx hb dX4_trace_10 rfl (lv_at hl 1 rfl) ?_
      refine lv_aload_n hx hb dX4_trace_11 rfl (lv_at hl 0 rfl) ?_
      refine m_geti hx hb hts hown hK hP 36 (by decide) rfl q1382 rfl dX4_trace_12 ?_
      refine lv_icmp_ge (tgt := 27) hx hb dX4_trace_15 (by decide) (fun c3 => ?_) (fun c3 => ?_)
      · replace hwp := hwp.1 c3
        refine lv_iconst (v := (-1)) hx hb dX4_trace_27 (by decide) ?_
        exact m_iret hx hb hr hlk hK hP hS ⟨hwp, rfl⟩ dX4_trace_28
      · replace hwp := hwp.2 c3
        refine lv_aload_n hx hb dX4_trace_18 rfl (lv_at hl 0 rfl) ?_
        refine m_geta hx hb hts hown hK hP 35 (by decide) rfl q1381 rfl dX4_trace_19 ?_
        refine lv_iload_n hx hb dX4_trace_22 rfl (lv_at hl 1 rfl) ?_
        obtain ⟨hi4, hwp⟩ := hwp
        refine m_iald hx hb hK hP 35 rfl hi4 dX4_trace_23 ?_
        refine lv_goto (tgt := 28) hx hb dX4_trace_24 (by decide) ?_
        exact m_iret hx hb hr hlk hK hP hS ⟨hwp, rfl⟩ dX4_trace_28
/-! years -/
def mw_years_11 (K : Int32 → MSt → Prop) (σ : MSt) : Prop :=
  mw_no (fun r1 σ2 => K r1 σ2) (-6) σ
set_option maxHeartbeats 4000000 in
set_option maxRecDepth 100000 in
theorem mk_years_11 {p : Program} {l : Launch} {e : Env} {s : State} {m : MethodId} {args : Array Value} {below : List Frame} {meth : Method} {c : Code} {Γ : GA} {α : Nat → Nat} {K : Int32 → MSt → Prop} (X : CM p s m args meth c cX4_years 5 (some .int) Γ α) : ∀ (σ : MSt), mw_years_11 K  σ → TM p l e ({ frames := 24, cells := 0, slots := 0, locals := 535 } : Room) s m args below meth c 5 (QI below K Γ α s args) Γ α σ 11 [(0, .ref (α 50))] [] := by
  obtain ⟨hx, hb, hml, hown, hts, hK, hD, hr, hlk⟩ := id X
  have hA : ∀ q, s.heap.size ≤ q → AM α s.heap.size q := fun q h => Or.inr h
  intro  σ hwp H locs ls hP hS hl
  unfold mw_years_11 at hwp
  refine lv_aload_n hx hb dX4_years_11 rfl (lv_at hl 0 rfl) ?_
  refine lv_bipush (v := (-6)) hx hb dX4_years_12 (by decide) ?_
  refine m_calli ⟨hx, hb, hml, hown, hts⟩ hK hD hA hP hS (mt_no hwp) (cwV 1 hts (lw_V q1469 q1471 qs25 q79 q1472) rfl rfl rfl (by decide +kernel) ⟨Nat.le_of_ble_eq_true rfl, Nat.le_of_ble_eq_true rfl⟩) rfl hl.1 rfl (Nat.le_of_ble_eq_true rfl) dX4_years_14 ⟨Nat.zero_le _, Nat.zero_le _⟩ (fun r1 σ2 H locs hk hP hS => ?_)
  have hwp := hk
  exact m_iret hx hb hr hlk hK hP hS hwp dX4_years_17
def mw_years_68 (K : Int32 → MSt → Prop) (L25 : Int32 → Int32 → Int32 → MSt → Prop) (L33 : Int32 → Int32 → Int32 → Int32 → MSt → Prop) (x1 : Int32) (x2 : Int32) (x3 : Int32) (x4 : Int32) (σ : MSt) : Prop :=
  vp_in x4 (lenM 10) ∧ (mw_draws3 (fun r2 σ3 => vp_in x4 (lenM 10) ∧ (∀ σ5, σ5 = sI σ3 10 x4.toNatClampNeg ((σ.2.1 10 x4.toNatClampNeg) + r2) → (vp_in x4 (lenM 10) ∧ ((((σ5.2.1 10 x4.toNatClampNeg) ≤ 20) → (L33 x1 x2 x3 (x4 + 1) σ5)) ∧ ((¬ ((σ5.2.1 10 x4.toNatClampNeg) ≤ 20)) → (vp_in x4 (lenM 10) ∧ (∀ σ9, σ9 = sI σ5 10 x4.toNatClampNeg 20 → (L33 x1 x2 x3 (x4 + 1) σ9)))))))) σ)
set_option maxHeartbeats 4000000 in
set_option maxRecDepth 100000 in
theorem mk_years_68 {p : Program} {l : Launch} {e : Env} {s : State} {m : MethodId} {args : Array Value} {below : List Frame} {meth : Method} {c : Code} {Γ : GA} {α : Nat → Nat} {K : Int32 → MSt → Prop} (X : CM p s m args meth c cX4_years 5 (some .int) Γ α) {L25 : Int32 → Int32 → Int32 → MSt → Prop} (hL25 : ∀ (x1 : Int32) (x2 : Int32) (x3 : Int32) (σ : MSt), L25 x1 x2 x3 σ → TM p l e ({ frames := 24, cells := 0, slots := 0, locals := 535 } : Room) s m args below meth c 5 (QI below K Γ α s args) Γ α σ 25 [(0, .ref (α 50)), (1, .int x1), (2, .int x2), (3, .int x3)] []) {L33 : Int32 → Int32 → Int32 → Int32 → MSt → Prop} (hL33 : ∀ (x1 : Int32) (x2 : Int32) (x3 : Int32) (x4 : Int32) (σ : MSt), L33 x1 x2 x3 x4 σ → TM p l e ({ frames := 24, cells := 0, slots := 0, locals := 535 } : Room) s m args below meth c 5 (QI below K Γ α s args) Γ α σ 33 [(0, .ref (α 50)), (1, .int x1), (2, .int x2), (3, .int x3), (4, .int x4)] []) : ∀ (x1 : Int32) (x2 : Int32) (x3 : Int32) (x4 : Int32) (σ : MSt), mw_years_68 K L25 L33 x1 x2 x3 x4 σ → TM p l e ({ frames := 24, cells := 0, slots := 0, locals := 535 } : Room) s m args below meth c 5 (QI below K Γ α s args) Γ α σ 68 [(0, .ref (α 50)), (1, .int x1), (2, .int x2), (3, .int x3), (4, .int x4)] [] := by
  obtain ⟨hx, hb, hml, hown, hts, hK, hD, hr, hlk⟩ := id X
  have hA : ∀ q, s.heap.size ≤ q → AM α s.heap.size q := fun q h => Or.inr h
  intro x1 x2 x3 x4 σ hwp H locs ls hP hS hl
  unfold mw_years_68 at hwp
  refine lv_aload_n hx hb dX4_years_68 rfl (lv_at hl 0 rfl) ?_
  refine m_geta hx hb hts hown hK hP 10 (by decide) rfl q1356 rfl dX4_years_69 ?_
  refine lv_iload hx hb dX4_years_72 (lv_at hl 4 rfl) ?_
  refine lv_dup2_11 hx hb dX4_years_74 rfl rfl ?_
  obtain ⟨hi1, hwp⟩ := hwp
  refine m_iald hx hb hK hP 10 rfl hi1 dX4_years_75 ?_
  refine lv_aload_n hx hb dX4_years_76 rfl (lv_at hl 0 rfl) ?_
  refine m_calli ⟨hx, hb, hml, hown, hts⟩ hK hD hA hP hS (mt_draws3 hwp) (cwV 0 hts (lw_V q1785 q1787 qs69 q79 q1788) rfl rfl rfl (by decide +kernel) ⟨Nat.le_of_ble_eq_true rfl, Nat.le_of_ble_eq_true rfl⟩) rfl hl.1 rfl (Nat.le_of_ble_eq_true rfl) dX4_years_77 ⟨Nat.zero_le _, Nat.zero_le _⟩ (fun r2 σ3 H locs hk hP hS => ?_)
  have hwp := hk
  refine lv_iadd hx hb dX4_years_80 ?_
  obtain ⟨hi4, hwp⟩ := hwp
  refine m_iast hx hb hK hD hP hS 10 rfl hi4 dX4_years_81 (fun H locs hP hS => ?_)
  obtain ⟨σ5, eσ5⟩ : ∃ z, z = sI σ3 10 x4.toNatClampNeg ((σ.2.1 10 x4.toNatClampNeg) + r2) := ⟨_, rfl⟩
  rw [← eσ5] at hP
  replace hwp := hwp σ5 eσ5
  refine lv_aload_n hx hb dX4_years_82 rfl (lv_at hl 0 rfl) ?_
  refine m_geta hx hb hts hown hK hP 10 (by decide) rfl q1356 rfl dX4_years_83 ?_
  refine lv_iload hx hb dX4_years_86 (lv_at hl 4 rfl) ?_
  obtain ⟨hi6, hwp⟩ := hwp
  refine m_iald hx hb hK hP 10 rfl hi6 dX4_years_88 ?_
  refine lv_bipush (v := 20) hx hb dX4_years_89 (by decide) ?_
  refine lv_icmp_le (tgt := 103) hx hb dX4_years_91 (by decide) (fun c7 => ?_) (fun c7 => ?_)
  · replace hwp := hwp.1 c7
    refine lv_iinc (v := x4 + 1) (lv' := [(4, .int (x4 + 1)), (0, .ref (α 50)), (1, .int x1), (2, .int x2), (3, .int x3)]) hx hb dX4_years_103 hl (k := 4) rfl rfl (by decide) rfl (fun ls hl => ?_)
    refine lv_goto (tgt := 33) hx hb dX4_years_106 (by decide) ?_
    exact hL33 _ _ _ _ σ5 hwp H locs ls hP hS (lv_sub hl [1, 2, 3, 4, 0] rfl)
  · replace hwp := hwp.2 c7
    refine lv_aload_n hx hb dX4_years_94 rfl (lv_at hl 0 rfl) ?_
    refine m_geta hx hb hts hown hK hP 10 (by decide) rfl q1356 rfl dX4_years_95 ?_
    refine lv_iload hx hb dX4_years_98 (lv_at hl 4 rfl) ?_
    refine lv_bipush (v := 20) hx hb dX4_years_100 (by decide) ?_
    obtain ⟨hi8, hwp⟩ := hwp
    refine m_iast hx hb hK hD hP hS 10 rfl hi8 dX4_years_102 (fun H locs hP hS => ?_)
    obtain ⟨σ9, eσ9⟩ : ∃ z, z = sI σ5 10 x4.toNatClampNeg 20 := ⟨_, rfl⟩
    rw [← eσ9] at hP
    replace hwp := hwp σ9 eσ9
    refine lv_iinc (v := x4 + 1) (lv' := [(4, .int (x4 + 1)), (0, .ref (α 50)), (1, .int x1), (2, .int x2), (3, .int x3)]) hx hb dX4_years_103 hl (k := 4) rfl rfl (by decide) rfl (fun ls hl => ?_)
    refine lv_goto (tgt := 33) hx hb dX4_years_106 (by decide) ?_
    exact hL33 _ _ _ _ σ9 hwp H locs ls hP hS (lv_sub hl [1, 2, 3, 4, 0] rfl)
def mw_years_33_b (K : Int32 → MSt → Prop) (L25 : Int32 → Int32 → Int32 → MSt → Prop) (L33 : Int32 → Int32 → Int32 → Int32 → MSt → Prop) (x1 : Int32) (x2 : Int32) (x3 : Int32) (x4 : Int32) (σ : MSt) : Prop :=
  (((σ.1 0) ≤ x4) → (∀ σ2, σ2 = sF σ 1 (1 - (σ.1 1)) → (mw_houses σ2 (fun r3 => mw_many σ2 (fun r4 => mw_allRight σ2 (fun r5 => mw_many σ2 (fun r6 => ∀ σ7, σ7 = sF σ2 3 ((σ2.1 3) + (r4 - r6)) → (L25 x1 x2 (x3 + 1) σ7)) r5)) r3)))) ∧ ((¬ ((σ.1 0) ≤ x4)) → (vp_in x4 (lenM 7) ∧ ((((σ.2.1 7 x4.toNatClampNeg) = 2) → (mw_years_68 K L25 L33 x1 x2 x3 x4 σ)) ∧ ((¬ ((σ.2.1 7 x4.toNatClampNeg) = 2)) → (vp_in x4 (lenM 7) ∧ ((((σ.2.1 7 x4.toNatClampNeg) = 6) → (mw_years_68 K L25 L33 x1 x2 x3 x4 σ)) ∧ ((¬ ((σ.2.1 7 x4.toNatClampNeg) = 6)) → (L33 x1 x2 x3 (x4 + 1) σ))))))))
def mw_years_33 (K : Int32 → MSt → Prop) (L25 : Int32 → Int32 → Int32 → MSt → Prop) : Nat → Int32 → Int32 → Int32 → Int32 → MSt → Prop
  | 0 => fun _ _ _ _ _ => False
  | n + 1 => fun x1 x2 x3 x4 σ => mw_years_33_b K L25 (mw_years_33 K L25 n) x1 x2 x3 x4 σ
set_option maxHeartbeats 4000000 in
set_option maxRecDepth 100000 in
theorem mk_years_33_b {p : Program} {l : Launch} {e : Env} {s : State} {m : MethodId} {args : Array Value} {below : List Frame} {meth : Method} {c : Code} {Γ : GA} {α : Nat → Nat} {K : Int32 → MSt → Prop} (X : CM p s m args meth c cX4_years 5 (some .int) Γ α) {L25 : Int32 → Int32 → Int32 → MSt → Prop} (hL25 : ∀ (x1 : Int32) (x2 : Int32) (x3 : Int32) (σ : MSt), L25 x1 x2 x3 σ → TM p l e ({ frames := 24, cells := 0, slots := 0, locals := 535 } : Room) s m args below meth c 5 (QI below K Γ α s args) Γ α σ 25 [(0, .ref (α 50)), (1, .int x1), (2, .int x2), (3, .int x3)] []) {L33 : Int32 → Int32 → Int32 → Int32 → MSt → Prop} (hL33 : ∀ (x1 : Int32) (x2 : Int32) (x3 : Int32) (x4 : Int32) (σ : MSt), L33 x1 x2 x3 x4 σ → TM p l e ({ frames := 24, cells := 0, slots := 0, locals := 535 } : Room) s m args below meth c 5 (QI below K Γ α s args) Γ α σ 33 [(0, .ref (α 50)), (1, .int x1), (2, .int x2), (3, .int x3), (4, .int x4)] []) : ∀ (x1 : Int32) (x2 : Int32) (x3 : Int32) (x4 : Int32) (σ : MSt), mw_years_33_b K L25 L33 x1 x2 x3 x4 σ → TM p l e ({ frames := 24, cells := 0, slots := 0, locals := 535 } : Room) s m args below meth c 5 (QI below K Γ α s args) Γ α σ 33 [(0, .ref (α 50)), (1, .int x1), (2, .int x2), (3, .int x3), (4, .int x4)] [] := by
  obtain ⟨hx, hb, hml, hown, hts, hK, hD, hr, hlk⟩ := id X
  have hA : ∀ q, s.heap.size ≤ q → AM α s.heap.size q := fun q h => Or.inr h
  intro x1 x2 x3 x4 σ hwp H locs ls hP hS hl
  unfold mw_years_33_b at hwp
  refine lv_iload hx hb dX4_years_33 (lv_at hl 4 rfl) ?_
  refine lv_aload_n hx hb dX4_years_35 rfl (lv_at hl 0 rfl) ?_
  refine m_geti hx hb hts hown hK hP 0 (by decide) rfl q1346 rfl dX4_years_36 ?_
  refine lv_icmp_ge (tgt := 109) hx hb dX4_years_39 (by decide) (fun c1 => ?_) (fun c1 => ?_)
  · replace hwp := hwp.1 c1
    refine lv_aload_n hx hb dX4_years_109 rfl (lv_at hl 0 rfl) ?_
    refine lv_iconst (v := 1) hx hb dX4_years_110 (by decide) ?_
    refine lv_aload_n hx hb dX4_years_111 rfl (lv_at hl 0 rfl) ?_
    refine m_geti hx hb hts hown hK hP 1 (by decide) rfl q1347 rfl dX4_years_112 ?_
    refine lv_isub hx hb dX4_years_115 ?_
    refine m_put hx hb hts hown hK hD hP hS 1 (by decide) rfl q1347 rfl rfl rfl rfl dX4_years_116 (fun H locs hP hS => ?_)
    obtain ⟨σ2, eσ2⟩ : ∃ z, z = sF σ 1 (1 - (σ.1 1)) := ⟨_, rfl⟩
    rw [← eσ2] at hP
    replace hwp := hwp σ2 eσ2
    refine lv_aload_n hx hb dX4_years_119 rfl (lv_at hl 0 rfl) ?_
    refine lv_dup hx hb dX4_years_120 rfl ?_
    refine m_geti hx hb hts hown hK hP 3 (by decide) rfl q1349 rfl dX4_years_121 ?_
    refine lv_aload_n hx hb dX4_years_124 rfl (lv_at hl 0 rfl) ?_
    refine lv_aload_n hx hb dX4_years_125 rfl (lv_at hl 0 rfl) ?_
    refine m_calli ⟨hx, hb, hml, hown, hts⟩ hK hD hA hP hS (mt_houses hwp) (cwV 0 hts (lw_V q1705 q1707 qs61 q79 q1708) rfl rfl rfl (by decide +kernel) ⟨Nat.le_of_ble_eq_true rfl, Nat.le_of_ble_eq_true rfl⟩) rfl hl.1 rfl (Nat.le_of_ble_eq_true rfl) dX4_years_126 ⟨Nat.zero_le _, Nat.zero_le _⟩ (fun r3 u H locs hk hP hS => ?_)
    obtain ⟨hwp, eu⟩ := hk
    rw [eu] at hP
    refine m_calli ⟨hx, hb, hml, hown, hts⟩ hK hD hA hP hS (mt_many hwp) (cwV 1 hts (lw_V q1549 q1551 qs39 q79 q1552) rfl rfl rfl (by decide +kernel) ⟨Nat.le_of_ble_eq_true rfl, Nat.le_of_ble_eq_true rfl⟩) rfl hl.1 rfl (Nat.le_of_ble_eq_true rfl) dX4_years_129 ⟨Nat.zero_le _, Nat.zero_le _⟩ (fun r4 u H locs hk hP hS => ?_)
    obtain ⟨hwp, eu⟩ := hk
    rw [eu] at hP
    refine lv_aload_n hx hb dX4_years_132 rfl (lv_at hl 0 rfl) ?_
    refine lv_aload_n hx hb dX4_years_133 rfl (lv_at hl 0 rfl) ?_
    refine m_calli ⟨hx, hb, hml, hown, hts⟩ hK hD hA hP hS (mt_allRight hwp) (cwV 0 hts (lw_V q1665 q1667 qs56 q79 q1668) rfl rfl rfl (by decide +kernel) ⟨Nat.le_of_ble_eq_true rfl, Nat.le_of_ble_eq_true rfl⟩) rfl hl.1 rfl (Nat.le_of_ble_eq_true rfl) dX4_years_134 ⟨Nat.zero_le _, Nat.zero_le _⟩ (fun r5 u H locs hk hP hS => ?_)
    obtain ⟨hwp, eu⟩ := hk
    rw [eu] at hP
    refine m_calli ⟨hx, hb, hml, hown, hts⟩ hK hD hA hP hS (mt_many hwp) (cwV 1 hts (lw_V q1549 q1551 qs39 q79 q1552) rfl rfl rfl (by decide +kernel) ⟨Nat.le_of_ble_eq_true rfl, Nat.le_of_ble_eq_true rfl⟩) rfl hl.1 rfl (Nat.le_of_ble_eq_true rfl) dX4_years_137 ⟨Nat.zero_le _, Nat.zero_le _⟩ (fun r6 u H locs hk hP hS => ?_)
    obtain ⟨hwp, eu⟩ := hk
    rw [eu] at hP
    refine lv_isub hx hb dX4_years_140 ?_
    refine lv_iadd hx hb dX4_years_141 ?_
    refine m_put hx hb hts hown hK hD hP hS 3 (by decide) rfl q1349 rfl rfl rfl rfl dX4_years_142 (fun H locs hP hS => ?_)
    obtain ⟨σ7, eσ7⟩ : ∃ z, z = sF σ2 3 ((σ2.1 3) + (r4 - r6)) := ⟨_, rfl⟩
    rw [← eσ7] at hP
    replace hwp := hwp σ7 eσ7
    refine lv_iinc (v := x3 + 1) (lv' := [(3, .int (x3 + 1)), (0, .ref (α 50)), (1, .int x1), (2, .int x2), (4, .int x4)]) hx hb dX4_years_145 hl (k := 3) rfl rfl (by decide) rfl (fun ls hl => ?_)
    refine lv_goto (tgt := 25) hx hb dX4_years_148 (by decide) ?_
    exact hL25 _ _ _ σ7 hwp H locs ls hP hS (lv_sub hl [1, 2, 3, 0] rfl)
  · replace hwp := hwp.2 c1
    refine lv_aload_n hx hb dX4_years_42 rfl (lv_at hl 0 rfl) ?_
    refine m_geta hx hb hts hown hK hP 7 (by decide) rfl q1353 rfl dX4_years_43 ?_
    refine lv_iload hx hb dX4_years_46 (lv_at hl 4 rfl) ?_
    obtain ⟨hi8, hwp⟩ := hwp
    refine m_iald hx hb hK hP 7 rfl hi8 dX4_years_48 ?_
    refine lv_iconst (v := 2) hx hb dX4_years_49 (by decide) ?_
    refine lv_icmp_eq (tgt := 68) hx hb dX4_years_50 (by decide) (fun c9 => ?_) (fun c9 => ?_)
    · replace hwp := hwp.1 c9
      exact mk_years_68 X hL25 hL33 _ _ _ _ σ hwp H locs ls hP hS (lv_sub hl [0, 1, 2, 3, 4] rfl)
    · replace hwp := hwp.2 c9
      refine lv_aload_n hx hb dX4_years_53 rfl (lv_at hl 0 rfl) ?_
      refine m_geta hx hb hts hown hK hP 7 (by decide) rfl q1353 rfl dX4_years_54 ?_
      refine lv_iload hx hb dX4_years_57 (lv_at hl 4 rfl) ?_
      obtain ⟨hi10, hwp⟩ := hwp
      refine m_iald hx hb hK hP 7 rfl hi10 dX4_years_59 ?_
      refine lv_bipush (v := 6) hx hb dX4_years_60 (by decide) ?_
      refine lv_icmp_eq (tgt := 68) hx hb dX4_years_62 (by decide) (fun c11 => ?_) (fun c11 => ?_)
      · replace hwp := hwp.1 c11
        exact mk_years_68 X hL25 hL33 _ _ _ _ σ hwp H locs ls hP hS (lv_sub hl [0, 1, 2, 3, 4] rfl)
      · replace hwp := hwp.2 c11
        refine lv_goto (tgt := 103) hx hb dX4_years_65 (by decide) ?_
        refine lv_iinc (v := x4 + 1) (lv' := [(4, .int (x4 + 1)), (0, .ref (α 50)), (1, .int x1), (2, .int x2), (3, .int x3)]) hx hb dX4_years_103 hl (k := 4) rfl rfl (by decide) rfl (fun ls hl => ?_)
        refine lv_goto (tgt := 33) hx hb dX4_years_106 (by decide) ?_
        exact hL33 _ _ _ _ σ hwp H locs ls hP hS (lv_sub hl [1, 2, 3, 4, 0] rfl)
set_option maxHeartbeats 4000000 in
set_option maxRecDepth 100000 in
theorem mk_years_33 {p : Program} {l : Launch} {e : Env} {s : State} {m : MethodId} {args : Array Value} {below : List Frame} {meth : Method} {c : Code} {Γ : GA} {α : Nat → Nat} {K : Int32 → MSt → Prop} (X : CM p s m args meth c cX4_years 5 (some .int) Γ α) {L25 : Int32 → Int32 → Int32 → MSt → Prop} (hL25 : ∀ (x1 : Int32) (x2 : Int32) (x3 : Int32) (σ : MSt), L25 x1 x2 x3 σ → TM p l e ({ frames := 24, cells := 0, slots := 0, locals := 535 } : Room) s m args below meth c 5 (QI below K Γ α s args) Γ α σ 25 [(0, .ref (α 50)), (1, .int x1), (2, .int x2), (3, .int x3)] []) : ∀ n (x1 : Int32) (x2 : Int32) (x3 : Int32) (x4 : Int32) (σ : MSt), mw_years_33 K L25 n x1 x2 x3 x4 σ → TM p l e ({ frames := 24, cells := 0, slots := 0, locals := 535 } : Room) s m args below meth c 5 (QI below K Γ α s args) Γ α σ 33 [(0, .ref (α 50)), (1, .int x1), (2, .int x2), (3, .int x3), (4, .int x4)] [] := by
  intro n
  induction n with
  | zero => intro _ _ _ _ _ hwp; exact hwp.elim
  | succ n ih => intro x1 x2 x3 x4 σ hwp; exact mk_years_33_b X hL25 ih x1 x2 x3 x4 σ hwp
def mw_years_25_b (K : Int32 → MSt → Prop) (L25 : Int32 → Int32 → Int32 → MSt → Prop) (x1 : Int32) (x2 : Int32) (x3 : Int32) (σ : MSt) : Prop :=
  ((x1 ≤ x3) → (K ((σ.1 3) - x2) σ)) ∧ ((¬ (x1 ≤ x3)) → (∃ n, mw_years_33 K L25 n x1 x2 x3 0 σ))
def mw_years_25 (K : Int32 → MSt → Prop) : Nat → Int32 → Int32 → Int32 → MSt → Prop
  | 0 => fun _ _ _ _ => False
  | n + 1 => fun x1 x2 x3 σ => mw_years_25_b K (mw_years_25 K n) x1 x2 x3 σ
set_option maxHeartbeats 4000000 in
set_option maxRecDepth 100000 in
theorem mk_years_25_b {p : Program} {l : Launch} {e : Env} {s : State} {m : MethodId} {args : Array Value} {below : List Frame} {meth : Method} {c : Code} {Γ : GA} {α : Nat → Nat} {K : Int32 → MSt → Prop} (X : CM p s m args meth c cX4_years 5 (some .int) Γ α) {L25 : Int32 → Int32 → Int32 → MSt → Prop} (hL25 : ∀ (x1 : Int32) (x2 : Int32) (x3 : Int32) (σ : MSt), L25 x1 x2 x3 σ → TM p l e ({ frames := 24, cells := 0, slots := 0, locals := 535 } : Room) s m args below meth c 5 (QI below K Γ α s args) Γ α σ 25 [(0, .ref (α 50)), (1, .int x1), (2, .int x2), (3, .int x3)] []) : ∀ (x1 : Int32) (x2 : Int32) (x3 : Int32) (σ : MSt), mw_years_25_b K L25 x1 x2 x3 σ → TM p l e ({ frames := 24, cells := 0, slots := 0, locals := 535 } : Room) s m args below meth c 5 (QI below K Γ α s args) Γ α σ 25 [(0, .ref (α 50)), (1, .int x1), (2, .int x2), (3, .int x3)] [] := by
  obtain ⟨hx, hb, hml, hown, hts, hK, hD, hr, hlk⟩ := id X
  have hA : ∀ q, s.heap.size ≤ q → AM α s.heap.size q := fun q h => Or.inr h
  intro x1 x2 x3 σ hwp H locs ls hP hS hl
  unfold mw_years_25_b at hwp
  refine lv_iload_n hx hb dX4_years_25 rfl (lv_at hl 3 rfl) ?_
  refine lv_iload_n hx hb dX4_years_26 rfl (lv_at hl 1 rfl) ?_
  refine lv_icmp_ge (tgt := 151) hx hb dX4_years_27 (by decide) (fun c1 => ?_) (fun c1 => ?_)
  · replace hwp := hwp.1 c1
    refine lv_aload_n hx hb dX4_years_151 rfl (lv_at hl 0 rfl) ?_
    refine m_geti hx hb hts hown hK hP 3 (by decide) rfl q1349 rfl dX4_years_152 ?_
    refine lv_iload_n hx hb dX4_years_155 rfl (lv_at hl 2 rfl) ?_
    refine lv_isub hx hb dX4_years_156 ?_
    exact m_iret hx hb hr hlk hK hP hS hwp dX4_years_157
  · replace hwp := hwp.2 c1
    refine lv_iconst (v := 0) hx hb dX4_years_30 (by decide) ?_
    refine lv_istore (lv' := [(4, .int 0), (0, .ref (α 50)), (1, .int x1), (2, .int x2), (3, .int x3)]) hx hb dX4_years_31 hl (by decide) rfl (fun ls hl => ?_)
    obtain ⟨n, hwp⟩ := hwp
    exact mk_years_33 X hL25 n _ _ _ _ σ hwp H locs ls hP hS (lv_sub hl [1, 2, 3, 4, 0] rfl)
set_option maxHeartbeats 4000000 in
set_option maxRecDepth 100000 in
theorem mk_years_25 {p : Program} {l : Launch} {e : Env} {s : State} {m : MethodId} {args : Array Value} {below : List Frame} {meth : Method} {c : Code} {Γ : GA} {α : Nat → Nat} {K : Int32 → MSt → Prop} (X : CM p s m args meth c cX4_years 5 (some .int) Γ α) : ∀ n (x1 : Int32) (x2 : Int32) (x3 : Int32) (σ : MSt), mw_years_25 K n x1 x2 x3 σ → TM p l e ({ frames := 24, cells := 0, slots := 0, locals := 535 } : Room) s m args below meth c 5 (QI below K Γ α s args) Γ α σ 25 [(0, .ref (α 50)), (1, .int x1), (2, .int x2), (3, .int x3)] [] := by
  intro n
  induction n with
  | zero => intro _ _ _ _ hwp; exact hwp.elim
  | succ n ih => intro x1 x2 x3 σ hwp; exact mk_years_25_b X ih x1 x2 x3 σ hwp
def mw_years (K : Int32 → MSt → Prop) (x1 : Int32) (σ : MSt) : Prop :=
  ((x1 < 1) → (mw_years_11 K σ)) ∧ ((¬ (x1 < 1)) → (((x1 ≤ 30) → (∃ n, mw_years_25 K n x1 (σ.1 3) 0 σ)) ∧ ((¬ (x1 ≤ 30)) → (mw_years_11 K σ))))
set_option maxHeartbeats 4000000 in
set_option maxRecDepth 100000 in
theorem mt_years {l : Launch} {Γ : GA} {α : Nat → Nat} {σ : MSt} {K : Int32 → MSt → Prop} {x1 : Int32} (hwp : mw_years K x1 σ) : mI l yX4_years cX4_years 5 (some .int) ({ frames := 24, cells := 0, slots := 0, locals := 535 } : Room) Γ α [.int x1] σ K := by
  intro sz
  refine m_of (by decide) rfl [(0, .ref (α 50)), (1, .int x1)] (fun _ h => h) (Nat.le_of_ble_eq_true rfl) ?_
  intro p e s m args below meth c hsz X H locs ls hP hS hl
  subst hsz
  obtain ⟨hx, hb, hml, hown, hts, hK, hD, hr, hlk⟩ := id X
  have hA : ∀ q, s.heap.size ≤ q → AM α s.heap.size q := fun q h => Or.inr h
  unfold mw_years at hwp
  refine lv_iload_n hx hb dX4_years_0 rfl (lv_at hl 1 rfl) ?_
  refine lv_iconst (v := 1) hx hb dX4_years_1 (by decide) ?_
  refine lv_icmp_lt (tgt := 11) hx hb dX4_years_2 (by decide) (fun c1 => ?_) (fun c1 => ?_)
  · replace hwp := hwp.1 c1
    exact mk_years_11 X σ hwp H locs ls hP hS (lv_sub hl [0] rfl)
  · replace hwp := hwp.2 c1
    refine lv_iload_n hx hb dX4_years_5 rfl (lv_at hl 1 rfl) ?_
    refine lv_bipush (v := 30) hx hb dX4_years_6 (by decide) ?_
    refine lv_icmp_le (tgt := 18) hx hb dX4_years_8 (by decide) (fun c2 => ?_) (fun c2 => ?_)
    · replace hwp := hwp.1 c2
      refine lv_aload_n hx hb dX4_years_18 rfl (lv_at hl 0 rfl) ?_
      refine m_geti hx hb hts hown hK hP 3 (by decide) rfl q1349 rfl dX4_years_19 ?_
      refine lv_istore_n (lv' := [(2, .int (σ.1 3)), (0, .ref (α 50)), (1, .int x1)]) hx hb dX4_years_22 rfl hl (by decide) rfl (fun ls hl => ?_)
      refine lv_iconst (v := 0) hx hb dX4_years_23 (by decide) ?_
      refine lv_istore_n (lv' := [(3, .int 0), (2, .int (σ.1 3)), (0, .ref (α 50)), (1, .int x1)]) hx hb dX4_years_24 rfl hl (by decide) rfl (fun ls hl => ?_)
      obtain ⟨n, hwp⟩ := hwp
      exact mk_years_25 X n _ _ _ σ hwp H locs ls hP hS (lv_sub hl [2, 3, 1, 0] rfl)
    · replace hwp := hwp.2 c2
      exact mk_years_11 X σ hwp H locs ls hP hS (lv_sub hl [0] rfl)
