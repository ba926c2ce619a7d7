/-! body -/
def mw_body_19 (K : MSt → Prop) (σ : MSt) : Prop :=
  ∀ σ1, σ1 = sF σ 36 ((σ.1 36) + 1) → (K σ1)
set_option maxHeartbeats 4000000 in
set_option maxRecDepth 100000 in
theorem mk_body_19 {p : Program} {l : Launch} {e : Env} {s : State} {m : MethodId} {args : Array Value} {below : List Frame} {meth : Method} {c : Code} {Γ : GA} {α : Nat → Nat} {K : MSt → Prop} (X : CM p s m args meth c cX4_body 2 none Γ α) : ∀ (σ : MSt), mw_body_19 K  σ → TM p l e ({ frames := 0, cells := 0, slots := 0, locals := 0 } : Room) s m args below meth c 2 (QV below K Γ α s args) Γ α σ 19 [(0, .ref (α 50))] [] := by
  obtain ⟨hx, hb, hml, hown, hts, hK, hD, hr, hlk⟩ := id X
  have hA : ∀ q, s.heap.size ≤ q → AM α s.heap.size q := fun q h => Or.inr h
  intro  σ hwp H locs ls hP hS hl
  unfold mw_body_19 at hwp
  refine lv_aload_n hx hb dX4_body_19 rfl (lv_at hl 0 rfl) ?_
  refine lv_dup hx hb dX4_body_20 rfl ?_
  refine m_geti hx hb hts hown hK hP 36 (by decide) rfl q1382 rfl dX4_body_21 ?_
  refine lv_iconst (v := 1) hx hb dX4_body_24 (by decide) ?_
  refine lv_iadd hx hb dX4_body_25 ?_
  refine m_put hx hb hts hown hK hD hP hS 36 (by decide) rfl q1382 rfl rfl rfl rfl dX4_body_26 (fun H locs hP hS => ?_)
  obtain ⟨σ1, eσ1⟩ : ∃ z, z = sF σ 36 ((σ.1 36) + 1) := ⟨_, rfl⟩
  rw [← eσ1] at hP
  replace hwp := hwp σ1 eσ1
  exact m_vret hx hb hr hlk hK hP hS hwp dX4_body_29
def mw_body (K : MSt → Prop) (x1 : Int32) (σ : MSt) : Prop :=
  ((20 ≤ (σ.1 36)) → (mw_body_19 K σ)) ∧ ((¬ (20 ≤ (σ.1 36))) → (vp_in (σ.1 36) (lenM 35) ∧ (∀ σ3, σ3 = sI σ 35 (σ.1 36).toNatClampNeg x1 → (mw_body_19 K σ3))))
set_option maxHeartbeats 4000000 in
set_option maxRecDepth 100000 in
theorem mt_body {l : Launch} {Γ : GA} {α : Nat → Nat} {σ : MSt} {K : MSt → Prop} {x1 : Int32} (hwp : mw_body K x1 σ) : mV l yX4_body cX4_body 2 none ({ frames := 0, cells := 0, slots := 0, locals := 0 } : Room) Γ α [.int x1] σ K := by
  intro sz
  refine m_of (by decide) rfl [(0, .ref (α 50)), (1, .int x1)] (fun _ h => h) (Nat.le_of_ble_eq_true rfl) ?_
  intro p e s m args below meth c hsz X H locs ls hP hS hl
  subst hsz
  obtain ⟨hx, hb, hml, hown, hts, hK, hD, hr, hlk⟩ := id X
  have hA : ∀ q, s.heap.size ≤ q → AM α s.heap.size q := fun q h => Or.inr h
  unfold mw_body at hwp
  refine lv_aload_n hx hb dX4_body_0 rfl (lv_at hl 0 rfl) ?_
  refine m_geti hx hb hts hown hK hP 36 (by decide) rfl q1382 rfl dX4_body_1 ?_
  refine lv_bipush (v := 20) hx hb dX4_body_4 (by decide) ?_
  refine lv_icmp_ge (tgt := 19) hx hb dX4_body_6 (by decide) (fun c1 => ?_) (fun c1 => ?_)
  · replace hwp := hwp.1 c1
    exact mk_body_19 X σ hwp H locs ls hP hS (lv_sub hl [0] rfl)
  · replace hwp := hwp.2 c1
    refine lv_aload_n hx hb dX4_body_9 rfl (lv_at hl 0 rfl) ?_
    refine m_geta hx hb hts hown hK hP 35 (by decide) rfl q1381 rfl dX4_body_10 ?_
    refine lv_aload_n hx hb dX4_body_13 rfl (lv_at hl 0 rfl) ?_
    refine m_geti hx hb hts hown hK hP 36 (by decide) rfl q1382 rfl dX4_body_14 ?_
    refine lv_iload_n hx hb dX4_body_17 rfl (lv_at hl 1 rfl) ?_
    obtain ⟨hi2, hwp⟩ := hwp
    refine m_iast hx hb hK hD hP hS 35 rfl hi2 dX4_body_18 (fun H locs hP hS => ?_)
    obtain ⟨σ3, eσ3⟩ : ∃ z, z = sI σ 35 (σ.1 36).toNatClampNeg x1 := ⟨_, rfl⟩
    rw [← eσ3] at hP
    replace hwp := hwp σ3 eσ3
    exact mk_body_19 X σ3 hwp H locs ls hP hS (lv_sub hl [0] rfl)
/-! isHouse -/
def mw_isHouse (σ : MSt) (K : Int32 → Prop) (x1 : Int32) : Prop :=
  vp_in x1 (lenM 7) ∧ ((((σ.2.1 7 x1.toNatClampNeg) = 0) → (K 0)) ∧ ((¬ ((σ.2.1 7 x1.toNatClampNeg) = 0)) → (vp_in x1 (lenM 7) ∧ ((((σ.2.1 7 x1.toNatClampNeg) = 2) → (K 0)) ∧ ((¬ ((σ.2.1 7 x1.toNatClampNeg) = 2)) → (vp_in x1 (lenM 7) ∧ ((((σ.2.1 7 x1.toNatClampNeg) = 6) → (K 0)) ∧ ((¬ ((σ.2.1 7 x1.toNatClampNeg) = 6)) → (K 1)))))))))
set_option maxHeartbeats 4000000 in
set_option maxRecDepth 100000 in
theorem mt_isHouse {l : Launch} {Γ : GA} {α : Nat → Nat} {σ : MSt} {K : Int32 → Prop} {x1 : Int32} (hwp : mw_isHouse σ K x1) : mI l yX4_isHouse cX4_isHouse 2 (some .boolean) ({ frames := 0, cells := 0, slots := 0, locals := 0 } : Room) Γ α [.int x1] σ (fun r u => K r ∧ u = σ) := by
  intro sz
  refine m_of (by decide) rfl [(0, .ref (α 50)), (1, .int x1)] (fun _ h => h) (Nat.le_of_ble_eq_true rfl) ?_
  intro p e s m args below meth c hsz X H locs ls hP hS hl
  subst hsz
  obtain ⟨hx, hb, hml, hown, hts, hK, hD, hr, hlk⟩ := id X
  have hA : ∀ q, s.heap.size ≤ q → AM α s.heap.size q := fun q h => Or.inr h
  unfold mw_isHouse at hwp
  refine lv_aload_n hx hb dX4_isHouse_0 rfl (lv_at hl 0 rfl) ?_
  refine m_geta hx hb hts hown hK hP 7 (by decide) rfl q1353 rfl dX4_isHouse_1 ?_
  refine lv_iload_n hx hb dX4_isHouse_4 rfl (lv_at hl 1 rfl) ?_
  obtain ⟨hi1, hwp⟩ := hwp
  refine m_iald hx hb hK hP 7 rfl hi1 dX4_isHouse_5 ?_
  refine lv_if_eq (tgt := 34) hx hb dX4_isHouse_6 (by decide) (fun c2 => ?_) (fun c2 => ?_)
  · replace hwp := hwp.1 c2
    refine lv_iconst (v := 0) hx hb dX4_isHouse_34 (by decide) ?_
    exact m_zret (v := 0) hx hb hr hlk hK hP hS (Or.inl rfl) ⟨hwp, rfl⟩ dX4_isHouse_35
  · replace hwp := hwp.2 c2
    refine lv_aload_n hx hb dX4_isHouse_9 rfl (lv_at hl 0 rfl) ?_
    refine m_geta hx hb hts hown hK hP 7 (by decide) rfl q1353 rfl dX4_isHouse_10 ?_
    refine lv_iload_n hx hb dX4_isHouse_13 rfl (lv_at hl 1 rfl) ?_
    obtain ⟨hi3, hwp⟩ := hwp
    refine m_iald hx hb hK hP 7 rfl hi3 dX4_isHouse_14 ?_
    refine lv_iconst (v := 2) hx hb dX4_isHouse_15 (by decide) ?_
    refine lv_icmp_eq (tgt := 34) hx hb dX4_isHouse_16 (by decide) (fun c4 => ?_) (fun c4 => ?_)
    · replace hwp := hwp.1 c4
      refine lv_iconst (v := 0) hx hb dX4_isHouse_34 (by decide) ?_
      exact m_zret (v := 0) hx hb hr hlk hK hP hS (Or.inl rfl) ⟨hwp, rfl⟩ dX4_isHouse_35
    · replace hwp := hwp.2 c4
      refine lv_aload_n hx hb dX4_isHouse_19 rfl (lv_at hl 0 rfl) ?_
      refine m_geta hx hb hts hown hK hP 7 (by decide) rfl q1353 rfl dX4_isHouse_20 ?_
      refine lv_iload_n hx hb dX4_isHouse_23 rfl (lv_at hl 1 rfl) ?_
      obtain ⟨hi5, hwp⟩ := hwp
      refine m_iald hx hb hK hP 7 rfl hi5 dX4_isHouse_24 ?_
      refine lv_bipush (v := 6) hx hb dX4_isHouse_25 (by decide) ?_
      refine lv_icmp_eq (tgt := 34) hx hb dX4_isHouse_27 (by decide) (fun c6 => ?_) (fun c6 => ?_)
      · replace hwp := hwp.1 c6
        refine lv_iconst (v := 0) hx hb dX4_isHouse_34 (by decide) ?_
        exact m_zret (v := 0) hx hb hr hlk hK hP hS (Or.inl rfl) ⟨hwp, rfl⟩ dX4_isHouse_35
      · replace hwp := hwp.2 c6
        refine lv_iconst (v := 1) hx hb dX4_isHouse_30 (by decide) ?_
        refine lv_goto (tgt := 35) hx hb dX4_isHouse_31 (by decide) ?_
        exact m_zret (v := 1) hx hb hr hlk hK hP hS (Or.inr rfl) ⟨hwp, rfl⟩ dX4_isHouse_35
/-! standing -/
def mw_standing_75 (K : Int32 → MSt → Prop) (x1 : Int32) (x3 : Int32) (t0 : Int32) (σ : MSt) : Prop :=
  ((¬ (x3 = 4)) → (((¬ (x3 = 6)) → (K t0 σ)) ∧ ((x3 = 6) → (K (t0 * 2) σ)))) ∧ ((x3 = 4) → (K (t0 - x1) σ))
set_option maxHeartbeats 4000000 in
set_option maxRecDepth 100000 in
theorem mk_standing_75 {p : Program} {l : Launch} {e : Env} {s : State} {m : MethodId} {args : Array Value} {below : List Frame} {meth : Method} {c : Code} {Γ : GA} {α : Nat → Nat} {K : Int32 → MSt → Prop} (X : CM p s m args meth c cX4_standing 6 (some .int) Γ α) : ∀ (x1 : Int32) (x3 : Int32) (t0 : Int32) (σ : MSt), mw_standing_75 K x1 x3 t0 σ → TM p l e ({ frames := 1, cells := 0, slots := 0, locals := 21 } : Room) s m args below meth c 6 (QI below K Γ α s args) Γ α σ 75 [(1, .int x1), (3, .int x3)] [.int t0] := by
  obtain ⟨hx, hb, hml, hown, hts, hK, hD, hr, hlk⟩ := id X
  have hA : ∀ q, s.heap.size ≤ q → AM α s.heap.size q := fun q h => Or.inr h
  intro x1 x3 t0 σ hwp H locs ls hP hS hl
  unfold mw_standing_75 at hwp
  refine lv_istore (lv' := [(5, .int t0), (1, .int x1), (3, .int x3)]) hx hb dX4_standing_75 hl (by decide) rfl (fun ls hl => ?_)
  refine lv_iload_n hx hb dX4_standing_77 rfl (lv_at hl 2 rfl) ?_
  refine lv_iconst (v := 4) hx hb dX4_standing_78 (by decide) ?_
  refine lv_icmp_ne (tgt := 89) hx hb dX4_standing_79 (by decide) (fun c1 => ?_) (fun c1 => ?_)
  · replace hwp := hwp.1 c1
    refine lv_iload_n hx hb dX4_standing_89 rfl (lv_at hl 2 rfl) ?_
    refine lv_bipush (v := 6) hx hb dX4_standing_90 (by decide) ?_
    refine lv_icmp_ne (tgt := 102) hx hb dX4_standing_92 (by decide) (fun c2 => ?_) (fun c2 => ?_)
    · replace hwp := hwp.1 c2
      refine lv_iload hx hb dX4_standing_102 (lv_at hl 0 rfl) ?_
      exact m_iret hx hb hr hlk hK hP hS hwp dX4_standing_104
    · replace hwp := hwp.2 c2
      refine lv_iload hx hb dX4_standing_95 (lv_at hl 0 rfl) ?_
      refine lv_iconst (v := 2) hx hb dX4_standing_97 (by decide) ?_
      refine lv_imul hx hb dX4_standing_98 ?_
      refine lv_goto (tgt := 104) hx hb dX4_standing_99 (by decide) ?_
      exact m_iret hx hb hr hlk hK hP hS hwp dX4_standing_104
  · replace hwp := hwp.2 c1
    refine lv_iload hx hb dX4_standing_82 (lv_at hl 0 rfl) ?_
    refine lv_iload_n hx hb dX4_standing_84 rfl (lv_at hl 1 rfl) ?_
    refine lv_isub hx hb dX4_standing_85 ?_
    refine lv_goto (tgt := 104) hx hb dX4_standing_86 (by decide) ?_
    exact m_iret hx hb hr hlk hK hP hS hwp dX4_standing_104
def mw_standing_48 (K : Int32 → MSt → Prop) (x1 : Int32) (x2 : Int32) (x3 : Int32) (x4 : Int32) (σ : MSt) : Prop :=
  mw_body (fun σ1 => ((x4 = 0) → (mw_standing_75 K x1 x3 (x2 + x1) σ1)) ∧ ((¬ (x4 = 0)) → (vp_in x1 (lenM 11) ∧ (mw_standing_75 K x1 x3 ((x2 + x1) + (σ1.2.1 11 x1.toNatClampNeg)) σ1)))) 10 σ
set_option maxHeartbeats 4000000 in
set_option maxRecDepth 100000 in
theorem mk_standing_48 {p : Program} {l : Launch} {e : Env} {s : State} {m : MethodId} {args : Array Value} {below : List Frame} {meth : Method} {c : Code} {Γ : GA} {α : Nat → Nat} {K : Int32 → MSt → Prop} (X : CM p s m args meth c cX4_standing 6 (some .int) Γ α) : ∀ (x1 : Int32) (x2 : Int32) (x3 : Int32) (x4 : Int32) (σ : MSt), mw_standing_48 K x1 x2 x3 x4 σ → TM p l e ({ frames := 1, cells := 0, slots := 0, locals := 21 } : Room) s m args below meth c 6 (QI below K Γ α s args) Γ α σ 48 [(0, .ref (α 50)), (1, .int x1), (2, .int x2), (3, .int x3), (4, .int x4)] [] := by
  obtain ⟨hx, hb, hml, hown, hts, hK, hD, hr, hlk⟩ := id X
  have hA : ∀ q, s.heap.size ≤ q → AM α s.heap.size q := fun q h => Or.inr h
  intro x1 x2 x3 x4 σ hwp H locs ls hP hS hl
  unfold mw_standing_48 at hwp
  refine lv_aload_n hx hb dX4_standing_48 rfl (lv_at hl 0 rfl) ?_
  refine lv_bipush (v := 10) hx hb dX4_standing_49 (by decide) ?_
  refine m_callv ⟨hx, hb, hml, hown, hts⟩ hK hD hA hP hS (mt_body hwp) (cwV 1 hts (lw_V q1802 q1804 qs71 q79 q1805) rfl rfl rfl (by decide +kernel) ⟨Nat.le_of_ble_eq_true rfl, Nat.le_of_ble_eq_true rfl⟩) rfl hl.1 rfl (Nat.le_of_ble_eq_true rfl) dX4_standing_51 ⟨Nat.zero_le _, Nat.zero_le _⟩ (fun σ1 H locs hk hP hS => ?_)
  have hwp := hk
  refine lv_iload hx hb dX4_standing_54 (lv_at hl 4 rfl) ?_
  refine lv_if_eq (tgt := 72) hx hb dX4_standing_56 (by decide) (fun c2 => ?_) (fun c2 => ?_)
  · replace hwp := hwp.1 c2
    refine lv_iload_n hx hb dX4_standing_72 rfl (lv_at hl 2 rfl) ?_
    refine lv_iload_n hx hb dX4_standing_73 rfl (lv_at hl 1 rfl) ?_
    refine lv_iadd hx hb dX4_standing_74 ?_
    exact mk_standing_75 X _ _ _ σ1 hwp H locs ls hP hS (lv_sub hl [1, 3] rfl)
  · replace hwp := hwp.2 c2
    refine lv_iload_n hx hb dX4_standing_59 rfl (lv_at hl 2 rfl) ?_
    refine lv_iload_n hx hb dX4_standing_60 rfl (lv_at hl 1 rfl) ?_
    refine lv_iadd hx hb dX4_standing_61 ?_
    refine lv_aload_n hx hb dX4_standing_62 rfl (lv_at hl 0 rfl) ?_
    refine m_geta hx hb hts hown hK hP 11 (by decide) rfl q1357 rfl dX4_standing_63 ?_
    refine lv_iload_n hx hb dX4_standing_66 rfl (lv_at hl 1 rfl) ?_
    obtain ⟨hi3, hwp⟩ := hwp
    refine m_iald hx hb hK hP 11 rfl hi3 dX4_standing_67 ?_
    refine lv_iadd hx hb dX4_standing_68 ?_
    refine lv_goto (tgt := 75) hx hb dX4_standing_69 (by decide) ?_
    exact mk_standing_75 X _ _ _ σ1 hwp H locs ls hP hS (lv_sub hl [1, 3] rfl)
def mw_standing_37 (K : Int32 → MSt → Prop) (x1 : Int32) (x2 : Int32) (x3 : Int32) (x4 : Int32) (σ : MSt) : Prop :=
  ((x4 = 0) → (mw_standing_48 K x1 x2 x3 x4 σ)) ∧ ((¬ (x4 = 0)) → (mw_body (fun σ2 => mw_standing_48 K x1 x2 x3 x4 σ2) 20 σ))
set_option maxHeartbeats 4000000 in
set_option maxRecDepth 100000 in
theorem mk_standing_37 {p : Program} {l : Launch} {e : Env} {s : State} {m : MethodId} {args : Array Value} {below : List Frame} {meth : Method} {c : Code} {Γ : GA} {α : Nat → Nat} {K : Int32 → MSt → Prop} (X : CM p s m args meth c cX4_standing 6 (some .int) Γ α) : ∀ (x1 : Int32) (x2 : Int32) (x3 : Int32) (x4 : Int32) (σ : MSt), mw_standing_37 K x1 x2 x3 x4 σ → TM p l e ({ frames := 1, cells := 0, slots := 0, locals := 21 } : Room) s m args below meth c 6 (QI below K Γ α s args) Γ α σ 37 [(0, .ref (α 50)), (1, .int x1), (2, .int x2), (3, .int x3), (4, .int x4)] [] := by
  obtain ⟨hx, hb, hml, hown, hts, hK, hD, hr, hlk⟩ := id X
  have hA : ∀ q, s.heap.size ≤ q → AM α s.heap.size q := fun q h => Or.inr h
  intro x1 x2 x3 x4 σ hwp H locs ls hP hS hl
  unfold mw_standing_37 at hwp
  refine lv_iload hx hb dX4_standing_37 (lv_at hl 4 rfl) ?_
  refine lv_if_eq (tgt := 48) hx hb dX4_standing_39 (by decide) (fun c1 => ?_) (fun c1 => ?_)
  · replace hwp := hwp.1 c1
    exact mk_standing_48 X _ _ _ _ σ hwp H locs ls hP hS (lv_sub hl [0, 1, 2, 3, 4] rfl)
  · replace hwp := hwp.2 c1
    refine lv_aload_n hx hb dX4_standing_42 rfl (lv_at hl 0 rfl) ?_
    refine lv_bipush (v := 20) hx hb dX4_standing_43 (by decide) ?_
    refine m_callv ⟨hx, hb, hml, hown, hts⟩ hK hD hA hP hS (mt_body hwp) (cwV 1 hts (lw_V q1802 q1804 qs71 q79 q1805) rfl rfl rfl (by decide +kernel) ⟨Nat.le_of_ble_eq_true rfl, Nat.le_of_ble_eq_true rfl⟩) rfl hl.1 rfl (Nat.le_of_ble_eq_true rfl) dX4_standing_45 ⟨Nat.zero_le _, Nat.zero_le _⟩ (fun σ2 H locs hk hP hS => ?_)
    have hwp := hk
    exact mk_standing_48 X _ _ _ _ σ2 hwp H locs ls hP hS (lv_sub hl [0, 1, 2, 3, 4] rfl)
def mw_standing_25 (K : Int32 → MSt → Prop) (x1 : Int32) (x2 : Int32) (x3 : Int32) (x4 : Int32) (σ : MSt) : Prop :=
  ((¬ (x3 = 6)) → (mw_standing_37 K x1 x2 x3 x4 σ)) ∧ ((x3 = 6) → (mw_body (fun σ2 => mw_standing_37 K x1 x2 x3 x4 σ2) 70 σ))
set_option maxHeartbeats 4000000 in
set_option maxRecDepth 100000 in
theorem mk_standing_25 {p : Program} {l : Launch} {e : Env} {s : State} {m : MethodId} {args : Array Value} {below : List Frame} {meth : Method} {c : Code} {Γ : GA} {α : Nat → Nat} {K : Int32 → MSt → Prop} (X : CM p s m args meth c cX4_standing 6 (some .int) Γ α) : ∀ (x1 : Int32) (x2 : Int32) (x3 : Int32) (x4 : Int32) (σ : MSt), mw_standing_25 K x1 x2 x3 x4 σ → TM p l e ({ frames := 1, cells := 0, slots := 0, locals := 21 } : Room) s m args below meth c 6 (QI below K Γ α s args) Γ α σ 25 [(0, .ref (α 50)), (1, .int x1), (2, .int x2), (3, .int x3), (4, .int x4)] [] := by
  obtain ⟨hx, hb, hml, hown, hts, hK, hD, hr, hlk⟩ := id X
  have hA : ∀ q, s.heap.size ≤ q → AM α s.heap.size q := fun q h => Or.inr h
  intro x1 x2 x3 x4 σ hwp H locs ls hP hS hl
  unfold mw_standing_25 at hwp
  refine lv_iload_n hx hb dX4_standing_25 rfl (lv_at hl 3 rfl) ?_
  refine lv_bipush (v := 6) hx hb dX4_standing_26 (by decide) ?_
  refine lv_icmp_ne (tgt := 37) hx hb dX4_standing_28 (by decide) (fun c1 => ?_) (fun c1 => ?_)
  · replace hwp := hwp.1 c1
    exact mk_standing_37 X _ _ _ _ σ hwp H locs ls hP hS (lv_sub hl [0, 1, 2, 3, 4] rfl)
  · replace hwp := hwp.2 c1
    refine lv_aload_n hx hb dX4_standing_31 rfl (lv_at hl 0 rfl) ?_
    refine lv_bipush (v := 70) hx hb dX4_standing_32 (by decide) ?_
    refine m_callv ⟨hx, hb, hml, hown, hts⟩ hK hD hA hP hS (mt_body hwp) (cwV 1 hts (lw_V q1802 q1804 qs71 q79 q1805) rfl rfl rfl (by decide +kernel) ⟨Nat.le_of_ble_eq_true rfl, Nat.le_of_ble_eq_true rfl⟩) rfl hl.1 rfl (Nat.le_of_ble_eq_true rfl) dX4_standing_34 ⟨Nat.zero_le _, Nat.zero_le _⟩ (fun σ2 H locs hk hP hS => ?_)
    have hwp := hk
    exact mk_standing_37 X _ _ _ _ σ2 hwp H locs ls hP hS (lv_sub hl [0, 1, 2, 3, 4] rfl)
def mw_standing (K : Int32 → MSt → Prop) (x1 : Int32) (x2 : Int32) (σ : MSt) : Prop :=
  vp_in x1 (lenM 7) ∧ (mw_isHouse σ (fun r2 => ((¬ ((σ.2.1 7 x1.toNatClampNeg) = 4)) → (mw_standing_25 K x1 x2 (σ.2.1 7 x1.toNatClampNeg) r2 σ)) ∧ (((σ.2.1 7 x1.toNatClampNeg) = 4) → (mw_body (fun σ4 => mw_standing_25 K x1 x2 (σ.2.1 7 x1.toNatClampNeg) r2 σ4) 51 σ))) x1)
set_option maxHeartbeats 4000000 in
set_option maxRecDepth 100000 in
theorem mt_standing {l : Launch} {Γ : GA} {α : Nat → Nat} {σ : MSt} {K : Int32 → MSt → Prop} {x1 : Int32} {x2 : Int32} (hwp : mw_standing K x1 x2 σ) : mI l yX4_standing cX4_standing 6 (some .int) ({ frames := 1, cells := 0, slots := 0, locals := 21 } : Room) Γ α [.int x1, .int x2] σ K := by
  intro sz
  refine m_of (by decide) rfl [(0, .ref (α 50)), (1, .int x1), (2, .int x2)] (fun _ h => h) (Nat.le_of_ble_eq_true rfl) ?_
  intro p e s m args below meth c hsz X H locs ls hP hS hl
  subst hsz
  obtain ⟨hx, hb, hml, hown, hts, hK, hD, hr, hlk⟩ := id X
  have hA : ∀ q, s.heap.size ≤ q → AM α s.heap.size q := fun q h => Or.inr h
  unfold mw_standing at hwp
  refine lv_aload_n hx hb dX4_standing_0 rfl (lv_at hl 0 rfl) ?_
  refine m_geta hx hb hts hown hK hP 7 (by decide) rfl q1353 rfl dX4_standing_1 ?_
  refine lv_iload_n hx hb dX4_standing_4 rfl (lv_at hl 1 rfl) ?_
  obtain ⟨hi1, hwp⟩ := hwp
  refine m_iald hx hb hK hP 7 rfl hi1 dX4_standing_5 ?_
  refine lv_istore_n (lv' := [(3, .int (σ.2.1 7 x1.toNatClampNeg)), (0, .ref (α 50)), (1, .int x1), (2, .int x2)]) hx hb dX4_standing_6 rfl hl (by decide) rfl (fun ls hl => ?_)
  refine lv_aload_n hx hb dX4_standing_7 rfl (lv_at hl 1 rfl) ?_
  refine lv_iload_n hx hb dX4_standing_8 rfl (lv_at hl 2 rfl) ?_
  refine m_calli ⟨hx, hb, hml, hown, hts⟩ hK hD hA hP hS (mt_isHouse hwp) (cwV 1 hts (lw_V q1501 q1503 qs27 q79 q1504) rfl rfl rfl (by decide +kernel) ⟨Nat.le_of_ble_eq_true rfl, Nat.le_of_ble_eq_true rfl⟩) rfl hl.1 rfl (Nat.le_of_ble_eq_true rfl) dX4_standing_9 ⟨Nat.zero_le _, Nat.zero_le _⟩ (fun r2 u H locs hk hP hS => ?_)
  obtain ⟨hwp, eu⟩ := hk
  rw [eu] at hP
  refine lv_istore (lv' := [(4, .int r2), (3, .int (σ.2.1 7 x1.toNatClampNeg)), (0, .ref (α 50)), (1, .int x1), (2, .int x2)]) hx hb dX4_standing_12 hl (by decide) rfl (fun ls hl => ?_)
  refine lv_iload_n hx hb dX4_standing_14 rfl (lv_at hl 1 rfl) ?_
  refine lv_iconst (v := 4) hx hb dX4_standing_15 (by decide) ?_
  refine lv_icmp_ne (tgt := 25) hx hb dX4_standing_16 (by decide) (fun c3 => ?_) (fun c3 => ?_)
  · replace hwp := hwp.1 c3
    exact mk_standing_25 X _ _ _ _ σ hwp H locs ls hP hS (lv_sub hl [2, 3, 4, 1, 0] rfl)
  · replace hwp := hwp.2 c3
    refine lv_aload_n hx hb dX4_standing_19 rfl (lv_at hl 2 rfl) ?_
    refine lv_bipush (v := 51) hx hb dX4_standing_20 (by decide) ?_
    refine m_callv ⟨hx, hb, hml, hown, hts⟩ hK hD hA hP hS (mt_body hwp) (cwV 1 hts (lw_V q1802 q1804 qs71 q79 q1805) rfl rfl rfl (by decide +kernel) ⟨Nat.le_of_ble_eq_true rfl, Nat.le_of_ble_eq_true rfl⟩) rfl hl.1 rfl (Nat.le_of_ble_eq_true rfl) dX4_standing_22 ⟨Nat.zero_le _, Nat.zero_le _⟩ (fun σ4 H locs hk hP hS => ?_)
    have hwp := hk
    exact mk_standing_25 X _ _ _ _ σ4 hwp H locs ls hP hS (lv_sub hl [2, 3, 4, 1, 0] rfl)
/-! looking -/
def mw_looking_65 (K : Int32 → MSt → Prop) (x1 : Int32) (x3 : Int32) (x4 : Int32) (σ : MSt) : Prop :=
  mw_body (fun σ1 => mw_standing (fun r2 σ3 => ((x3 = 2) → (K ((r2 * 2) * 3) σ3)) ∧ ((¬ (x3 = 2)) → (((¬ (x3 = 6)) → (K (r2 * 2) σ3)) ∧ ((x3 = 6) → (K ((r2 * 2) * 3) σ3))))) x1 x4 σ1) 11 σ
set_option maxHeartbeats 4000000 in
set_option maxRecDepth 100000 in
theorem mk_looking_65 {p : Program} {l : Launch} {e : Env} {s : State} {m : MethodId} {args : Array Value} {below : List Frame} {meth : Method} {c : Code} {Γ : GA} {α : Nat → Nat} {K : Int32 → MSt → Prop} (X : CM p s m args meth c cX4_looking 6 (some .int) Γ α) : ∀ (x1 : Int32) (x3 : Int32) (x4 : Int32) (σ : MSt), mw_looking_65 K x1 x3 x4 σ → TM p l e ({ frames := 2, cells := 0, slots := 0, locals := 46 } : Room) s m args below meth c 6 (QI below K Γ α s args) Γ α σ 65 [(0, .ref (α 50)), (1, .int x1), (3, .int x3), (4, .int x4)] [] := by
  obtain ⟨hx, hb, hml, hown, hts, hK, hD, hr, hlk⟩ := id X
  have hA : ∀ q, s.heap.size ≤ q → AM α s.heap.size q := fun q h => Or.inr h
  intro x1 x3 x4 σ hwp H locs ls hP hS hl
  unfold mw_looking_65 at hwp
  refine lv_aload_n hx hb dX4_looking_65 rfl (lv_at hl 0 rfl) ?_
  refine lv_bipush (v := 11) hx hb dX4_looking_66 (by decide) ?_
  refine m_callv ⟨hx, hb, hml, hown, hts⟩ hK hD hA hP hS (mt_body hwp) (cwV 1 hts (lw_V q1802 q1804 qs71 q79 q1805) rfl rfl rfl (by decide +kernel) ⟨Nat.le_of_ble_eq_true rfl, Nat.le_of_ble_eq_true rfl⟩) rfl hl.1 rfl (Nat.le_of_ble_eq_true rfl) dX4_looking_68 ⟨Nat.zero_le _, Nat.zero_le _⟩ (fun σ1 H locs hk hP hS => ?_)
  have hwp := hk
  refine lv_aload_n hx hb dX4_looking_71 rfl (lv_at hl 0 rfl) ?_
  refine lv_iload_n hx hb dX4_looking_72 rfl (lv_at hl 1 rfl) ?_
  refine lv_iload hx hb dX4_looking_73 (lv_at hl 3 rfl) ?_
  refine m_calli ⟨hx, hb, hml, hown, hts⟩ hK hD hA hP hS (mt_standing hwp) (cwV 2 hts (lw_V q1798 q1800 qs70 q79 q1801) rfl rfl rfl (by decide +kernel) ⟨Nat.le_of_ble_eq_true rfl, Nat.le_of_ble_eq_true rfl⟩) rfl hl.1 rfl (Nat.le_of_ble_eq_true rfl) dX4_looking_75 ⟨Nat.zero_le _, Nat.zero_le _⟩ (fun r2 σ3 H locs hk hP hS => ?_)
  have hwp := hk
  refine lv_iconst (v := 2) hx hb dX4_looking_78 (by decide) ?_
  refine lv_imul hx hb dX4_looking_79 ?_
  refine lv_istore (lv' := [(5, .int (r2 * 2)), (0, .ref (α 50)), (1, .int x1), (3, .int x3), (4, .int x4)]) hx hb dX4_looking_80 hl (by decide) rfl (fun ls hl => ?_)
  refine lv_iload_n hx hb dX4_looking_82 rfl (lv_at hl 3 rfl) ?_
  refine lv_iconst (v := 2) hx hb dX4_looking_83 (by decide) ?_
  refine lv_icmp_eq (tgt := 93) hx hb dX4_looking_84 (by decide) (fun c4 => ?_) (fun c4 => ?_)
  · replace hwp := hwp.1 c4
    refine lv_iload hx hb dX4_looking_93 (lv_at hl 0 rfl) ?_
    refine lv_iconst (v := 3) hx hb dX4_looking_95 (by decide) ?_
    refine lv_imul hx hb dX4_looking_96 ?_
    refine lv_goto (tgt := 102) hx hb dX4_looking_97 (by decide) ?_
    exact m_iret hx hb hr hlk hK hP hS hwp dX4_looking_102
  · replace hwp := hwp.2 c4
    refine lv_iload_n hx hb dX4_looking_87 rfl (lv_at hl 3 rfl) ?_
    refine lv_bipush (v := 6) hx hb dX4_looking_88 (by decide) ?_
    refine lv_icmp_ne (tgt := 100) hx hb dX4_looking_90 (by decide) (fun c5 => ?_) (fun c5 => ?_)
    · replace hwp := hwp.1 c5
      refine lv_iload hx hb dX4_looking_100 (lv_at hl 0 rfl) ?_
      exact m_iret hx hb hr hlk hK hP hS hwp dX4_looking_102
    · replace hwp := hwp.2 c5
      refine lv_iload hx hb dX4_looking_93 (lv_at hl 0 rfl) ?_
      refine lv_iconst (v := 3) hx hb dX4_looking_95 (by decide) ?_
      refine lv_imul hx hb dX4_looking_96 ?_
      refine lv_goto (tgt := 102) hx hb dX4_looking_97 (by decide) ?_
      exact m_iret hx hb hr hlk hK hP hS hwp dX4_looking_102
def mw_looking_59 (K : Int32 → MSt → Prop) (x1 : Int32) (x3 : Int32) (x4 : Int32) (σ : MSt) : Prop :=
  mw_body (fun σ1 => mw_looking_65 K x1 x3 x4 σ1) 30 σ
set_option maxHeartbeats 4000000 in
set_option maxRecDepth 100000 in
theorem mk_looking_59 {p : Program} {l : Launch} {e : Env} {s : State} {m : MethodId} {args : Array Value} {below : List Frame} {meth : Method} {c : Code} {Γ : GA} {α : Nat → Nat} {K : Int32 → MSt → Prop} (X : CM p s m args meth c cX4_looking 6 (some .int) Γ α) : ∀ (x1 : Int32) (x3 : Int32) (x4 : Int32) (σ : MSt), mw_looking_59 K x1 x3 x4 σ → TM p l e ({ frames := 2, cells := 0, slots := 0, locals := 46 } : Room) s m args below meth c 6 (QI below K Γ α s args) Γ α σ 59 [(0, .ref (α 50)), (1, .int x1), (3, .int x3), (4, .int x4)] [] := by
  obtain ⟨hx, hb, hml, hown, hts, hK, hD, hr, hlk⟩ := id X
  have hA : ∀ q, s.heap.size ≤ q → AM α s.heap.size q := fun q h => Or.inr h
  intro x1 x3 x4 σ hwp H locs ls hP hS hl
  unfold mw_looking_59 at hwp
  refine lv_aload_n hx hb dX4_looking_59 rfl (lv_at hl 0 rfl) ?_
  refine lv_bipush (v := 30) hx hb dX4_looking_60 (by decide) ?_
  refine m_callv ⟨hx, hb, hml, hown, hts⟩ hK hD hA hP hS (mt_body hwp) (cwV 1 hts (lw_V q1802 q1804 qs71 q79 q1805) rfl rfl rfl (by decide +kernel) ⟨Nat.le_of_ble_eq_true rfl, Nat.le_of_ble_eq_true rfl⟩) rfl hl.1 rfl (Nat.le_of_ble_eq_true rfl) dX4_looking_62 ⟨Nat.zero_le _, Nat.zero_le _⟩ (fun σ1 H locs hk hP hS => ?_)
  have hwp := hk
  exact mk_looking_65 X _ _ _ σ1 hwp H locs ls hP hS (lv_sub hl [0, 1, 2, 3] rfl)
def mw_looking_48 (K : Int32 → MSt → Prop) (x1 : Int32) (x3 : Int32) (x4 : Int32) (σ : MSt) : Prop :=
  ((x3 = 2) → (mw_looking_59 K x1 x3 x4 σ)) ∧ ((¬ (x3 = 2)) → (((¬ (x3 = 6)) → (mw_looking_65 K x1 x3 x4 σ)) ∧ ((x3 = 6) → (mw_looking_59 K x1 x3 x4 σ))))
set_option maxHeartbeats 4000000 in
set_option maxRecDepth 100000 in
theorem mk_looking_48 {p : Program} {l : Launch} {e : Env} {s : State} {m : MethodId} {args : Array Value} {below : List Frame} {meth : Method} {c : Code} {Γ : GA} {α : Nat → Nat} {K : Int32 → MSt → Prop} (X : CM p s m args meth c cX4_looking 6 (some .int) Γ α) : ∀ (x1 : Int32) (x3 : Int32) (x4 : Int32) (σ : MSt), mw_looking_48 K x1 x3 x4 σ → TM p l e ({ frames := 2, cells := 0, slots := 0, locals := 46 } : Room) s m args below meth c 6 (QI below K Γ α s args) Γ α σ 48 [(0, .ref (α 50)), (1, .int x1), (3, .int x3), (4, .int x4)] [] := by
  obtain ⟨hx, hb, hml, hown, hts, hK, hD, hr, hlk⟩ := id X
  have hA : ∀ q, s.heap.size ≤ q → AM α s.heap.size q := fun q h => Or.inr h
  intro x1 x3 x4 σ hwp H locs ls hP hS hl
  unfold mw_looking_48 at hwp
  refine lv_iload_n hx hb dX4_looking_48 rfl (lv_at hl 2 rfl) ?_
  refine lv_iconst (v := 2) hx hb dX4_looking_49 (by decide) ?_
  refine lv_icmp_eq (tgt := 59) hx hb dX4_looking_50 (by decide) (fun c1 => ?_) (fun c1 => ?_)
  · replace hwp := hwp.1 c1
    exact mk_looking_59 X _ _ _ σ hwp H locs ls hP hS (lv_sub hl [0, 1, 2, 3] rfl)
  · replace hwp := hwp.2 c1
    refine lv_iload_n hx hb dX4_looking_53 rfl (lv_at hl 2 rfl) ?_
    refine lv_bipush (v := 6) hx hb dX4_looking_54 (by decide) ?_
    refine lv_icmp_ne (tgt := 65) hx hb dX4_looking_56 (by decide) (fun c2 => ?_) (fun c2 => ?_)
    · replace hwp := hwp.1 c2
      exact mk_looking_65 X _ _ _ σ hwp H locs ls hP hS (lv_sub hl [0, 1, 2, 3] rfl)
    · replace hwp := hwp.2 c2
      exact mk_looking_59 X _ _ _ σ hwp H locs ls hP hS (lv_sub hl [0, 1, 2, 3] rfl)
def mw_looking_26 (K : Int32 → MSt → Prop) (x1 : Int32) (x2 : Int32) (x3 : Int32) (x4 : Int32) (σ : MSt) : Prop :=
  ((¬ (x3 = 6)) → (mw_looking_48 K x1 x3 x4 σ)) ∧ ((x3 = 6) → (mw_body (fun σ2 => vp_in x1 (lenM 11) ∧ (mw_looking_48 K x1 x3 (x2 - (σ2.2.1 11 x1.toNatClampNeg)) σ2)) 71 σ))
set_option maxHeartbeats 4000000 in
set_option maxRecDepth 100000 in
theorem mk_looking_26 {p : Program} {l : Launch} {e : Env} {s : State} {m : MethodId} {args : Array Value} {below : List Frame} {meth : Method} {c : Code} {Γ : GA} {α : Nat → Nat} {K : Int32 → MSt → Prop} (X : CM p s m args meth c cX4_looking 6 (some .int) Γ α) : ∀ (x1 : Int32) (x2 : Int32) (x3 : Int32) (x4 : Int32) (σ : MSt), mw_looking_26 K x1 x2 x3 x4 σ → TM p l e ({ frames := 2, cells := 0, slots := 0, locals := 46 } : Room) s m args below meth c 6 (QI below K Γ α s args) Γ α σ 26 [(0, .ref (α 50)), (1, .int x1), (2, .int x2), (3, .int x3), (4, .int x4)] [] := by
  obtain ⟨hx, hb, hml, hown, hts, hK, hD, hr, hlk⟩ := id X
  have hA : ∀ q, s.heap.size ≤ q → AM α s.heap.size q := fun q h => Or.inr h
  intro x1 x2 x3 x4 σ hwp H locs ls hP hS hl
  unfold mw_looking_26 at hwp
  refine lv_iload_n hx hb dX4_looking_26 rfl (lv_at hl 3 rfl) ?_
  refine lv_bipush (v := 6) hx hb dX4_looking_27 (by decide) ?_
  refine lv_icmp_ne (tgt := 48) hx hb dX4_looking_29 (by decide) (fun c1 => ?_) (fun c1 => ?_)
  · replace hwp := hwp.1 c1
    exact mk_looking_48 X _ _ _ σ hwp H locs ls hP hS (lv_sub hl [0, 1, 3, 4] rfl)
  · replace hwp := hwp.2 c1
    refine lv_aload_n hx hb dX4_looking_32 rfl (lv_at hl 0 rfl) ?_
    refine lv_bipush (v := 71) hx hb dX4_looking_33 (by decide) ?_
    refine m_callv ⟨hx, hb, hml, hown, hts⟩ hK hD hA hP hS (mt_body hwp) (cwV 1 hts (lw_V q1802 q1804 qs71 q79 q1805) rfl rfl rfl (by decide +kernel) ⟨Nat.le_of_ble_eq_true rfl, Nat.le_of_ble_eq_true rfl⟩) rfl hl.1 rfl (Nat.le_of_ble_eq_true rfl) dX4_looking_35 ⟨Nat.zero_le _, Nat.zero_le _⟩ (fun σ2 H locs hk hP hS => ?_)
    have hwp := hk
    refine lv_iload_n hx hb dX4_looking_38 rfl (lv_at hl 2 rfl) ?_
    refine lv_aload_n hx hb dX4_looking_39 rfl (lv_at hl 0 rfl) ?_
    refine m_geta hx hb hts hown hK hP 11 (by decide) rfl q1357 rfl dX4_looking_40 ?_
    refine lv_iload_n hx hb dX4_looking_43 rfl (lv_at hl 1 rfl) ?_
    obtain ⟨hi3, hwp⟩ := hwp
    refine m_iald hx hb hK hP 11 rfl hi3 dX4_looking_44 ?_
    refine lv_isub hx hb dX4_looking_45 ?_
    refine lv_istore (lv' := [(4, .int (x2 - (σ2.2.1 11 x1.toNatClampNeg))), (0, .ref (α 50)), (1, .int x1), (2, .int x2), (3, .int x3)]) hx hb dX4_looking_46 hl (by decide) rfl (fun ls hl => ?_)
    exact mk_looking_48 X _ _ _ σ2 hwp H locs ls hP hS (lv_sub hl [1, 2, 4, 0] rfl)
def mw_looking (K : Int32 → MSt → Prop) (x1 : Int32) (x2 : Int32) (σ : MSt) : Prop :=
  vp_in x1 (lenM 7) ∧ (((¬ ((σ.2.1 7 x1.toNatClampNeg) = 3)) → (mw_looking_26 K x1 x2 (σ.2.1 7 x1.toNatClampNeg) x2 σ)) ∧ (((σ.2.1 7 x1.toNatClampNeg) = 3) → (mw_body (fun σ3 => mw_looking_26 K x1 x2 (σ.2.1 7 x1.toNatClampNeg) (x2 + 1) σ3) 40 σ)))
set_option maxHeartbeats 4000000 in
set_option maxRecDepth 100000 in
theorem mt_looking {l : Launch} {Γ : GA} {α : Nat → Nat} {σ : MSt} {K : Int32 → MSt → Prop} {x1 : Int32} {x2 : Int32} (hwp : mw_looking K x1 x2 σ) : mI l yX4_looking cX4_looking 6 (some .int) ({ frames := 2, cells := 0, slots := 0, locals := 46 } : Room) Γ α [.int x1, .int x2] σ K := by
  intro sz
  refine m_of (by decide) rfl [(0, .ref (α 50)), (1, .int x1), (2, .int x2)] (fun _ h => h) (Nat.le_of_ble_eq_true rfl) ?_
  intro p e s m args below meth c hsz X H locs ls hP hS hl
  subst hsz
  obtain ⟨hx, hb, hml, hown, hts, hK, hD, hr, hlk⟩ := id X
  have hA : ∀ q, s.heap.size ≤ q → AM α s.heap.size q := fun q h => Or.inr h
  unfold mw_looking at hwp
  refine lv_aload_n hx hb dX4_looking_0 rfl (lv_at hl 0 rfl) ?_
  refine m_geta hx hb hts hown hK hP 7 (by decide) rfl q1353 rfl dX4_looking_1 ?_
  refine lv_iload_n hx hb dX4_looking_4 rfl (lv_at hl 1 rfl) ?_
  obtain ⟨hi1, hwp⟩ := hwp
  refine m_iald hx hb hK hP 7 rfl hi1 dX4_looking_5 ?_
  refine lv_istore_n (lv' := [(3, .int (σ.2.1 7 x1.toNatClampNeg)), (0, .ref (α 50)), (1, .int x1), (2, .int x2)]) hx hb dX4_looking_6 rfl hl (by decide) rfl (fun ls hl => ?_)
  refine lv_iload_n hx hb dX4_looking_7 rfl (lv_at hl 3 rfl) ?_
  refine lv_istore (lv' := [(4, .int x2), (3, .int (σ.2.1 7 x1.toNatClampNeg)), (0, .ref (α 50)), (1, .int x1), (2, .int x2)]) hx hb dX4_looking_8 hl (by decide) rfl (fun ls hl => ?_)
  refine lv_iload_n hx hb dX4_looking_10 rfl (lv_at hl 1 rfl) ?_
  refine lv_iconst (v := 3) hx hb dX4_looking_11 (by decide) ?_
  refine lv_icmp_ne (tgt := 26) hx hb dX4_looking_12 (by decide) (fun c2 => ?_) (fun c2 => ?_)
  · replace hwp := hwp.1 c2
    exact mk_looking_26 X _ _ _ _ σ hwp H locs ls hP hS (lv_sub hl [2, 3, 4, 1, 0] rfl)
  · replace hwp := hwp.2 c2
    refine lv_aload_n hx hb dX4_looking_15 rfl (lv_at hl 2 rfl) ?_
    refine lv_bipush (v := 40) hx hb dX4_looking_16 (by decide) ?_
    refine m_callv ⟨hx, hb, hml, hown, hts⟩ hK hD hA hP hS (mt_body hwp) (cwV 1 hts (lw_V q1802 q1804 qs71 q79 q1805) rfl rfl rfl (by decide +kernel) ⟨Nat.le_of_ble_eq_true rfl, Nat.le_of_ble_eq_true rfl⟩) rfl hl.1 rfl (Nat.le_of_ble_eq_true rfl) dX4_looking_18 ⟨Nat.zero_le _, Nat.zero_le _⟩ (fun σ3 H locs hk hP hS => ?_)
    have hwp := hk
    refine lv_iload_n hx hb dX4_looking_21 rfl (lv_at hl 4 rfl) ?_
    refine lv_iconst (v := 1) hx hb dX4_looking_22 (by decide) ?_
    refine lv_iadd hx hb dX4_looking_23 ?_
    refine lv_istore (lv' := [(4, .int (x2 + 1)), (3, .int (σ.2.1 7 x1.toNatClampNeg)), (0, .ref (α 50)), (1, .int x1), (2, .int x2)]) hx hb dX4_looking_24 hl (by decide) rfl (fun ls hl => ?_)
    exact mk_looking_26 X _ _ _ _ σ3 hwp H locs ls hP hS (lv_sub hl [2, 3, 4, 1, 0] rfl)
/-! hiding -/
def mw_hiding_29 (K : Int32 → MSt → Prop) (x1 : Int32) (x2 : Int32) (x3 : Int32) (σ : MSt) : Prop :=
  mw_body (fun σ1 => mw_looking (fun r2 σ3 => vp_in x1 (lenM 11) ∧ (mw_standing (fun r5 σ6 => ((¬ (x3 = 4)) → (((¬ (x3 = 5)) → (K (r2 ^^^ r5) σ6)) ∧ ((x3 = 5) → (K ((r2 ^^^ r5) ^^^ 5) σ6)))) ∧ ((x3 = 4) → (K (-(r2 ^^^ r5)) σ6))) x1 (x2 - (σ3.2.1 11 x1.toNatClampNeg)) σ3)) x1 x2 σ1) 12 σ
set_option maxHeartbeats 4000000 in
set_option maxRecDepth 100000 in
theorem mk_hiding_29 {p : Program} {l : Launch} {e : Env} {s : State} {m : MethodId} {args : Array Value} {below : List Frame} {meth : Method} {c : Code} {Γ : GA} {α : Nat → Nat} {K : Int32 → MSt → Prop} (X : CM p s m args meth c cX4_hiding 5 (some .int) Γ α) : ∀ (x1 : Int32) (x2 : Int32) (x3 : Int32) (σ : MSt), mw_hiding_29 K x1 x2 x3 σ → TM p l e ({ frames := 3, cells := 0, slots := 0, locals := 71 } : Room) s m args below meth c 5 (QI below K Γ α s args) Γ α σ 29 [(0, .ref (α 50)), (1, .int x1), (2, .int x2), (3, .int x3)] [] := by
  obtain ⟨hx, hb, hml, hown, hts, hK, hD, hr, hlk⟩ := id X
  have hA : ∀ q, s.heap.size ≤ q → AM α s.heap.size q := fun q h => Or.inr h
  intro x1 x2 x3 σ hwp H locs ls hP hS hl
  unfold mw_hiding_29 at hwp
  refine lv_aload_n hx hb dX4_hiding_29 rfl (lv_at hl 0 rfl) ?_
  refine lv_bipush (v := 12) hx hb dX4_hiding_30 (by decide) ?_
  refine m_callv ⟨hx, hb, hml, hown, hts⟩ hK hD hA hP hS (mt_body hwp) (cwV 1 hts (lw_V q1802 q1804 qs71 q79 q1805) rfl rfl rfl (by decide +kernel) ⟨Nat.le_of_ble_eq_true rfl, Nat.le_of_ble_eq_true rfl⟩) rfl hl.1 rfl (Nat.le_of_ble_eq_true rfl) dX4_hiding_32 ⟨Nat.zero_le _, Nat.zero_le _⟩ (fun σ1 H locs hk hP hS => ?_)
  have hwp := hk
  refine lv_aload_n hx hb dX4_hiding_35 rfl (lv_at hl 0 rfl) ?_
  refine lv_iload_n hx hb dX4_hiding_36 rfl (lv_at hl 1 rfl) ?_
  refine lv_iload_n hx hb dX4_hiding_37 rfl (lv_at hl 2 rfl) ?_
  refine m_calli ⟨hx, hb, hml, hown, hts⟩ hK hD hA hP hS (mt_looking hwp) (cwV 2 hts (lw_V q1806 q1808 qs72 q79 q1809) rfl rfl rfl (by decide +kernel) ⟨Nat.le_of_ble_eq_true rfl, Nat.le_of_ble_eq_true rfl⟩) rfl hl.1 rfl (Nat.le_of_ble_eq_true rfl) dX4_hiding_38 ⟨Nat.zero_le _, Nat.zero_le _⟩ (fun r2 σ3 H locs hk hP hS => ?_)
  have hwp := hk
  refine lv_istore (lv' := [(4, .int r2), (0, .ref (α 50)), (1, .int x1), (2, .int x2), (3, .int x3)]) hx hb dX4_hiding_41 hl (by decide) rfl (fun ls hl => ?_)
  refine lv_iload hx hb dX4_hiding_43 (lv_at hl 0 rfl) ?_
  refine lv_aload_n hx hb dX4_hiding_45 rfl (lv_at hl 1 rfl) ?_
  refine lv_iload_n hx hb dX4_hiding_46 rfl (lv_at hl 2 rfl) ?_
  refine lv_iload_n hx hb dX4_hiding_47 rfl (lv_at hl 3 rfl) ?_
  refine lv_aload_n hx hb dX4_hiding_48 rfl (lv_at hl 1 rfl) ?_
  refine m_geta hx hb hts hown hK hP 11 (by decide) rfl q1357 rfl dX4_hiding_49 ?_
  refine lv_iload_n hx hb dX4_hiding_52 rfl (lv_at hl 2 rfl) ?_
  obtain ⟨hi4, hwp⟩ := hwp
  refine m_iald hx hb hK hP 11 rfl hi4 dX4_hiding_53 ?_
  refine lv_isub hx hb dX4_hiding_54 ?_
  refine m_calli ⟨hx, hb, hml, hown, hts⟩ hK hD hA hP hS (mt_standing hwp) (cwV 2 hts (lw_V q1798 q1800 qs70 q79 q1801) rfl rfl rfl (by decide +kernel) ⟨Nat.le_of_ble_eq_true rfl, Nat.le_of_ble_eq_true rfl⟩) rfl hl.1 rfl (Nat.le_of_ble_eq_true rfl) dX4_hiding_55 ⟨Nat.zero_le _, Nat.zero_le _⟩ (fun r5 σ6 H locs hk hP hS => ?_)
  have hwp := hk
  refine lv_ixor hx hb dX4_hiding_58 ?_
  refine lv_istore (lv' := [(4, .int (r2 ^^^ r5)), (0, .ref (α 50)), (1, .int x1), (2, .int x2), (3, .int x3)]) hx hb dX4_hiding_59 hl (by decide) rfl (fun ls hl => ?_)
  refine lv_iload_n hx hb dX4_hiding_61 rfl (lv_at hl 4 rfl) ?_
  refine lv_iconst (v := 4) hx hb dX4_hiding_62 (by decide) ?_
  refine lv_icmp_ne (tgt := 72) hx hb dX4_hiding_63 (by decide) (fun c7 => ?_) (fun c7 => ?_)
  · replace hwp := hwp.1 c7
    refine lv_iload_n hx hb dX4_hiding_72 rfl (lv_at hl 4 rfl) ?_
    refine lv_iconst (v := 5) hx hb dX4_hiding_73 (by decide) ?_
    refine lv_icmp_ne (tgt := 84) hx hb dX4_hiding_74 (by decide) (fun c8 => ?_) (fun c8 => ?_)
    · replace hwp := hwp.1 c8
      refine lv_iload hx hb dX4_hiding_84 (lv_at hl 0 rfl) ?_
      exact m_iret hx hb hr hlk hK hP hS hwp dX4_hiding_86
    · replace hwp := hwp.2 c8
      refine lv_iload hx hb dX4_hiding_77 (lv_at hl 0 rfl) ?_
      refine lv_iconst (v := 5) hx hb dX4_hiding_79 (by decide) ?_
      refine lv_ixor hx hb dX4_hiding_80 ?_
      refine lv_goto (tgt := 86) hx hb dX4_hiding_81 (by decide) ?_
      exact m_iret hx hb hr hlk hK hP hS hwp dX4_hiding_86
  · replace hwp := hwp.2 c7
    refine lv_iload hx hb dX4_hiding_66 (lv_at hl 0 rfl) ?_
    refine lv_ineg hx hb dX4_hiding_68 ?_
    refine lv_goto (tgt := 86) hx hb dX4_hiding_69 (by decide) ?_
    exact m_iret hx hb hr hlk hK hP hS hwp dX4_hiding_86
def mw_hiding_18 (K : Int32 → MSt → Prop) (x1 : Int32) (x2 : Int32) (x3 : Int32) (σ : MSt) : Prop :=
  ((¬ (x3 = 5)) → (mw_hiding_29 K x1 x2 x3 σ)) ∧ ((x3 = 5) → (mw_body (fun σ2 => mw_hiding_29 K x1 x2 x3 σ2) 60 σ))
set_option maxHeartbeats 4000000 in
set_option maxRecDepth 100000 in
theorem mk_hiding_18 {p : Program} {l : Launch} {e : Env} {s : State} {m : MethodId} {args : Array Value} {below : List Frame} {meth : Method} {c : Code} {Γ : GA} {α : Nat → Nat} {K : Int32 → MSt → Prop} (X : CM p s m args meth c cX4_hiding 5 (some .int) Γ α) : ∀ (x1 : Int32) (x2 : Int32) (x3 : Int32) (σ : MSt), mw_hiding_18 K x1 x2 x3 σ → TM p l e ({ frames := 3, cells := 0, slots := 0, locals := 71 } : Room) s m args below meth c 5 (QI below K Γ α s args) Γ α σ 18 [(0, .ref (α 50)), (1, .int x1), (2, .int x2), (3, .int x3)] [] := by
  obtain ⟨hx, hb, hml, hown, hts, hK, hD, hr, hlk⟩ := id X
  have hA : ∀ q, s.heap.size ≤ q → AM α s.heap.size q := fun q h => Or.inr h
  intro x1 x2 x3 σ hwp H locs ls hP hS hl
  unfold mw_hiding_18 at hwp
  refine lv_iload_n hx hb dX4_hiding_18 rfl (lv_at hl 3 rfl) ?_
  refine lv_iconst (v := 5) hx hb dX4_hiding_19 (by decide) ?_
  refine lv_icmp_ne (tgt := 29) hx hb dX4_hiding_20 (by decide) (fun c1 => ?_) (fun c1 => ?_)
  · replace hwp := hwp.1 c1
    exact mk_hiding_29 X _ _ _ σ hwp H locs ls hP hS (lv_sub hl [0, 1, 2, 3] rfl)
  · replace hwp := hwp.2 c1
    refine lv_aload_n hx hb dX4_hiding_23 rfl (lv_at hl 0 rfl) ?_
    refine lv_bipush (v := 60) hx hb dX4_hiding_24 (by decide) ?_
    refine m_callv ⟨hx, hb, hml, hown, hts⟩ hK hD hA hP hS (mt_body hwp) (cwV 1 hts (lw_V q1802 q1804 qs71 q79 q1805) rfl rfl rfl (by decide +kernel) ⟨Nat.le_of_ble_eq_true rfl, Nat.le_of_ble_eq_true rfl⟩) rfl hl.1 rfl (Nat.le_of_ble_eq_true rfl) dX4_hiding_26 ⟨Nat.zero_le _, Nat.zero_le _⟩ (fun σ2 H locs hk hP hS => ?_)
    have hwp := hk
    exact mk_hiding_29 X _ _ _ σ2 hwp H locs ls hP hS (lv_sub hl [0, 1, 2, 3] rfl)
def mw_hiding (K : Int32 → MSt → Prop) (x1 : Int32) (x2 : Int32) (σ : MSt) : Prop :=
  vp_in x1 (lenM 7) ∧ (((¬ ((σ.2.1 7 x1.toNatClampNeg) = 4)) → (mw_hiding_18 K x1 x2 (σ.2.1 7 x1.toNatClampNeg) σ)) ∧ (((σ.2.1 7 x1.toNatClampNeg) = 4) → (mw_body (fun σ3 => mw_hiding_18 K x1 x2 (σ.2.1 7 x1.toNatClampNeg) σ3) 50 σ)))
set_option maxHeartbeats 4000000 in
set_option maxRecDepth 100000 in
theorem mt_hiding {l : Launch} {Γ : GA} {α : Nat → Nat} {σ : MSt} {K : Int32 → MSt → Prop} {x1 : Int32} {x2 : Int32} (hwp : mw_hiding K x1 x2 σ) : mI l yX4_hiding cX4_hiding 5 (some .int) ({ frames := 3, cells := 0, slots := 0, locals := 71 } : Room) Γ α [.int x1, .int x2] σ K := by
  intro sz
  refine m_of (by decide) rfl [(0, .ref (α 50)), (1, .int x1), (2, .int x2)] (fun _ h => h) (Nat.le_of_ble_eq_true rfl) ?_
  intro p e s m args below meth c hsz X H locs ls hP hS hl
  subst hsz
  obtain ⟨hx, hb, hml, hown, hts, hK, hD, hr, hlk⟩ := id X
  have hA : ∀ q, s.heap.size ≤ q → AM α s.heap.size q := fun q h => Or.inr h
  unfold mw_hiding at hwp
  refine lv_aload_n hx hb dX4_hiding_0 rfl (lv_at hl 0 rfl) ?_
  refine m_geta hx hb hts hown hK hP 7 (by decide) rfl q1353 rfl dX4_hiding_1 ?_
  refine lv_iload_n hx hb dX4_hiding_4 rfl (lv_at hl 1 rfl) ?_
  obtain ⟨hi1, hwp⟩ := hwp
  refine m_iald hx hb hK hP 7 rfl hi1 dX4_hiding_5 ?_
  refine lv_istore_n (lv' := [(3, .int (σ.2.1 7 x1.toNatClampNeg)), (0, .ref (α 50)), (1, .int x1), (2, .int x2)]) hx hb dX4_hiding_6 rfl hl (by decide) rfl (fun ls hl => ?_)
  refine lv_iload_n hx hb dX4_hiding_7 rfl (lv_at hl 0 rfl) ?_
  refine lv_iconst (v := 4) hx hb dX4_hiding_8 (by decide) ?_
  refine lv_icmp_ne (tgt := 18) hx hb dX4_hiding_9 (by decide) (fun c2 => ?_) (fun c2 => ?_)
  · replace hwp := hwp.1 c2
    exact mk_hiding_18 X _ _ _ σ hwp H locs ls hP hS (lv_sub hl [1, 2, 3, 0] rfl)
  · replace hwp := hwp.2 c2
    refine lv_aload_n hx hb dX4_hiding_12 rfl (lv_at hl 1 rfl) ?_
    refine lv_bipush (v := 50) hx hb dX4_hiding_13 (by decide) ?_
    refine m_callv ⟨hx, hb, hml, hown, hts⟩ hK hD hA hP hS (mt_body hwp) (cwV 1 hts (lw_V q1802 q1804 qs71 q79 q1805) rfl rfl rfl (by decide +kernel) ⟨Nat.le_of_ble_eq_true rfl, Nat.le_of_ble_eq_true rfl⟩) rfl hl.1 rfl (Nat.le_of_ble_eq_true rfl) dX4_hiding_15 ⟨Nat.zero_le _, Nat.zero_le _⟩ (fun σ3 H locs hk hP hS => ?_)
    have hwp := hk
    exact mk_hiding_18 X _ _ _ σ3 hwp H locs ls hP hS (lv_sub hl [1, 2, 3, 0] rfl)
/-! isThing -/
def mw_isThing (σ : MSt) (K : Int32 → Prop) (x1 : Int32) : Prop :=
  ((x1 < 0) → (K 0)) ∧ ((¬ (x1 < 0)) → ((((σ.1 0) ≤ x1) → (K 0)) ∧ ((¬ ((σ.1 0) ≤ x1)) → (K 1))))
set_option maxHeartbeats 4000000 in
set_option maxRecDepth 100000 in
theorem mt_isThing {l : Launch} {Γ : GA} {α : Nat → Nat} {σ : MSt} {K : Int32 → Prop} {x1 : Int32} (hwp : mw_isThing σ K x1) : mI l yX4_isThing cX4_isThing 2 (some .boolean) ({ frames := 0, cells := 0, slots := 0, locals := 0 } : Room) Γ α [.int x1] σ (fun r u => K r ∧ u = σ) := by
  intro sz
  refine m_of (by decide) rfl [(0, .ref (α 50)), (1, .int x1)] (fun _ h => h) (Nat.le_of_ble_eq_true rfl) ?_
  intro p e s m args below meth c hsz X H locs ls hP hS hl
  subst hsz
  obtain ⟨hx, hb, hml, hown, hts, hK, hD, hr, hlk⟩ := id X
  have hA : ∀ q, s.heap.size ≤ q → AM α s.heap.size q := fun q h => Or.inr h
  unfold mw_isThing at hwp
  refine lv_iload_n hx hb dX4_isThing_0 rfl (lv_at hl 1 rfl) ?_
  refine lv_if_lt (tgt := 16) hx hb dX4_isThing_1 (by decide) (fun c1 => ?_) (fun c1 => ?_)
  · replace hwp := hwp.1 c1
    refine lv_iconst (v := 0) hx hb dX4_isThing_16 (by decide) ?_
    exact m_zret (v := 0) hx hb hr hlk hK hP hS (Or.inl rfl) ⟨hwp, rfl⟩ dX4_isThing_17
  · replace hwp := hwp.2 c1
    refine lv_iload_n hx hb dX4_isThing_4 rfl (lv_at hl 1 rfl) ?_
    refine lv_aload_n hx hb dX4_isThing_5 rfl (lv_at hl 0 rfl) ?_
    refine m_geti hx hb hts hown hK hP 0 (by decide) rfl q1346 rfl dX4_isThing_6 ?_
    refine lv_icmp_ge (tgt := 16) hx hb dX4_isThing_9 (by decide) (fun c2 => ?_) (fun c2 => ?_)
    · replace hwp := hwp.1 c2
      refine lv_iconst (v := 0) hx hb dX4_isThing_16 (by decide) ?_
      exact m_zret (v := 0) hx hb hr hlk hK hP hS (Or.inl rfl) ⟨hwp, rfl⟩ dX4_isThing_17
    · replace hwp := hwp.2 c2
      refine lv_iconst (v := 1) hx hb dX4_isThing_12 (by decide) ?_
      refine lv_goto (tgt := 17) hx hb dX4_isThing_13 (by decide) ?_
      exact m_zret (v := 1) hx hb hr hlk hK hP hS (Or.inr rfl) ⟨hwp, rfl⟩ dX4_isThing_17
/-! act -/
def mw_act (K : Int32 → MSt → Prop) (x1 : Int32) (x2 : Int32) (x3 : Int32) (σ : MSt) : Prop :=
  ∀ σ1, σ1 = sF σ 36 0 → (mw_isThing σ1 (fun r2 => ((r2 = 0) → (K 0 σ1)) ∧ ((¬ (r2 = 0)) → (((x2 < 0) → (K 0 σ1)) ∧ ((¬ (x2 < 0)) → (((x2 ≤ 2) → (((¬ (x2 = 0)) → (((¬ (x2 = 1)) → (mw_hiding (fun r8 σ9 => K r8 σ9) x1 x3 σ1)) ∧ ((x2 = 1) → (mw_looking (fun r10 σ11 => K r10 σ11) x1 x3 σ1)))) ∧ ((x2 = 0) → (mw_standing (fun r12 σ13 => K r12 σ13) x1 x3 σ1)))) ∧ ((¬ (x2 ≤ 2)) → (K 0 σ1))))))) x1)
set_option maxHeartbeats 4000000 in
set_option maxRecDepth 100000 in
theorem mt_act {l : Launch} {Γ : GA} {α : Nat → Nat} {σ : MSt} {K : Int32 → MSt → Prop} {x1 : Int32} {x2 : Int32} {x3 : Int32} (hwp : mw_act K x1 x2 x3 σ) : mI l yX4_act cX4_act 4 (some .int) ({ frames := 4, cells := 0, slots := 0, locals := 95 } : Room) Γ α [.int x1, .int x2, .int x3] σ K := by
  intro sz
  refine m_of (by decide) rfl [(0, .ref (α 50)), (1, .int x1), (2, .int x2), (3, .int x3)] (fun _ h => h) (Nat.le_of_ble_eq_true rfl) ?_
  intro p e s m args below meth c hsz X H locs ls hP hS hl
  subst hsz
  obtain ⟨hx, hb, hml, hown, hts, hK, hD, hr, hlk⟩ := id X
  have hA : ∀ q, s.heap.size ≤ q → AM α s.heap.size q := fun q h => Or.inr h
  unfold mw_act at hwp
  refine lv_aload_n hx hb dX4_act_0 rfl (lv_at hl 0 rfl) ?_
  refine lv_iconst (v := 0) hx hb dX4_act_1 (by decide) ?_
  refine m_put hx hb hts hown hK hD hP hS 36 (by decide) rfl q1382 rfl rfl rfl rfl dX4_act_2 (fun H locs hP hS => ?_)
  obtain ⟨σ1, eσ1⟩ : ∃ z, z = sF σ 36 0 := ⟨_, rfl⟩
  rw [← eσ1] at hP
  replace hwp := hwp σ1 eσ1
  refine lv_aload_n hx hb dX4_act_5 rfl (lv_at hl 0 rfl) ?_
  refine lv_iload_n hx hb dX4_act_6 rfl (lv_at hl 1 rfl) ?_
  refine m_calli ⟨hx, hb, hml, hown, hts⟩ hK hD hA hP hS (mt_isThing hwp) (cwV 1 hts (lw_V q1489 q1491 qs26 q79 q1492) rfl rfl rfl (by decide +kernel) ⟨Nat.le_of_ble_eq_true rfl, Nat.le_of_ble_eq_true rfl⟩) rfl hl.1 rfl (Nat.le_of_ble_eq_true rfl) dX4_act_7 ⟨Nat.zero_le _, Nat.zero_le _⟩ (fun r2 u H locs hk hP hS => ?_)
  obtain ⟨hwp, eu⟩ := hk
  rw [eu] at hP
  refine lv_if_eq (tgt := 22) hx hb dX4_act_10 (by decide) (fun c3 => ?_) (fun c3 => ?_)
  · replace hwp := hwp.1 c3
    refine lv_iconst (v := 0) hx hb dX4_act_22 (by decide) ?_
    exact m_iret hx hb hr hlk hK hP hS hwp dX4_act_23
  · replace hwp := hwp.2 c3
    refine lv_iload_n hx hb dX4_act_13 rfl (lv_at hl 2 rfl) ?_
    refine lv_if_lt (tgt := 22) hx hb dX4_act_14 (by decide) (fun c4 => ?_) (fun c4 => ?_)
    · replace hwp := hwp.1 c4
      refine lv_iconst (v := 0) hx hb dX4_act_22 (by decide) ?_
      exact m_iret hx hb hr hlk hK hP hS hwp dX4_act_23
    · replace hwp := hwp.2 c4
      refine lv_iload_n hx hb dX4_act_17 rfl (lv_at hl 2 rfl) ?_
      refine lv_iconst (v := 2) hx hb dX4_act_18 (by decide) ?_
      refine lv_icmp_le (tgt := 24) hx hb dX4_act_19 (by decide) (fun c5 => ?_) (fun c5 => ?_)
      · replace hwp := hwp.1 c5
        refine lv_iload_n hx hb dX4_act_24 rfl (lv_at hl 2 rfl) ?_
        refine lv_if_ne (tgt := 37) hx hb dX4_act_25 (by decide) (fun c6 => ?_) (fun c6 => ?_)
        · replace hwp := hwp.1 c6
          refine lv_iload_n hx hb dX4_act_37 rfl (lv_at hl 2 rfl) ?_
          refine lv_iconst (v := 1) hx hb dX4_act_38 (by decide) ?_
          refine lv_icmp_ne (tgt := 51) hx hb dX4_act_39 (by decide) (fun c7 => ?_) (fun c7 => ?_)
          · replace hwp := hwp.1 c7
            refine lv_aload_n hx hb dX4_act_51 rfl (lv_at hl 0 rfl) ?_
            refine lv_iload_n hx hb dX4_act_52 rfl (lv_at hl 1 rfl) ?_
            refine lv_iload_n hx hb dX4_act_53 rfl (lv_at hl 3 rfl) ?_
            refine m_calli ⟨hx, hb, hml, hown, hts⟩ hK hD hA hP hS (mt_hiding hwp) (cwV 2 hts (lw_V q1810 q1812 qs73 q79 q1813) rfl rfl rfl (by decide +kernel) ⟨Nat.le_of_ble_eq_true rfl, Nat.le_of_ble_eq_true rfl⟩) rfl hl.1 rfl (Nat.le_of_ble_eq_true rfl) dX4_act_54 ⟨Nat.zero_le _, Nat.zero_le _⟩ (fun r8 σ9 H locs hk hP hS => ?_)
            have hwp := hk
            exact m_iret hx hb hr hlk hK hP hS hwp dX4_act_57
          · replace hwp := hwp.2 c7
            refine lv_aload_n hx hb dX4_act_42 rfl (lv_at hl 0 rfl) ?_
            refine lv_iload_n hx hb dX4_act_43 rfl (lv_at hl 1 rfl) ?_
            refine lv_iload_n hx hb dX4_act_44 rfl (lv_at hl 3 rfl) ?_
            refine m_calli ⟨hx, hb, hml, hown, hts⟩ hK hD hA hP hS (mt_looking hwp) (cwV 2 hts (lw_V q1806 q1808 qs72 q79 q1809) rfl rfl rfl (by decide +kernel) ⟨Nat.le_of_ble_eq_true rfl, Nat.le_of_ble_eq_true rfl⟩) rfl hl.1 rfl (Nat.le_of_ble_eq_true rfl) dX4_act_45 ⟨Nat.zero_le _, Nat.zero_le _⟩ (fun r10 σ11 H locs hk hP hS => ?_)
            have hwp := hk
            refine lv_goto (tgt := 57) hx hb dX4_act_48 (by decide) ?_
            exact m_iret hx hb hr hlk hK hP hS hwp dX4_act_57
        · replace hwp := hwp.2 c6
          refine lv_aload_n hx hb dX4_act_28 rfl (lv_at hl 0 rfl) ?_
          refine lv_iload_n hx hb dX4_act_29 rfl (lv_at hl 1 rfl) ?_
          refine lv_iload_n hx hb dX4_act_30 rfl (lv_at hl 3 rfl) ?_
          refine m_calli ⟨hx, hb, hml, hown, hts⟩ hK hD hA hP hS (mt_standing hwp) (cwV 2 hts (lw_V q1798 q1800 qs70 q79 q1801) rfl rfl rfl (by decide +kernel) ⟨Nat.le_of_ble_eq_true rfl, Nat.le_of_ble_eq_true rfl⟩) rfl hl.1 rfl (Nat.le_of_ble_eq_true rfl) dX4_act_31 ⟨Nat.zero_le _, Nat.zero_le _⟩ (fun r12 σ13 H locs hk hP hS => ?_)
          have hwp := hk
          refine lv_goto (tgt := 57) hx hb dX4_act_34 (by decide) ?_
          exact m_iret hx hb hr hlk hK hP hS hwp dX4_act_57
      · replace hwp := hwp.2 c5
        refine lv_iconst (v := 0) hx hb dX4_act_22 (by decide) ?_
        exact m_iret hx hb hr hlk hK hP hS hwp dX4_act_23
/-! adds -/
def mw_adds_75_b (K : Int32 → MSt → Prop) (L75 : Int32 → MSt → Prop) (x6 : Int32) (σ : MSt) : Prop :=
  (((σ.1 0) ≤ x6) → (∀ σ2, σ2 = sF σ 0 ((σ.1 0) + 1) → (K (σ.1 0) σ2))) ∧ ((¬ ((σ.1 0) ≤ x6)) → (vp_in x6 (lenM 13) ∧ (vp_in x6 (lenM 13) ∧ (∀ σ5, σ5 = sI σ 13 x6.toNatClampNeg ((σ.2.1 13 x6.toNatClampNeg) &&& ((1 <<< ((σ.1 0) &&& 31)) ^^^ (-1))) → (L75 (x6 + 1) σ5)))))
def mw_adds_75 (K : Int32 → MSt → Prop) : Nat → Int32 → MSt → Prop
  | 0 => fun _ _ => False
  | n + 1 => fun x6 σ => mw_adds_75_b K (mw_adds_75 K n) x6 σ
set_option maxHeartbeats 4000000 in
set_option maxRecDepth 100000 in
theorem mk_adds_75_b {p : Program} {l : Launch} {e : Env} {s : State} {m : MethodId} {args : Array Value} {below : List Frame} {meth : Method} {c : Code} {Γ : GA} {α : Nat → Nat} {K : Int32 → MSt → Prop} (X : CM p s m args meth c cX4_adds 7 (some .int) Γ α) {L75 : Int32 → MSt → Prop} (hL75 : ∀ (x6 : Int32) (σ : MSt), L75 x6 σ → TM p l e ({ frames := 0, cells := 0, slots := 0, locals := 0 } : Room) s m args below meth c 7 (QI below K Γ α s args) Γ α σ 75 [(0, .ref (α 50)), (6, .int x6)] []) : ∀ (x6 : Int32) (σ : MSt), mw_adds_75_b K L75 x6 σ → TM p l e ({ frames := 0, cells := 0, slots := 0, locals := 0 } : Room) s m args below meth c 7 (QI below K Γ α s args) Γ α σ 75 [(0, .ref (α 50)), (6, .int x6)] [] := by
  obtain ⟨hx, hb, hml, hown, hts, hK, hD, hr, hlk⟩ := id X
  have hA : ∀ q, s.heap.size ≤ q → AM α s.heap.size q := fun q h => Or.inr h
  intro x6 σ hwp H locs ls hP hS hl
  unfold mw_adds_75_b at hwp
  refine lv_iload hx hb dX4_adds_75 (lv_at hl 1 rfl) ?_
  refine lv_aload_n hx hb dX4_adds_77 rfl (lv_at hl 0 rfl) ?_
  refine m_geti hx hb hts hown hK hP 0 (by decide) rfl q1346 rfl dX4_adds_78 ?_
  refine lv_icmp_ge (tgt := 108) hx hb dX4_adds_81 (by decide) (fun c1 => ?_) (fun c1 => ?_)
  · replace hwp := hwp.1 c1
    refine lv_aload_n hx hb dX4_adds_108 rfl (lv_at hl 0 rfl) ?_
    refine lv_dup hx hb dX4_adds_109 rfl ?_
    refine m_geti hx hb hts hown hK hP 0 (by decide) rfl q1346 rfl dX4_adds_110 ?_
    refine lv_dup_x1 hx hb dX4_adds_113 rfl rfl ?_
    refine lv_iconst (v := 1) hx hb dX4_adds_114 (by decide) ?_
    refine lv_iadd hx hb dX4_adds_115 ?_
    refine m_put hx hb hts hown hK hD hP hS 0 (by decide) rfl q1346 rfl rfl rfl rfl dX4_adds_116 (fun H locs hP hS => ?_)
    obtain ⟨σ2, eσ2⟩ : ∃ z, z = sF σ 0 ((σ.1 0) + 1) := ⟨_, rfl⟩
    rw [← eσ2] at hP
    replace hwp := hwp σ2 eσ2
    exact m_iret hx hb hr hlk hK hP hS hwp dX4_adds_119
  · replace hwp := hwp.2 c1
    refine lv_aload_n hx hb dX4_adds_84 rfl (lv_at hl 0 rfl) ?_
    refine m_geta hx hb hts hown hK hP 13 (by decide) rfl q1359 rfl dX4_adds_85 ?_
    refine lv_iload hx hb dX4_adds_88 (lv_at hl 1 rfl) ?_
    refine lv_dup2_11 hx hb dX4_adds_90 rfl rfl ?_
    obtain ⟨hi3, hwp⟩ := hwp
    refine m_iald hx hb hK hP 13 rfl hi3 dX4_adds_91 ?_
    refine lv_iconst (v := 1) hx hb dX4_adds_92 (by decide) ?_
    refine lv_aload_n hx hb dX4_adds_93 rfl (lv_at hl 0 rfl) ?_
    refine m_geti hx hb hts hown hK hP 0 (by decide) rfl q1346 rfl dX4_adds_94 ?_
    refine lv_ishl hx hb dX4_adds_97 ?_
    refine lv_iconst (v := (-1)) hx hb dX4_adds_98 (by decide) ?_
    refine lv_ixor hx hb dX4_adds_99 ?_
    refine lv_iand hx hb dX4_adds_100 ?_
    obtain ⟨hi4, hwp⟩ := hwp
    refine m_iast hx hb hK hD hP hS 13 rfl hi4 dX4_adds_101 (fun H locs hP hS => ?_)
    obtain ⟨σ5, eσ5⟩ : ∃ z, z = sI σ 13 x6.toNatClampNeg ((σ.2.1 13 x6.toNatClampNeg) &&& ((1 <<< ((σ.1 0) &&& 31)) ^^^ (-1))) := ⟨_, rfl⟩
    rw [← eσ5] at hP
    replace hwp := hwp σ5 eσ5
    refine lv_iinc (v := x6 + 1) (lv' := [(6, .int (x6 + 1)), (0, .ref (α 50))]) hx hb dX4_adds_102 hl (k := 1) rfl rfl (by decide) rfl (fun ls hl => ?_)
    refine lv_goto (tgt := 75) hx hb dX4_adds_105 (by decide) ?_
    exact hL75 _ σ5 hwp H locs ls hP hS (lv_sub hl [1, 0] rfl)
set_option maxHeartbeats 4000000 in
set_option maxRecDepth 100000 in
theorem mk_adds_75 {p : Program} {l : Launch} {e : Env} {s : State} {m : MethodId} {args : Array Value} {below : List Frame} {meth : Method} {c : Code} {Γ : GA} {α : Nat → Nat} {K : Int32 → MSt → Prop} (X : CM p s m args meth c cX4_adds 7 (some .int) Γ α) : ∀ n (x6 : Int32) (σ : MSt), mw_adds_75 K n x6 σ → TM p l e ({ frames := 0, cells := 0, slots := 0, locals := 0 } : Room) s m args below meth c 7 (QI below K Γ α s args) Γ α σ 75 [(0, .ref (α 50)), (6, .int x6)] [] := by
  intro n
  induction n with
  | zero => intro _ _ hwp; exact hwp.elim
  | succ n ih => intro x6 σ hwp; exact mk_adds_75_b X ih x6 σ hwp
def mw_adds (K : Int32 → MSt → Prop) (x1 : Int32) (x2 : Int32) (x3 : Int32) (x4 : Int32) (x5 : Int32) (σ : MSt) : Prop :=
  vp_in (σ.1 0) (lenM 7) ∧ (∀ σ2, σ2 = sI σ 7 (σ.1 0).toNatClampNeg x1 → (vp_in (σ2.1 0) (lenM 8) ∧ (∀ σ4, σ4 = sI σ2 8 (σ2.1 0).toNatClampNeg x2 → (vp_in (σ4.1 0) (lenM 9) ∧ (∀ σ6, σ6 = sI σ4 9 (σ4.1 0).toNatClampNeg x3 → (vp_in (σ6.1 0) (lenM 10) ∧ (∀ σ8, σ8 = sI σ6 10 (σ6.1 0).toNatClampNeg x4 → (vp_in (σ8.1 0) (lenM 11) ∧ (∀ σ10, σ10 = sI σ8 11 (σ8.1 0).toNatClampNeg x5 → (vp_in (σ10.1 0) (lenM 12) ∧ (∀ σ12, σ12 = sI σ10 12 (σ10.1 0).toNatClampNeg 0 → (vp_in (σ12.1 0) (lenM 13) ∧ (∀ σ14, σ14 = sI σ12 13 (σ12.1 0).toNatClampNeg 0 → (∃ n, mw_adds_75 K n 0 σ14))))))))))))))
set_option maxHeartbeats 4000000 in
set_option maxRecDepth 100000 in
theorem mt_adds {l : Launch} {Γ : GA} {α : Nat → Nat} {σ : MSt} {K : Int32 → MSt → Prop} {x1 : Int32} {x2 : Int32} {x3 : Int32} {x4 : Int32} {x5 : Int32} (hwp : mw_adds K x1 x2 x3 x4 x5 σ) : mI l yX4_adds cX4_adds 7 (some .int) ({ frames := 0, cells := 0, slots := 0, locals := 0 } : Room) Γ α [.int x1, .int x2, .int x3, .int x4, .int x5] σ K := by
  intro sz
  refine m_of (by decide) rfl [(0, .ref (α 50)), (1, .int x1), (2, .int x2), (3, .int x3), (4, .int x4), (5, .int x5)] (fun _ h => h) (Nat.le_of_ble_eq_true rfl) ?_
  intro p e s m args below meth c hsz X H locs ls hP hS hl
  subst hsz
  obtain ⟨hx, hb, hml, hown, hts, hK, hD, hr, hlk⟩ := id X
  have hA : ∀ q, s.heap.size ≤ q → AM α s.heap.size q := fun q h => Or.inr h
  unfold mw_adds at hwp
  refine lv_aload_n hx hb dX4_adds_0 rfl (lv_at hl 0 rfl) ?_
  refine m_geta hx hb hts hown hK hP 7 (by decide) rfl q1353 rfl dX4_adds_1 ?_
  refine lv_aload_n hx hb dX4_adds_4 rfl (lv_at hl 0 rfl) ?_
  refine m_geti hx hb hts hown hK hP 0 (by decide) rfl q1346 rfl dX4_adds_5 ?_
  refine lv_iload_n hx hb dX4_adds_8 rfl (lv_at hl 1 rfl) ?_
  obtain ⟨hi1, hwp⟩ := hwp
  refine m_iast hx hb hK hD hP hS 7 rfl hi1 dX4_adds_9 (fun H locs hP hS => ?_)
  obtain ⟨σ2, eσ2⟩ : ∃ z, z = sI σ 7 (σ.1 0).toNatClampNeg x1 := ⟨_, rfl⟩
  rw [← eσ2] at hP
  replace hwp := hwp σ2 eσ2
  refine lv_aload_n hx hb dX4_adds_10 rfl (lv_at hl 0 rfl) ?_
  refine m_geta hx hb hts hown hK hP 8 (by decide) rfl q1354 rfl dX4_adds_11 ?_
  refine lv_aload_n hx hb dX4_adds_14 rfl (lv_at hl 0 rfl) ?_
  refine m_geti hx hb hts hown hK hP 0 (by decide) rfl q1346 rfl dX4_adds_15 ?_
  refine lv_iload_n hx hb dX4_adds_18 rfl (lv_at hl 2 rfl) ?_
  obtain ⟨hi3, hwp⟩ := hwp
  refine m_iast hx hb hK hD hP hS 8 rfl hi3 dX4_adds_19 (fun H locs hP hS => ?_)
  obtain ⟨σ4, eσ4⟩ : ∃ z, z = sI σ2 8 (σ2.1 0).toNatClampNeg x2 := ⟨_, rfl⟩
  rw [← eσ4] at hP
  replace hwp := hwp σ4 eσ4
  refine lv_aload_n hx hb dX4_adds_20 rfl (lv_at hl 0 rfl) ?_
  refine m_geta hx hb hts hown hK hP 9 (by decide) rfl q1355 rfl dX4_adds_21 ?_
  refine lv_aload_n hx hb dX4_adds_24 rfl (lv_at hl 0 rfl) ?_
  refine m_geti hx hb hts hown hK hP 0 (by decide) rfl q1346 rfl dX4_adds_25 ?_
  refine lv_iload_n hx hb dX4_adds_28 rfl (lv_at hl 3 rfl) ?_
  obtain ⟨hi5, hwp⟩ := hwp
  refine m_iast hx hb hK hD hP hS 9 rfl hi5 dX4_adds_29 (fun H locs hP hS => ?_)
  obtain ⟨σ6, eσ6⟩ : ∃ z, z = sI σ4 9 (σ4.1 0).toNatClampNeg x3 := ⟨_, rfl⟩
  rw [← eσ6] at hP
  replace hwp := hwp σ6 eσ6
  refine lv_aload_n hx hb dX4_adds_30 rfl (lv_at hl 0 rfl) ?_
  refine m_geta hx hb hts hown hK hP 10 (by decide) rfl q1356 rfl dX4_adds_31 ?_
  refine lv_aload_n hx hb dX4_adds_34 rfl (lv_at hl 0 rfl) ?_
  refine m_geti hx hb hts hown hK hP 0 (by decide) rfl q1346 rfl dX4_adds_35 ?_
  refine lv_iload hx hb dX4_adds_38 (lv_at hl 4 rfl) ?_
  obtain ⟨hi7, hwp⟩ := hwp
  refine m_iast hx hb hK hD hP hS 10 rfl hi7 dX4_adds_40 (fun H locs hP hS => ?_)
  obtain ⟨σ8, eσ8⟩ : ∃ z, z = sI σ6 10 (σ6.1 0).toNatClampNeg x4 := ⟨_, rfl⟩
  rw [← eσ8] at hP
  replace hwp := hwp σ8 eσ8
  refine lv_aload_n hx hb dX4_adds_41 rfl (lv_at hl 0 rfl) ?_
  refine m_geta hx hb hts hown hK hP 11 (by decide) rfl q1357 rfl dX4_adds_42 ?_
  refine lv_aload_n hx hb dX4_adds_45 rfl (lv_at hl 0 rfl) ?_
  refine m_geti hx hb hts hown hK hP 0 (by decide) rfl q1346 rfl dX4_adds_46 ?_
  refine lv_iload hx hb dX4_adds_49 (lv_at hl 5 rfl) ?_
  obtain ⟨hi9, hwp⟩ := hwp
  refine m_iast hx hb hK hD hP hS 11 rfl hi9 dX4_adds_51 (fun H locs hP hS => ?_)
  obtain ⟨σ10, eσ10⟩ : ∃ z, z = sI σ8 11 (σ8.1 0).toNatClampNeg x5 := ⟨_, rfl⟩
  rw [← eσ10] at hP
  replace hwp := hwp σ10 eσ10
  refine lv_aload_n hx hb dX4_adds_52 rfl (lv_at hl 0 rfl) ?_
  refine m_geta hx hb hts hown hK hP 12 (by decide) rfl q1358 rfl dX4_adds_53 ?_
  refine lv_aload_n hx hb dX4_adds_56 rfl (lv_at hl 0 rfl) ?_
  refine m_geti hx hb hts hown hK hP 0 (by decide) rfl q1346 rfl dX4_adds_57 ?_
  refine lv_iconst (v := 0) hx hb dX4_adds_60 (by decide) ?_
  obtain ⟨hi11, hwp⟩ := hwp
  refine m_iast hx hb hK hD hP hS 12 rfl hi11 dX4_adds_61 (fun H locs hP hS => ?_)
  obtain ⟨σ12, eσ12⟩ : ∃ z, z = sI σ10 12 (σ10.1 0).toNatClampNeg 0 := ⟨_, rfl⟩
  rw [← eσ12] at hP
  replace hwp := hwp σ12 eσ12
  refine lv_aload_n hx hb dX4_adds_62 rfl (lv_at hl 0 rfl) ?_
  refine m_geta hx hb hts hown hK hP 13 (by decide) rfl q1359 rfl dX4_adds_63 ?_
  refine lv_aload_n hx hb dX4_adds_66 rfl (lv_at hl 0 rfl) ?_
  refine m_geti hx hb hts hown hK hP 0 (by decide) rfl q1346 rfl dX4_adds_67 ?_
  refine lv_iconst (v := 0) hx hb dX4_adds_70 (by decide) ?_
  obtain ⟨hi13, hwp⟩ := hwp
  refine m_iast hx hb hK hD hP hS 13 rfl hi13 dX4_adds_71 (fun H locs hP hS => ?_)
  obtain ⟨σ14, eσ14⟩ : ∃ z, z = sI σ12 13 (σ12.1 0).toNatClampNeg 0 := ⟨_, rfl⟩
  rw [← eσ14] at hP
  replace hwp := hwp σ14 eσ14
  refine lv_iconst (v := 0) hx hb dX4_adds_72 (by decide) ?_
  refine lv_istore (lv' := [(6, .int 0), (0, .ref (α 50)), (1, .int x1), (2, .int x2), (3, .int x3), (4, .int x4), (5, .int x5)]) hx hb dX4_adds_73 hl (by decide) rfl (fun ls hl => ?_)
  obtain ⟨n, hwp⟩ := hwp
  exact mk_adds_75 X n _ σ14 hwp H locs ls hP hS (lv_sub hl [1, 0] rfl)
/-! carries -/
def mw_carries_3_b (K : Int32 → MSt → Prop) (a1 : Nat) (a2 : Nat) (L3 : Int32 → Int32 → Int32 → MSt → Prop) (x3 : Int32) (x4 : Int32) (x5 : Int32) (σ : MSt) : Prop :=
  ((8 ≤ x5) → (K (x3 + 8) σ)) ∧ ((¬ (8 ≤ x5)) → (((x4 = 0) → (vp_in x5 (lenM a1) ∧ (vp_in (x3 + x5) (lenM a2) ∧ (∀ σ5, σ5 = sI σ a2 (x3 + x5).toNatClampNeg (σ.2.1 a1 x5.toNatClampNeg) → (L3 x3 x4 (x5 + 1) σ5))))) ∧ ((¬ (x4 = 0)) → (vp_in (x3 + x5) (lenM a2) ∧ (vp_in x5 (lenM a1) ∧ (∀ σ8, σ8 = sI σ a1 x5.toNatClampNeg (σ.2.1 a2 (x3 + x5).toNatClampNeg) → (L3 x3 x4 (x5 + 1) σ8)))))))
def mw_carries_3 (K : Int32 → MSt → Prop) (a1 : Nat) (a2 : Nat) : Nat → Int32 → Int32 → Int32 → MSt → Prop
  | 0 => fun _ _ _ _ => False
  | n + 1 => fun x3 x4 x5 σ => mw_carries_3_b K a1 a2 (mw_carries_3 K a1 a2 n) x3 x4 x5 σ
set_option maxHeartbeats 4000000 in
set_option maxRecDepth 100000 in
theorem mk_carries_3_b {p : Program} {l : Launch} {e : Env} {s : State} {m : MethodId} {args : Array Value} {below : List Frame} {meth : Method} {c : Code} {Γ : GA} {α : Nat → Nat} {K : Int32 → MSt → Prop} (X : CM p s m args meth c cX4_carries 6 (some .int) Γ α) {a1 : Nat} (ha1 : isI a1 = true) {a2 : Nat} (ha2 : isI a2 = true) {L3 : Int32 → Int32 → Int32 → MSt → Prop} (hL3 : ∀ (x3 : Int32) (x4 : Int32) (x5 : Int32) (σ : MSt), L3 x3 x4 x5 σ → TM p l e ({ frames := 0, cells := 0, slots := 0, locals := 0 } : Room) s m args below meth c 6 (QI below K Γ α s args) Γ α σ 3 [(1, .ref (α a1)), (2, .ref (α a2)), (3, .int x3), (4, .int x4), (5, .int x5)] []) : ∀ (x3 : Int32) (x4 : Int32) (x5 : Int32) (σ : MSt), mw_carries_3_b K a1 a2 L3 x3 x4 x5 σ → TM p l e ({ frames := 0, cells := 0, slots := 0, locals := 0 } : Room) s m args below meth c 6 (QI below K Γ α s args) Γ α σ 3 [(1, .ref (α a1)), (2, .ref (α a2)), (3, .int x3), (4, .int x4), (5, .int x5)] [] := by
  obtain ⟨hx, hb, hml, hown, hts, hK, hD, hr, hlk⟩ := id X
  have hA : ∀ q, s.heap.size ≤ q → AM α s.heap.size q := fun q h => Or.inr h
  intro x3 x4 x5 σ hwp H locs ls hP hS hl
  unfold mw_carries_3_b at hwp
  refine lv_iload hx hb dX4_carries_3 (lv_at hl 4 rfl) ?_
  refine lv_bipush (v := 8) hx hb dX4_carries_5 (by decide) ?_
  refine lv_icmp_ge (tgt := 44) hx hb dX4_carries_7 (by decide) (fun c1 => ?_) (fun c1 => ?_)
  · replace hwp := hwp.1 c1
    refine lv_iload_n hx hb dX4_carries_44 rfl (lv_at hl 2 rfl) ?_
    refine lv_bipush (v := 8) hx hb dX4_carries_45 (by decide) ?_
    refine lv_iadd hx hb dX4_carries_47 ?_
    exact m_iret hx hb hr hlk hK hP hS hwp dX4_carries_48
  · replace hwp := hwp.2 c1
    refine lv_iload hx hb dX4_carries_10 (lv_at hl 3 rfl) ?_
    refine lv_if_eq (tgt := 28) hx hb dX4_carries_12 (by decide) (fun c2 => ?_) (fun c2 => ?_)
    · replace hwp := hwp.1 c2
      refine lv_aload_n hx hb dX4_carries_28 rfl (lv_at hl 1 rfl) ?_
      refine lv_iload_n hx hb dX4_carries_29 rfl (lv_at hl 2 rfl) ?_
      refine lv_iload hx hb dX4_carries_30 (lv_at hl 4 rfl) ?_
      refine lv_iadd hx hb dX4_carries_32 ?_
      refine lv_aload_n hx hb dX4_carries_33 rfl (lv_at hl 0 rfl) ?_
      refine lv_iload hx hb dX4_carries_34 (lv_at hl 4 rfl) ?_
      obtain ⟨hi3, hwp⟩ := hwp
      refine m_iald hx hb hK hP a1 ha1 hi3 dX4_carries_36 ?_
      obtain ⟨hi4, hwp⟩ := hwp
      refine m_iast hx hb hK hD hP hS a2 ha2 hi4 dX4_carries_37 (fun H locs hP hS => ?_)
      obtain ⟨σ5, eσ5⟩ : ∃ z, z = sI σ a2 (x3 + x5).toNatClampNeg (σ.2.1 a1 x5.toNatClampNeg) := ⟨_, rfl⟩
      rw [← eσ5] at hP
      replace hwp := hwp σ5 eσ5
      refine lv_iinc (v := x5 + 1) (lv' := [(5, .int (x5 + 1)), (1, .ref (α a1)), (2, .ref (α a2)), (3, .int x3), (4, .int x4)]) hx hb dX4_carries_38 hl (k := 4) rfl rfl (by decide) rfl (fun ls hl => ?_)
      refine lv_goto (tgt := 3) hx hb dX4_carries_41 (by decide) ?_
      exact hL3 _ _ _ σ5 hwp H locs ls hP hS (lv_sub hl [1, 2, 3, 4, 0] rfl)
    · replace hwp := hwp.2 c2
      refine lv_aload_n hx hb dX4_carries_15 rfl (lv_at hl 0 rfl) ?_
      refine lv_iload hx hb dX4_carries_16 (lv_at hl 4 rfl) ?_
      refine lv_aload_n hx hb dX4_carries_18 rfl (lv_at hl 1 rfl) ?_
      refine lv_iload_n hx hb dX4_carries_19 rfl (lv_at hl 2 rfl) ?_
      refine lv_iload hx hb dX4_carries_20 (lv_at hl 4 rfl) ?_
      refine lv_iadd hx hb dX4_carries_22 ?_
      obtain ⟨hi6, hwp⟩ := hwp
      refine m_iald hx hb hK hP a2 ha2 hi6 dX4_carries_23 ?_
      obtain ⟨hi7, hwp⟩ := hwp
      refine m_iast hx hb hK hD hP hS a1 ha1 hi7 dX4_carries_24 (fun H locs hP hS => ?_)
      obtain ⟨σ8, eσ8⟩ : ∃ z, z = sI σ a1 x5.toNatClampNeg (σ.2.1 a2 (x3 + x5).toNatClampNeg) := ⟨_, rfl⟩
      rw [← eσ8] at hP
      replace hwp := hwp σ8 eσ8
      refine lv_goto (tgt := 38) hx hb dX4_carries_25 (by decide) ?_
      refine lv_iinc (v := x5 + 1) (lv' := [(5, .int (x5 + 1)), (1, .ref (α a1)), (2, .ref (α a2)), (3, .int x3), (4, .int x4)]) hx hb dX4_carries_38 hl (k := 4) rfl rfl (by decide) rfl (fun ls hl => ?_)
      refine lv_goto (tgt := 3) hx hb dX4_carries_41 (by decide) ?_
      exact hL3 _ _ _ σ8 hwp H locs ls hP hS (lv_sub hl [1, 2, 3, 4, 0] rfl)
set_option maxHeartbeats 4000000 in
set_option maxRecDepth 100000 in
theorem mk_carries_3 {p : Program} {l : Launch} {e : Env} {s : State} {m : MethodId} {args : Array Value} {below : List Frame} {meth : Method} {c : Code} {Γ : GA} {α : Nat → Nat} {K : Int32 → MSt → Prop} (X : CM p s m args meth c cX4_carries 6 (some .int) Γ α) {a1 : Nat} (ha1 : isI a1 = true) {a2 : Nat} (ha2 : isI a2 = true) : ∀ n (x3 : Int32) (x4 : Int32) (x5 : Int32) (σ : MSt), mw_carries_3 K a1 a2 n x3 x4 x5 σ → TM p l e ({ frames := 0, cells := 0, slots := 0, locals := 0 } : Room) s m args below meth c 6 (QI below K Γ α s args) Γ α σ 3 [(1, .ref (α a1)), (2, .ref (α a2)), (3, .int x3), (4, .int x4), (5, .int x5)] [] := by
  intro n
  induction n with
  | zero => intro _ _ _ _ hwp; exact hwp.elim
  | succ n ih => intro x3 x4 x5 σ hwp; exact mk_carries_3_b X ha1 ha2 ih x3 x4 x5 σ hwp
def mw_carries (K : Int32 → MSt → Prop) (a1 : Nat) (a2 : Nat) (x3 : Int32) (x4 : Int32) (σ : MSt) : Prop :=
  ∃ n, mw_carries_3 K a1 a2 n x3 x4 0 σ
set_option maxHeartbeats 4000000 in
set_option maxRecDepth 100000 in
theorem mt_carries {l : Launch} {Γ : GA} {α : Nat → Nat} {σ : MSt} {K : Int32 → MSt → Prop} {a1 : Nat} (ha1 : isI a1 = true) {a2 : Nat} (ha2 : isI a2 = true) {x3 : Int32} {x4 : Int32} (hwp : mw_carries K a1 a2 x3 x4 σ) : mI l yX4_carries cX4_carries 6 (some .int) ({ frames := 0, cells := 0, slots := 0, locals := 0 } : Room) Γ α [.ref (α a1), .ref (α a2), .int x3, .int x4] σ K := by
  intro sz
  refine m_of (by decide) rfl [(0, .ref (α 50)), (1, .ref (α a1)), (2, .ref (α a2)), (3, .int x3), (4, .int x4)] (fun _ h => h) (Nat.le_of_ble_eq_true rfl) ?_
  intro p e s m args below meth c hsz X H locs ls hP hS hl
  subst hsz
  obtain ⟨hx, hb, hml, hown, hts, hK, hD, hr, hlk⟩ := id X
  have hA : ∀ q, s.heap.size ≤ q → AM α s.heap.size q := fun q h => Or.inr h
  unfold mw_carries at hwp
  refine lv_iconst (v := 0) hx hb dX4_carries_0 (by decide) ?_
  refine lv_istore (lv' := [(5, .int 0), (0, .ref (α 50)), (1, .ref (α a1)), (2, .ref (α a2)), (3, .int x3), (4, .int x4)]) hx hb dX4_carries_1 hl (by decide) rfl (fun ls hl => ?_)
  obtain ⟨n, hwp⟩ := hwp
  exact mk_carries_3 X ha1 ha2 n _ _ _ σ hwp H locs ls hP hS (lv_sub hl [2, 3, 4, 5, 0] rfl)
/-! all -/
def mw_all (K : MSt → Prop) (a1 : Nat) (x2 : Int32) (σ : MSt) : Prop :=
  mw_carries (fun r1 σ2 => mw_carries (fun r3 σ4 => mw_carries (fun r5 σ6 => mw_carries (fun r7 σ8 => mw_carries (fun r9 σ10 => mw_carries (fun r11 σ12 => mw_carries (fun r13 σ14 => ((x2 = 0) → (vp_in r13 (lenM a1) ∧ (∀ σ17, σ17 = sI σ14 a1 r13.toNatClampNeg (σ14.1 0) → (vp_in (r13 + 1) (lenM a1) ∧ (∀ σ19, σ19 = sI σ17 a1 (r13 + 1).toNatClampNeg (σ17.1 1) → (vp_in (r13 + 2) (lenM a1) ∧ (∀ σ21, σ21 = sI σ19 a1 (r13 + 2).toNatClampNeg (σ19.1 2) → (vp_in (r13 + 3) (lenM a1) ∧ (∀ σ23, σ23 = sI σ21 a1 (r13 + 3).toNatClampNeg (σ21.1 3) → (vp_in (r13 + 4) (lenM a1) ∧ (∀ σ25, σ25 = sI σ23 a1 (r13 + 4).toNatClampNeg (σ23.1 4) → (K σ25)))))))))))) ∧ ((¬ (x2 = 0)) → (vp_in r13 (lenM a1) ∧ (∀ σ27, σ27 = sF σ14 0 (σ14.2.1 a1 r13.toNatClampNeg) → (vp_in (r13 + 1) (lenM a1) ∧ (∀ σ29, σ29 = sF σ27 1 (σ27.2.1 a1 (r13 + 1).toNatClampNeg) → (vp_in (r13 + 2) (lenM a1) ∧ (∀ σ31, σ31 = sF σ29 2 (σ29.2.1 a1 (r13 + 2).toNatClampNeg) → (vp_in (r13 + 3) (lenM a1) ∧ (∀ σ33, σ33 = sF σ31 3 (σ31.2.1 a1 (r13 + 3).toNatClampNeg) → (vp_in (r13 + 4) (lenM a1) ∧ (∀ σ35, σ35 = sF σ33 4 (σ33.2.1 a1 (r13 + 4).toNatClampNeg) → (K σ35))))))))))))) 13 a1 r11 x2 σ12) 12 a1 r9 x2 σ10) 11 a1 r7 x2 σ8) 10 a1 r5 x2 σ6) 9 a1 r3 x2 σ4) 8 a1 r1 x2 σ2) 7 a1 0 x2 σ
set_option maxHeartbeats 4000000 in
set_option maxRecDepth 100000 in
theorem mt_all {l : Launch} {Γ : GA} {α : Nat → Nat} {σ : MSt} {K : MSt → Prop} {a1 : Nat} (ha1 : isI a1 = true) {x2 : Int32} (hwp : mw_all K a1 x2 σ) : mV l yX4_all cX4_all 4 none ({ frames := 1, cells := 0, slots := 0, locals := 25 } : Room) Γ α [.ref (α a1), .int x2] σ K := by
  intro sz
  refine m_of (by decide) rfl [(0, .ref (α 50)), (1, .ref (α a1)), (2, .int x2)] (fun _ h => h) (Nat.le_of_ble_eq_true rfl) ?_
  intro p e s m args below meth c hsz X H locs ls hP hS hl
  subst hsz
  obtain ⟨hx, hb, hml, hown, hts, hK, hD, hr, hlk⟩ := id X
  have hA : ∀ q, s.heap.size ≤ q → AM α s.heap.size q := fun q h => Or.inr h
  unfold mw_all at hwp
  refine lv_aload_n hx hb dX4_all_0 rfl (lv_at hl 0 rfl) ?_
  refine lv_aload_n hx hb dX4_all_1 rfl (lv_at hl 0 rfl) ?_
  refine m_geta hx hb hts hown hK hP 7 (by decide) rfl q1353 rfl dX4_all_2 ?_
  refine lv_aload_n hx hb dX4_all_5 rfl (lv_at hl 1 rfl) ?_
  refine lv_iconst (v := 0) hx hb dX4_all_6 (by decide) ?_
  refine lv_iload_n hx hb dX4_all_7 rfl (lv_at hl 2 rfl) ?_
  refine m_calli ⟨hx, hb, hml, hown, hts⟩ hK hD hA hP hS (mt_carries rfl ha1 hwp) (cwV 4 hts (lw_V q1605 q1607 qs46 q79 q1608) rfl rfl rfl (by decide +kernel) ⟨Nat.le_of_ble_eq_true rfl, Nat.le_of_ble_eq_true rfl⟩) rfl hl.1 rfl (Nat.le_of_ble_eq_true rfl) dX4_all_8 ⟨Nat.zero_le _, Nat.zero_le _⟩ (fun r1 σ2 H locs hk hP hS => ?_)
  have hwp := hk
  refine lv_istore_n (lv' := [(3, .int r1), (0, .ref (α 50)), (1, .ref (α a1)), (2, .int x2)]) hx hb dX4_all_11 rfl hl (by decide) rfl (fun ls hl => ?_)
  refine lv_aload_n hx hb dX4_all_12 rfl (lv_at hl 1 rfl) ?_
  refine lv_aload_n hx hb dX4_all_13 rfl (lv_at hl 1 rfl) ?_
  refine m_geta hx hb hts hown hK hP 8 (by decide) rfl q1354 rfl dX4_all_14 ?_
  refine lv_aload_n hx hb dX4_all_17 rfl (lv_at hl 2 rfl) ?_
  refine lv_iload_n hx hb dX4_all_18 rfl (lv_at hl 0 rfl) ?_
  refine lv_iload_n hx hb dX4_all_19 rfl (lv_at hl 3 rfl) ?_
  refine m_calli ⟨hx, hb, hml, hown, hts⟩ hK hD hA hP hS (mt_carries rfl ha1 hwp) (cwV 4 hts (lw_V q1605 q1607 qs46 q79 q1608) rfl rfl rfl (by decide +kernel) ⟨Nat.le_of_ble_eq_true rfl, Nat.le_of_ble_eq_true rfl⟩) rfl hl.1 rfl (Nat.le_of_ble_eq_true rfl) dX4_all_20 ⟨Nat.zero_le _, Nat.zero_le _⟩ (fun r3 σ4 H locs hk hP hS => ?_)
  have hwp := hk
  refine lv_istore_n (lv' := [(3, .int r3), (0, .ref (α 50)), (1, .ref (α a1)), (2, .int x2)]) hx hb dX4_all_23 rfl hl (by decide) rfl (fun ls hl => ?_)
  refine lv_aload_n hx hb dX4_all_24 rfl (lv_at hl 1 rfl) ?_
  refine lv_aload_n hx hb dX4_all_25 rfl (lv_at hl 1 rfl) ?_
  refine m_geta hx hb hts hown hK hP 9 (by decide) rfl q1355 rfl dX4_all_26 ?_
  refine lv_aload_n hx hb dX4_all_29 rfl (lv_at hl 2 rfl) ?_
  refine lv_iload_n hx hb dX4_all_30 rfl (lv_at hl 0 rfl) ?_
  refine lv_iload_n hx hb dX4_all_31 rfl (lv_at hl 3 rfl) ?_
  refine m_calli ⟨hx, hb, hml, hown, hts⟩ hK hD hA hP hS (mt_carries rfl ha1 hwp) (cwV 4 hts (lw_V q1605 q1607 qs46 q79 q1608) rfl rfl rfl (by decide +kernel) ⟨Nat.le_of_ble_eq_true rfl, Nat.le_of_ble_eq_true rfl⟩) rfl hl.1 rfl (Nat.le_of_ble_eq_true rfl) dX4_all_32 ⟨Nat.zero_le _, Nat.zero_le _⟩ (fun r5 σ6 H locs hk hP hS => ?_)
  have hwp := hk
  refine lv_istore_n (lv' := [(3, .int r5), (0, .ref (α 50)), (1, .ref (α a1)), (2, .int x2)]) hx hb dX4_all_35 rfl hl (by decide) rfl (fun ls hl => ?_)
  refine lv_aload_n hx hb dX4_all_36 rfl (lv_at hl 1 rfl) ?_
  refine lv_aload_n hx hb dX4_all_37 rfl (lv_at hl 1 rfl) ?_
  refine m_geta hx hb hts hown hK hP 10 (by decide) rfl q1356 rfl dX4_all_38 ?_
  refine lv_aload_n hx hb dX4_all_41 rfl (lv_at hl 2 rfl) ?_
  refine lv_iload_n hx hb dX4_all_42 rfl (lv_at hl 0 rfl) ?_
  refine lv_iload_n hx hb dX4_all_43 rfl (lv_at hl 3 rfl) ?_
  refine m_calli ⟨hx, hb, hml, hown, hts⟩ hK hD hA hP hS (mt_carries rfl ha1 hwp) (cwV 4 hts (lw_V q1605 q1607 qs46 q79 q1608) rfl rfl rfl (by decide +kernel) ⟨Nat.le_of_ble_eq_true rfl, Nat.le_of_ble_eq_true rfl⟩) rfl hl.1 rfl (Nat.le_of_ble_eq_true rfl) dX4_all_44 ⟨Nat.zero_le _, Nat.zero_le _⟩ (fun r7 σ8 H locs hk hP hS => ?_)
  have hwp := hk
  refine lv_istore_n (lv' := [(3, .int r7), (0, .ref (α 50)), (1, .ref (α a1)), (2, .int x2)]) hx hb dX4_all_47 rfl hl (by decide) rfl (fun ls hl => ?_)
  refine lv_aload_n hx hb dX4_all_48 rfl (lv_at hl 1 rfl) ?_
  refine lv_aload_n hx hb dX4_all_49 rfl (lv_at hl 1 rfl) ?_
  refine m_geta hx hb hts hown hK hP 11 (by decide) rfl q1357 rfl dX4_all_50 ?_
  refine lv_aload_n hx hb dX4_all_53 rfl (lv_at hl 2 rfl) ?_
  refine lv_iload_n hx hb dX4_all_54 rfl (lv_at hl 0 rfl) ?_
  refine lv_iload_n hx hb dX4_all_55 rfl (lv_at hl 3 rfl) ?_
  refine m_calli ⟨hx, hb, hml, hown, hts⟩ hK hD hA hP hS (mt_carries rfl ha1 hwp) (cwV 4 hts (lw_V q1605 q1607 qs46 q79 q1608) rfl rfl rfl (by decide +kernel) ⟨Nat.le_of_ble_eq_true rfl, Nat.le_of_ble_eq_true rfl⟩) rfl hl.1 rfl (Nat.le_of_ble_eq_true rfl) dX4_all_56 ⟨Nat.zero_le _, Nat.zero_le _⟩ (fun r9 σ10 H locs hk hP hS => ?_)
  have hwp := hk
  refine lv_istore_n (lv' := [(3, .int r9), (0, .ref (α 50)), (1, .ref (α a1)), (2, .int x2)]) hx hb dX4_all_59 rfl hl (by decide) rfl (fun ls hl => ?_)
  refine lv_aload_n hx hb dX4_all_60 rfl (lv_at hl 1 rfl) ?_
  refine lv_aload_n hx hb dX4_all_61 rfl (lv_at hl 1 rfl) ?_
  refine m_geta hx hb hts hown hK hP 12 (by decide) rfl q1358 rfl dX4_all_62 ?_
  refine lv_aload_n hx hb dX4_all_65 rfl (lv_at hl 2 rfl) ?_
  refine lv_iload_n hx hb dX4_all_66 rfl (lv_at hl 0 rfl) ?_
  refine lv_iload_n hx hb dX4_all_67 rfl (lv_at hl 3 rfl) ?_
  refine m_calli ⟨hx, hb, hml, hown, hts⟩ hK hD hA hP hS (mt_carries rfl ha1 hwp) (cwV 4 hts (lw_V q1605 q1607 qs46 q79 q1608) rfl rfl rfl (by decide +kernel) ⟨Nat.le_of_ble_eq_true rfl, Nat.le_of_ble_eq_true rfl⟩) rfl hl.1 rfl (Nat.le_of_ble_eq_true rfl) dX4_all_68 ⟨Nat.zero_le _, Nat.zero_le _⟩ (fun r11 σ12 H locs hk hP hS => ?_)
  have hwp := hk
  refine lv_istore_n (lv' := [(3, .int r11), (0, .ref (α 50)), (1, .ref (α a1)), (2, .int x2)]) hx hb dX4_all_71 rfl hl (by decide) rfl (fun ls hl => ?_)
  refine lv_aload_n hx hb dX4_all_72 rfl (lv_at hl 1 rfl) ?_
  refine lv_aload_n hx hb dX4_all_73 rfl (lv_at hl 1 rfl) ?_
  refine m_geta hx hb hts hown hK hP 13 (by decide) rfl q1359 rfl dX4_all_74 ?_
  refine lv_aload_n hx hb dX4_all_77 rfl (lv_at hl 2 rfl) ?_
  refine lv_iload_n hx hb dX4_all_78 rfl (lv_at hl 0 rfl) ?_
  refine lv_iload_n hx hb dX4_all_79 rfl (lv_at hl 3 rfl) ?_
  refine m_calli ⟨hx, hb, hml, hown, hts⟩ hK hD hA hP hS (mt_carries rfl ha1 hwp) (cwV 4 hts (lw_V q1605 q1607 qs46 q79 q1608) rfl rfl rfl (by decide +kernel) ⟨Nat.le_of_ble_eq_true rfl, Nat.le_of_ble_eq_true rfl⟩) rfl hl.1 rfl (Nat.le_of_ble_eq_true rfl) dX4_all_80 ⟨Nat.zero_le _, Nat.zero_le _⟩ (fun r13 σ14 H locs hk hP hS => ?_)
  have hwp := hk
  refine lv_istore_n (lv' := [(3, .int r13), (0, .ref (α 50)), (1, .ref (α a1)), (2, .int x2)]) hx hb dX4_all_83 rfl hl (by decide) rfl (fun ls hl => ?_)
  refine lv_iload_n hx hb dX4_all_84 rfl (lv_at hl 3 rfl) ?_
  refine lv_if_eq (tgt := 134) hx hb dX4_all_85 (by decide) (fun c15 => ?_) (fun c15 => ?_)
  · replace hwp := hwp.1 c15
    refine lv_aload_n hx hb dX4_all_134 rfl (lv_at hl 2 rfl) ?_
    refine lv_iload_n hx hb dX4_all_135 rfl (lv_at hl 0 rfl) ?_
    refine lv_aload_n hx hb dX4_all_136 rfl (lv_at hl 1 rfl) ?_
    refine m_geti hx hb hts hown hK hP 0 (by decide) rfl q1346 rfl dX4_all_137 ?_
    obtain ⟨hi16, hwp⟩ := hwp
    refine m_iast hx hb hK hD hP hS a1 ha1 hi16 dX4_all_140 (fun H locs hP hS => ?_)
    obtain ⟨σ17, eσ17⟩ : ∃ z, z = sI σ14 a1 r13.toNatClampNeg (σ14.1 0) := ⟨_, rfl⟩
    rw [← eσ17] at hP
    replace hwp := hwp σ17 eσ17
    refine lv_aload_n hx hb dX4_all_141 rfl (lv_at hl 2 rfl) ?_
    refine lv_iload_n hx hb dX4_all_142 rfl (lv_at hl 0 rfl) ?_
    refine lv_iconst (v := 1) hx hb dX4_all_143 (by decide) ?_
    refine lv_iadd hx hb dX4_all_144 ?_
    refine lv_aload_n hx hb dX4_all_145 rfl (lv_at hl 1 rfl) ?_
    refine m_geti hx hb hts hown hK hP 1 (by decide) rfl q1347 rfl dX4_all_146 ?_
    obtain ⟨hi18, hwp⟩ := hwp
    refine m_iast hx hb hK hD hP hS a1 ha1 hi18 dX4_all_149 (fun H locs hP hS => ?_)
    obtain ⟨σ19, eσ19⟩ : ∃ z, z = sI σ17 a1 (r13 + 1).toNatClampNeg (σ17.1 1) := ⟨_, rfl⟩
    rw [← eσ19] at hP
    replace hwp := hwp σ19 eσ19
    refine lv_aload_n hx hb dX4_all_150 rfl (lv_at hl 2 rfl) ?_
    refine lv_iload_n hx hb dX4_all_151 rfl (lv_at hl 0 rfl) ?_
    refine lv_iconst (v := 2) hx hb dX4_all_152 (by decide) ?_
    refine lv_iadd hx hb dX4_all_153 ?_
    refine lv_aload_n hx hb dX4_all_154 rfl (lv_at hl 1 rfl) ?_
    refine m_geti hx hb hts hown hK hP 2 (by decide) rfl q1348 rfl dX4_all_155 ?_
    obtain ⟨hi20, hwp⟩ := hwp
    refine m_iast hx hb hK hD hP hS a1 ha1 hi20 dX4_all_158 (fun H locs hP hS => ?_)
    obtain ⟨σ21, eσ21⟩ : ∃ z, z = sI σ19 a1 (r13 + 2).toNatClampNeg (σ19.1 2) := ⟨_, rfl⟩
    rw [← eσ21] at hP
    replace hwp := hwp σ21 eσ21
    refine lv_aload_n hx hb dX4_all_159 rfl (lv_at hl 2 rfl) ?_
    refine lv_iload_n hx hb dX4_all_160 rfl (lv_at hl 0 rfl) ?_
    refine lv_iconst (v := 3) hx hb dX4_all_161 (by decide) ?_
    refine lv_iadd hx hb dX4_all_162 ?_
    refine lv_aload_n hx hb dX4_all_163 rfl (lv_at hl 1 rfl) ?_
    refine m_geti hx hb hts hown hK hP 3 (by decide) rfl q1349 rfl dX4_all_164 ?_
    obtain ⟨hi22, hwp⟩ := hwp
    refine m_iast hx hb hK hD hP hS a1 ha1 hi22 dX4_all_167 (fun H locs hP hS => ?_)
    obtain ⟨σ23, eσ23⟩ : ∃ z, z = sI σ21 a1 (r13 + 3).toNatClampNeg (σ21.1 3) := ⟨_, rfl⟩
    rw [← eσ23] at hP
    replace hwp := hwp σ23 eσ23
    refine lv_aload_n hx hb dX4_all_168 rfl (lv_at hl 2 rfl) ?_
    refine lv_iload_n hx hb dX4_all_169 rfl (lv_at hl 0 rfl) ?_
    refine lv_iconst (v := 4) hx hb dX4_all_170 (by decide) ?_
    refine lv_iadd hx hb dX4_all_171 ?_
    refine lv_aload_n hx hb dX4_all_172 rfl (lv_at hl 1 rfl) ?_
    refine m_geti hx hb hts hown hK hP 4 (by decide) rfl q1350 rfl dX4_all_173 ?_
    obtain ⟨hi24, hwp⟩ := hwp
    refine m_iast hx hb hK hD hP hS a1 ha1 hi24 dX4_all_176 (fun H locs hP hS => ?_)
    obtain ⟨σ25, eσ25⟩ : ∃ z, z = sI σ23 a1 (r13 + 4).toNatClampNeg (σ23.1 4) := ⟨_, rfl⟩
    rw [← eσ25] at hP
    replace hwp := hwp σ25 eσ25
    exact m_vret hx hb hr hlk hK hP hS hwp dX4_all_177
  · replace hwp := hwp.2 c15
    refine lv_aload_n hx hb dX4_all_88 rfl (lv_at hl 1 rfl) ?_
    refine lv_aload_n hx hb dX4_all_89 rfl (lv_at hl 2 rfl) ?_
    refine lv_iload_n hx hb dX4_all_90 rfl (lv_at hl 0 rfl) ?_
    obtain ⟨hi26, hwp⟩ := hwp
    refine m_iald hx hb hK hP a1 ha1 hi26 dX4_all_91 ?_
    refine m_put hx hb hts hown hK hD hP hS 0 (by decide) rfl q1346 rfl rfl rfl rfl dX4_all_92 (fun H locs hP hS => ?_)
    obtain ⟨σ27, eσ27⟩ : ∃ z, z = sF σ14 0 (σ14.2.1 a1 r13.toNatClampNeg) := ⟨_, rfl⟩
    rw [← eσ27] at hP
    replace hwp := hwp σ27 eσ27
    refine lv_aload_n hx hb dX4_all_95 rfl (lv_at hl 1 rfl) ?_
    refine lv_aload_n hx hb dX4_all_96 rfl (lv_at hl 2 rfl) ?_
    refine lv_iload_n hx hb dX4_all_97 rfl (lv_at hl 0 rfl) ?_
    refine lv_iconst (v := 1) hx hb dX4_all_98 (by decide) ?_
    refine lv_iadd hx hb dX4_all_99 ?_
    obtain ⟨hi28, hwp⟩ := hwp
    refine m_iald hx hb hK hP a1 ha1 hi28 dX4_all_100 ?_
    refine m_put hx hb hts hown hK hD hP hS 1 (by decide) rfl q1347 rfl rfl rfl rfl dX4_all_101 (fun H locs hP hS => ?_)
    obtain ⟨σ29, eσ29⟩ : ∃ z, z = sF σ27 1 (σ27.2.1 a1 (r13 + 1).toNatClampNeg) := ⟨_, rfl⟩
    rw [← eσ29] at hP
    replace hwp := hwp σ29 eσ29
    refine lv_aload_n hx hb dX4_all_104 rfl (lv_at hl 1 rfl) ?_
    refine lv_aload_n hx hb dX4_all_105 rfl (lv_at hl 2 rfl) ?_
    refine lv_iload_n hx hb dX4_all_106 rfl (lv_at hl 0 rfl) ?_
    refine lv_iconst (v := 2) hx hb dX4_all_107 (by decide) ?_
    refine lv_iadd hx hb dX4_all_108 ?_
    obtain ⟨hi30, hwp⟩ := hwp
    refine m_iald hx hb hK hP a1 ha1 hi30 dX4_all_109 ?_
    refine m_put hx hb hts hown hK hD hP hS 2 (by decide) rfl q1348 rfl rfl rfl rfl dX4_all_110 (fun H locs hP hS => ?_)
    obtain ⟨σ31, eσ31⟩ : ∃ z, z = sF σ29 2 (σ29.2.1 a1 (r13 + 2).toNatClampNeg) := ⟨_, rfl⟩
    rw [← eσ31] at hP
    replace hwp := hwp σ31 eσ31
    refine lv_aload_n hx hb dX4_all_113 rfl (lv_at hl 1 rfl) ?_
    refine lv_aload_n hx hb dX4_all_114 rfl (lv_at hl 2 rfl) ?_
    refine lv_iload_n hx hb dX4_all_115 rfl (lv_at hl 0 rfl) ?_
    refine lv_iconst (v := 3) hx hb dX4_all_116 (by decide) ?_
    refine lv_iadd hx hb dX4_all_117 ?_
    obtain ⟨hi32, hwp⟩ := hwp
    refine m_iald hx hb hK hP a1 ha1 hi32 dX4_all_118 ?_
    refine m_put hx hb hts hown hK hD hP hS 3 (by decide) rfl q1349 rfl rfl rfl rfl dX4_all_119 (fun H locs hP hS => ?_)
    obtain ⟨σ33, eσ33⟩ : ∃ z, z = sF σ31 3 (σ31.2.1 a1 (r13 + 3).toNatClampNeg) := ⟨_, rfl⟩
    rw [← eσ33] at hP
    replace hwp := hwp σ33 eσ33
    refine lv_aload_n hx hb dX4_all_122 rfl (lv_at hl 1 rfl) ?_
    refine lv_aload_n hx hb dX4_all_123 rfl (lv_at hl 2 rfl) ?_
    refine lv_iload_n hx hb dX4_all_124 rfl (lv_at hl 0 rfl) ?_
    refine lv_iconst (v := 4) hx hb dX4_all_125 (by decide) ?_
    refine lv_iadd hx hb dX4_all_126 ?_
    obtain ⟨hi34, hwp⟩ := hwp
    refine m_iald hx hb hK hP a1 ha1 hi34 dX4_all_127 ?_
    refine m_put hx hb hts hown hK hD hP hS 4 (by decide) rfl q1350 rfl rfl rfl rfl dX4_all_128 (fun H locs hP hS => ?_)
    obtain ⟨σ35, eσ35⟩ : ∃ z, z = sF σ33 4 (σ33.2.1 a1 (r13 + 4).toNatClampNeg) := ⟨_, rfl⟩
    rw [← eσ35] at hP
    replace hwp := hwp σ35 eσ35
    refine lv_goto (tgt := 177) hx hb dX4_all_131 (by decide) ?_
    exact m_vret hx hb hr hlk hK hP hS hwp dX4_all_177
/-! many -/
def mw_many_4_b (σ : MSt) (K : Int32 → Prop) (L4 : Int32 → Int32 → Int32 → Prop) (x1 : Int32) (x2 : Int32) (x3 : Int32) : Prop :=
  ((8 ≤ x3) → (K x2)) ∧ ((¬ (8 ≤ x3)) → (L4 x1 (x2 + ((x1 >>> (x3 &&& 31)) &&& 1)) (x3 + 1)))
def mw_many_4 (σ : MSt) (K : Int32 → Prop) : Nat → Int32 → Int32 → Int32 → Prop
  | 0 => fun _ _ _ => False
  | n + 1 => fun x1 x2 x3 => mw_many_4_b σ K (mw_many_4 σ K n) x1 x2 x3
set_option maxHeartbeats 4000000 in
set_option maxRecDepth 100000 in
theorem mk_many_4_b {p : Program} {l : Launch} {e : Env} {s : State} {m : MethodId} {args : Array Value} {below : List Frame} {meth : Method} {c : Code} {Γ : GA} {α : Nat → Nat} {σ : MSt} {K : Int32 → Prop} (X : CM p s m args meth c cX4_many 4 (some .int) Γ α) {L4 : Int32 → Int32 → Int32 → Prop} (hL4 : ∀ (x1 : Int32) (x2 : Int32) (x3 : Int32), L4 x1 x2 x3 → TM p l e ({ frames := 0, cells := 0, slots := 0, locals := 0 } : Room) s m args below meth c 4 (QI below (fun r u => K r ∧ u = σ) Γ α s args) Γ α σ 4 [(1, .int x1), (2, .int x2), (3, .int x3)] []) : ∀ (x1 : Int32) (x2 : Int32) (x3 : Int32), mw_many_4_b σ K L4 x1 x2 x3 → TM p l e ({ frames := 0, cells := 0, slots := 0, locals := 0 } : Room) s m args below meth c 4 (QI below (fun r u => K r ∧ u = σ) Γ α s args) Γ α σ 4 [(1, .int x1), (2, .int x2), (3, .int x3)] [] := by
  obtain ⟨hx, hb, hml, hown, hts, hK, hD, hr, hlk⟩ := id X
  have hA : ∀ q, s.heap.size ≤ q → AM α s.heap.size q := fun q h => Or.inr h
  intro x1 x2 x3 hwp H locs ls hP hS hl
  unfold mw_many_4_b at hwp
  refine lv_iload_n hx hb dX4_many_4 rfl (lv_at hl 2 rfl) ?_
  refine lv_bipush (v := 8) hx hb dX4_many_5 (by decide) ?_
  refine lv_icmp_ge (tgt := 24) hx hb dX4_many_7 (by decide) (fun c1 => ?_) (fun c1 => ?_)
  · replace hwp := hwp.1 c1
    refine lv_iload_n hx hb dX4_many_24 rfl (lv_at hl 1 rfl) ?_
    exact m_iret hx hb hr hlk hK hP hS ⟨hwp, rfl⟩ dX4_many_25
  · replace hwp := hwp.2 c1
    refine lv_iload_n hx hb dX4_many_10 rfl (lv_at hl 1 rfl) ?_
    refine lv_iload_n hx hb dX4_many_11 rfl (lv_at hl 0 rfl) ?_
    refine lv_iload_n hx hb dX4_many_12 rfl (lv_at hl 2 rfl) ?_
    refine lv_ishr hx hb dX4_many_13 ?_
    refine lv_iconst (v := 1) hx hb dX4_many_14 (by decide) ?_
    refine lv_iand hx hb dX4_many_15 ?_
    refine lv_iadd hx hb dX4_many_16 ?_
    refine lv_istore_n (lv' := [(2, .int (x2 + ((x1 >>> (x3 &&& 31)) &&& 1))), (1, .int x1), (3, .int x3)]) hx hb dX4_many_17 rfl hl (by decide) rfl (fun ls hl => ?_)
    refine lv_iinc (v := x3 + 1) (lv' := [(3, .int (x3 + 1)), (2, .int (x2 + ((x1 >>> (x3 &&& 31)) &&& 1))), (1, .int x1)]) hx hb dX4_many_18 hl (k := 2) rfl rfl (by decide) rfl (fun ls hl => ?_)
    refine lv_goto (tgt := 4) hx hb dX4_many_21 (by decide) ?_
    exact hL4 _ _ _ hwp H locs ls hP hS (lv_sub hl [2, 1, 0] rfl)
set_option maxHeartbeats 4000000 in
set_option maxRecDepth 100000 in
theorem mk_many_4 {p : Program} {l : Launch} {e : Env} {s : State} {m : MethodId} {args : Array Value} {below : List Frame} {meth : Method} {c : Code} {Γ : GA} {α : Nat → Nat} {σ : MSt} {K : Int32 → Prop} (X : CM p s m args meth c cX4_many 4 (some .int) Γ α) : ∀ n (x1 : Int32) (x2 : Int32) (x3 : Int32), mw_many_4 σ K n x1 x2 x3 → TM p l e ({ frames := 0, cells := 0, slots := 0, locals := 0 } : Room) s m args below meth c 4 (QI below (fun r u => K r ∧ u = σ) Γ α s args) Γ α σ 4 [(1, .int x1), (2, .int x2), (3, .int x3)] [] := by
  intro n
  induction n with
  | zero => intro _ _ _ hwp; exact hwp.elim
  | succ n ih => intro x1 x2 x3 hwp; exact mk_many_4_b X ih x1 x2 x3 hwp
def mw_many (σ : MSt) (K : Int32 → Prop) (x1 : Int32) : Prop :=
  ∃ n, mw_many_4 σ K n x1 0 0
set_option maxHeartbeats 4000000 in
set_option maxRecDepth 100000 in
theorem mt_many {l : Launch} {Γ : GA} {α : Nat → Nat} {σ : MSt} {K : Int32 → Prop} {x1 : Int32} (hwp : mw_many σ K x1) : mI l yX4_many cX4_many 4 (some .int) ({ frames := 0, cells := 0, slots := 0, locals := 0 } : Room) Γ α [.int x1] σ (fun r u => K r ∧ u = σ) := by
  intro sz
  refine m_of (by decide) rfl [(0, .ref (α 50)), (1, .int x1)] (fun _ h => h) (Nat.le_of_ble_eq_true rfl) ?_
  intro p e s m args below meth c hsz X H locs ls hP hS hl
  subst hsz
  obtain ⟨hx, hb, hml, hown, hts, hK, hD, hr, hlk⟩ := id X
  have hA : ∀ q, s.heap.size ≤ q → AM α s.heap.size q := fun q h => Or.inr h
  unfold mw_many at hwp
  refine lv_iconst (v := 0) hx hb dX4_many_0 (by decide) ?_
  refine lv_istore_n (lv' := [(2, .int 0), (0, .ref (α 50)), (1, .int x1)]) hx hb dX4_many_1 rfl hl (by decide) rfl (fun ls hl => ?_)
  refine lv_iconst (v := 0) hx hb dX4_many_2 (by decide) ?_
  refine lv_istore_n (lv' := [(3, .int 0), (2, .int 0), (0, .ref (α 50)), (1, .int x1)]) hx hb dX4_many_3 rfl hl (by decide) rfl (fun ls hl => ?_)
  obtain ⟨n, hwp⟩ := hwp
  exact mk_many_4 X n _ _ _ hwp H locs ls hP hS (lv_sub hl [3, 1, 0] rfl)
/-! sizeOf -/
def mw_sizeOf (σ : MSt) (K : Int32 → Prop) (x1 : Int32) : Prop :=
  ((0 ≤ x1) → (K x1)) ∧ ((¬ (0 ≤ x1)) → (K (-x1)))
set_option maxHeartbeats 4000000 in
set_option maxRecDepth 100000 in
theorem mt_sizeOf {l : Launch} {Γ : GA} {α : Nat → Nat} {σ : MSt} {K : Int32 → Prop} {x1 : Int32} (hwp : mw_sizeOf σ K x1) : mI l yX4_sizeOf cX4_sizeOf 2 (some .int) ({ frames := 0, cells := 0, slots := 0, locals := 0 } : Room) Γ α [.int x1] σ (fun r u => K r ∧ u = σ) := by
  intro sz
  refine m_of (by decide) rfl [(0, .ref (α 50)), (1, .int x1)] (fun _ h => h) (Nat.le_of_ble_eq_true rfl) ?_
  intro p e s m args below meth c hsz X H locs ls hP hS hl
  subst hsz
  obtain ⟨hx, hb, hml, hown, hts, hK, hD, hr, hlk⟩ := id X
  have hA : ∀ q, s.heap.size ≤ q → AM α s.heap.size q := fun q h => Or.inr h
  unfold mw_sizeOf at hwp
  refine lv_iload_n hx hb dX4_sizeOf_0 rfl (lv_at hl 1 rfl) ?_
  refine lv_if_ge (tgt := 9) hx hb dX4_sizeOf_1 (by decide) (fun c1 => ?_) (fun c1 => ?_)
  · replace hwp := hwp.1 c1
    refine lv_iload_n hx hb dX4_sizeOf_9 rfl (lv_at hl 1 rfl) ?_
    exact m_iret hx hb hr hlk hK hP hS ⟨hwp, rfl⟩ dX4_sizeOf_10
  · replace hwp := hwp.2 c1
    refine lv_iload_n hx hb dX4_sizeOf_4 rfl (lv_at hl 1 rfl) ?_
    refine lv_ineg hx hb dX4_sizeOf_5 ?_
    refine lv_goto (tgt := 10) hx hb dX4_sizeOf_6 (by decide) ?_
    exact m_iret hx hb hr hlk hK hP hS ⟨hwp, rfl⟩ dX4_sizeOf_10
/-! distance -/
def mw_distance (σ : MSt) (K : Int32 → Prop) (x1 : Int32) (x2 : Int32) : Prop :=
  vp_in x1 (lenM 8) ∧ (vp_in x2 (lenM 8) ∧ (mw_sizeOf σ (fun r3 => vp_in x1 (lenM 9) ∧ (vp_in x2 (lenM 9) ∧ (mw_sizeOf σ (fun r6 => ((r3 ≤ r6) → (K r6)) ∧ ((¬ (r3 ≤ r6)) → (K r3))) ((σ.2.1 9 x1.toNatClampNeg) - (σ.2.1 9 x2.toNatClampNeg))))) ((σ.2.1 8 x1.toNatClampNeg) - (σ.2.1 8 x2.toNatClampNeg))))
set_option maxHeartbeats 4000000 in
set_option maxRecDepth 100000 in
theorem mt_distance {l : Launch} {Γ : GA} {α : Nat → Nat} {σ : MSt} {K : Int32 → Prop} {x1 : Int32} {x2 : Int32} (hwp : mw_distance σ K x1 x2) : mI l yX4_distance cX4_distance 5 (some .int) ({ frames := 1, cells := 0, slots := 0, locals := 21 } : Room) Γ α [.int x1, .int x2] σ (fun r u => K r ∧ u = σ) := by
  intro sz
  refine m_of (by decide) rfl [(0, .ref (α 50)), (1, .int x1), (2, .int x2)] (fun _ h => h) (Nat.le_of_ble_eq_true rfl) ?_
  intro p e s m args below meth c hsz X H locs ls hP hS hl
  subst hsz
  obtain ⟨hx, hb, hml, hown, hts, hK, hD, hr, hlk⟩ := id X
  have hA : ∀ q, s.heap.size ≤ q → AM α s.heap.size q := fun q h => Or.inr h
  unfold mw_distance at hwp
  refine lv_aload_n hx hb dX4_distance_0 rfl (lv_at hl 0 rfl) ?_
  refine lv_aload_n hx hb dX4_distance_1 rfl (lv_at hl 0 rfl) ?_
  refine m_geta hx hb hts hown hK hP 8 (by decide) rfl q1354 rfl dX4_distance_2 ?_
  refine lv_iload_n hx hb dX4_distance_5 rfl (lv_at hl 1 rfl) ?_
  obtain ⟨hi1, hwp⟩ := hwp
  refine m_iald hx hb hK hP 8 rfl hi1 dX4_distance_6 ?_
  refine lv_aload_n hx hb dX4_distance_7 rfl (lv_at hl 0 rfl) ?_
  refine m_geta hx hb hts hown hK hP 8 (by decide) rfl q1354 rfl dX4_distance_8 ?_
  refine lv_iload_n hx hb dX4_distance_11 rfl (lv_at hl 2 rfl) ?_
  obtain ⟨hi2, hwp⟩ := hwp
  refine m_iald hx hb hK hP 8 rfl hi2 dX4_distance_12 ?_
  refine lv_isub hx hb dX4_distance_13 ?_
  refine m_calli ⟨hx, hb, hml, hown, hts⟩ hK hD hA hP hS (mt_sizeOf hwp) (cwV 1 hts (lw_V q1529 q1531 qs34 q79 q1532) rfl rfl rfl (by decide +kernel) ⟨Nat.le_of_ble_eq_true rfl, Nat.le_of_ble_eq_true rfl⟩) rfl hl.1 rfl (Nat.le_of_ble_eq_true rfl) dX4_distance_14 ⟨Nat.zero_le _, Nat.zero_le _⟩ (fun r3 u H locs hk hP hS => ?_)
  obtain ⟨hwp, eu⟩ := hk
  rw [eu] at hP
  refine lv_istore_n (lv' := [(3, .int r3), (0, .ref (α 50)), (1, .int x1), (2, .int x2)]) hx hb dX4_distance_17 rfl hl (by decide) rfl (fun ls hl => ?_)
  refine lv_aload_n hx hb dX4_distance_18 rfl (lv_at hl 1 rfl) ?_
  refine lv_aload_n hx hb dX4_distance_19 rfl (lv_at hl 1 rfl) ?_
  refine m_geta hx hb hts hown hK hP 9 (by decide) rfl q1355 rfl dX4_distance_20 ?_
  refine lv_iload_n hx hb dX4_distance_23 rfl (lv_at hl 2 rfl) ?_
  obtain ⟨hi4, hwp⟩ := hwp
  refine m_iald hx hb hK hP 9 rfl hi4 dX4_distance_24 ?_
  refine lv_aload_n hx hb dX4_distance_25 rfl (lv_at hl 1 rfl) ?_
  refine m_geta hx hb hts hown hK hP 9 (by decide) rfl q1355 rfl dX4_distance_26 ?_
  refine lv_iload_n hx hb dX4_distance_29 rfl (lv_at hl 3 rfl) ?_
  obtain ⟨hi5, hwp⟩ := hwp
  refine m_iald hx hb hK hP 9 rfl hi5 dX4_distance_30 ?_
  refine lv_isub hx hb dX4_distance_31 ?_
  refine m_calli ⟨hx, hb, hml, hown, hts⟩ hK hD hA hP hS (mt_sizeOf hwp) (cwV 1 hts (lw_V q1529 q1531 qs34 q79 q1532) rfl rfl rfl (by decide +kernel) ⟨Nat.le_of_ble_eq_true rfl, Nat.le_of_ble_eq_true rfl⟩) rfl hl.1 rfl (Nat.le_of_ble_eq_true rfl) dX4_distance_32 ⟨Nat.zero_le _, Nat.zero_le _⟩ (fun r6 u H locs hk hP hS => ?_)
  obtain ⟨hwp, eu⟩ := hk
  rw [eu] at hP
  refine lv_istore (lv' := [(4, .int r6), (3, .int r3), (0, .ref (α 50)), (1, .int x1), (2, .int x2)]) hx hb dX4_distance_35 hl (by decide) rfl (fun ls hl => ?_)
  refine lv_iload_n hx hb dX4_distance_37 rfl (lv_at hl 1 rfl) ?_
  refine lv_iload hx hb dX4_distance_38 (lv_at hl 0 rfl) ?_
  refine lv_icmp_le (tgt := 47) hx hb dX4_distance_40 (by decide) (fun c7 => ?_) (fun c7 => ?_)
  · replace hwp := hwp.1 c7
    refine lv_iload hx hb dX4_distance_47 (lv_at hl 0 rfl) ?_
    exact m_iret hx hb hr hlk hK hP hS ⟨hwp, rfl⟩ dX4_distance_49
  · replace hwp := hwp.2 c7
    refine lv_iload_n hx hb dX4_distance_43 rfl (lv_at hl 1 rfl) ?_
    refine lv_goto (tgt := 49) hx hb dX4_distance_44 (by decide) ?_
    exact m_iret hx hb hr hlk hK hP hS ⟨hwp, rfl⟩ dX4_distance_49
/-! at -/
def mw_at_2_b (σ : MSt) (K : Int32 → Prop) (L2 : Int32 → Int32 → Int32 → Prop) (x1 : Int32) (x2 : Int32) (x3 : Int32) : Prop :=
  (((σ.1 0) ≤ x3) → (K (-1))) ∧ ((¬ ((σ.1 0) ≤ x3)) → (vp_in x3 (lenM 8) ∧ (((¬ ((σ.2.1 8 x3.toNatClampNeg) = x1)) → (L2 x1 x2 (x3 + 1))) ∧ (((σ.2.1 8 x3.toNatClampNeg) = x1) → (vp_in x3 (lenM 9) ∧ (((¬ ((σ.2.1 9 x3.toNatClampNeg) = x2)) → (L2 x1 x2 (x3 + 1))) ∧ (((σ.2.1 9 x3.toNatClampNeg) = x2) → (K x3))))))))
def mw_at_2 (σ : MSt) (K : Int32 → Prop) : Nat → Int32 → Int32 → Int32 → Prop
  | 0 => fun _ _ _ => False
  | n + 1 => fun x1 x2 x3 => mw_at_2_b σ K (mw_at_2 σ K n) x1 x2 x3
set_option maxHeartbeats 4000000 in
set_option maxRecDepth 100000 in
theorem mk_at_2_b {p : Program} {l : Launch} {e : Env} {s : State} {m : MethodId} {args : Array Value} {below : List Frame} {meth : Method} {c : Code} {Γ : GA} {α : Nat → Nat} {σ : MSt} {K : Int32 → Prop} (X : CM p s m args meth c cX4_at 4 (some .int) Γ α) {L2 : Int32 → Int32 → Int32 → Prop} (hL2 : ∀ (x1 : Int32) (x2 : Int32) (x3 : Int32), L2 x1 x2 x3 → TM p l e ({ frames := 0, cells := 0, slots := 0, locals := 0 } : Room) s m args below meth c 4 (QI below (fun r u => K r ∧ u = σ) Γ α s args) Γ α σ 2 [(0, .ref (α 50)), (1, .int x1), (2, .int x2), (3, .int x3)] []) : ∀ (x1 : Int32) (x2 : Int32) (x3 : Int32), mw_at_2_b σ K L2 x1 x2 x3 → TM p l e ({ frames := 0, cells := 0, slots := 0, locals := 0 } : Room) s m args below meth c 4 (QI below (fun r u => K r ∧ u = σ) Γ α s args) Γ α σ 2 [(0, .ref (α 50)), (1, .int x1), (2, .int x2), (3, .int x3)] [] := by
  obtain ⟨hx, hb, hml, hown, hts, hK, hD, hr, hlk⟩ := id X
  have hA : ∀ q, s.heap.size ≤ q → AM α s.heap.size q := fun q h => Or.inr h
  intro x1 x2 x3 hwp H locs ls hP hS hl
  unfold mw_at_2_b at hwp
  refine lv_iload_n hx hb dX4_at_2 rfl (lv_at hl 3 rfl) ?_
  refine lv_aload_n hx hb dX4_at_3 rfl (lv_at hl 0 rfl) ?_
  refine m_geti hx hb hts hown hK hP 0 (by decide) rfl q1346 rfl dX4_at_4 ?_
  refine lv_icmp_ge (tgt := 38) hx hb dX4_at_7 (by decide) (fun c1 => ?_) (fun c1 => ?_)
  · replace hwp := hwp.1 c1
    refine lv_iconst (v := (-1)) hx hb dX4_at_38 (by decide) ?_
    exact m_iret hx hb hr hlk hK hP hS ⟨hwp, rfl⟩ dX4_at_39
  · replace hwp := hwp.2 c1
    refine lv_aload_n hx hb dX4_at_10 rfl (lv_at hl 0 rfl) ?_
    refine m_geta hx hb hts hown hK hP 8 (by decide) rfl q1354 rfl dX4_at_11 ?_
    refine lv_iload_n hx hb dX4_at_14 rfl (lv_at hl 3 rfl) ?_
    obtain ⟨hi2, hwp⟩ := hwp
    refine m_iald hx hb hK hP 8 rfl hi2 dX4_at_15 ?_
    refine lv_iload_n hx hb dX4_at_16 rfl (lv_at hl 1 rfl) ?_
    refine lv_icmp_ne (tgt := 32) hx hb dX4_at_17 (by decide) (fun c3 => ?_) (fun c3 => ?_)
    · replace hwp := hwp.1 c3
      refine lv_iinc (v := x3 + 1) (lv' := [(3, .int (x3 + 1)), (0, .ref (α 50)), (1, .int x1), (2, .int x2)]) hx hb dX4_at_32 hl (k := 3) rfl rfl (by decide) rfl (fun ls hl => ?_)
      refine lv_goto (tgt := 2) hx hb dX4_at_35 (by decide) ?_
      exact hL2 _ _ _ hwp H locs ls hP hS (lv_sub hl [1, 2, 3, 0] rfl)
    · replace hwp := hwp.2 c3
      refine lv_aload_n hx hb dX4_at_20 rfl (lv_at hl 0 rfl) ?_
      refine m_geta hx hb hts hown hK hP 9 (by decide) rfl q1355 rfl dX4_at_21 ?_
      refine lv_iload_n hx hb dX4_at_24 rfl (lv_at hl 3 rfl) ?_
      obtain ⟨hi4, hwp⟩ := hwp
      refine m_iald hx hb hK hP 9 rfl hi4 dX4_at_25 ?_
      refine lv_iload_n hx hb dX4_at_26 rfl (lv_at hl 2 rfl) ?_
      refine lv_icmp_ne (tgt := 32) hx hb dX4_at_27 (by decide) (fun c5 => ?_) (fun c5 => ?_)
      · replace hwp := hwp.1 c5
        refine lv_iinc (v := x3 + 1) (lv' := [(3, .int (x3 + 1)), (0, .ref (α 50)), (1, .int x1), (2, .int x2)]) hx hb dX4_at_32 hl (k := 3) rfl rfl (by decide) rfl (fun ls hl => ?_)
        refine lv_goto (tgt := 2) hx hb dX4_at_35 (by decide) ?_
        exact hL2 _ _ _ hwp H locs ls hP hS (lv_sub hl [1, 2, 3, 0] rfl)
      · replace hwp := hwp.2 c5
        refine lv_iload_n hx hb dX4_at_30 rfl (lv_at hl 3 rfl) ?_
        exact m_iret hx hb hr hlk hK hP hS ⟨hwp, rfl⟩ dX4_at_31
set_option maxHeartbeats 4000000 in
set_option maxRecDepth 100000 in
theorem mk_at_2 {p : Program} {l : Launch} {e : Env} {s : State} {m : MethodId} {args : Array Value} {below : List Frame} {meth : Method} {c : Code} {Γ : GA} {α : Nat → Nat} {σ : MSt} {K : Int32 → Prop} (X : CM p s m args meth c cX4_at 4 (some .int) Γ α) : ∀ n (x1 : Int32) (x2 : Int32) (x3 : Int32), mw_at_2 σ K n x1 x2 x3 → TM p l e ({ frames := 0, cells := 0, slots := 0, locals := 0 } : Room) s m args below meth c 4 (QI below (fun r u => K r ∧ u = σ) Γ α s args) Γ α σ 2 [(0, .ref (α 50)), (1, .int x1), (2, .int x2), (3, .int x3)] [] := by
  intro n
  induction n with
  | zero => intro _ _ _ hwp; exact hwp.elim
  | succ n ih => intro x1 x2 x3 hwp; exact mk_at_2_b X ih x1 x2 x3 hwp
def mw_at (σ : MSt) (K : Int32 → Prop) (x1 : Int32) (x2 : Int32) : Prop :=
  ∃ n, mw_at_2 σ K n x1 x2 0
set_option maxHeartbeats 4000000 in
set_option maxRecDepth 100000 in
theorem mt_at {l : Launch} {Γ : GA} {α : Nat → Nat} {σ : MSt} {K : Int32 → Prop} {x1 : Int32} {x2 : Int32} (hwp : mw_at σ K x1 x2) : mI l yX4_at cX4_at 4 (some .int) ({ frames := 0, cells := 0, slots := 0, locals := 0 } : Room) Γ α [.int x1, .int x2] σ (fun r u => K r ∧ u = σ) := by
  intro sz
  refine m_of (by decide) rfl [(0, .ref (α 50)), (1, .int x1), (2, .int x2)] (fun _ h => h) (Nat.le_of_ble_eq_true rfl) ?_
  intro p e s m args below meth c hsz X H locs ls hP hS hl
  subst hsz
  obtain ⟨hx, hb, hml, hown, hts, hK, hD, hr, hlk⟩ := id X
  have hA : ∀ q, s.heap.size ≤ q → AM α s.heap.size q := fun q h => Or.inr h
  unfold mw_at at hwp
  refine lv_iconst (v := 0) hx hb dX4_at_0 (by decide) ?_
  refine lv_istore_n (lv' := [(3, .int 0), (0, .ref (α 50)), (1, .int x1), (2, .int x2)]) hx hb dX4_at_1 rfl hl (by decide) rfl (fun ls hl => ?_)
  obtain ⟨n, hwp⟩ := hwp
  exact mk_at_2 X n _ _ _ hwp H locs ls hP hS (lv_sub hl [1, 2, 3, 0] rfl)
/-! divides -/
def mw_divides_b (σ : MSt) (L : (Int32 → Prop) → Int32 → Int32 → Prop) (K : Int32 → Prop) (x1 : Int32) (x2 : Int32) : Prop :=
  ((¬ (x2 = 0)) → ((¬ x2 = 0) ∧ (L (fun r3 => K r3) x2 (x1 - x1 / x2 * x2)))) ∧ ((x2 = 0) → (K x1))
def mw_divides (σ : MSt) : Nat → (Int32 → Prop) → Int32 → Int32 → Prop
  | 0 => fun _ _ _ => False
  | n + 1 => fun K x1 x2 => mw_divides_b σ (mw_divides σ n) K x1 x2
set_option maxHeartbeats 4000000 in
set_option maxRecDepth 100000 in
theorem mt_divides {l : Launch} {Γ : GA} {α : Nat → Nat} {σ : MSt} : ∀ (n : Nat) {K : Int32 → Prop} {x1 : Int32} {x2 : Int32}, mw_divides σ n K x1 x2 → mI l yX4_divides cX4_divides 3 (some .int) ({ frames := n, cells := 0, slots := 0, locals := n * 22 } : Room) Γ α [.int x1, .int x2] σ (fun r u => K r ∧ u = σ) := by
  intro n
  induction n with
  | zero => intro _ _ _ hwp; exact hwp.elim
  | succ n ih =>
    intro K x1 x2 hwp
    replace hwp : mw_divides_b σ (mw_divides σ n) K x1 x2 := hwp
    unfold mw_divides_b at hwp
    intro sz
    refine m_of (by decide) rfl [(0, .ref (α 50)), (1, .int x1), (2, .int x2)] (fun _ h => h) (Nat.le_of_ble_eq_true rfl) ?_
    intro p e s m args below meth c hsz X H locs ls hP hS hl
    subst hsz
    obtain ⟨hx, hb, hml, hown, hts, hK, hD, hr, hlk⟩ := id X
    have hA : ∀ q, s.heap.size ≤ q → AM α s.heap.size q := fun q h => Or.inr h
    refine lv_iload_n hx hb dX4_divides_0 rfl (lv_at hl 2 rfl) ?_
    refine lv_if_ne (tgt := 8) hx hb dX4_divides_1 (by decide) (fun c1 => ?_) (fun c1 => ?_)
    · replace hwp := hwp.1 c1
      refine lv_aload_n hx hb dX4_divides_8 rfl (lv_at hl 0 rfl) ?_
      refine lv_iload_n hx hb dX4_divides_9 rfl (lv_at hl 2 rfl) ?_
      refine lv_iload_n hx hb dX4_divides_10 rfl (lv_at hl 1 rfl) ?_
      refine lv_iload_n hx hb dX4_divides_11 rfl (lv_at hl 2 rfl) ?_
      obtain ⟨hz2, hwp⟩ := hwp
      refine lv_irem hx hb dX4_divides_12 hz2 ?_
      refine m_calli ⟨hx, hb, hml, hown, hts⟩ hK hD hA hP hS (ih hwp) (cwV 2 hts (lw_V q1537 q1539 qs36 q79 q1540) rfl rfl rfl (by decide +kernel) ⟨Nat.le_refl _, by show _ ≤ _; simp only; omega⟩) rfl hl.1 rfl (Nat.le_of_ble_eq_true rfl) dX4_divides_13 ⟨Nat.zero_le _, Nat.zero_le _⟩ (fun r3 u H locs hk hP hS => ?_)
      obtain ⟨hwp, eu⟩ := hk
      rw [eu] at hP
      exact m_iret hx hb hr hlk hK hP hS ⟨hwp, rfl⟩ dX4_divides_16
    · replace hwp := hwp.2 c1
      refine lv_iload_n hx hb dX4_divides_4 rfl (lv_at hl 1 rfl) ?_
      refine lv_goto (tgt := 16) hx hb dX4_divides_5 (by decide) ?_
      exact m_iret hx hb hr hlk hK hP hS ⟨hwp, rfl⟩ dX4_divides_16
/-! eyes -/
def mw_eyes (σ : MSt) (K : Int32 → Prop) (x1 : Int32) : Prop :=
  vp_in x1 (lenM 7) ∧ (((¬ ((σ.2.1 7 x1.toNatClampNeg) = 3)) → (vp_in x1 (lenM 10) ∧ (K (σ.2.1 10 x1.toNatClampNeg)))) ∧ (((σ.2.1 7 x1.toNatClampNeg) = 3) → (vp_in x1 (lenM 10) ∧ (vp_in x1 (lenM 11) ∧ (K ((σ.2.1 10 x1.toNatClampNeg) + (σ.2.1 11 x1.toNatClampNeg)))))))
set_option maxHeartbeats 4000000 in
set_option maxRecDepth 100000 in
theorem mt_eyes {l : Launch} {Γ : GA} {α : Nat → Nat} {σ : MSt} {K : Int32 → Prop} {x1 : Int32} (hwp : mw_eyes σ K x1) : mI l yX4_eyes cX4_eyes 2 (some .int) ({ frames := 0, cells := 0, slots := 0, locals := 0 } : Room) Γ α [.int x1] σ (fun r u => K r ∧ u = σ) := by
  intro sz
  refine m_of (by decide) rfl [(0, .ref (α 50)), (1, .int x1)] (fun _ h => h) (Nat.le_of_ble_eq_true rfl) ?_
  intro p e s m args below meth c hsz X H locs ls hP hS hl
  subst hsz
  obtain ⟨hx, hb, hml, hown, hts, hK, hD, hr, hlk⟩ := id X
  have hA : ∀ q, s.heap.size ≤ q → AM α s.heap.size q := fun q h => Or.inr h
  unfold mw_eyes at hwp
  refine lv_aload_n hx hb dX4_eyes_0 rfl (lv_at hl 0 rfl) ?_
  refine m_geta hx hb hts hown hK hP 7 (by decide) rfl q1353 rfl dX4_eyes_1 ?_
  refine lv_iload_n hx hb dX4_eyes_4 rfl (lv_at hl 1 rfl) ?_
  obtain ⟨hi1, hwp⟩ := hwp
  refine m_iald hx hb hK hP 7 rfl hi1 dX4_eyes_5 ?_
  refine lv_iconst (v := 3) hx hb dX4_eyes_6 (by decide) ?_
  refine lv_icmp_ne (tgt := 26) hx hb dX4_eyes_7 (by decide) (fun c2 => ?_) (fun c2 => ?_)
  · replace hwp := hwp.1 c2
    refine lv_aload_n hx hb dX4_eyes_26 rfl (lv_at hl 0 rfl) ?_
    refine m_geta hx hb hts hown hK hP 10 (by decide) rfl q1356 rfl dX4_eyes_27 ?_
    refine lv_iload_n hx hb dX4_eyes_30 rfl (lv_at hl 1 rfl) ?_
    obtain ⟨hi3, hwp⟩ := hwp
    refine m_iald hx hb hK hP 10 rfl hi3 dX4_eyes_31 ?_
    exact m_iret hx hb hr hlk hK hP hS ⟨hwp, rfl⟩ dX4_eyes_32
  · replace hwp := hwp.2 c2
    refine lv_aload_n hx hb dX4_eyes_10 rfl (lv_at hl 0 rfl) ?_
    refine m_geta hx hb hts hown hK hP 10 (by decide) rfl q1356 rfl dX4_eyes_11 ?_
    refine lv_iload_n hx hb dX4_eyes_14 rfl (lv_at hl 1 rfl) ?_
    obtain ⟨hi4, hwp⟩ := hwp
    refine m_iald hx hb hK hP 10 rfl hi4 dX4_eyes_15 ?_
    refine lv_aload_n hx hb dX4_eyes_16 rfl (lv_at hl 0 rfl) ?_
    refine m_geta hx hb hts hown hK hP 11 (by decide) rfl q1357 rfl dX4_eyes_17 ?_
    refine lv_iload_n hx hb dX4_eyes_20 rfl (lv_at hl 1 rfl) ?_
    obtain ⟨hi5, hwp⟩ := hwp
    refine m_iald hx hb hK hP 11 rfl hi5 dX4_eyes_21 ?_
    refine lv_iadd hx hb dX4_eyes_22 ?_
    refine lv_goto (tgt := 32) hx hb dX4_eyes_23 (by decide) ?_
    exact m_iret hx hb hr hlk hK hP hS ⟨hwp, rfl⟩ dX4_eyes_32
/-! tall -/
def mw_tall_29 (σ : MSt) (K : Int32 → Prop) (x1 : Int32) : Prop :=
  vp_in x1 (lenM 10) ∧ (vp_in x1 (lenM 11) ∧ (K ((σ.2.1 10 x1.toNatClampNeg) + (σ.2.1 11 x1.toNatClampNeg))))
set_option maxHeartbeats 4000000 in
set_option maxRecDepth 100000 in
theorem mk_tall_29 {p : Program} {l : Launch} {e : Env} {s : State} {m : MethodId} {args : Array Value} {below : List Frame} {meth : Method} {c : Code} {Γ : GA} {α : Nat → Nat} {σ : MSt} {K : Int32 → Prop} (X : CM p s m args meth c cX4_tall 2 (some .int) Γ α) : ∀ (x1 : Int32), mw_tall_29 σ K x1 → TM p l e ({ frames := 0, cells := 0, slots := 0, locals := 0 } : Room) s m args below meth c 2 (QI below (fun r u => K r ∧ u = σ) Γ α s args) Γ α σ 29 [(0, .ref (α 50)), (1, .int x1)] [] := by
  obtain ⟨hx, hb, hml, hown, hts, hK, hD, hr, hlk⟩ := id X
  have hA : ∀ q, s.heap.size ≤ q → AM α s.heap.size q := fun q h => Or.inr h
  intro x1 hwp H locs ls hP hS hl
  unfold mw_tall_29 at hwp
  refine lv_aload_n hx hb dX4_tall_29 rfl (lv_at hl 0 rfl) ?_
  refine m_geta hx hb hts hown hK hP 10 (by decide) rfl q1356 rfl dX4_tall_30 ?_
  refine lv_iload_n hx hb dX4_tall_33 rfl (lv_at hl 1 rfl) ?_
  obtain ⟨hi1, hwp⟩ := hwp
  refine m_iald hx hb hK hP 10 rfl hi1 dX4_tall_34 ?_
  refine lv_aload_n hx hb dX4_tall_35 rfl (lv_at hl 0 rfl) ?_
  refine m_geta hx hb hts hown hK hP 11 (by decide) rfl q1357 rfl dX4_tall_36 ?_
  refine lv_iload_n hx hb dX4_tall_39 rfl (lv_at hl 1 rfl) ?_
  obtain ⟨hi2, hwp⟩ := hwp
  refine m_iald hx hb hK hP 11 rfl hi2 dX4_tall_40 ?_
  refine lv_iadd hx hb dX4_tall_41 ?_
  exact m_iret hx hb hr hlk hK hP hS ⟨hwp, rfl⟩ dX4_tall_42
def mw_tall_43 (σ : MSt) (K : Int32 → Prop) (x1 : Int32) : Prop :=
  vp_in x1 (lenM 7) ∧ (((¬ ((σ.2.1 7 x1.toNatClampNeg) = 2)) → (vp_in x1 (lenM 10) ∧ (K (σ.2.1 10 x1.toNatClampNeg)))) ∧ (((σ.2.1 7 x1.toNatClampNeg) = 2) → (K 0)))
set_option maxHeartbeats 4000000 in
set_option maxRecDepth 100000 in
theorem mk_tall_43 {p : Program} {l : Launch} {e : Env} {s : State} {m : MethodId} {args : Array Value} {below : List Frame} {meth : Method} {c : Code} {Γ : GA} {α : Nat → Nat} {σ : MSt} {K : Int32 → Prop} (X : CM p s m args meth c cX4_tall 2 (some .int) Γ α) : ∀ (x1 : Int32), mw_tall_43 σ K x1 → TM p l e ({ frames := 0, cells := 0, slots := 0, locals := 0 } : Room) s m args below meth c 2 (QI below (fun r u => K r ∧ u = σ) Γ α s args) Γ α σ 43 [(0, .ref (α 50)), (1, .int x1)] [] := by
  obtain ⟨hx, hb, hml, hown, hts, hK, hD, hr, hlk⟩ := id X
  have hA : ∀ q, s.heap.size ≤ q → AM α s.heap.size q := fun q h => Or.inr h
  intro x1 hwp H locs ls hP hS hl
  unfold mw_tall_43 at hwp
  refine lv_aload_n hx hb dX4_tall_43 rfl (lv_at hl 0 rfl) ?_
  refine m_geta hx hb hts hown hK hP 7 (by decide) rfl q1353 rfl dX4_tall_44 ?_
  refine lv_iload_n hx hb dX4_tall_47 rfl (lv_at hl 1 rfl) ?_
  obtain ⟨hi1, hwp⟩ := hwp
  refine m_iald hx hb hK hP 7 rfl hi1 dX4_tall_48 ?_
  refine lv_iconst (v := 2) hx hb dX4_tall_49 (by decide) ?_
  refine lv_icmp_ne (tgt := 57) hx hb dX4_tall_50 (by decide) (fun c2 => ?_) (fun c2 => ?_)
  · replace hwp := hwp.1 c2
    refine lv_aload_n hx hb dX4_tall_57 rfl (lv_at hl 0 rfl) ?_
    refine m_geta hx hb hts hown hK hP 10 (by decide) rfl q1356 rfl dX4_tall_58 ?_
    refine lv_iload_n hx hb dX4_tall_61 rfl (lv_at hl 1 rfl) ?_
    obtain ⟨hi3, hwp⟩ := hwp
    refine m_iald hx hb hK hP 10 rfl hi3 dX4_tall_62 ?_
    exact m_iret hx hb hr hlk hK hP hS ⟨hwp, rfl⟩ dX4_tall_63
  · replace hwp := hwp.2 c2
    refine lv_iconst (v := 0) hx hb dX4_tall_53 (by decide) ?_
    refine lv_goto (tgt := 63) hx hb dX4_tall_54 (by decide) ?_
    exact m_iret hx hb hr hlk hK hP hS ⟨hwp, rfl⟩ dX4_tall_63
def mw_tall (σ : MSt) (K : Int32 → Prop) (x1 : Int32) : Prop :=
  vp_in x1 (lenM 7) ∧ ((((σ.2.1 7 x1.toNatClampNeg) = 6) → (mw_tall_29 σ K x1)) ∧ ((¬ ((σ.2.1 7 x1.toNatClampNeg) = 6)) → (vp_in x1 (lenM 7) ∧ (((¬ ((σ.2.1 7 x1.toNatClampNeg) = 2)) → (mw_tall_43 σ K x1)) ∧ (((σ.2.1 7 x1.toNatClampNeg) = 2) → (((¬ ((σ.1 1) = 1)) → (mw_tall_43 σ K x1)) ∧ (((σ.1 1) = 1) → (mw_tall_29 σ K x1))))))))
set_option maxHeartbeats 4000000 in
set_option maxRecDepth 100000 in
theorem mt_tall {l : Launch} {Γ : GA} {α : Nat → Nat} {σ : MSt} {K : Int32 → Prop} {x1 : Int32} (hwp : mw_tall σ K x1) : mI l yX4_tall cX4_tall 2 (some .int) ({ frames := 0, cells := 0, slots := 0, locals := 0 } : Room) Γ α [.int x1] σ (fun r u => K r ∧ u = σ) := by
  intro sz
  refine m_of (by decide) rfl [(0, .ref (α 50)), (1, .int x1)] (fun _ h => h) (Nat.le_of_ble_eq_true rfl) ?_
  intro p e s m args below meth c hsz X H locs ls hP hS hl
  subst hsz
  obtain ⟨hx, hb, hml, hown, hts, hK, hD, hr, hlk⟩ := id X
  have hA : ∀ q, s.heap.size ≤ q → AM α s.heap.size q := fun q h => Or.inr h
  unfold mw_tall at hwp
  refine lv_aload_n hx hb dX4_tall_0 rfl (lv_at hl 0 rfl) ?_
  refine m_geta hx hb hts hown hK hP 7 (by decide) rfl q1353 rfl dX4_tall_1 ?_
  refine lv_iload_n hx hb dX4_tall_4 rfl (lv_at hl 1 rfl) ?_
  obtain ⟨hi1, hwp⟩ := hwp
  refine m_iald hx hb hK hP 7 rfl hi1 dX4_tall_5 ?_
  refine lv_bipush (v := 6) hx hb dX4_tall_6 (by decide) ?_
  refine lv_icmp_eq (tgt := 29) hx hb dX4_tall_8 (by decide) (fun c2 => ?_) (fun c2 => ?_)
  · replace hwp := hwp.1 c2
    exact mk_tall_29 X _ hwp H locs ls hP hS (lv_sub hl [0, 1] rfl)
  · replace hwp := hwp.2 c2
    refine lv_aload_n hx hb dX4_tall_11 rfl (lv_at hl 0 rfl) ?_
    refine m_geta hx hb hts hown hK hP 7 (by decide) rfl q1353 rfl dX4_tall_12 ?_
    refine lv_iload_n hx hb dX4_tall_15 rfl (lv_at hl 1 rfl) ?_
    obtain ⟨hi3, hwp⟩ := hwp
    refine m_iald hx hb hK hP 7 rfl hi3 dX4_tall_16 ?_
    refine lv_iconst (v := 2) hx hb dX4_tall_17 (by decide) ?_
    refine lv_icmp_ne (tgt := 43) hx hb dX4_tall_18 (by decide) (fun c4 => ?_) (fun c4 => ?_)
    · replace hwp := hwp.1 c4
      exact mk_tall_43 X _ hwp H locs ls hP hS (lv_sub hl [0, 1] rfl)
    · replace hwp := hwp.2 c4
      refine lv_aload_n hx hb dX4_tall_21 rfl (lv_at hl 0 rfl) ?_
      refine m_geti hx hb hts hown hK hP 1 (by decide) rfl q1347 rfl dX4_tall_22 ?_
      refine lv_iconst (v := 1) hx hb dX4_tall_25 (by decide) ?_
      refine lv_icmp_ne (tgt := 43) hx hb dX4_tall_26 (by decide) (fun c5 => ?_) (fun c5 => ?_)
      · replace hwp := hwp.1 c5
        exact mk_tall_43 X _ hwp H locs ls hP hS (lv_sub hl [0, 1] rfl)
      · replace hwp := hwp.2 c5
        exact mk_tall_29 X _ hwp H locs ls hP hS (lv_sub hl [0, 1] rfl)
/-! inWay -/
def mw_inWay_52_b (σ : MSt) (K : Int32 → Prop) (L52 : Int32 → Int32 → Int32 → Int32 → Int32 → Int32 → Int32 → Prop) (x1 : Int32) (x2 : Int32) (x3 : Int32) (x4 : Int32) (x5 : Int32) (x6 : Int32) (x7 : Int32) : Prop :=
  ((x5 ≤ x7) → (K x6)) ∧ ((¬ (x5 ≤ x7)) → (vp_in x1 (lenM 8) ∧ ((¬ x5 = 0) ∧ (vp_in x1 (lenM 9) ∧ ((¬ x5 = 0) ∧ (mw_at σ (fun r6 => ((r6 = (-1)) → (L52 x1 x2 x3 x4 x5 x6 (x7 + 1))) ∧ ((¬ (r6 = (-1))) → (mw_tall σ (fun r8 => mw_eyes σ (fun r9 => vp_in x2 (lenM 10) ∧ (((((r9 * (x5 - x7)) + ((σ.2.1 10 x2.toNatClampNeg) * x7)) < (r8 * x5)) → (((x6 = (-1)) → (L52 x1 x2 x3 x4 x5 r6 (x7 + 1))) ∧ ((¬ (x6 = (-1))) → (((x6 ≤ r6) → (L52 x1 x2 x3 x4 x5 x6 (x7 + 1))) ∧ ((¬ (x6 ≤ r6)) → (L52 x1 x2 x3 x4 x5 r6 (x7 + 1))))))) ∧ ((¬ (((r9 * (x5 - x7)) + ((σ.2.1 10 x2.toNatClampNeg) * x7)) < (r8 * x5))) → (L52 x1 x2 x3 x4 x5 x6 (x7 + 1))))) x1) r6))) ((σ.2.1 8 x1.toNatClampNeg) + ((x3 / x5) * x7)) ((σ.2.1 9 x1.toNatClampNeg) + ((x4 / x5) * x7))))))))
def mw_inWay_52 (σ : MSt) (K : Int32 → Prop) : Nat → Int32 → Int32 → Int32 → Int32 → Int32 → Int32 → Int32 → Prop
  | 0 => fun _ _ _ _ _ _ _ => False
  | n + 1 => fun x1 x2 x3 x4 x5 x6 x7 => mw_inWay_52_b σ K (mw_inWay_52 σ K n) x1 x2 x3 x4 x5 x6 x7
set_option maxHeartbeats 4000000 in
set_option maxRecDepth 100000 in
theorem mk_inWay_52_b {p : Program} {l : Launch} {e : Env} {s : State} {m : MethodId} {args : Array Value} {below : List Frame} {meth : Method} {c : Code} {Γ : GA} {α : Nat → Nat} {σ : MSt} {K : Int32 → Prop} (X : CM p s m args meth c cX4_inWay 9 (some .int) Γ α) {L52 : Int32 → Int32 → Int32 → Int32 → Int32 → Int32 → Int32 → Prop} (hL52 : ∀ (x1 : Int32) (x2 : Int32) (x3 : Int32) (x4 : Int32) (x5 : Int32) (x6 : Int32) (x7 : Int32), L52 x1 x2 x3 x4 x5 x6 x7 → TM p l e ({ frames := 17, cells := 0, slots := 0, locals := 374 } : Room) s m args below meth c 9 (QI below (fun r u => K r ∧ u = σ) Γ α s args) Γ α σ 52 [(0, .ref (α 50)), (1, .int x1), (2, .int x2), (3, .int x3), (4, .int x4), (5, .int x5), (6, .int x6), (7, .int x7)] []) : ∀ (x1 : Int32) (x2 : Int32) (x3 : Int32) (x4 : Int32) (x5 : Int32) (x6 : Int32) (x7 : Int32), mw_inWay_52_b σ K L52 x1 x2 x3 x4 x5 x6 x7 → TM p l e ({ frames := 17, cells := 0, slots := 0, locals := 374 } : Room) s m args below meth c 9 (QI below (fun r u => K r ∧ u = σ) Γ α s args) Γ α σ 52 [(0, .ref (α 50)), (1, .int x1), (2, .int x2), (3, .int x3), (4, .int x4), (5, .int x5), (6, .int x6), (7, .int x7)] [] := by
  obtain ⟨hx, hb, hml, hown, hts, hK, hD, hr, hlk⟩ := id X
  have hA : ∀ q, s.heap.size ≤ q → AM α s.heap.size q := fun q h => Or.inr h
  intro x1 x2 x3 x4 x5 x6 x7 hwp H locs ls hP hS hl
  unfold mw_inWay_52_b at hwp
  refine lv_iload hx hb dX4_inWay_52 (lv_at hl 7 rfl) ?_
  refine lv_iload hx hb dX4_inWay_54 (lv_at hl 5 rfl) ?_
  refine lv_icmp_ge (tgt := 159) hx hb dX4_inWay_56 (by decide) (fun c1 => ?_) (fun c1 => ?_)
  · replace hwp := hwp.1 c1
    refine lv_iload hx hb dX4_inWay_159 (lv_at hl 6 rfl) ?_
    exact m_iret hx hb hr hlk hK hP hS ⟨hwp, rfl⟩ dX4_inWay_161
  · replace hwp := hwp.2 c1
    refine lv_aload_n hx hb dX4_inWay_59 rfl (lv_at hl 0 rfl) ?_
    refine lv_aload_n hx hb dX4_inWay_60 rfl (lv_at hl 0 rfl) ?_
    refine m_geta hx hb hts hown hK hP 8 (by decide) rfl q1354 rfl dX4_inWay_61 ?_
    refine lv_iload_n hx hb dX4_inWay_64 rfl (lv_at hl 1 rfl) ?_
    obtain ⟨hi2, hwp⟩ := hwp
    refine m_iald hx hb hK hP 8 rfl hi2 dX4_inWay_65 ?_
    refine lv_iload_n hx hb dX4_inWay_66 rfl (lv_at hl 3 rfl) ?_
    refine lv_iload hx hb dX4_inWay_67 (lv_at hl 5 rfl) ?_
    obtain ⟨hz3, hwp⟩ := hwp
    refine lv_idiv hx hb dX4_inWay_69 hz3 ?_
    refine lv_iload hx hb dX4_inWay_70 (lv_at hl 7 rfl) ?_
    refine lv_imul hx hb dX4_inWay_72 ?_
    refine lv_iadd hx hb dX4_inWay_73 ?_
    refine lv_aload_n hx hb dX4_inWay_74 rfl (lv_at hl 0 rfl) ?_
    refine m_geta hx hb hts hown hK hP 9 (by decide) rfl q1355 rfl dX4_inWay_75 ?_
    refine lv_iload_n hx hb dX4_inWay_78 rfl (lv_at hl 1 rfl) ?_
    obtain ⟨hi4, hwp⟩ := hwp
    refine m_iald hx hb hK hP 9 rfl hi4 dX4_inWay_79 ?_
    refine lv_iload hx hb dX4_inWay_80 (lv_at hl 4 rfl) ?_
    refine lv_iload hx hb dX4_inWay_82 (lv_at hl 5 rfl) ?_
    obtain ⟨hz5, hwp⟩ := hwp
    refine lv_idiv hx hb dX4_inWay_84 hz5 ?_
    refine lv_iload hx hb dX4_inWay_85 (lv_at hl 7 rfl) ?_
    refine lv_imul hx hb dX4_inWay_87 ?_
    refine lv_iadd hx hb dX4_inWay_88 ?_
    refine m_calli ⟨hx, hb, hml, hown, hts⟩ hK hD hA hP hS (mt_at hwp) (cwV 2 hts (lw_V q1541 q1543 qs37 q79 q1544) rfl rfl rfl (by decide +kernel) ⟨Nat.le_of_ble_eq_true rfl, Nat.le_of_ble_eq_true rfl⟩) rfl hl.1 rfl (Nat.le_of_ble_eq_true rfl) dX4_inWay_89 ⟨Nat.zero_le _, Nat.zero_le _⟩ (fun r6 u H locs hk hP hS => ?_)
    obtain ⟨hwp, eu⟩ := hk
    rw [eu] at hP
    refine lv_istore (lv' := [(8, .int r6), (0, .ref (α 50)), (1, .int x1), (2, .int x2), (3, .int x3), (4, .int x4), (5, .int x5), (6, .int x6), (7, .int x7)]) hx hb dX4_inWay_92 hl (by decide) rfl (fun ls hl => ?_)
    refine lv_iload hx hb dX4_inWay_94 (lv_at hl 0 rfl) ?_
    refine lv_iconst (v := (-1)) hx hb dX4_inWay_96 (by decide) ?_
    refine lv_icmp_eq (tgt := 153) hx hb dX4_inWay_97 (by decide) (fun c7 => ?_) (fun c7 => ?_)
    · replace hwp := hwp.1 c7
      refine lv_iinc (v := x7 + 1) (lv' := [(7, .int (x7 + 1)), (8, .int r6), (0, .ref (α 50)), (1, .int x1), (2, .int x2), (3, .int x3), (4, .int x4), (5, .int x5), (6, .int x6)]) hx hb dX4_inWay_153 hl (k := 8) rfl rfl (by decide) rfl (fun ls hl => ?_)
      refine lv_goto (tgt := 52) hx hb dX4_inWay_156 (by decide) ?_
      exact hL52 _ _ _ _ _ _ _ hwp H locs ls hP hS (lv_sub hl [2, 3, 4, 5, 6, 7, 8, 0] rfl)
    · replace hwp := hwp.2 c7
      refine lv_aload_n hx hb dX4_inWay_100 rfl (lv_at hl 1 rfl) ?_
      refine lv_iload hx hb dX4_inWay_101 (lv_at hl 0 rfl) ?_
      refine m_calli ⟨hx, hb, hml, hown, hts⟩ hK hD hA hP hS (mt_tall hwp) (cwV 1 hts (lw_V q1505 q1507 qs28 q79 q1508) rfl rfl rfl (by decide +kernel) ⟨Nat.le_of_ble_eq_true rfl, Nat.le_of_ble_eq_true rfl⟩) rfl hl.1 rfl (Nat.le_of_ble_eq_true rfl) dX4_inWay_103 ⟨Nat.zero_le _, Nat.zero_le _⟩ (fun r8 u H locs hk hP hS => ?_)
      obtain ⟨hwp, eu⟩ := hk
      rw [eu] at hP
      refine lv_iload hx hb dX4_inWay_106 (lv_at hl 6 rfl) ?_
      refine lv_imul hx hb dX4_inWay_108 ?_
      refine lv_aload_n hx hb dX4_inWay_109 rfl (lv_at hl 1 rfl) ?_
      refine lv_iload_n hx hb dX4_inWay_110 rfl (lv_at hl 2 rfl) ?_
      refine m_calli ⟨hx, hb, hml, hown, hts⟩ hK hD hA hP hS (mt_eyes hwp) (cwV 1 hts (lw_V q1545 q1547 qs38 q79 q1548) rfl rfl rfl (by decide +kernel) ⟨Nat.le_of_ble_eq_true rfl, Nat.le_of_ble_eq_true rfl⟩) rfl hl.1 rfl (Nat.le_of_ble_eq_true rfl) dX4_inWay_111 ⟨Nat.zero_le _, Nat.zero_le _⟩ (fun r9 u H locs hk hP hS => ?_)
      obtain ⟨hwp, eu⟩ := hk
      rw [eu] at hP
      refine lv_iload hx hb dX4_inWay_114 (lv_at hl 6 rfl) ?_
      refine lv_iload hx hb dX4_inWay_116 (lv_at hl 8 rfl) ?_
      refine lv_isub hx hb dX4_inWay_118 ?_
      refine lv_imul hx hb dX4_inWay_119 ?_
      refine lv_aload_n hx hb dX4_inWay_120 rfl (lv_at hl 1 rfl) ?_
      refine m_geta hx hb hts hown hK hP 10 (by decide) rfl q1356 rfl dX4_inWay_121 ?_
      refine lv_iload_n hx hb dX4_inWay_124 rfl (lv_at hl 3 rfl) ?_
      obtain ⟨hi10, hwp⟩ := hwp
      refine m_iald hx hb hK hP 10 rfl hi10 dX4_inWay_125 ?_
      refine lv_iload hx hb dX4_inWay_126 (lv_at hl 8 rfl) ?_
      refine lv_imul hx hb dX4_inWay_128 ?_
      refine lv_iadd hx hb dX4_inWay_129 ?_
      refine lv_icmp_gt (tgt := 136) hx hb dX4_inWay_130 (by decide) (fun c11 => ?_) (fun c11 => ?_)
      · replace hwp := hwp.1 c11
        refine lv_iload hx hb dX4_inWay_136 (lv_at hl 7 rfl) ?_
        refine lv_iconst (v := (-1)) hx hb dX4_inWay_138 (by decide) ?_
        refine lv_icmp_eq (tgt := 149) hx hb dX4_inWay_139 (by decide) (fun c12 => ?_) (fun c12 => ?_)
        · replace hwp := hwp.1 c12
          refine lv_iload hx hb dX4_inWay_149 (lv_at hl 0 rfl) ?_
          refine lv_istore (lv' := [(6, .int r6), (8, .int r6), (0, .ref (α 50)), (1, .int x1), (2, .int x2), (3, .int x3), (4, .int x4), (5, .int x5), (7, .int x7)]) hx hb dX4_inWay_151 hl (by decide) rfl (fun ls hl => ?_)
          refine lv_iinc (v := x7 + 1) (lv' := [(7, .int (x7 + 1)), (6, .int r6), (8, .int r6), (0, .ref (α 50)), (1, .int x1), (2, .int x2), (3, .int x3), (4, .int x4), (5, .int x5)]) hx hb dX4_inWay_153 hl (k := 8) rfl rfl (by decide) rfl (fun ls hl => ?_)
          refine lv_goto (tgt := 52) hx hb dX4_inWay_156 (by decide) ?_
          exact hL52 _ _ _ _ _ _ _ hwp H locs ls hP hS (lv_sub hl [3, 4, 5, 6, 7, 8, 1, 0] rfl)
        · replace hwp := hwp.2 c12
          refine lv_iload hx hb dX4_inWay_142 (lv_at hl 0 rfl) ?_
          refine lv_iload hx hb dX4_inWay_144 (lv_at hl 7 rfl) ?_
          refine lv_icmp_ge (tgt := 153) hx hb dX4_inWay_146 (by decide) (fun c13 => ?_) (fun c13 => ?_)
          · replace hwp := hwp.1 c13
            refine lv_iinc (v := x7 + 1) (lv' := [(7, .int (x7 + 1)), (8, .int r6), (0, .ref (α 50)), (1, .int x1), (2, .int x2), (3, .int x3), (4, .int x4), (5, .int x5), (6, .int x6)]) hx hb dX4_inWay_153 hl (k := 8) rfl rfl (by decide) rfl (fun ls hl => ?_)
            refine lv_goto (tgt := 52) hx hb dX4_inWay_156 (by decide) ?_
            exact hL52 _ _ _ _ _ _ _ hwp H locs ls hP hS (lv_sub hl [2, 3, 4, 5, 6, 7, 8, 0] rfl)
          · replace hwp := hwp.2 c13
            refine lv_iload hx hb dX4_inWay_149 (lv_at hl 0 rfl) ?_
            refine lv_istore (lv' := [(6, .int r6), (8, .int r6), (0, .ref (α 50)), (1, .int x1), (2, .int x2), (3, .int x3), (4, .int x4), (5, .int x5), (7, .int x7)]) hx hb dX4_inWay_151 hl (by decide) rfl (fun ls hl => ?_)
            refine lv_iinc (v := x7 + 1) (lv' := [(7, .int (x7 + 1)), (6, .int r6), (8, .int r6), (0, .ref (α 50)), (1, .int x1), (2, .int x2), (3, .int x3), (4, .int x4), (5, .int x5)]) hx hb dX4_inWay_153 hl (k := 8) rfl rfl (by decide) rfl (fun ls hl => ?_)
            refine lv_goto (tgt := 52) hx hb dX4_inWay_156 (by decide) ?_
            exact hL52 _ _ _ _ _ _ _ hwp H locs ls hP hS (lv_sub hl [3, 4, 5, 6, 7, 8, 1, 0] rfl)
      · replace hwp := hwp.2 c11
        refine lv_goto (tgt := 153) hx hb dX4_inWay_133 (by decide) ?_
        refine lv_iinc (v := x7 + 1) (lv' := [(7, .int (x7 + 1)), (8, .int r6), (0, .ref (α 50)), (1, .int x1), (2, .int x2), (3, .int x3), (4, .int x4), (5, .int x5), (6, .int x6)]) hx hb dX4_inWay_153 hl (k := 8) rfl rfl (by decide) rfl (fun ls hl => ?_)
        refine lv_goto (tgt := 52) hx hb dX4_inWay_156 (by decide) ?_
        exact hL52 _ _ _ _ _ _ _ hwp H locs ls hP hS (lv_sub hl [2, 3, 4, 5, 6, 7, 8, 0] rfl)
set_option maxHeartbeats 4000000 in
set_option maxRecDepth 100000 in
theorem mk_inWay_52 {p : Program} {l : Launch} {e : Env} {s : State} {m : MethodId} {args : Array Value} {below : List Frame} {meth : Method} {c : Code} {Γ : GA} {α : Nat → Nat} {σ : MSt} {K : Int32 → Prop} (X : CM p s m args meth c cX4_inWay 9 (some .int) Γ α) : ∀ n (x1 : Int32) (x2 : Int32) (x3 : Int32) (x4 : Int32) (x5 : Int32) (x6 : Int32) (x7 : Int32), mw_inWay_52 σ K n x1 x2 x3 x4 x5 x6 x7 → TM p l e ({ frames := 17, cells := 0, slots := 0, locals := 374 } : Room) s m args below meth c 9 (QI below (fun r u => K r ∧ u = σ) Γ α s args) Γ α σ 52 [(0, .ref (α 50)), (1, .int x1), (2, .int x2), (3, .int x3), (4, .int x4), (5, .int x5), (6, .int x6), (7, .int x7)] [] := by
  intro n
  induction n with
  | zero => intro _ _ _ _ _ _ _ hwp; exact hwp.elim
  | succ n ih => intro x1 x2 x3 x4 x5 x6 x7 hwp; exact mk_inWay_52_b X ih x1 x2 x3 x4 x5 x6 x7 hwp
def mw_inWay (σ : MSt) (K : Int32 → Prop) (x1 : Int32) (x2 : Int32) : Prop :=
  vp_in x2 (lenM 8) ∧ (vp_in x1 (lenM 8) ∧ (vp_in x2 (lenM 9) ∧ (vp_in x1 (lenM 9) ∧ (mw_sizeOf σ (fun r5 => mw_sizeOf σ (fun r6 => mw_divides σ 16 (fun r7 => ∃ n, mw_inWay_52 σ K n x1 x2 ((σ.2.1 8 x2.toNatClampNeg) - (σ.2.1 8 x1.toNatClampNeg)) ((σ.2.1 9 x2.toNatClampNeg) - (σ.2.1 9 x1.toNatClampNeg)) r7 (-1) 1) r5 r6) ((σ.2.1 9 x2.toNatClampNeg) - (σ.2.1 9 x1.toNatClampNeg))) ((σ.2.1 8 x2.toNatClampNeg) - (σ.2.1 8 x1.toNatClampNeg))))))
set_option maxHeartbeats 4000000 in
set_option maxRecDepth 100000 in
theorem mt_inWay {l : Launch} {Γ : GA} {α : Nat → Nat} {σ : MSt} {K : Int32 → Prop} {x1 : Int32} {x2 : Int32} (hwp : mw_inWay σ K x1 x2) : mI l yX4_inWay cX4_inWay 9 (some .int) ({ frames := 17, cells := 0, slots := 0, locals := 374 } : Room) Γ α [.int x1, .int x2] σ (fun r u => K r ∧ u = σ) := by
  intro sz
  refine m_of (by decide) rfl [(0, .ref (α 50)), (1, .int x1), (2, .int x2)] (fun _ h => h) (Nat.le_of_ble_eq_true rfl) ?_
  intro p e s m args below meth c hsz X H locs ls hP hS hl
  subst hsz
  obtain ⟨hx, hb, hml, hown, hts, hK, hD, hr, hlk⟩ := id X
  have hA : ∀ q, s.heap.size ≤ q → AM α s.heap.size q := fun q h => Or.inr h
  unfold mw_inWay at hwp
  refine lv_aload_n hx hb dX4_inWay_0 rfl (lv_at hl 0 rfl) ?_
  refine m_geta hx hb hts hown hK hP 8 (by decide) rfl q1354 rfl dX4_inWay_1 ?_
  refine lv_iload_n hx hb dX4_inWay_4 rfl (lv_at hl 2 rfl) ?_
  obtain ⟨hi1, hwp⟩ := hwp
  refine m_iald hx hb hK hP 8 rfl hi1 dX4_inWay_5 ?_
  refine lv_aload_n hx hb dX4_inWay_6 rfl (lv_at hl 0 rfl) ?_
  refine m_geta hx hb hts hown hK hP 8 (by decide) rfl q1354 rfl dX4_inWay_7 ?_
  refine lv_iload_n hx hb dX4_inWay_10 rfl (lv_at hl 1 rfl) ?_
  obtain ⟨hi2, hwp⟩ := hwp
  refine m_iald hx hb hK hP 8 rfl hi2 dX4_inWay_11 ?_
  refine lv_isub hx hb dX4_inWay_12 ?_
  refine lv_istore_n (lv' := [(3, .int ((σ.2.1 8 x2.toNatClampNeg) - (σ.2.1 8 x1.toNatClampNeg))), (0, .ref (α 50)), (1, .int x1), (2, .int x2)]) hx hb dX4_inWay_13 rfl hl (by decide) rfl (fun ls hl => ?_)
  refine lv_aload_n hx hb dX4_inWay_14 rfl (lv_at hl 1 rfl) ?_
  refine m_geta hx hb hts hown hK hP 9 (by decide) rfl q1355 rfl dX4_inWay_15 ?_
  refine lv_iload_n hx hb dX4_inWay_18 rfl (lv_at hl 3 rfl) ?_
  obtain ⟨hi3, hwp⟩ := hwp
  refine m_iald hx hb hK hP 9 rfl hi3 dX4_inWay_19 ?_
  refine lv_aload_n hx hb dX4_inWay_20 rfl (lv_at hl 1 rfl) ?_
  refine m_geta hx hb hts hown hK hP 9 (by decide) rfl q1355 rfl dX4_inWay_21 ?_
  refine lv_iload_n hx hb dX4_inWay_24 rfl (lv_at hl 2 rfl) ?_
  obtain ⟨hi4, hwp⟩ := hwp
  refine m_iald hx hb hK hP 9 rfl hi4 dX4_inWay_25 ?_
  refine lv_isub hx hb dX4_inWay_26 ?_
  refine lv_istore (lv' := [(4, .int ((σ.2.1 9 x2.toNatClampNeg) - (σ.2.1 9 x1.toNatClampNeg))), (3, .int ((σ.2.1 8 x2.toNatClampNeg) - (σ.2.1 8 x1.toNatClampNeg))), (0, .ref (α 50)), (1, .int x1), (2, .int x2)]) hx hb dX4_inWay_27 hl (by decide) rfl (fun ls hl => ?_)
  refine lv_aload_n hx hb dX4_inWay_29 rfl (lv_at hl 2 rfl) ?_
  refine lv_aload_n hx hb dX4_inWay_30 rfl (lv_at hl 2 rfl) ?_
  refine lv_iload_n hx hb dX4_inWay_31 rfl (lv_at hl 1 rfl) ?_
  refine m_calli ⟨hx, hb, hml, hown, hts⟩ hK hD hA hP hS (mt_sizeOf hwp) (cwV 1 hts (lw_V q1529 q1531 qs34 q79 q1532) rfl rfl rfl (by decide +kernel) ⟨Nat.le_of_ble_eq_true rfl, Nat.le_of_ble_eq_true rfl⟩) rfl hl.1 rfl (Nat.le_of_ble_eq_true rfl) dX4_inWay_32 ⟨Nat.zero_le _, Nat.zero_le _⟩ (fun r5 u H locs hk hP hS => ?_)
  obtain ⟨hwp, eu⟩ := hk
  rw [eu] at hP
  refine lv_aload_n hx hb dX4_inWay_35 rfl (lv_at hl 2 rfl) ?_
  refine lv_iload hx hb dX4_inWay_36 (lv_at hl 0 rfl) ?_
  refine m_calli ⟨hx, hb, hml, hown, hts⟩ hK hD hA hP hS (mt_sizeOf hwp) (cwV 1 hts (lw_V q1529 q1531 qs34 q79 q1532) rfl rfl rfl (by decide +kernel) ⟨Nat.le_of_ble_eq_true rfl, Nat.le_of_ble_eq_true rfl⟩) rfl hl.1 rfl (Nat.le_of_ble_eq_true rfl) dX4_inWay_38 ⟨Nat.zero_le _, Nat.zero_le _⟩ (fun r6 u H locs hk hP hS => ?_)
  obtain ⟨hwp, eu⟩ := hk
  rw [eu] at hP
  refine m_calli ⟨hx, hb, hml, hown, hts⟩ hK hD hA hP hS (mt_divides 16 hwp) (cwV 2 hts (lw_V q1537 q1539 qs36 q79 q1540) rfl rfl rfl (by decide +kernel) ⟨Nat.le_of_ble_eq_true rfl, Nat.le_of_ble_eq_true rfl⟩) rfl hl.1 rfl (Nat.le_of_ble_eq_true rfl) dX4_inWay_41 ⟨Nat.zero_le _, Nat.zero_le _⟩ (fun r7 u H locs hk hP hS => ?_)
  obtain ⟨hwp, eu⟩ := hk
  rw [eu] at hP
  refine lv_istore (lv' := [(5, .int r7), (4, .int ((σ.2.1 9 x2.toNatClampNeg) - (σ.2.1 9 x1.toNatClampNeg))), (3, .int ((σ.2.1 8 x2.toNatClampNeg) - (σ.2.1 8 x1.toNatClampNeg))), (0, .ref (α 50)), (1, .int x1), (2, .int x2)]) hx hb dX4_inWay_44 hl (by decide) rfl (fun ls hl => ?_)
  refine lv_iconst (v := (-1)) hx hb dX4_inWay_46 (by decide) ?_
  refine lv_istore (lv' := [(6, .int (-1)), (5, .int r7), (4, .int ((σ.2.1 9 x2.toNatClampNeg) - (σ.2.1 9 x1.toNatClampNeg))), (3, .int ((σ.2.1 8 x2.toNatClampNeg) - (σ.2.1 8 x1.toNatClampNeg))), (0, .ref (α 50)), (1, .int x1), (2, .int x2)]) hx hb dX4_inWay_47 hl (by decide) rfl (fun ls hl => ?_)
  refine lv_iconst (v := 1) hx hb dX4_inWay_49 (by decide) ?_
  refine lv_istore (lv' := [(7, .int 1), (6, .int (-1)), (5, .int r7), (4, .int ((σ.2.1 9 x2.toNatClampNeg) - (σ.2.1 9 x1.toNatClampNeg))), (3, .int ((σ.2.1 8 x2.toNatClampNeg) - (σ.2.1 8 x1.toNatClampNeg))), (0, .ref (α 50)), (1, .int x1), (2, .int x2)]) hx hb dX4_inWay_50 hl (by decide) rfl (fun ls hl => ?_)
  obtain ⟨n, hwp⟩ := hwp
  exact mk_inWay_52 X n _ _ _ _ _ _ _ hwp H locs ls hP hS (lv_sub hl [5, 6, 7, 4, 3, 2, 1, 0] rfl)
/-! looks -/
def mw_looks (σ : MSt) (K : Int32 → Prop) (x1 : Int32) (x2 : Int32) : Prop :=
  vp_in x1 (lenM 7) ∧ ((((σ.2.1 7 x1.toNatClampNeg) = 5) → (K 0)) ∧ ((¬ ((σ.2.1 7 x1.toNatClampNeg) = 5)) → (mw_distance σ (fun r3 => (((σ.1 2) < r3) → (K 0)) ∧ ((¬ ((σ.1 2) < r3)) → (mw_inWay σ (fun r5 => ((¬ (r5 = (-1))) → (K 0)) ∧ ((r5 = (-1)) → (K 1))) x1 x2))) x1 x2)))
set_option maxHeartbeats 4000000 in
set_option maxRecDepth 100000 in
theorem mt_looks {l : Launch} {Γ : GA} {α : Nat → Nat} {σ : MSt} {K : Int32 → Prop} {x1 : Int32} {x2 : Int32} (hwp : mw_looks σ K x1 x2) : mI l yX4_looks cX4_looks 3 (some .boolean) ({ frames := 18, cells := 0, slots := 0, locals := 402 } : Room) Γ α [.int x1, .int x2] σ (fun r u => K r ∧ u = σ) := by
  intro sz
  refine m_of (by decide) rfl [(0, .ref (α 50)), (1, .int x1), (2, .int x2)] (fun _ h => h) (Nat.le_of_ble_eq_true rfl) ?_
  intro p e s m args below meth c hsz X H locs ls hP hS hl
  subst hsz
  obtain ⟨hx, hb, hml, hown, hts, hK, hD, hr, hlk⟩ := id X
  have hA : ∀ q, s.heap.size ≤ q → AM α s.heap.size q := fun q h => Or.inr h
  unfold mw_looks at hwp
  refine lv_aload_n hx hb dX4_looks_0 rfl (lv_at hl 0 rfl) ?_
  refine m_geta hx hb hts hown hK hP 7 (by decide) rfl q1353 rfl dX4_looks_1 ?_
  refine lv_iload_n hx hb dX4_looks_4 rfl (lv_at hl 1 rfl) ?_
  obtain ⟨hi1, hwp⟩ := hwp
  refine m_iald hx hb hK hP 7 rfl hi1 dX4_looks_5 ?_
  refine lv_iconst (v := 5) hx hb dX4_looks_6 (by decide) ?_
  refine lv_icmp_eq (tgt := 37) hx hb dX4_looks_7 (by decide) (fun c2 => ?_) (fun c2 => ?_)
  · replace hwp := hwp.1 c2
    refine lv_iconst (v := 0) hx hb dX4_looks_37 (by decide) ?_
    exact m_zret (v := 0) hx hb hr hlk hK hP hS (Or.inl rfl) ⟨hwp, rfl⟩ dX4_looks_38
  · replace hwp := hwp.2 c2
    refine lv_aload_n hx hb dX4_looks_10 rfl (lv_at hl 0 rfl) ?_
    refine lv_iload_n hx hb dX4_looks_11 rfl (lv_at hl 1 rfl) ?_
    refine lv_iload_n hx hb dX4_looks_12 rfl (lv_at hl 2 rfl) ?_
    refine m_calli ⟨hx, hb, hml, hown, hts⟩ hK hD hA hP hS (mt_distance hwp) (cwV 2 hts (lw_V q1525 q1527 qs33 q79 q1528) rfl rfl rfl (by decide +kernel) ⟨Nat.le_of_ble_eq_true rfl, Nat.le_of_ble_eq_true rfl⟩) rfl hl.1 rfl (Nat.le_of_ble_eq_true rfl) dX4_looks_13 ⟨Nat.zero_le _, Nat.zero_le _⟩ (fun r3 u H locs hk hP hS => ?_)
    obtain ⟨hwp, eu⟩ := hk
    rw [eu] at hP
    refine lv_aload_n hx hb dX4_looks_16 rfl (lv_at hl 0 rfl) ?_
    refine m_geti hx hb hts hown hK hP 2 (by decide) rfl q1348 rfl dX4_looks_17 ?_
    refine lv_icmp_gt (tgt := 37) hx hb dX4_looks_20 (by decide) (fun c4 => ?_) (fun c4 => ?_)
    · replace hwp := hwp.1 c4
      refine lv_iconst (v := 0) hx hb dX4_looks_37 (by decide) ?_
      exact m_zret (v := 0) hx hb hr hlk hK hP hS (Or.inl rfl) ⟨hwp, rfl⟩ dX4_looks_38
    · replace hwp := hwp.2 c4
      refine lv_aload_n hx hb dX4_looks_23 rfl (lv_at hl 0 rfl) ?_
      refine lv_iload_n hx hb dX4_looks_24 rfl (lv_at hl 1 rfl) ?_
      refine lv_iload_n hx hb dX4_looks_25 rfl (lv_at hl 2 rfl) ?_
      refine m_calli ⟨hx, hb, hml, hown, hts⟩ hK hD hA hP hS (mt_inWay hwp) (cwV 2 hts (lw_V q1533 q1535 qs35 q79 q1536) rfl rfl rfl (by decide +kernel) ⟨Nat.le_of_ble_eq_true rfl, Nat.le_of_ble_eq_true rfl⟩) rfl hl.1 rfl (Nat.le_of_ble_eq_true rfl) dX4_looks_26 ⟨Nat.zero_le _, Nat.zero_le _⟩ (fun r5 u H locs hk hP hS => ?_)
      obtain ⟨hwp, eu⟩ := hk
      rw [eu] at hP
      refine lv_iconst (v := (-1)) hx hb dX4_looks_29 (by decide) ?_
      refine lv_icmp_ne (tgt := 37) hx hb dX4_looks_30 (by decide) (fun c6 => ?_) (fun c6 => ?_)
      · replace hwp := hwp.1 c6
        refine lv_iconst (v := 0) hx hb dX4_looks_37 (by decide) ?_
        exact m_zret (v := 0) hx hb hr hlk hK hP hS (Or.inl rfl) ⟨hwp, rfl⟩ dX4_looks_38
      · replace hwp := hwp.2 c6
        refine lv_iconst (v := 1) hx hb dX4_looks_33 (by decide) ?_
        refine lv_goto (tgt := 38) hx hb dX4_looks_34 (by decide) ?_
        exact m_zret (v := 1) hx hb hr hlk hK hP hS (Or.inr rfl) ⟨hwp, rfl⟩ dX4_looks_38
/-! isSeen -/
def mw_isSeen (σ : MSt) (K : Int32 → Prop) (x1 : Int32) (x2 : Int32) : Prop :=
  vp_in x1 (lenM 12) ∧ (((¬ ((σ.2.1 12 x1.toNatClampNeg) = 0)) → (K 0)) ∧ (((σ.2.1 12 x1.toNatClampNeg) = 0) → (vp_in x1 (lenM 13) ∧ (((¬ ((((σ.2.1 13 x1.toNatClampNeg) >>> (x2 &&& 31)) &&& 1) = 0)) → (K 0)) ∧ (((((σ.2.1 13 x1.toNatClampNeg) >>> (x2 &&& 31)) &&& 1) = 0) → (mw_looks σ (fun r5 => ((r5 = 0) → (K 0)) ∧ ((¬ (r5 = 0)) → (K 1))) x1 x2))))))
set_option maxHeartbeats 4000000 in
set_option maxRecDepth 100000 in
theorem mt_isSeen {l : Launch} {Γ : GA} {α : Nat → Nat} {σ : MSt} {K : Int32 → Prop} {x1 : Int32} {x2 : Int32} (hwp : mw_isSeen σ K x1 x2) : mI l yX4_isSeen cX4_isSeen 3 (some .boolean) ({ frames := 19, cells := 0, slots := 0, locals := 424 } : Room) Γ α [.int x1, .int x2] σ (fun r u => K r ∧ u = σ) := by
  intro sz
  refine m_of (by decide) rfl [(0, .ref (α 50)), (1, .int x1), (2, .int x2)] (fun _ h => h) (Nat.le_of_ble_eq_true rfl) ?_
  intro p e s m args below meth c hsz X H locs ls hP hS hl
  subst hsz
  obtain ⟨hx, hb, hml, hown, hts, hK, hD, hr, hlk⟩ := id X
  have hA : ∀ q, s.heap.size ≤ q → AM α s.heap.size q := fun q h => Or.inr h
  unfold mw_isSeen at hwp
  refine lv_aload_n hx hb dX4_isSeen_0 rfl (lv_at hl 0 rfl) ?_
  refine m_geta hx hb hts hown hK hP 12 (by decide) rfl q1358 rfl dX4_isSeen_1 ?_
  refine lv_iload_n hx hb dX4_isSeen_4 rfl (lv_at hl 1 rfl) ?_
  obtain ⟨hi1, hwp⟩ := hwp
  refine m_iald hx hb hK hP 12 rfl hi1 dX4_isSeen_5 ?_
  refine lv_if_ne (tgt := 35) hx hb dX4_isSeen_6 (by decide) (fun c2 => ?_) (fun c2 => ?_)
  · replace hwp := hwp.1 c2
    refine lv_iconst (v := 0) hx hb dX4_isSeen_35 (by decide) ?_
    exact m_zret (v := 0) hx hb hr hlk hK hP hS (Or.inl rfl) ⟨hwp, rfl⟩ dX4_isSeen_36
  · replace hwp := hwp.2 c2
    refine lv_aload_n hx hb dX4_isSeen_9 rfl (lv_at hl 0 rfl) ?_
    refine m_geta hx hb hts hown hK hP 13 (by decide) rfl q1359 rfl dX4_isSeen_10 ?_
    refine lv_iload_n hx hb dX4_isSeen_13 rfl (lv_at hl 1 rfl) ?_
    obtain ⟨hi3, hwp⟩ := hwp
    refine m_iald hx hb hK hP 13 rfl hi3 dX4_isSeen_14 ?_
    refine lv_iload_n hx hb dX4_isSeen_15 rfl (lv_at hl 2 rfl) ?_
    refine lv_ishr hx hb dX4_isSeen_16 ?_
    refine lv_iconst (v := 1) hx hb dX4_isSeen_17 (by decide) ?_
    refine lv_iand hx hb dX4_isSeen_18 ?_
    refine lv_if_ne (tgt := 35) hx hb dX4_isSeen_19 (by decide) (fun c4 => ?_) (fun c4 => ?_)
    · replace hwp := hwp.1 c4
      refine lv_iconst (v := 0) hx hb dX4_isSeen_35 (by decide) ?_
      exact m_zret (v := 0) hx hb hr hlk hK hP hS (Or.inl rfl) ⟨hwp, rfl⟩ dX4_isSeen_36
    · replace hwp := hwp.2 c4
      refine lv_aload_n hx hb dX4_isSeen_22 rfl (lv_at hl 0 rfl) ?_
      refine lv_iload_n hx hb dX4_isSeen_23 rfl (lv_at hl 1 rfl) ?_
      refine lv_iload_n hx hb dX4_isSeen_24 rfl (lv_at hl 2 rfl) ?_
      refine m_calli ⟨hx, hb, hml, hown, hts⟩ hK hD hA hP hS (mt_looks hwp) (cwV 2 hts (lw_V q1521 q1523 qs32 q79 q1524) rfl rfl rfl (by decide +kernel) ⟨Nat.le_of_ble_eq_true rfl, Nat.le_of_ble_eq_true rfl⟩) rfl hl.1 rfl (Nat.le_of_ble_eq_true rfl) dX4_isSeen_25 ⟨Nat.zero_le _, Nat.zero_le _⟩ (fun r5 u H locs hk hP hS => ?_)
      obtain ⟨hwp, eu⟩ := hk
      rw [eu] at hP
      refine lv_if_eq (tgt := 35) hx hb dX4_isSeen_28 (by decide) (fun c6 => ?_) (fun c6 => ?_)
      · replace hwp := hwp.1 c6
        refine lv_iconst (v := 0) hx hb dX4_isSeen_35 (by decide) ?_
        exact m_zret (v := 0) hx hb hr hlk hK hP hS (Or.inl rfl) ⟨hwp, rfl⟩ dX4_isSeen_36
      · replace hwp := hwp.2 c6
        refine lv_iconst (v := 1) hx hb dX4_isSeen_31 (by decide) ?_
        refine lv_goto (tgt := 36) hx hb dX4_isSeen_32 (by decide) ?_
        exact m_zret (v := 1) hx hb hr hlk hK hP hS (Or.inr rfl) ⟨hwp, rfl⟩ dX4_isSeen_36
/-! seesInto -/
def mw_seesInto_4_b (σ : MSt) (K : Int32 → Prop) (L4 : Int32 → Int32 → Int32 → Prop) (x1 : Int32) (x2 : Int32) (x3 : Int32) : Prop :=
  (((σ.1 0) ≤ x3) → (K x2)) ∧ ((¬ ((σ.1 0) ≤ x3)) → (((x3 = x1) → (L4 x1 x2 (x3 + 1))) ∧ ((¬ (x3 = x1)) → (mw_isHouse σ (fun r3 => ((r3 = 0) → (L4 x1 x2 (x3 + 1))) ∧ ((¬ (r3 = 0)) → (mw_isSeen σ (fun r5 => ((r5 = 0) → (L4 x1 x2 (x3 + 1))) ∧ ((¬ (r5 = 0)) → (L4 x1 (x2 ||| (1 <<< (x3 &&& 31))) (x3 + 1)))) x3 x1))) x3))))
def mw_seesInto_4 (σ : MSt) (K : Int32 → Prop) : Nat → Int32 → Int32 → Int32 → Prop
  | 0 => fun _ _ _ => False
  | n + 1 => fun x1 x2 x3 => mw_seesInto_4_b σ K (mw_seesInto_4 σ K n) x1 x2 x3
set_option maxHeartbeats 4000000 in
set_option maxRecDepth 100000 in
theorem mk_seesInto_4_b {p : Program} {l : Launch} {e : Env} {s : State} {m : MethodId} {args : Array Value} {below : List Frame} {meth : Method} {c : Code} {Γ : GA} {α : Nat → Nat} {σ : MSt} {K : Int32 → Prop} (X : CM p s m args meth c cX4_seesInto 4 (some .int) Γ α) {L4 : Int32 → Int32 → Int32 → Prop} (hL4 : ∀ (x1 : Int32) (x2 : Int32) (x3 : Int32), L4 x1 x2 x3 → TM p l e ({ frames := 20, cells := 0, slots := 0, locals := 446 } : Room) s m args below meth c 4 (QI below (fun r u => K r ∧ u = σ) Γ α s args) Γ α σ 4 [(0, .ref (α 50)), (1, .int x1), (2, .int x2), (3, .int x3)] []) : ∀ (x1 : Int32) (x2 : Int32) (x3 : Int32), mw_seesInto_4_b σ K L4 x1 x2 x3 → TM p l e ({ frames := 20, cells := 0, slots := 0, locals := 446 } : Room) s m args below meth c 4 (QI below (fun r u => K r ∧ u = σ) Γ α s args) Γ α σ 4 [(0, .ref (α 50)), (1, .int x1), (2, .int x2), (3, .int x3)] [] := by
  obtain ⟨hx, hb, hml, hown, hts, hK, hD, hr, hlk⟩ := id X
  have hA : ∀ q, s.heap.size ≤ q → AM α s.heap.size q := fun q h => Or.inr h
  intro x1 x2 x3 hwp H locs ls hP hS hl
  unfold mw_seesInto_4_b at hwp
  refine lv_iload_n hx hb dX4_seesInto_4 rfl (lv_at hl 3 rfl) ?_
  refine lv_aload_n hx hb dX4_seesInto_5 rfl (lv_at hl 0 rfl) ?_
  refine m_geti hx hb hts hown hK hP 0 (by decide) rfl q1346 rfl dX4_seesInto_6 ?_
  refine lv_icmp_ge (tgt := 46) hx hb dX4_seesInto_9 (by decide) (fun c1 => ?_) (fun c1 => ?_)
  · replace hwp := hwp.1 c1
    refine lv_iload_n hx hb dX4_seesInto_46 rfl (lv_at hl 2 rfl) ?_
    exact m_iret hx hb hr hlk hK hP hS ⟨hwp, rfl⟩ dX4_seesInto_47
  · replace hwp := hwp.2 c1
    refine lv_iload_n hx hb dX4_seesInto_12 rfl (lv_at hl 3 rfl) ?_
    refine lv_iload_n hx hb dX4_seesInto_13 rfl (lv_at hl 1 rfl) ?_
    refine lv_icmp_eq (tgt := 40) hx hb dX4_seesInto_14 (by decide) (fun c2 => ?_) (fun c2 => ?_)
    · replace hwp := hwp.1 c2
      refine lv_iinc (v := x3 + 1) (lv' := [(3, .int (x3 + 1)), (0, .ref (α 50)), (1, .int x1), (2, .int x2)]) hx hb dX4_seesInto_40 hl (k := 3) rfl rfl (by decide) rfl (fun ls hl => ?_)
      refine lv_goto (tgt := 4) hx hb dX4_seesInto_43 (by decide) ?_
      exact hL4 _ _ _ hwp H locs ls hP hS (lv_sub hl [1, 2, 3, 0] rfl)
    · replace hwp := hwp.2 c2
      refine lv_aload_n hx hb dX4_seesInto_17 rfl (lv_at hl 0 rfl) ?_
      refine lv_iload_n hx hb dX4_seesInto_18 rfl (lv_at hl 3 rfl) ?_
      refine m_calli ⟨hx, hb, hml, hown, hts⟩ hK hD hA hP hS (mt_isHouse hwp) (cwV 1 hts (lw_V q1501 q1503 qs27 q79 q1504) rfl rfl rfl (by decide +kernel) ⟨Nat.le_of_ble_eq_true rfl, Nat.le_of_ble_eq_true rfl⟩) rfl hl.1 rfl (Nat.le_of_ble_eq_true rfl) dX4_seesInto_19 ⟨Nat.zero_le _, Nat.zero_le _⟩ (fun r3 u H locs hk hP hS => ?_)
      obtain ⟨hwp, eu⟩ := hk
      rw [eu] at hP
      refine lv_if_eq (tgt := 40) hx hb dX4_seesInto_22 (by decide) (fun c4 => ?_) (fun c4 => ?_)
      · replace hwp := hwp.1 c4
        refine lv_iinc (v := x3 + 1) (lv' := [(3, .int (x3 + 1)), (0, .ref (α 50)), (1, .int x1), (2, .int x2)]) hx hb dX4_seesInto_40 hl (k := 3) rfl rfl (by decide) rfl (fun ls hl => ?_)
        refine lv_goto (tgt := 4) hx hb dX4_seesInto_43 (by decide) ?_
        exact hL4 _ _ _ hwp H locs ls hP hS (lv_sub hl [1, 2, 3, 0] rfl)
      · replace hwp := hwp.2 c4
        refine lv_aload_n hx hb dX4_seesInto_25 rfl (lv_at hl 0 rfl) ?_
        refine lv_iload_n hx hb dX4_seesInto_26 rfl (lv_at hl 3 rfl) ?_
        refine lv_iload_n hx hb dX4_seesInto_27 rfl (lv_at hl 1 rfl) ?_
        refine m_calli ⟨hx, hb, hml, hown, hts⟩ hK hD hA hP hS (mt_isSeen hwp) (cwV 2 hts (lw_V q1517 q1519 qs31 q79 q1520) rfl rfl rfl (by decide +kernel) ⟨Nat.le_of_ble_eq_true rfl, Nat.le_of_ble_eq_true rfl⟩) rfl hl.1 rfl (Nat.le_of_ble_eq_true rfl) dX4_seesInto_28 ⟨Nat.zero_le _, Nat.zero_le _⟩ (fun r5 u H locs hk hP hS => ?_)
        obtain ⟨hwp, eu⟩ := hk
        rw [eu] at hP
        refine lv_if_eq (tgt := 40) hx hb dX4_seesInto_31 (by decide) (fun c6 => ?_) (fun c6 => ?_)
        · replace hwp := hwp.1 c6
          refine lv_iinc (v := x3 + 1) (lv' := [(3, .int (x3 + 1)), (0, .ref (α 50)), (1, .int x1), (2, .int x2)]) hx hb dX4_seesInto_40 hl (k := 3) rfl rfl (by decide) rfl (fun ls hl => ?_)
          refine lv_goto (tgt := 4) hx hb dX4_seesInto_43 (by decide) ?_
          exact hL4 _ _ _ hwp H locs ls hP hS (lv_sub hl [1, 2, 3, 0] rfl)
        · replace hwp := hwp.2 c6
          refine lv_iload_n hx hb dX4_seesInto_34 rfl (lv_at hl 2 rfl) ?_
          refine lv_iconst (v := 1) hx hb dX4_seesInto_35 (by decide) ?_
          refine lv_iload_n hx hb dX4_seesInto_36 rfl (lv_at hl 3 rfl) ?_
          refine lv_ishl hx hb dX4_seesInto_37 ?_
          refine lv_ior hx hb dX4_seesInto_38 ?_
          refine lv_istore_n (lv' := [(2, .int (x2 ||| (1 <<< (x3 &&& 31)))), (0, .ref (α 50)), (1, .int x1), (3, .int x3)]) hx hb dX4_seesInto_39 rfl hl (by decide) rfl (fun ls hl => ?_)
          refine lv_iinc (v := x3 + 1) (lv' := [(3, .int (x3 + 1)), (2, .int (x2 ||| (1 <<< (x3 &&& 31)))), (0, .ref (α 50)), (1, .int x1)]) hx hb dX4_seesInto_40 hl (k := 3) rfl rfl (by decide) rfl (fun ls hl => ?_)
          refine lv_goto (tgt := 4) hx hb dX4_seesInto_43 (by decide) ?_
          exact hL4 _ _ _ hwp H locs ls hP hS (lv_sub hl [2, 3, 1, 0] rfl)
set_option maxHeartbeats 4000000 in
set_option maxRecDepth 100000 in
theorem mk_seesInto_4 {p : Program} {l : Launch} {e : Env} {s : State} {m : MethodId} {args : Array Value} {below : List Frame} {meth : Method} {c : Code} {Γ : GA} {α : Nat → Nat} {σ : MSt} {K : Int32 → Prop} (X : CM p s m args meth c cX4_seesInto 4 (some .int) Γ α) : ∀ n (x1 : Int32) (x2 : Int32) (x3 : Int32), mw_seesInto_4 σ K n x1 x2 x3 → TM p l e ({ frames := 20, cells := 0, slots := 0, locals := 446 } : Room) s m args below meth c 4 (QI below (fun r u => K r ∧ u = σ) Γ α s args) Γ α σ 4 [(0, .ref (α 50)), (1, .int x1), (2, .int x2), (3, .int x3)] [] := by
  intro n
  induction n with
  | zero => intro _ _ _ hwp; exact hwp.elim
  | succ n ih => intro x1 x2 x3 hwp; exact mk_seesInto_4_b X ih x1 x2 x3 hwp
def mw_seesInto (σ : MSt) (K : Int32 → Prop) (x1 : Int32) : Prop :=
  ∃ n, mw_seesInto_4 σ K n x1 0 0
set_option maxHeartbeats 4000000 in
set_option maxRecDepth 100000 in
theorem mt_seesInto {l : Launch} {Γ : GA} {α : Nat → Nat} {σ : MSt} {K : Int32 → Prop} {x1 : Int32} (hwp : mw_seesInto σ K x1) : mI l yX4_seesInto cX4_seesInto 4 (some .int) ({ frames := 20, cells := 0, slots := 0, locals := 446 } : Room) Γ α [.int x1] σ (fun r u => K r ∧ u = σ) := by
  intro sz
  refine m_of (by decide) rfl [(0, .ref (α 50)), (1, .int x1)] (fun _ h => h) (Nat.le_of_ble_eq_true rfl) ?_
  intro p e s m args below meth c hsz X H locs ls hP hS hl
  subst hsz
  obtain ⟨hx, hb, hml, hown, hts, hK, hD, hr, hlk⟩ := id X
  have hA : ∀ q, s.heap.size ≤ q → AM α s.heap.size q := fun q h => Or.inr h
  unfold mw_seesInto at hwp
  refine lv_iconst (v := 0) hx hb dX4_seesInto_0 (by decide) ?_
  refine lv_istore_n (lv' := [(2, .int 0), (0, .ref (α 50)), (1, .int x1)]) hx hb dX4_seesInto_1 rfl hl (by decide) rfl (fun ls hl => ?_)
  refine lv_iconst (v := 0) hx hb dX4_seesInto_2 (by decide) ?_
  refine lv_istore_n (lv' := [(3, .int 0), (2, .int 0), (0, .ref (α 50)), (1, .int x1)]) hx hb dX4_seesInto_3 rfl hl (by decide) rfl (fun ls hl => ?_)
  obtain ⟨n, hwp⟩ := hwp
  exact mk_seesInto_4 X n _ _ _ hwp H locs ls hP hS (lv_sub hl [2, 3, 1, 0] rfl)
/-! seersOf -/
def mw_seersOf_8_b (σ : MSt) (K : Int32 → Prop) (L8 : Int32 → Int32 → Prop) (x2 : Int32) (x3 : Int32) : Prop :=
  (((σ.1 0) ≤ x3) → (K x2)) ∧ ((¬ ((σ.1 0) ≤ x3)) → (vp_in x3 (lenM 7) ∧ (((¬ ((σ.2.1 7 x3.toNatClampNeg) = 3)) → (L8 x2 (x3 + 1))) ∧ (((σ.2.1 7 x3.toNatClampNeg) = 3) → (L8 (x2 &&& ((1 <<< (x3 &&& 31)) ^^^ (-1))) (x3 + 1))))))
def mw_seersOf_8 (σ : MSt) (K : Int32 → Prop) : Nat → Int32 → Int32 → Prop
  | 0 => fun _ _ => False
  | n + 1 => fun x2 x3 => mw_seersOf_8_b σ K (mw_seersOf_8 σ K n) x2 x3
set_option maxHeartbeats 4000000 in
set_option maxRecDepth 100000 in
theorem mk_seersOf_8_b {p : Program} {l : Launch} {e : Env} {s : State} {m : MethodId} {args : Array Value} {below : List Frame} {meth : Method} {c : Code} {Γ : GA} {α : Nat → Nat} {σ : MSt} {K : Int32 → Prop} (X : CM p s m args meth c cX4_seersOf 4 (some .int) Γ α) {L8 : Int32 → Int32 → Prop} (hL8 : ∀ (x2 : Int32) (x3 : Int32), L8 x2 x3 → TM p l e ({ frames := 21, cells := 0, slots := 0, locals := 469 } : Room) s m args below meth c 4 (QI below (fun r u => K r ∧ u = σ) Γ α s args) Γ α σ 8 [(0, .ref (α 50)), (2, .int x2), (3, .int x3)] []) : ∀ (x2 : Int32) (x3 : Int32), mw_seersOf_8_b σ K L8 x2 x3 → TM p l e ({ frames := 21, cells := 0, slots := 0, locals := 469 } : Room) s m args below meth c 4 (QI below (fun r u => K r ∧ u = σ) Γ α s args) Γ α σ 8 [(0, .ref (α 50)), (2, .int x2), (3, .int x3)] [] := by
  obtain ⟨hx, hb, hml, hown, hts, hK, hD, hr, hlk⟩ := id X
  have hA : ∀ q, s.heap.size ≤ q → AM α s.heap.size q := fun q h => Or.inr h
  intro x2 x3 hwp H locs ls hP hS hl
  unfold mw_seersOf_8_b at hwp
  refine lv_iload_n hx hb dX4_seersOf_8 rfl (lv_at hl 2 rfl) ?_
  refine lv_aload_n hx hb dX4_seersOf_9 rfl (lv_at hl 0 rfl) ?_
  refine m_geti hx hb hts hown hK hP 0 (by decide) rfl q1346 rfl dX4_seersOf_10 ?_
  refine lv_icmp_ge (tgt := 40) hx hb dX4_seersOf_13 (by decide) (fun c1 => ?_) (fun c1 => ?_)
  · replace hwp := hwp.1 c1
    refine lv_iload_n hx hb dX4_seersOf_40 rfl (lv_at hl 1 rfl) ?_
    exact m_iret hx hb hr hlk hK hP hS ⟨hwp, rfl⟩ dX4_seersOf_41
  · replace hwp := hwp.2 c1
    refine lv_aload_n hx hb dX4_seersOf_16 rfl (lv_at hl 0 rfl) ?_
    refine m_geta hx hb hts hown hK hP 7 (by decide) rfl q1353 rfl dX4_seersOf_17 ?_
    refine lv_iload_n hx hb dX4_seersOf_20 rfl (lv_at hl 2 rfl) ?_
    obtain ⟨hi2, hwp⟩ := hwp
    refine m_iald hx hb hK hP 7 rfl hi2 dX4_seersOf_21 ?_
    refine lv_iconst (v := 3) hx hb dX4_seersOf_22 (by decide) ?_
    refine lv_icmp_ne (tgt := 34) hx hb dX4_seersOf_23 (by decide) (fun c3 => ?_) (fun c3 => ?_)
    · replace hwp := hwp.1 c3
      refine lv_iinc (v := x3 + 1) (lv' := [(3, .int (x3 + 1)), (0, .ref (α 50)), (2, .int x2)]) hx hb dX4_seersOf_34 hl (k := 2) rfl rfl (by decide) rfl (fun ls hl => ?_)
      refine lv_goto (tgt := 8) hx hb dX4_seersOf_37 (by decide) ?_
      exact hL8 _ _ hwp H locs ls hP hS (lv_sub hl [1, 2, 0] rfl)
    · replace hwp := hwp.2 c3
      refine lv_iload_n hx hb dX4_seersOf_26 rfl (lv_at hl 1 rfl) ?_
      refine lv_iconst (v := 1) hx hb dX4_seersOf_27 (by decide) ?_
      refine lv_iload_n hx hb dX4_seersOf_28 rfl (lv_at hl 2 rfl) ?_
      refine lv_ishl hx hb dX4_seersOf_29 ?_
      refine lv_iconst (v := (-1)) hx hb dX4_seersOf_30 (by decide) ?_
      refine lv_ixor hx hb dX4_seersOf_31 ?_
      refine lv_iand hx hb dX4_seersOf_32 ?_
      refine lv_istore_n (lv' := [(2, .int (x2 &&& ((1 <<< (x3 &&& 31)) ^^^ (-1)))), (0, .ref (α 50)), (3, .int x3)]) hx hb dX4_seersOf_33 rfl hl (by decide) rfl (fun ls hl => ?_)
      refine lv_iinc (v := x3 + 1) (lv' := [(3, .int (x3 + 1)), (2, .int (x2 &&& ((1 <<< (x3 &&& 31)) ^^^ (-1)))), (0, .ref (α 50))]) hx hb dX4_seersOf_34 hl (k := 2) rfl rfl (by decide) rfl (fun ls hl => ?_)
      refine lv_goto (tgt := 8) hx hb dX4_seersOf_37 (by decide) ?_
      exact hL8 _ _ hwp H locs ls hP hS (lv_sub hl [2, 1, 0] rfl)
set_option maxHeartbeats 4000000 in
set_option maxRecDepth 100000 in
theorem mk_seersOf_8 {p : Program} {l : Launch} {e : Env} {s : State} {m : MethodId} {args : Array Value} {below : List Frame} {meth : Method} {c : Code} {Γ : GA} {α : Nat → Nat} {σ : MSt} {K : Int32 → Prop} (X : CM p s m args meth c cX4_seersOf 4 (some .int) Γ α) : ∀ n (x2 : Int32) (x3 : Int32), mw_seersOf_8 σ K n x2 x3 → TM p l e ({ frames := 21, cells := 0, slots := 0, locals := 469 } : Room) s m args below meth c 4 (QI below (fun r u => K r ∧ u = σ) Γ α s args) Γ α σ 8 [(0, .ref (α 50)), (2, .int x2), (3, .int x3)] [] := by
  intro n
  induction n with
  | zero => intro _ _ hwp; exact hwp.elim
  | succ n ih => intro x2 x3 hwp; exact mk_seersOf_8_b X ih x2 x3 hwp
def mw_seersOf (σ : MSt) (K : Int32 → Prop) (x1 : Int32) : Prop :=
  mw_seesInto σ (fun r1 => ∃ n, mw_seersOf_8 σ K n r1 0) x1
set_option maxHeartbeats 4000000 in
set_option maxRecDepth 100000 in
theorem mt_seersOf {l : Launch} {Γ : GA} {α : Nat → Nat} {σ : MSt} {K : Int32 → Prop} {x1 : Int32} (hwp : mw_seersOf σ K x1) : mI l yX4_seersOf cX4_seersOf 4 (some .int) ({ frames := 21, cells := 0, slots := 0, locals := 469 } : Room) Γ α [.int x1] σ (fun r u => K r ∧ u = σ) := by
  intro sz
  refine m_of (by decide) rfl [(0, .ref (α 50)), (1, .int x1)] (fun _ h => h) (Nat.le_of_ble_eq_true rfl) ?_
  intro p e s m args below meth c hsz X H locs ls hP hS hl
  subst hsz
  obtain ⟨hx, hb, hml, hown, hts, hK, hD, hr, hlk⟩ := id X
  have hA : ∀ q, s.heap.size ≤ q → AM α s.heap.size q := fun q h => Or.inr h
  unfold mw_seersOf at hwp
  refine lv_aload_n hx hb dX4_seersOf_0 rfl (lv_at hl 0 rfl) ?_
  refine lv_iload_n hx hb dX4_seersOf_1 rfl (lv_at hl 1 rfl) ?_
  refine m_calli ⟨hx, hb, hml, hown, hts⟩ hK hD hA hP hS (mt_seesInto hwp) (cwV 1 hts (lw_V q1513 q1515 qs30 q79 q1516) rfl rfl rfl (by decide +kernel) ⟨Nat.le_of_ble_eq_true rfl, Nat.le_of_ble_eq_true rfl⟩) rfl hl.1 rfl (Nat.le_of_ble_eq_true rfl) dX4_seersOf_2 ⟨Nat.zero_le _, Nat.zero_le _⟩ (fun r1 u H locs hk hP hS => ?_)
  obtain ⟨hwp, eu⟩ := hk
  rw [eu] at hP
  refine lv_istore_n (lv' := [(2, .int r1), (0, .ref (α 50)), (1, .int x1)]) hx hb dX4_seersOf_5 rfl hl (by decide) rfl (fun ls hl => ?_)
  refine lv_iconst (v := 0) hx hb dX4_seersOf_6 (by decide) ?_
  refine lv_istore_n (lv' := [(3, .int 0), (2, .int r1), (0, .ref (α 50)), (1, .int x1)]) hx hb dX4_seersOf_7 rfl hl (by decide) rfl (fun ls hl => ?_)
  obtain ⟨n, hwp⟩ := hwp
  exact mk_seersOf_8 X n _ _ hwp H locs ls hP hS (lv_sub hl [2, 1, 0] rfl)
/-! isRight -/
def mw_isRight_24 (σ : MSt) (K : Int32 → Prop) (t0 : Int32) (t1 : Int32) : Prop :=
  ((¬ (t1 = t0)) → (K 0)) ∧ ((t1 = t0) → (K 1))
set_option maxHeartbeats 4000000 in
set_option maxRecDepth 100000 in
theorem mk_isRight_24 {p : Program} {l : Launch} {e : Env} {s : State} {m : MethodId} {args : Array Value} {below : List Frame} {meth : Method} {c : Code} {Γ : GA} {α : Nat → Nat} {σ : MSt} {K : Int32 → Prop} (X : CM p s m args meth c cX4_isRight 2 (some .boolean) Γ α) : ∀ (t0 : Int32) (t1 : Int32), mw_isRight_24 σ K t0 t1 → TM p l e ({ frames := 22, cells := 0, slots := 0, locals := 492 } : Room) s m args below meth c 2 (QI below (fun r u => K r ∧ u = σ) Γ α s args) Γ α σ 24 [] [.int t0, .int t1] := by
  obtain ⟨hx, hb, hml, hown, hts, hK, hD, hr, hlk⟩ := id X
  have hA : ∀ q, s.heap.size ≤ q → AM α s.heap.size q := fun q h => Or.inr h
  intro t0 t1 hwp H locs ls hP hS hl
  unfold mw_isRight_24 at hwp
  refine lv_icmp_ne (tgt := 31) hx hb dX4_isRight_24 (by decide) (fun c1 => ?_) (fun c1 => ?_)
  · replace hwp := hwp.1 c1
    refine lv_iconst (v := 0) hx hb dX4_isRight_31 (by decide) ?_
    exact m_zret (v := 0) hx hb hr hlk hK hP hS (Or.inl rfl) ⟨hwp, rfl⟩ dX4_isRight_32
  · replace hwp := hwp.2 c1
    refine lv_iconst (v := 1) hx hb dX4_isRight_27 (by decide) ?_
    refine lv_goto (tgt := 32) hx hb dX4_isRight_28 (by decide) ?_
    exact m_zret (v := 1) hx hb hr hlk hK hP hS (Or.inr rfl) ⟨hwp, rfl⟩ dX4_isRight_32
def mw_isRight (σ : MSt) (K : Int32 → Prop) (x1 : Int32) : Prop :=
  mw_seersOf σ (fun r1 => mw_many σ (fun r2 => vp_in x1 (lenM 7) ∧ (((¬ ((σ.2.1 7 x1.toNatClampNeg) = 4)) → (mw_isRight_24 σ K 1 r2)) ∧ (((σ.2.1 7 x1.toNatClampNeg) = 4) → (mw_isRight_24 σ K 0 r2)))) r1) x1
set_option maxHeartbeats 4000000 in
set_option maxRecDepth 100000 in
theorem mt_isRight {l : Launch} {Γ : GA} {α : Nat → Nat} {σ : MSt} {K : Int32 → Prop} {x1 : Int32} (hwp : mw_isRight σ K x1) : mI l yX4_isRight cX4_isRight 2 (some .boolean) ({ frames := 22, cells := 0, slots := 0, locals := 492 } : Room) Γ α [.int x1] σ (fun r u => K r ∧ u = σ) := by
  intro sz
  refine m_of (by decide) rfl [(0, .ref (α 50)), (1, .int x1)] (fun _ h => h) (Nat.le_of_ble_eq_true rfl) ?_
  intro p e s m args below meth c hsz X H locs ls hP hS hl
  subst hsz
  obtain ⟨hx, hb, hml, hown, hts, hK, hD, hr, hlk⟩ := id X
  have hA : ∀ q, s.heap.size ≤ q → AM α s.heap.size q := fun q h => Or.inr h
  unfold mw_isRight at hwp
  refine lv_aload_n hx hb dX4_isRight_0 rfl (lv_at hl 0 rfl) ?_
  refine lv_aload_n hx hb dX4_isRight_1 rfl (lv_at hl 0 rfl) ?_
  refine lv_iload_n hx hb dX4_isRight_2 rfl (lv_at hl 1 rfl) ?_
  refine m_calli ⟨hx, hb, hml, hown, hts⟩ hK hD hA hP hS (mt_seersOf hwp) (cwV 1 hts (lw_V q1509 q1511 qs29 q79 q1512) rfl rfl rfl (by decide +kernel) ⟨Nat.le_of_ble_eq_true rfl, Nat.le_of_ble_eq_true rfl⟩) rfl hl.1 rfl (Nat.le_of_ble_eq_true rfl) dX4_isRight_3 ⟨Nat.zero_le _, Nat.zero_le _⟩ (fun r1 u H locs hk hP hS => ?_)
  obtain ⟨hwp, eu⟩ := hk
  rw [eu] at hP
  refine m_calli ⟨hx, hb, hml, hown, hts⟩ hK hD hA hP hS (mt_many hwp) (cwV 1 hts (lw_V q1549 q1551 qs39 q79 q1552) rfl rfl rfl (by decide +kernel) ⟨Nat.le_of_ble_eq_true rfl, Nat.le_of_ble_eq_true rfl⟩) rfl hl.1 rfl (Nat.le_of_ble_eq_true rfl) dX4_isRight_6 ⟨Nat.zero_le _, Nat.zero_le _⟩ (fun r2 u H locs hk hP hS => ?_)
  obtain ⟨hwp, eu⟩ := hk
  rw [eu] at hP
  refine lv_aload_n hx hb dX4_isRight_9 rfl (lv_at hl 0 rfl) ?_
  refine m_geta hx hb hts hown hK hP 7 (by decide) rfl q1353 rfl dX4_isRight_10 ?_
  refine lv_iload_n hx hb dX4_isRight_13 rfl (lv_at hl 1 rfl) ?_
  obtain ⟨hi3, hwp⟩ := hwp
  refine m_iald hx hb hK hP 7 rfl hi3 dX4_isRight_14 ?_
  refine lv_iconst (v := 4) hx hb dX4_isRight_15 (by decide) ?_
  refine lv_icmp_ne (tgt := 23) hx hb dX4_isRight_16 (by decide) (fun c4 => ?_) (fun c4 => ?_)
  · replace hwp := hwp.1 c4
    refine lv_iconst (v := 1) hx hb dX4_isRight_23 (by decide) ?_
    exact mk_isRight_24 X _ _ hwp H locs ls hP hS (lv_sub hl [] rfl)
  · replace hwp := hwp.2 c4
    refine lv_iconst (v := 0) hx hb dX4_isRight_19 (by decide) ?_
    refine lv_goto (tgt := 24) hx hb dX4_isRight_20 (by decide) ?_
    exact mk_isRight_24 X _ _ hwp H locs ls hP hS (lv_sub hl [] rfl)
/-! allRight -/
def mw_allRight_4_b (σ : MSt) (K : Int32 → Prop) (L4 : Int32 → Int32 → Prop) (x1 : Int32) (x2 : Int32) : Prop :=
  (((σ.1 0) ≤ x2) → (K x1)) ∧ ((¬ ((σ.1 0) ≤ x2)) → (mw_isHouse σ (fun r2 => ((r2 = 0) → (L4 x1 (x2 + 1))) ∧ ((¬ (r2 = 0)) → (mw_isRight σ (fun r4 => ((r4 = 0) → (L4 x1 (x2 + 1))) ∧ ((¬ (r4 = 0)) → (L4 (x1 ||| (1 <<< (x2 &&& 31))) (x2 + 1)))) x2))) x2))
def mw_allRight_4 (σ : MSt) (K : Int32 → Prop) : Nat → Int32 → Int32 → Prop
  | 0 => fun _ _ => False
  | n + 1 => fun x1 x2 => mw_allRight_4_b σ K (mw_allRight_4 σ K n) x1 x2
set_option maxHeartbeats 4000000 in
set_option maxRecDepth 100000 in
theorem mk_allRight_4_b {p : Program} {l : Launch} {e : Env} {s : State} {m : MethodId} {args : Array Value} {below : List Frame} {meth : Method} {c : Code} {Γ : GA} {α : Nat → Nat} {σ : MSt} {K : Int32 → Prop} (X : CM p s m args meth c cX4_allRight 3 (some .int) Γ α) {L4 : Int32 → Int32 → Prop} (hL4 : ∀ (x1 : Int32) (x2 : Int32), L4 x1 x2 → TM p l e ({ frames := 23, cells := 0, slots := 0, locals := 513 } : Room) s m args below meth c 3 (QI below (fun r u => K r ∧ u = σ) Γ α s args) Γ α σ 4 [(0, .ref (α 50)), (1, .int x1), (2, .int x2)] []) : ∀ (x1 : Int32) (x2 : Int32), mw_allRight_4_b σ K L4 x1 x2 → TM p l e ({ frames := 23, cells := 0, slots := 0, locals := 513 } : Room) s m args below meth c 3 (QI below (fun r u => K r ∧ u = σ) Γ α s args) Γ α σ 4 [(0, .ref (α 50)), (1, .int x1), (2, .int x2)] [] := by
  obtain ⟨hx, hb, hml, hown, hts, hK, hD, hr, hlk⟩ := id X
  have hA : ∀ q, s.heap.size ≤ q → AM α s.heap.size q := fun q h => Or.inr h
  intro x1 x2 hwp H locs ls hP hS hl
  unfold mw_allRight_4_b at hwp
  refine lv_iload_n hx hb dX4_allRight_4 rfl (lv_at hl 2 rfl) ?_
  refine lv_aload_n hx hb dX4_allRight_5 rfl (lv_at hl 0 rfl) ?_
  refine m_geti hx hb hts hown hK hP 0 (by decide) rfl q1346 rfl dX4_allRight_6 ?_
  refine lv_icmp_ge (tgt := 40) hx hb dX4_allRight_9 (by decide) (fun c1 => ?_) (fun c1 => ?_)
  · replace hwp := hwp.1 c1
    refine lv_iload_n hx hb dX4_allRight_40 rfl (lv_at hl 1 rfl) ?_
    exact m_iret hx hb hr hlk hK hP hS ⟨hwp, rfl⟩ dX4_allRight_41
  · replace hwp := hwp.2 c1
    refine lv_aload_n hx hb dX4_allRight_12 rfl (lv_at hl 0 rfl) ?_
    refine lv_iload_n hx hb dX4_allRight_13 rfl (lv_at hl 2 rfl) ?_
    refine m_calli ⟨hx, hb, hml, hown, hts⟩ hK hD hA hP hS (mt_isHouse hwp) (cwV 1 hts (lw_V q1501 q1503 qs27 q79 q1504) rfl rfl rfl (by decide +kernel) ⟨Nat.le_of_ble_eq_true rfl, Nat.le_of_ble_eq_true rfl⟩) rfl hl.1 rfl (Nat.le_of_ble_eq_true rfl) dX4_allRight_14 ⟨Nat.zero_le _, Nat.zero_le _⟩ (fun r2 u H locs hk hP hS => ?_)
    obtain ⟨hwp, eu⟩ := hk
    rw [eu] at hP
    refine lv_if_eq (tgt := 34) hx hb dX4_allRight_17 (by decide) (fun c3 => ?_) (fun c3 => ?_)
    · replace hwp := hwp.1 c3
      refine lv_iinc (v := x2 + 1) (lv' := [(2, .int (x2 + 1)), (0, .ref (α 50)), (1, .int x1)]) hx hb dX4_allRight_34 hl (k := 2) rfl rfl (by decide) rfl (fun ls hl => ?_)
      refine lv_goto (tgt := 4) hx hb dX4_allRight_37 (by decide) ?_
      exact hL4 _ _ hwp H locs ls hP hS (lv_sub hl [1, 2, 0] rfl)
    · replace hwp := hwp.2 c3
      refine lv_aload_n hx hb dX4_allRight_20 rfl (lv_at hl 0 rfl) ?_
      refine lv_iload_n hx hb dX4_allRight_21 rfl (lv_at hl 2 rfl) ?_
      refine m_calli ⟨hx, hb, hml, hown, hts⟩ hK hD hA hP hS (mt_isRight hwp) (cwV 1 hts (lw_V q1553 q1555 qs40 q79 q1556) rfl rfl rfl (by decide +kernel) ⟨Nat.le_of_ble_eq_true rfl, Nat.le_of_ble_eq_true rfl⟩) rfl hl.1 rfl (Nat.le_of_ble_eq_true rfl) dX4_allRight_22 ⟨Nat.zero_le _, Nat.zero_le _⟩ (fun r4 u H locs hk hP hS => ?_)
      obtain ⟨hwp, eu⟩ := hk
      rw [eu] at hP
      refine lv_if_eq (tgt := 34) hx hb dX4_allRight_25 (by decide) (fun c5 => ?_) (fun c5 => ?_)
      · replace hwp := hwp.1 c5
        refine lv_iinc (v := x2 + 1) (lv' := [(2, .int (x2 + 1)), (0, .ref (α 50)), (1, .int x1)]) hx hb dX4_allRight_34 hl (k := 2) rfl rfl (by decide) rfl (fun ls hl => ?_)
        refine lv_goto (tgt := 4) hx hb dX4_allRight_37 (by decide) ?_
        exact hL4 _ _ hwp H locs ls hP hS (lv_sub hl [1, 2, 0] rfl)
      · replace hwp := hwp.2 c5
        refine lv_iload_n hx hb dX4_allRight_28 rfl (lv_at hl 1 rfl) ?_
        refine lv_iconst (v := 1) hx hb dX4_allRight_29 (by decide) ?_
        refine lv_iload_n hx hb dX4_allRight_30 rfl (lv_at hl 2 rfl) ?_
        refine lv_ishl hx hb dX4_allRight_31 ?_
        refine lv_ior hx hb dX4_allRight_32 ?_
        refine lv_istore_n (lv' := [(1, .int (x1 ||| (1 <<< (x2 &&& 31)))), (0, .ref (α 50)), (2, .int x2)]) hx hb dX4_allRight_33 rfl hl (by decide) rfl (fun ls hl => ?_)
        refine lv_iinc (v := x2 + 1) (lv' := [(2, .int (x2 + 1)), (1, .int (x1 ||| (1 <<< (x2 &&& 31)))), (0, .ref (α 50))]) hx hb dX4_allRight_34 hl (k := 2) rfl rfl (by decide) rfl (fun ls hl => ?_)
        refine lv_goto (tgt := 4) hx hb dX4_allRight_37 (by decide) ?_
        exact hL4 _ _ hwp H locs ls hP hS (lv_sub hl [2, 1, 0] rfl)
set_option maxHeartbeats 4000000 in
set_option maxRecDepth 100000 in
theorem mk_allRight_4 {p : Program} {l : Launch} {e : Env} {s : State} {m : MethodId} {args : Array Value} {below : List Frame} {meth : Method} {c : Code} {Γ : GA} {α : Nat → Nat} {σ : MSt} {K : Int32 → Prop} (X : CM p s m args meth c cX4_allRight 3 (some .int) Γ α) : ∀ n (x1 : Int32) (x2 : Int32), mw_allRight_4 σ K n x1 x2 → TM p l e ({ frames := 23, cells := 0, slots := 0, locals := 513 } : Room) s m args below meth c 3 (QI below (fun r u => K r ∧ u = σ) Γ α s args) Γ α σ 4 [(0, .ref (α 50)), (1, .int x1), (2, .int x2)] [] := by
  intro n
  induction n with
  | zero => intro _ _ hwp; exact hwp.elim
  | succ n ih => intro x1 x2 hwp; exact mk_allRight_4_b X ih x1 x2 hwp
def mw_allRight (σ : MSt) (K : Int32 → Prop) : Prop :=
  ∃ n, mw_allRight_4 σ K n 0 0
set_option maxHeartbeats 4000000 in
set_option maxRecDepth 100000 in
theorem mt_allRight {l : Launch} {Γ : GA} {α : Nat → Nat} {σ : MSt} {K : Int32 → Prop} (hwp : mw_allRight σ K ) : mI l yX4_allRight cX4_allRight 3 (some .int) ({ frames := 23, cells := 0, slots := 0, locals := 513 } : Room) Γ α [] σ (fun r u => K r ∧ u = σ) := by
  intro sz
  refine m_of (by decide) rfl [(0, .ref (α 50))] (fun _ h => h) (Nat.le_of_ble_eq_true rfl) ?_
  intro p e s m args below meth c hsz X H locs ls hP hS hl
  subst hsz
  obtain ⟨hx, hb, hml, hown, hts, hK, hD, hr, hlk⟩ := id X
  have hA : ∀ q, s.heap.size ≤ q → AM α s.heap.size q := fun q h => Or.inr h
  unfold mw_allRight at hwp
  refine lv_iconst (v := 0) hx hb dX4_allRight_0 (by decide) ?_
  refine lv_istore_n (lv' := [(1, .int 0), (0, .ref (α 50))]) hx hb dX4_allRight_1 rfl hl (by decide) rfl (fun ls hl => ?_)
  refine lv_iconst (v := 0) hx hb dX4_allRight_2 (by decide) ?_
  refine lv_istore_n (lv' := [(2, .int 0), (1, .int 0), (0, .ref (α 50))]) hx hb dX4_allRight_3 rfl hl (by decide) rfl (fun ls hl => ?_)
  obtain ⟨n, hwp⟩ := hwp
  exact mk_allRight_4 X n _ _ hwp H locs ls hP hS (lv_sub hl [2, 1, 0] rfl)
/-! no -/
def mw_no (K : Int32 → MSt → Prop) (x1 : Int32) (σ : MSt) : Prop :=
  vp_in (-x1) (lenM 6) ∧ (vp_in (-x1) (lenM 6) ∧ (∀ σ3, σ3 = sI σ 6 (-x1).toNatClampNeg ((σ.2.1 6 (-x1).toNatClampNeg) + 1) → (K x1 σ3)))
set_option maxHeartbeats 4000000 in
set_option maxRecDepth 100000 in
theorem mt_no {l : Launch} {Γ : GA} {α : Nat → Nat} {σ : MSt} {K : Int32 → MSt → Prop} {x1 : Int32} (hwp : mw_no K x1 σ) : mI l yX4_no cX4_no 2 (some .int) ({ frames := 0, cells := 0, slots := 0, locals := 0 } : Room) Γ α [.int x1] σ K := by
  intro sz
  refine m_of (by decide) rfl [(0, .ref (α 50)), (1, .int x1)] (fun _ h => h) (Nat.le_of_ble_eq_true rfl) ?_
  intro p e s m args below meth c hsz X H locs ls hP hS hl
  subst hsz
  obtain ⟨hx, hb, hml, hown, hts, hK, hD, hr, hlk⟩ := id X
  have hA : ∀ q, s.heap.size ≤ q → AM α s.heap.size q := fun q h => Or.inr h
  unfold mw_no at hwp
  refine lv_aload_n hx hb dX4_no_0 rfl (lv_at hl 0 rfl) ?_
  refine m_geta hx hb hts hown hK hP 6 (by decide) rfl q1352 rfl dX4_no_1 ?_
  refine lv_iload_n hx hb dX4_no_4 rfl (lv_at hl 1 rfl) ?_
  refine lv_ineg hx hb dX4_no_5 ?_
  refine lv_dup2_11 hx hb dX4_no_6 rfl rfl ?_
  obtain ⟨hi1, hwp⟩ := hwp
  refine m_iald hx hb hK hP 6 rfl hi1 dX4_no_7 ?_
  refine lv_iconst (v := 1) hx hb dX4_no_8 (by decide) ?_
  refine lv_iadd hx hb dX4_no_9 ?_
  obtain ⟨hi2, hwp⟩ := hwp
  refine m_iast hx hb hK hD hP hS 6 rfl hi2 dX4_no_10 (fun H locs hP hS => ?_)
  obtain ⟨σ3, eσ3⟩ : ∃ z, z = sI σ 6 (-x1).toNatClampNeg ((σ.2.1 6 (-x1).toNatClampNeg) + 1) := ⟨_, rfl⟩
  rw [← eσ3] at hP
  replace hwp := hwp σ3 eσ3
  refine lv_iload_n hx hb dX4_no_11 rfl (lv_at hl 1 rfl) ?_
  exact m_iret hx hb hr hlk hK hP hS hwp dX4_no_12
/-! ask -/
def mw_ask_55 (K : Int32 → MSt → Prop) (σ : MSt) : Prop :=
  mw_no (fun r1 σ2 => K r1 σ2) (-6) σ
set_option maxHeartbeats 4000000 in
set_option maxRecDepth 100000 in
theorem mk_ask_55 {p : Program} {l : Launch} {e : Env} {s : State} {m : MethodId} {args : Array Value} {below : List Frame} {meth : Method} {c : Code} {Γ : GA} {α : Nat → Nat} {K : Int32 → MSt → Prop} (X : CM p s m args meth c cX4_ask 4 (some .int) Γ α) : ∀ (σ : MSt), mw_ask_55 K  σ → TM p l e ({ frames := 1, cells := 0, slots := 0, locals := 21 } : Room) s m args below meth c 4 (QI below K Γ α s args) Γ α σ 55 [(0, .ref (α 50))] [] := by
  obtain ⟨hx, hb, hml, hown, hts, hK, hD, hr, hlk⟩ := id X
  have hA : ∀ q, s.heap.size ≤ q → AM α s.heap.size q := fun q h => Or.inr h
  intro  σ hwp H locs ls hP hS hl
  unfold mw_ask_55 at hwp
  refine lv_aload_n hx hb dX4_ask_55 rfl (lv_at hl 0 rfl) ?_
  refine lv_bipush (v := (-6)) hx hb dX4_ask_56 (by decide) ?_
  refine m_calli ⟨hx, hb, hml, hown, hts⟩ hK hD hA hP hS (mt_no hwp) (cwV 1 hts (lw_V q1469 q1471 qs25 q79 q1472) rfl rfl rfl (by decide +kernel) ⟨Nat.le_of_ble_eq_true rfl, Nat.le_of_ble_eq_true rfl⟩) rfl hl.1 rfl (Nat.le_of_ble_eq_true rfl) dX4_ask_58 ⟨Nat.zero_le _, Nat.zero_le _⟩ (fun r1 σ2 H locs hk hP hS => ?_)
  have hwp := hk
  exact m_iret hx hb hr hlk hK hP hS hwp dX4_ask_61
def mw_ask_26 (K : Int32 → MSt → Prop) (x1 : Int32) (x2 : Int32) (σ : MSt) : Prop :=
  ((¬ (x1 = 1)) → (mw_ask_55 K σ)) ∧ ((x1 = 1) → (((x2 < 1) → (mw_ask_55 K σ)) ∧ ((¬ (x2 < 1)) → (((9 < x2) → (mw_ask_55 K σ)) ∧ ((¬ (9 < x2)) → (∀ σ4, σ4 = sF σ 2 x2 → (K (σ.1 2) σ4)))))))
set_option maxHeartbeats 4000000 in
set_option maxRecDepth 100000 in
theorem mk_ask_26 {p : Program} {l : Launch} {e : Env} {s : State} {m : MethodId} {args : Array Value} {below : List Frame} {meth : Method} {c : Code} {Γ : GA} {α : Nat → Nat} {K : Int32 → MSt → Prop} (X : CM p s m args meth c cX4_ask 4 (some .int) Γ α) : ∀ (x1 : Int32) (x2 : Int32) (σ : MSt), mw_ask_26 K x1 x2 σ → TM p l e ({ frames := 1, cells := 0, slots := 0, locals := 21 } : Room) s m args below meth c 4 (QI below K Γ α s args) Γ α σ 26 [(0, .ref (α 50)), (1, .int x1), (2, .int x2)] [] := by
  obtain ⟨hx, hb, hml, hown, hts, hK, hD, hr, hlk⟩ := id X
  have hA : ∀ q, s.heap.size ≤ q → AM α s.heap.size q := fun q h => Or.inr h
  intro x1 x2 σ hwp H locs ls hP hS hl
  unfold mw_ask_26 at hwp
  refine lv_iload_n hx hb dX4_ask_26 rfl (lv_at hl 1 rfl) ?_
  refine lv_iconst (v := 1) hx hb dX4_ask_27 (by decide) ?_
  refine lv_icmp_ne (tgt := 55) hx hb dX4_ask_28 (by decide) (fun c1 => ?_) (fun c1 => ?_)
  · replace hwp := hwp.1 c1
    exact mk_ask_55 X σ hwp H locs ls hP hS (lv_sub hl [0] rfl)
  · replace hwp := hwp.2 c1
    refine lv_iload_n hx hb dX4_ask_31 rfl (lv_at hl 2 rfl) ?_
    refine lv_iconst (v := 1) hx hb dX4_ask_32 (by decide) ?_
    refine lv_icmp_lt (tgt := 55) hx hb dX4_ask_33 (by decide) (fun c2 => ?_) (fun c2 => ?_)
    · replace hwp := hwp.1 c2
      exact mk_ask_55 X σ hwp H locs ls hP hS (lv_sub hl [0] rfl)
    · replace hwp := hwp.2 c2
      refine lv_iload_n hx hb dX4_ask_36 rfl (lv_at hl 2 rfl) ?_
      refine lv_bipush (v := 9) hx hb dX4_ask_37 (by decide) ?_
      refine lv_icmp_gt (tgt := 55) hx hb dX4_ask_39 (by decide) (fun c3 => ?_) (fun c3 => ?_)
      · replace hwp := hwp.1 c3
        exact mk_ask_55 X σ hwp H locs ls hP hS (lv_sub hl [0] rfl)
      · replace hwp := hwp.2 c3
        refine lv_aload_n hx hb dX4_ask_42 rfl (lv_at hl 0 rfl) ?_
        refine m_geti hx hb hts hown hK hP 2 (by decide) rfl q1348 rfl dX4_ask_43 ?_
        refine lv_istore_n (lv' := [(3, .int (σ.1 2)), (0, .ref (α 50)), (1, .int x1), (2, .int x2)]) hx hb dX4_ask_46 rfl hl (by decide) rfl (fun ls hl => ?_)
        refine lv_aload_n hx hb dX4_ask_47 rfl (lv_at hl 1 rfl) ?_
        refine lv_iload_n hx hb dX4_ask_48 rfl (lv_at hl 3 rfl) ?_
        refine m_put hx hb hts hown hK hD hP hS 2 (by decide) rfl q1348 rfl rfl rfl rfl dX4_ask_49 (fun H locs hP hS => ?_)
        obtain ⟨σ4, eσ4⟩ : ∃ z, z = sF σ 2 x2 := ⟨_, rfl⟩
        rw [← eσ4] at hP
        replace hwp := hwp σ4 eσ4
        refine lv_goto (tgt := 62) hx hb dX4_ask_52 (by decide) ?_
        refine lv_iload_n hx hb dX4_ask_62 rfl (lv_at hl 0 rfl) ?_
        exact m_iret hx hb hr hlk hK hP hS hwp dX4_ask_63
def mw_ask (K : Int32 → MSt → Prop) (x1 : Int32) (x2 : Int32) (σ : MSt) : Prop :=
  ((¬ (x1 = 0)) → (mw_ask_26 K x1 x2 σ)) ∧ ((x1 = 0) → (((x2 < 0) → (mw_ask_26 K x1 x2 σ)) ∧ ((¬ (x2 < 0)) → (((1 < x2) → (mw_ask_26 K x1 x2 σ)) ∧ ((¬ (1 < x2)) → (∀ σ4, σ4 = sF σ 1 x2 → (K (σ.1 1) σ4)))))))
set_option maxHeartbeats 4000000 in
set_option maxRecDepth 100000 in
theorem mt_ask {l : Launch} {Γ : GA} {α : Nat → Nat} {σ : MSt} {K : Int32 → MSt → Prop} {x1 : Int32} {x2 : Int32} (hwp : mw_ask K x1 x2 σ) : mI l yX4_ask cX4_ask 4 (some .int) ({ frames := 1, cells := 0, slots := 0, locals := 21 } : Room) Γ α [.int x1, .int x2] σ K := by
  intro sz
  refine m_of (by decide) rfl [(0, .ref (α 50)), (1, .int x1), (2, .int x2)] (fun _ h => h) (Nat.le_of_ble_eq_true rfl) ?_
  intro p e s m args below meth c hsz X H locs ls hP hS hl
  subst hsz
  obtain ⟨hx, hb, hml, hown, hts, hK, hD, hr, hlk⟩ := id X
  have hA : ∀ q, s.heap.size ≤ q → AM α s.heap.size q := fun q h => Or.inr h
  unfold mw_ask at hwp
  refine lv_iload_n hx hb dX4_ask_0 rfl (lv_at hl 1 rfl) ?_
  refine lv_if_ne (tgt := 26) hx hb dX4_ask_1 (by decide) (fun c1 => ?_) (fun c1 => ?_)
  · replace hwp := hwp.1 c1
    exact mk_ask_26 X _ _ σ hwp H locs ls hP hS (lv_sub hl [0, 1, 2] rfl)
  · replace hwp := hwp.2 c1
    refine lv_iload_n hx hb dX4_ask_4 rfl (lv_at hl 2 rfl) ?_
    refine lv_if_lt (tgt := 26) hx hb dX4_ask_5 (by decide) (fun c2 => ?_) (fun c2 => ?_)
    · replace hwp := hwp.1 c2
      exact mk_ask_26 X _ _ σ hwp H locs ls hP hS (lv_sub hl [0, 1, 2] rfl)
    · replace hwp := hwp.2 c2
      refine lv_iload_n hx hb dX4_ask_8 rfl (lv_at hl 2 rfl) ?_
      refine lv_iconst (v := 1) hx hb dX4_ask_9 (by decide) ?_
      refine lv_icmp_gt (tgt := 26) hx hb dX4_ask_10 (by decide) (fun c3 => ?_) (fun c3 => ?_)
      · replace hwp := hwp.1 c3
        exact mk_ask_26 X _ _ σ hwp H locs ls hP hS (lv_sub hl [0, 1, 2] rfl)
      · replace hwp := hwp.2 c3
        refine lv_aload_n hx hb dX4_ask_13 rfl (lv_at hl 0 rfl) ?_
        refine m_geti hx hb hts hown hK hP 1 (by decide) rfl q1347 rfl dX4_ask_14 ?_
        refine lv_istore_n (lv' := [(3, .int (σ.1 1)), (0, .ref (α 50)), (1, .int x1), (2, .int x2)]) hx hb dX4_ask_17 rfl hl (by decide) rfl (fun ls hl => ?_)
        refine lv_aload_n hx hb dX4_ask_18 rfl (lv_at hl 1 rfl) ?_
        refine lv_iload_n hx hb dX4_ask_19 rfl (lv_at hl 3 rfl) ?_
        refine m_put hx hb hts hown hK hD hP hS 1 (by decide) rfl q1347 rfl rfl rfl rfl dX4_ask_20 (fun H locs hP hS => ?_)
        obtain ⟨σ4, eσ4⟩ : ∃ z, z = sF σ 1 x2 := ⟨_, rfl⟩
        rw [← eσ4] at hP
        replace hwp := hwp σ4 eσ4
        refine lv_goto (tgt := 62) hx hb dX4_ask_23 (by decide) ?_
        refine lv_iload_n hx hb dX4_ask_62 rfl (lv_at hl 0 rfl) ?_
        exact m_iret hx hb hr hlk hK hP hS hwp dX4_ask_63
/-! barred -/
def mw_barred (σ : MSt) (K : Int32 → Prop) (x1 : Int32) : Prop :=
  mw_isThing σ (fun r1 => ((¬ (r1 = 0)) → (mw_isHouse σ (fun r3 => ((r3 = 0) → (K (-2))) ∧ ((¬ (r3 = 0)) → (K 0))) x1)) ∧ ((r1 = 0) → (K (-1)))) x1
set_option maxHeartbeats 4000000 in
set_option maxRecDepth 100000 in
theorem mt_barred {l : Launch} {Γ : GA} {α : Nat → Nat} {σ : MSt} {K : Int32 → Prop} {x1 : Int32} (hwp : mw_barred σ K x1) : mI l yX4_barred cX4_barred 2 (some .int) ({ frames := 1, cells := 0, slots := 0, locals := 21 } : Room) Γ α [.int x1] σ (fun r u => K r ∧ u = σ) := by
  intro sz
  refine m_of (by decide) rfl [(0, .ref (α 50)), (1, .int x1)] (fun _ h => h) (Nat.le_of_ble_eq_true rfl) ?_
  intro p e s m args below meth c hsz X H locs ls hP hS hl
  subst hsz
  obtain ⟨hx, hb, hml, hown, hts, hK, hD, hr, hlk⟩ := id X
  have hA : ∀ q, s.heap.size ≤ q → AM α s.heap.size q := fun q h => Or.inr h
  unfold mw_barred at hwp
  refine lv_aload_n hx hb dX4_barred_0 rfl (lv_at hl 0 rfl) ?_
  refine lv_iload_n hx hb dX4_barred_1 rfl (lv_at hl 1 rfl) ?_
  refine m_calli ⟨hx, hb, hml, hown, hts⟩ hK hD hA hP hS (mt_isThing hwp) (cwV 1 hts (lw_V q1489 q1491 qs26 q79 q1492) rfl rfl rfl (by decide +kernel) ⟨Nat.le_of_ble_eq_true rfl, Nat.le_of_ble_eq_true rfl⟩) rfl hl.1 rfl (Nat.le_of_ble_eq_true rfl) dX4_barred_2 ⟨Nat.zero_le _, Nat.zero_le _⟩ (fun r1 u H locs hk hP hS => ?_)
  obtain ⟨hwp, eu⟩ := hk
  rw [eu] at hP
  refine lv_if_ne (tgt := 12) hx hb dX4_barred_5 (by decide) (fun c2 => ?_) (fun c2 => ?_)
  · replace hwp := hwp.1 c2
    refine lv_aload_n hx hb dX4_barred_12 rfl (lv_at hl 0 rfl) ?_
    refine lv_iload_n hx hb dX4_barred_13 rfl (lv_at hl 1 rfl) ?_
    refine m_calli ⟨hx, hb, hml, hown, hts⟩ hK hD hA hP hS (mt_isHouse hwp) (cwV 1 hts (lw_V q1501 q1503 qs27 q79 q1504) rfl rfl rfl (by decide +kernel) ⟨Nat.le_of_ble_eq_true rfl, Nat.le_of_ble_eq_true rfl⟩) rfl hl.1 rfl (Nat.le_of_ble_eq_true rfl) dX4_barred_14 ⟨Nat.zero_le _, Nat.zero_le _⟩ (fun r3 u H locs hk hP hS => ?_)
    obtain ⟨hwp, eu⟩ := hk
    rw [eu] at hP
    refine lv_if_eq (tgt := 24) hx hb dX4_barred_17 (by decide) (fun c4 => ?_) (fun c4 => ?_)
    · replace hwp := hwp.1 c4
      refine lv_bipush (v := (-2)) hx hb dX4_barred_24 (by decide) ?_
      exact m_iret hx hb hr hlk hK hP hS ⟨hwp, rfl⟩ dX4_barred_26
    · replace hwp := hwp.2 c4
      refine lv_iconst (v := 0) hx hb dX4_barred_20 (by decide) ?_
      refine lv_goto (tgt := 26) hx hb dX4_barred_21 (by decide) ?_
      exact m_iret hx hb hr hlk hK hP hS ⟨hwp, rfl⟩ dX4_barred_26
  · replace hwp := hwp.2 c2
    refine lv_iconst (v := (-1)) hx hb dX4_barred_8 (by decide) ?_
    refine lv_goto (tgt := 26) hx hb dX4_barred_9 (by decide) ?_
    exact m_iret hx hb hr hlk hK hP hS ⟨hwp, rfl⟩ dX4_barred_26
