/-! constructors, walked -/
theorem zq_v {C n d : String} {A : Nat → Prop} {U : State} {H : Heap} (h : va_Zq C n d A U H) : ∃ v : Value, (v = .null ∨ ∃ t : Nat, v = .ref t) ∧ va_Z C n d v A U H := by
  rcases h with h | ⟨t, h⟩
  · exact ⟨.null, Or.inl rfl, h⟩
  · exact ⟨.ref t, Or.inr ⟨t, rfl⟩, h⟩

set_option maxHeartbeats 4000000 in
set_option maxRecDepth 100000 in
theorem ct_T_5 {l : Launch} {Γ : GA} {q : Nat} {x1 : Int32} {x2 : Int32} {x3 : Int32} {x4 : Int32} : rC l yX11_init cX11_init 5 ({ frames := 1, cells := 0, slots := 0, locals := 60 } : Room) 0 0 Γ q (.inr (5, [.int 0, .int 0, .int 0, .int 0])) [.int x1, .int x2, .int x3, .int x4] (fun ex => ex = [(q, .inr (5, [.int x1, .int x2, .int x3, .int x4]))]) := by
  intro sz
  refine r_of (by decide) rfl [(0, .ref q), (1, .int x1), (2, .int x2), (3, .int x3), (4, .int x4)] (fun _ h => h) (Nat.le_of_ble_eq_true rfl) ?_
  intro p e s m args below meth c ls hsz X hZ hin hP hl
  subst hsz
  obtain ⟨hx, hb, hml, hown, hts, hK, hr, hlk⟩ := X
  have hA : ∀ a, s.heap.size ≤ a → rA q s.heap.size a := fun a h => Or.inr h
  have hD : va_D (rA q s.heap.size) [(q, .inr (5, [.int 0, .int 0, .int 0, .int 0]))] := rD0
  have hS : va_S (rA q s.heap.size) s.heap s.heap [] := va_S.rf
  generalize hH : s.heap = H at hP ⊢
  replace hS : va_S (rA q s.heap.size) s.heap H [] := by rw [← hH]; exact va_S.rf
  refine lv_aload_n hx hb dX11_init_0 rfl (lv_at hl 0 rfl) ?_
  refine W.objInit hx hb hown (hts _ q714) (hts _ q115) (hts _ q116) rfl (hl.1.trans hml.symm) rfl dX11_init_1 (Nat.le_of_ble_eq_true rfl) (Nat.le_of_ble_eq_true rfl) ?_
  refine W.eq (g2 := F0 m 4 ls []) rfl ?_
  refine lv_aload_n hx hb dX11_init_4 rfl (lv_at hl 0 rfl) ?_
  refine lv_iload_n hx hb dX11_init_5 rfl (lv_at hl 1 rfl) ?_
  refine va_putF (D := Γ.1) (ci := 5) (v := .int x1) (ty := tyX11 0) (C := RX11) (T := TX11) (N := 4) hx hb hts in_X11 tyX11 tyX11_ok nmX11 hown hK.1 hP hD hS 0 rfl rfl 0 (by decide) (hts _ q715) (fun _ h9 => h9) rfl hin rfl (tyX11_ok 0 (by decide)) rfl rfl (Nat.le_of_ble_eq_true rfl) dX11_init_6 (fun H locs hP hD hS => ?_)
  have hP : va_P Γ.1 clA ([(q, .inr (5, [.int x1, .int 0, .int 0, .int 0]))]) H := hP
  have hD : va_D (rA q s.heap.size) ([(q, .inr (5, [.int x1, .int 0, .int 0, .int 0]))]) := hD
  refine lv_aload_n hx hb dX11_init_9 rfl (lv_at hl 0 rfl) ?_
  refine lv_iload_n hx hb dX11_init_10 rfl (lv_at hl 2 rfl) ?_
  refine va_putF (D := Γ.1) (ci := 5) (v := .int x2) (ty := tyX11 1) (C := RX11) (T := TX11) (N := 4) hx hb hts in_X11 tyX11 tyX11_ok nmX11 hown hK.1 hP hD hS 0 rfl rfl 1 (by decide) (hts _ q727) (fun _ h9 => h9) rfl hin rfl (tyX11_ok 1 (by decide)) rfl rfl (Nat.le_of_ble_eq_true rfl) dX11_init_11 (fun H locs hP hD hS => ?_)
  have hP : va_P Γ.1 clA ([(q, .inr (5, [.int x1, .int x2, .int 0, .int 0]))]) H := hP
  have hD : va_D (rA q s.heap.size) ([(q, .inr (5, [.int x1, .int x2, .int 0, .int 0]))]) := hD
  refine lv_aload_n hx hb dX11_init_14 rfl (lv_at hl 0 rfl) ?_
  refine lv_iload_n hx hb dX11_init_15 rfl (lv_at hl 3 rfl) ?_
  refine va_putF (D := Γ.1) (ci := 5) (v := .int x3) (ty := tyX11 2) (C := RX11) (T := TX11) (N := 4) hx hb hts in_X11 tyX11 tyX11_ok nmX11 hown hK.1 hP hD hS 0 rfl rfl 2 (by decide) (hts _ q730) (fun _ h9 => h9) rfl hin rfl (tyX11_ok 2 (by decide)) rfl rfl (Nat.le_of_ble_eq_true rfl) dX11_init_16 (fun H locs hP hD hS => ?_)
  have hP : va_P Γ.1 clA ([(q, .inr (5, [.int x1, .int x2, .int x3, .int 0]))]) H := hP
  have hD : va_D (rA q s.heap.size) ([(q, .inr (5, [.int x1, .int x2, .int x3, .int 0]))]) := hD
  refine lv_aload_n hx hb dX11_init_19 rfl (lv_at hl 0 rfl) ?_
  refine lv_iload hx hb dX11_init_20 (lv_at hl 4 rfl) ?_
  refine va_putF (D := Γ.1) (ci := 5) (v := .int x4) (ty := tyX11 3) (C := RX11) (T := TX11) (N := 4) hx hb hts in_X11 tyX11 tyX11_ok nmX11 hown hK.1 hP hD hS 0 rfl rfl 3 (by decide) (hts _ q733) (fun _ h9 => h9) rfl hin rfl (tyX11_ok 3 (by decide)) rfl rfl (Nat.le_of_ble_eq_true rfl) dX11_init_22 (fun H locs hP hD hS => ?_)
  have hP : va_P Γ.1 clA ([(q, .inr (5, [.int x1, .int x2, .int x3, .int x4]))]) H := hP
  have hD : va_D (rA q s.heap.size) ([(q, .inr (5, [.int x1, .int x2, .int x3, .int x4]))]) := hD
  refine W.widen (k := 0) (n := 0) (Nat.le_of_ble_eq_true rfl) (Nat.le_of_ble_eq_true rfl) ?_
  exact r_vret hx hb hr hlk hP hD hS (rfl) dX11_init_25

set_option maxHeartbeats 4000000 in
set_option maxRecDepth 100000 in
theorem ct_T_6 {l : Launch} {Γ : GA} {q : Nat} {x1 : Int32} {x2 : Int32} {x3 : Int32} {x4 : Int32} : rC l yX11_init cX11_init 5 ({ frames := 1, cells := 0, slots := 0, locals := 60 } : Room) 0 0 Γ q (.inr (6, [.int 0, .int 0, .int 0, .int 0])) [.int x1, .int x2, .int x3, .int x4] (fun ex => ex = [(q, .inr (6, [.int x1, .int x2, .int x3, .int x4]))]) := by
  intro sz
  refine r_of (by decide) rfl [(0, .ref q), (1, .int x1), (2, .int x2), (3, .int x3), (4, .int x4)] (fun _ h => h) (Nat.le_of_ble_eq_true rfl) ?_
  intro p e s m args below meth c ls hsz X hZ hin hP hl
  subst hsz
  obtain ⟨hx, hb, hml, hown, hts, hK, hr, hlk⟩ := X
  have hA : ∀ a, s.heap.size ≤ a → rA q s.heap.size a := fun a h => Or.inr h
  have hD : va_D (rA q s.heap.size) [(q, .inr (6, [.int 0, .int 0, .int 0, .int 0]))] := rD0
  have hS : va_S (rA q s.heap.size) s.heap s.heap [] := va_S.rf
  generalize hH : s.heap = H at hP ⊢
  replace hS : va_S (rA q s.heap.size) s.heap H [] := by rw [← hH]; exact va_S.rf
  refine lv_aload_n hx hb dX11_init_0 rfl (lv_at hl 0 rfl) ?_
  refine W.objInit hx hb hown (hts _ q714) (hts _ q115) (hts _ q116) rfl (hl.1.trans hml.symm) rfl dX11_init_1 (Nat.le_of_ble_eq_true rfl) (Nat.le_of_ble_eq_true rfl) ?_
  refine W.eq (g2 := F0 m 4 ls []) rfl ?_
  refine lv_aload_n hx hb dX11_init_4 rfl (lv_at hl 0 rfl) ?_
  refine lv_iload_n hx hb dX11_init_5 rfl (lv_at hl 1 rfl) ?_
  refine va_putF (D := Γ.1) (ci := 6) (v := .int x1) (ty := tyX12 0) (C := RX12) (T := TX12) (N := 4) hx hb hts in_X12 tyX12 tyX12_ok nmX12 hown hK.1 hP hD hS 0 rfl rfl 0 (by decide) (hts _ q715) (fun _ h9 => h9) rfl hin rfl (tyX12_ok 0 (by decide)) rfl rfl (Nat.le_of_ble_eq_true rfl) dX11_init_6 (fun H locs hP hD hS => ?_)
  have hP : va_P Γ.1 clA ([(q, .inr (6, [.int x1, .int 0, .int 0, .int 0]))]) H := hP
  have hD : va_D (rA q s.heap.size) ([(q, .inr (6, [.int x1, .int 0, .int 0, .int 0]))]) := hD
  refine lv_aload_n hx hb dX11_init_9 rfl (lv_at hl 0 rfl) ?_
  refine lv_iload_n hx hb dX11_init_10 rfl (lv_at hl 2 rfl) ?_
  refine va_putF (D := Γ.1) (ci := 6) (v := .int x2) (ty := tyX12 1) (C := RX12) (T := TX12) (N := 4) hx hb hts in_X12 tyX12 tyX12_ok nmX12 hown hK.1 hP hD hS 0 rfl rfl 1 (by decide) (hts _ q727) (fun _ h9 => h9) rfl hin rfl (tyX12_ok 1 (by decide)) rfl rfl (Nat.le_of_ble_eq_true rfl) dX11_init_11 (fun H locs hP hD hS => ?_)
  have hP : va_P Γ.1 clA ([(q, .inr (6, [.int x1, .int x2, .int 0, .int 0]))]) H := hP
  have hD : va_D (rA q s.heap.size) ([(q, .inr (6, [.int x1, .int x2, .int 0, .int 0]))]) := hD
  refine lv_aload_n hx hb dX11_init_14 rfl (lv_at hl 0 rfl) ?_
  refine lv_iload_n hx hb dX11_init_15 rfl (lv_at hl 3 rfl) ?_
  refine va_putF (D := Γ.1) (ci := 6) (v := .int x3) (ty := tyX12 2) (C := RX12) (T := TX12) (N := 4) hx hb hts in_X12 tyX12 tyX12_ok nmX12 hown hK.1 hP hD hS 0 rfl rfl 2 (by decide) (hts _ q730) (fun _ h9 => h9) rfl hin rfl (tyX12_ok 2 (by decide)) rfl rfl (Nat.le_of_ble_eq_true rfl) dX11_init_16 (fun H locs hP hD hS => ?_)
  have hP : va_P Γ.1 clA ([(q, .inr (6, [.int x1, .int x2, .int x3, .int 0]))]) H := hP
  have hD : va_D (rA q s.heap.size) ([(q, .inr (6, [.int x1, .int x2, .int x3, .int 0]))]) := hD
  refine lv_aload_n hx hb dX11_init_19 rfl (lv_at hl 0 rfl) ?_
  refine lv_iload hx hb dX11_init_20 (lv_at hl 4 rfl) ?_
  refine va_putF (D := Γ.1) (ci := 6) (v := .int x4) (ty := tyX12 3) (C := RX12) (T := TX12) (N := 4) hx hb hts in_X12 tyX12 tyX12_ok nmX12 hown hK.1 hP hD hS 0 rfl rfl 3 (by decide) (hts _ q733) (fun _ h9 => h9) rfl hin rfl (tyX12_ok 3 (by decide)) rfl rfl (Nat.le_of_ble_eq_true rfl) dX11_init_22 (fun H locs hP hD hS => ?_)
  have hP : va_P Γ.1 clA ([(q, .inr (6, [.int x1, .int x2, .int x3, .int x4]))]) H := hP
  have hD : va_D (rA q s.heap.size) ([(q, .inr (6, [.int x1, .int x2, .int x3, .int x4]))]) := hD
  refine W.widen (k := 0) (n := 0) (Nat.le_of_ble_eq_true rfl) (Nat.le_of_ble_eq_true rfl) ?_
  exact r_vret hx hb hr hlk hP hD hS (rfl) dX11_init_25

set_option maxHeartbeats 4000000 in
set_option maxRecDepth 100000 in
theorem ct_T_7 {l : Launch} {Γ : GA} {q : Nat} {x1 : Int32} {x2 : Int32} {x3 : Int32} {x4 : Int32} : rC l yX11_init cX11_init 5 ({ frames := 1, cells := 0, slots := 0, locals := 60 } : Room) 0 0 Γ q (.inr (7, [.int 0, .int 0, .int 0, .int 0])) [.int x1, .int x2, .int x3, .int x4] (fun ex => ex = [(q, .inr (7, [.int x1, .int x2, .int x3, .int x4]))]) := by
  intro sz
  refine r_of (by decide) rfl [(0, .ref q), (1, .int x1), (2, .int x2), (3, .int x3), (4, .int x4)] (fun _ h => h) (Nat.le_of_ble_eq_true rfl) ?_
  intro p e s m args below meth c ls hsz X hZ hin hP hl
  subst hsz
  obtain ⟨hx, hb, hml, hown, hts, hK, hr, hlk⟩ := X
  have hA : ∀ a, s.heap.size ≤ a → rA q s.heap.size a := fun a h => Or.inr h
  have hD : va_D (rA q s.heap.size) [(q, .inr (7, [.int 0, .int 0, .int 0, .int 0]))] := rD0
  have hS : va_S (rA q s.heap.size) s.heap s.heap [] := va_S.rf
  generalize hH : s.heap = H at hP ⊢
  replace hS : va_S (rA q s.heap.size) s.heap H [] := by rw [← hH]; exact va_S.rf
  refine lv_aload_n hx hb dX11_init_0 rfl (lv_at hl 0 rfl) ?_
  refine W.objInit hx hb hown (hts _ q714) (hts _ q115) (hts _ q116) rfl (hl.1.trans hml.symm) rfl dX11_init_1 (Nat.le_of_ble_eq_true rfl) (Nat.le_of_ble_eq_true rfl) ?_
  refine W.eq (g2 := F0 m 4 ls []) rfl ?_
  refine lv_aload_n hx hb dX11_init_4 rfl (lv_at hl 0 rfl) ?_
  refine lv_iload_n hx hb dX11_init_5 rfl (lv_at hl 1 rfl) ?_
  refine va_putF (D := Γ.1) (ci := 7) (v := .int x1) (ty := tyX13 0) (C := RX13) (T := TX13) (N := 4) hx hb hts in_X13 tyX13 tyX13_ok nmX13 hown hK.1 hP hD hS 0 rfl rfl 0 (by decide) (hts _ q715) (fun _ h9 => h9) rfl hin rfl (tyX13_ok 0 (by decide)) rfl rfl (Nat.le_of_ble_eq_true rfl) dX11_init_6 (fun H locs hP hD hS => ?_)
  have hP : va_P Γ.1 clA ([(q, .inr (7, [.int x1, .int 0, .int 0, .int 0]))]) H := hP
  have hD : va_D (rA q s.heap.size) ([(q, .inr (7, [.int x1, .int 0, .int 0, .int 0]))]) := hD
  refine lv_aload_n hx hb dX11_init_9 rfl (lv_at hl 0 rfl) ?_
  refine lv_iload_n hx hb dX11_init_10 rfl (lv_at hl 2 rfl) ?_
  refine va_putF (D := Γ.1) (ci := 7) (v := .int x2) (ty := tyX13 1) (C := RX13) (T := TX13) (N := 4) hx hb hts in_X13 tyX13 tyX13_ok nmX13 hown hK.1 hP hD hS 0 rfl rfl 1 (by decide) (hts _ q727) (fun _ h9 => h9) rfl hin rfl (tyX13_ok 1 (by decide)) rfl rfl (Nat.le_of_ble_eq_true rfl) dX11_init_11 (fun H locs hP hD hS => ?_)
  have hP : va_P Γ.1 clA ([(q, .inr (7, [.int x1, .int x2, .int 0, .int 0]))]) H := hP
  have hD : va_D (rA q s.heap.size) ([(q, .inr (7, [.int x1, .int x2, .int 0, .int 0]))]) := hD
  refine lv_aload_n hx hb dX11_init_14 rfl (lv_at hl 0 rfl) ?_
  refine lv_iload_n hx hb dX11_init_15 rfl (lv_at hl 3 rfl) ?_
  refine va_putF (D := Γ.1) (ci := 7) (v := .int x3) (ty := tyX13 2) (C := RX13) (T := TX13) (N := 4) hx hb hts in_X13 tyX13 tyX13_ok nmX13 hown hK.1 hP hD hS 0 rfl rfl 2 (by decide) (hts _ q730) (fun _ h9 => h9) rfl hin rfl (tyX13_ok 2 (by decide)) rfl rfl (Nat.le_of_ble_eq_true rfl) dX11_init_16 (fun H locs hP hD hS => ?_)
  have hP : va_P Γ.1 clA ([(q, .inr (7, [.int x1, .int x2, .int x3, .int 0]))]) H := hP
  have hD : va_D (rA q s.heap.size) ([(q, .inr (7, [.int x1, .int x2, .int x3, .int 0]))]) := hD
  refine lv_aload_n hx hb dX11_init_19 rfl (lv_at hl 0 rfl) ?_
  refine lv_iload hx hb dX11_init_20 (lv_at hl 4 rfl) ?_
  refine va_putF (D := Γ.1) (ci := 7) (v := .int x4) (ty := tyX13 3) (C := RX13) (T := TX13) (N := 4) hx hb hts in_X13 tyX13 tyX13_ok nmX13 hown hK.1 hP hD hS 0 rfl rfl 3 (by decide) (hts _ q733) (fun _ h9 => h9) rfl hin rfl (tyX13_ok 3 (by decide)) rfl rfl (Nat.le_of_ble_eq_true rfl) dX11_init_22 (fun H locs hP hD hS => ?_)
  have hP : va_P Γ.1 clA ([(q, .inr (7, [.int x1, .int x2, .int x3, .int x4]))]) H := hP
  have hD : va_D (rA q s.heap.size) ([(q, .inr (7, [.int x1, .int x2, .int x3, .int x4]))]) := hD
  refine W.widen (k := 0) (n := 0) (Nat.le_of_ble_eq_true rfl) (Nat.le_of_ble_eq_true rfl) ?_
  exact r_vret hx hb hr hlk hP hD hS (rfl) dX11_init_25

set_option maxHeartbeats 4000000 in
set_option maxRecDepth 100000 in
theorem ct_T_8 {l : Launch} {Γ : GA} {q : Nat} {x1 : Int32} {x2 : Int32} {x3 : Int32} {x4 : Int32} : rC l yX11_init cX11_init 5 ({ frames := 1, cells := 0, slots := 0, locals := 60 } : Room) 0 0 Γ q (.inr (8, [.int 0, .int 0, .int 0, .int 0])) [.int x1, .int x2, .int x3, .int x4] (fun ex => ex = [(q, .inr (8, [.int x1, .int x2, .int x3, .int x4]))]) := by
  intro sz
  refine r_of (by decide) rfl [(0, .ref q), (1, .int x1), (2, .int x2), (3, .int x3), (4, .int x4)] (fun _ h => h) (Nat.le_of_ble_eq_true rfl) ?_
  intro p e s m args below meth c ls hsz X hZ hin hP hl
  subst hsz
  obtain ⟨hx, hb, hml, hown, hts, hK, hr, hlk⟩ := X
  have hA : ∀ a, s.heap.size ≤ a → rA q s.heap.size a := fun a h => Or.inr h
  have hD : va_D (rA q s.heap.size) [(q, .inr (8, [.int 0, .int 0, .int 0, .int 0]))] := rD0
  have hS : va_S (rA q s.heap.size) s.heap s.heap [] := va_S.rf
  generalize hH : s.heap = H at hP ⊢
  replace hS : va_S (rA q s.heap.size) s.heap H [] := by rw [← hH]; exact va_S.rf
  refine lv_aload_n hx hb dX11_init_0 rfl (lv_at hl 0 rfl) ?_
  refine W.objInit hx hb hown (hts _ q714) (hts _ q115) (hts _ q116) rfl (hl.1.trans hml.symm) rfl dX11_init_1 (Nat.le_of_ble_eq_true rfl) (Nat.le_of_ble_eq_true rfl) ?_
  refine W.eq (g2 := F0 m 4 ls []) rfl ?_
  refine lv_aload_n hx hb dX11_init_4 rfl (lv_at hl 0 rfl) ?_
  refine lv_iload_n hx hb dX11_init_5 rfl (lv_at hl 1 rfl) ?_
  refine va_putF (D := Γ.1) (ci := 8) (v := .int x1) (ty := tyX14 0) (C := RX14) (T := TX14) (N := 4) hx hb hts in_X14 tyX14 tyX14_ok nmX14 hown hK.1 hP hD hS 0 rfl rfl 0 (by decide) (hts _ q715) (fun _ h9 => h9) rfl hin rfl (tyX14_ok 0 (by decide)) rfl rfl (Nat.le_of_ble_eq_true rfl) dX11_init_6 (fun H locs hP hD hS => ?_)
  have hP : va_P Γ.1 clA ([(q, .inr (8, [.int x1, .int 0, .int 0, .int 0]))]) H := hP
  have hD : va_D (rA q s.heap.size) ([(q, .inr (8, [.int x1, .int 0, .int 0, .int 0]))]) := hD
  refine lv_aload_n hx hb dX11_init_9 rfl (lv_at hl 0 rfl) ?_
  refine lv_iload_n hx hb dX11_init_10 rfl (lv_at hl 2 rfl) ?_
  refine va_putF (D := Γ.1) (ci := 8) (v := .int x2) (ty := tyX14 1) (C := RX14) (T := TX14) (N := 4) hx hb hts in_X14 tyX14 tyX14_ok nmX14 hown hK.1 hP hD hS 0 rfl rfl 1 (by decide) (hts _ q727) (fun _ h9 => h9) rfl hin rfl (tyX14_ok 1 (by decide)) rfl rfl (Nat.le_of_ble_eq_true rfl) dX11_init_11 (fun H locs hP hD hS => ?_)
  have hP : va_P Γ.1 clA ([(q, .inr (8, [.int x1, .int x2, .int 0, .int 0]))]) H := hP
  have hD : va_D (rA q s.heap.size) ([(q, .inr (8, [.int x1, .int x2, .int 0, .int 0]))]) := hD
  refine lv_aload_n hx hb dX11_init_14 rfl (lv_at hl 0 rfl) ?_
  refine lv_iload_n hx hb dX11_init_15 rfl (lv_at hl 3 rfl) ?_
  refine va_putF (D := Γ.1) (ci := 8) (v := .int x3) (ty := tyX14 2) (C := RX14) (T := TX14) (N := 4) hx hb hts in_X14 tyX14 tyX14_ok nmX14 hown hK.1 hP hD hS 0 rfl rfl 2 (by decide) (hts _ q730) (fun _ h9 => h9) rfl hin rfl (tyX14_ok 2 (by decide)) rfl rfl (Nat.le_of_ble_eq_true rfl) dX11_init_16 (fun H locs hP hD hS => ?_)
  have hP : va_P Γ.1 clA ([(q, .inr (8, [.int x1, .int x2, .int x3, .int 0]))]) H := hP
  have hD : va_D (rA q s.heap.size) ([(q, .inr (8, [.int x1, .int x2, .int x3, .int 0]))]) := hD
  refine lv_aload_n hx hb dX11_init_19 rfl (lv_at hl 0 rfl) ?_
  refine lv_iload hx hb dX11_init_20 (lv_at hl 4 rfl) ?_
  refine va_putF (D := Γ.1) (ci := 8) (v := .int x4) (ty := tyX14 3) (C := RX14) (T := TX14) (N := 4) hx hb hts in_X14 tyX14 tyX14_ok nmX14 hown hK.1 hP hD hS 0 rfl rfl 3 (by decide) (hts _ q733) (fun _ h9 => h9) rfl hin rfl (tyX14_ok 3 (by decide)) rfl rfl (Nat.le_of_ble_eq_true rfl) dX11_init_22 (fun H locs hP hD hS => ?_)
  have hP : va_P Γ.1 clA ([(q, .inr (8, [.int x1, .int x2, .int x3, .int x4]))]) H := hP
  have hD : va_D (rA q s.heap.size) ([(q, .inr (8, [.int x1, .int x2, .int x3, .int x4]))]) := hD
  refine W.widen (k := 0) (n := 0) (Nat.le_of_ble_eq_true rfl) (Nat.le_of_ble_eq_true rfl) ?_
  exact r_vret hx hb hr hlk hP hD hS (rfl) dX11_init_25

set_option maxHeartbeats 4000000 in
set_option maxRecDepth 100000 in
theorem ct_T_9 {l : Launch} {Γ : GA} {q : Nat} {x1 : Int32} {x2 : Int32} {x3 : Int32} {x4 : Int32} : rC l yX11_init cX11_init 5 ({ frames := 1, cells := 0, slots := 0, locals := 60 } : Room) 0 0 Γ q (.inr (9, [.int 0, .int 0, .int 0, .int 0])) [.int x1, .int x2, .int x3, .int x4] (fun ex => ex = [(q, .inr (9, [.int x1, .int x2, .int x3, .int x4]))]) := by
  intro sz
  refine r_of (by decide) rfl [(0, .ref q), (1, .int x1), (2, .int x2), (3, .int x3), (4, .int x4)] (fun _ h => h) (Nat.le_of_ble_eq_true rfl) ?_
  intro p e s m args below meth c ls hsz X hZ hin hP hl
  subst hsz
  obtain ⟨hx, hb, hml, hown, hts, hK, hr, hlk⟩ := X
  have hA : ∀ a, s.heap.size ≤ a → rA q s.heap.size a := fun a h => Or.inr h
  have hD : va_D (rA q s.heap.size) [(q, .inr (9, [.int 0, .int 0, .int 0, .int 0]))] := rD0
  have hS : va_S (rA q s.heap.size) s.heap s.heap [] := va_S.rf
  generalize hH : s.heap = H at hP ⊢
  replace hS : va_S (rA q s.heap.size) s.heap H [] := by rw [← hH]; exact va_S.rf
  refine lv_aload_n hx hb dX11_init_0 rfl (lv_at hl 0 rfl) ?_
  refine W.objInit hx hb hown (hts _ q714) (hts _ q115) (hts _ q116) rfl (hl.1.trans hml.symm) rfl dX11_init_1 (Nat.le_of_ble_eq_true rfl) (Nat.le_of_ble_eq_true rfl) ?_
  refine W.eq (g2 := F0 m 4 ls []) rfl ?_
  refine lv_aload_n hx hb dX11_init_4 rfl (lv_at hl 0 rfl) ?_
  refine lv_iload_n hx hb dX11_init_5 rfl (lv_at hl 1 rfl) ?_
  refine va_putF (D := Γ.1) (ci := 9) (v := .int x1) (ty := tyX15 0) (C := RX15) (T := TX15) (N := 4) hx hb hts in_X15 tyX15 tyX15_ok nmX15 hown hK.1 hP hD hS 0 rfl rfl 0 (by decide) (hts _ q715) (fun _ h9 => h9) rfl hin rfl (tyX15_ok 0 (by decide)) rfl rfl (Nat.le_of_ble_eq_true rfl) dX11_init_6 (fun H locs hP hD hS => ?_)
  have hP : va_P Γ.1 clA ([(q, .inr (9, [.int x1, .int 0, .int 0, .int 0]))]) H := hP
  have hD : va_D (rA q s.heap.size) ([(q, .inr (9, [.int x1, .int 0, .int 0, .int 0]))]) := hD
  refine lv_aload_n hx hb dX11_init_9 rfl (lv_at hl 0 rfl) ?_
  refine lv_iload_n hx hb dX11_init_10 rfl (lv_at hl 2 rfl) ?_
  refine va_putF (D := Γ.1) (ci := 9) (v := .int x2) (ty := tyX15 1) (C := RX15) (T := TX15) (N := 4) hx hb hts in_X15 tyX15 tyX15_ok nmX15 hown hK.1 hP hD hS 0 rfl rfl 1 (by decide) (hts _ q727) (fun _ h9 => h9) rfl hin rfl (tyX15_ok 1 (by decide)) rfl rfl (Nat.le_of_ble_eq_true rfl) dX11_init_11 (fun H locs hP hD hS => ?_)
  have hP : va_P Γ.1 clA ([(q, .inr (9, [.int x1, .int x2, .int 0, .int 0]))]) H := hP
  have hD : va_D (rA q s.heap.size) ([(q, .inr (9, [.int x1, .int x2, .int 0, .int 0]))]) := hD
  refine lv_aload_n hx hb dX11_init_14 rfl (lv_at hl 0 rfl) ?_
  refine lv_iload_n hx hb dX11_init_15 rfl (lv_at hl 3 rfl) ?_
  refine va_putF (D := Γ.1) (ci := 9) (v := .int x3) (ty := tyX15 2) (C := RX15) (T := TX15) (N := 4) hx hb hts in_X15 tyX15 tyX15_ok nmX15 hown hK.1 hP hD hS 0 rfl rfl 2 (by decide) (hts _ q730) (fun _ h9 => h9) rfl hin rfl (tyX15_ok 2 (by decide)) rfl rfl (Nat.le_of_ble_eq_true rfl) dX11_init_16 (fun H locs hP hD hS => ?_)
  have hP : va_P Γ.1 clA ([(q, .inr (9, [.int x1, .int x2, .int x3, .int 0]))]) H := hP
  have hD : va_D (rA q s.heap.size) ([(q, .inr (9, [.int x1, .int x2, .int x3, .int 0]))]) := hD
  refine lv_aload_n hx hb dX11_init_19 rfl (lv_at hl 0 rfl) ?_
  refine lv_iload hx hb dX11_init_20 (lv_at hl 4 rfl) ?_
  refine va_putF (D := Γ.1) (ci := 9) (v := .int x4) (ty := tyX15 3) (C := RX15) (T := TX15) (N := 4) hx hb hts in_X15 tyX15 tyX15_ok nmX15 hown hK.1 hP hD hS 0 rfl rfl 3 (by decide) (hts _ q733) (fun _ h9 => h9) rfl hin rfl (tyX15_ok 3 (by decide)) rfl rfl (Nat.le_of_ble_eq_true rfl) dX11_init_22 (fun H locs hP hD hS => ?_)
  have hP : va_P Γ.1 clA ([(q, .inr (9, [.int x1, .int x2, .int x3, .int x4]))]) H := hP
  have hD : va_D (rA q s.heap.size) ([(q, .inr (9, [.int x1, .int x2, .int x3, .int x4]))]) := hD
  refine W.widen (k := 0) (n := 0) (Nat.le_of_ble_eq_true rfl) (Nat.le_of_ble_eq_true rfl) ?_
  exact r_vret hx hb hr hlk hP hD hS (rfl) dX11_init_25

set_option maxHeartbeats 4000000 in
set_option maxRecDepth 100000 in
theorem ct_T_10 {l : Launch} {Γ : GA} {q : Nat} {x1 : Int32} {x2 : Int32} {x3 : Int32} {x4 : Int32} : rC l yX11_init cX11_init 5 ({ frames := 1, cells := 0, slots := 0, locals := 60 } : Room) 0 0 Γ q (.inr (10, [.int 0, .int 0, .int 0, .int 0])) [.int x1, .int x2, .int x3, .int x4] (fun ex => ex = [(q, .inr (10, [.int x1, .int x2, .int x3, .int x4]))]) := by
  intro sz
  refine r_of (by decide) rfl [(0, .ref q), (1, .int x1), (2, .int x2), (3, .int x3), (4, .int x4)] (fun _ h => h) (Nat.le_of_ble_eq_true rfl) ?_
  intro p e s m args below meth c ls hsz X hZ hin hP hl
  subst hsz
  obtain ⟨hx, hb, hml, hown, hts, hK, hr, hlk⟩ := X
  have hA : ∀ a, s.heap.size ≤ a → rA q s.heap.size a := fun a h => Or.inr h
  have hD : va_D (rA q s.heap.size) [(q, .inr (10, [.int 0, .int 0, .int 0, .int 0]))] := rD0
  have hS : va_S (rA q s.heap.size) s.heap s.heap [] := va_S.rf
  generalize hH : s.heap = H at hP ⊢
  replace hS : va_S (rA q s.heap.size) s.heap H [] := by rw [← hH]; exact va_S.rf
  refine lv_aload_n hx hb dX11_init_0 rfl (lv_at hl 0 rfl) ?_
  refine W.objInit hx hb hown (hts _ q714) (hts _ q115) (hts _ q116) rfl (hl.1.trans hml.symm) rfl dX11_init_1 (Nat.le_of_ble_eq_true rfl) (Nat.le_of_ble_eq_true rfl) ?_
  refine W.eq (g2 := F0 m 4 ls []) rfl ?_
  refine lv_aload_n hx hb dX11_init_4 rfl (lv_at hl 0 rfl) ?_
  refine lv_iload_n hx hb dX11_init_5 rfl (lv_at hl 1 rfl) ?_
  refine va_putF (D := Γ.1) (ci := 10) (v := .int x1) (ty := tyX16 0) (C := RX16) (T := TX16) (N := 4) hx hb hts in_X16 tyX16 tyX16_ok nmX16 hown hK.1 hP hD hS 0 rfl rfl 0 (by decide) (hts _ q715) (fun _ h9 => h9) rfl hin rfl (tyX16_ok 0 (by decide)) rfl rfl (Nat.le_of_ble_eq_true rfl) dX11_init_6 (fun H locs hP hD hS => ?_)
  have hP : va_P Γ.1 clA ([(q, .inr (10, [.int x1, .int 0, .int 0, .int 0]))]) H := hP
  have hD : va_D (rA q s.heap.size) ([(q, .inr (10, [.int x1, .int 0, .int 0, .int 0]))]) := hD
  refine lv_aload_n hx hb dX11_init_9 rfl (lv_at hl 0 rfl) ?_
  refine lv_iload_n hx hb dX11_init_10 rfl (lv_at hl 2 rfl) ?_
  refine va_putF (D := Γ.1) (ci := 10) (v := .int x2) (ty := tyX16 1) (C := RX16) (T := TX16) (N := 4) hx hb hts in_X16 tyX16 tyX16_ok nmX16 hown hK.1 hP hD hS 0 rfl rfl 1 (by decide) (hts _ q727) (fun _ h9 => h9) rfl hin rfl (tyX16_ok 1 (by decide)) rfl rfl (Nat.le_of_ble_eq_true rfl) dX11_init_11 (fun H locs hP hD hS => ?_)
  have hP : va_P Γ.1 clA ([(q, .inr (10, [.int x1, .int x2, .int 0, .int 0]))]) H := hP
  have hD : va_D (rA q s.heap.size) ([(q, .inr (10, [.int x1, .int x2, .int 0, .int 0]))]) := hD
  refine lv_aload_n hx hb dX11_init_14 rfl (lv_at hl 0 rfl) ?_
  refine lv_iload_n hx hb dX11_init_15 rfl (lv_at hl 3 rfl) ?_
  refine va_putF (D := Γ.1) (ci := 10) (v := .int x3) (ty := tyX16 2) (C := RX16) (T := TX16) (N := 4) hx hb hts in_X16 tyX16 tyX16_ok nmX16 hown hK.1 hP hD hS 0 rfl rfl 2 (by decide) (hts _ q730) (fun _ h9 => h9) rfl hin rfl (tyX16_ok 2 (by decide)) rfl rfl (Nat.le_of_ble_eq_true rfl) dX11_init_16 (fun H locs hP hD hS => ?_)
  have hP : va_P Γ.1 clA ([(q, .inr (10, [.int x1, .int x2, .int x3, .int 0]))]) H := hP
  have hD : va_D (rA q s.heap.size) ([(q, .inr (10, [.int x1, .int x2, .int x3, .int 0]))]) := hD
  refine lv_aload_n hx hb dX11_init_19 rfl (lv_at hl 0 rfl) ?_
  refine lv_iload hx hb dX11_init_20 (lv_at hl 4 rfl) ?_
  refine va_putF (D := Γ.1) (ci := 10) (v := .int x4) (ty := tyX16 3) (C := RX16) (T := TX16) (N := 4) hx hb hts in_X16 tyX16 tyX16_ok nmX16 hown hK.1 hP hD hS 0 rfl rfl 3 (by decide) (hts _ q733) (fun _ h9 => h9) rfl hin rfl (tyX16_ok 3 (by decide)) rfl rfl (Nat.le_of_ble_eq_true rfl) dX11_init_22 (fun H locs hP hD hS => ?_)
  have hP : va_P Γ.1 clA ([(q, .inr (10, [.int x1, .int x2, .int x3, .int x4]))]) H := hP
  have hD : va_D (rA q s.heap.size) ([(q, .inr (10, [.int x1, .int x2, .int x3, .int x4]))]) := hD
  refine W.widen (k := 0) (n := 0) (Nat.le_of_ble_eq_true rfl) (Nat.le_of_ble_eq_true rfl) ?_
  exact r_vret hx hb hr hlk hP hD hS (rfl) dX11_init_25

set_option maxHeartbeats 4000000 in
set_option maxRecDepth 100000 in
theorem ct_T_11 {l : Launch} {Γ : GA} {q : Nat} {x1 : Int32} {x2 : Int32} {x3 : Int32} {x4 : Int32} : rC l yX11_init cX11_init 5 ({ frames := 1, cells := 0, slots := 0, locals := 60 } : Room) 0 0 Γ q (.inr (11, [.int 0, .int 0, .int 0, .int 0])) [.int x1, .int x2, .int x3, .int x4] (fun ex => ex = [(q, .inr (11, [.int x1, .int x2, .int x3, .int x4]))]) := by
  intro sz
  refine r_of (by decide) rfl [(0, .ref q), (1, .int x1), (2, .int x2), (3, .int x3), (4, .int x4)] (fun _ h => h) (Nat.le_of_ble_eq_true rfl) ?_
  intro p e s m args below meth c ls hsz X hZ hin hP hl
  subst hsz
  obtain ⟨hx, hb, hml, hown, hts, hK, hr, hlk⟩ := X
  have hA : ∀ a, s.heap.size ≤ a → rA q s.heap.size a := fun a h => Or.inr h
  have hD : va_D (rA q s.heap.size) [(q, .inr (11, [.int 0, .int 0, .int 0, .int 0]))] := rD0
  have hS : va_S (rA q s.heap.size) s.heap s.heap [] := va_S.rf
  generalize hH : s.heap = H at hP ⊢
  replace hS : va_S (rA q s.heap.size) s.heap H [] := by rw [← hH]; exact va_S.rf
  refine lv_aload_n hx hb dX11_init_0 rfl (lv_at hl 0 rfl) ?_
  refine W.objInit hx hb hown (hts _ q714) (hts _ q115) (hts _ q116) rfl (hl.1.trans hml.symm) rfl dX11_init_1 (Nat.le_of_ble_eq_true rfl) (Nat.le_of_ble_eq_true rfl) ?_
  refine W.eq (g2 := F0 m 4 ls []) rfl ?_
  refine lv_aload_n hx hb dX11_init_4 rfl (lv_at hl 0 rfl) ?_
  refine lv_iload_n hx hb dX11_init_5 rfl (lv_at hl 1 rfl) ?_
  refine va_putF (D := Γ.1) (ci := 11) (v := .int x1) (ty := tyX17 0) (C := RX17) (T := TX17) (N := 4) hx hb hts in_X17 tyX17 tyX17_ok nmX17 hown hK.1 hP hD hS 0 rfl rfl 0 (by decide) (hts _ q715) (fun _ h9 => h9) rfl hin rfl (tyX17_ok 0 (by decide)) rfl rfl (Nat.le_of_ble_eq_true rfl) dX11_init_6 (fun H locs hP hD hS => ?_)
  have hP : va_P Γ.1 clA ([(q, .inr (11, [.int x1, .int 0, .int 0, .int 0]))]) H := hP
  have hD : va_D (rA q s.heap.size) ([(q, .inr (11, [.int x1, .int 0, .int 0, .int 0]))]) := hD
  refine lv_aload_n hx hb dX11_init_9 rfl (lv_at hl 0 rfl) ?_
  refine lv_iload_n hx hb dX11_init_10 rfl (lv_at hl 2 rfl) ?_
  refine va_putF (D := Γ.1) (ci := 11) (v := .int x2) (ty := tyX17 1) (C := RX17) (T := TX17) (N := 4) hx hb hts in_X17 tyX17 tyX17_ok nmX17 hown hK.1 hP hD hS 0 rfl rfl 1 (by decide) (hts _ q727) (fun _ h9 => h9) rfl hin rfl (tyX17_ok 1 (by decide)) rfl rfl (Nat.le_of_ble_eq_true rfl) dX11_init_11 (fun H locs hP hD hS => ?_)
  have hP : va_P Γ.1 clA ([(q, .inr (11, [.int x1, .int x2, .int 0, .int 0]))]) H := hP
  have hD : va_D (rA q s.heap.size) ([(q, .inr (11, [.int x1, .int x2, .int 0, .int 0]))]) := hD
  refine lv_aload_n hx hb dX11_init_14 rfl (lv_at hl 0 rfl) ?_
  refine lv_iload_n hx hb dX11_init_15 rfl (lv_at hl 3 rfl) ?_
  refine va_putF (D := Γ.1) (ci := 11) (v := .int x3) (ty := tyX17 2) (C := RX17) (T := TX17) (N := 4) hx hb hts in_X17 tyX17 tyX17_ok nmX17 hown hK.1 hP hD hS 0 rfl rfl 2 (by decide) (hts _ q730) (fun _ h9 => h9) rfl hin rfl (tyX17_ok 2 (by decide)) rfl rfl (Nat.le_of_ble_eq_true rfl) dX11_init_16 (fun H locs hP hD hS => ?_)
  have hP : va_P Γ.1 clA ([(q, .inr (11, [.int x1, .int x2, .int x3, .int 0]))]) H := hP
  have hD : va_D (rA q s.heap.size) ([(q, .inr (11, [.int x1, .int x2, .int x3, .int 0]))]) := hD
  refine lv_aload_n hx hb dX11_init_19 rfl (lv_at hl 0 rfl) ?_
  refine lv_iload hx hb dX11_init_20 (lv_at hl 4 rfl) ?_
  refine va_putF (D := Γ.1) (ci := 11) (v := .int x4) (ty := tyX17 3) (C := RX17) (T := TX17) (N := 4) hx hb hts in_X17 tyX17 tyX17_ok nmX17 hown hK.1 hP hD hS 0 rfl rfl 3 (by decide) (hts _ q733) (fun _ h9 => h9) rfl hin rfl (tyX17_ok 3 (by decide)) rfl rfl (Nat.le_of_ble_eq_true rfl) dX11_init_22 (fun H locs hP hD hS => ?_)
  have hP : va_P Γ.1 clA ([(q, .inr (11, [.int x1, .int x2, .int x3, .int x4]))]) H := hP
  have hD : va_D (rA q s.heap.size) ([(q, .inr (11, [.int x1, .int x2, .int x3, .int x4]))]) := hD
  refine W.widen (k := 0) (n := 0) (Nat.le_of_ble_eq_true rfl) (Nat.le_of_ble_eq_true rfl) ?_
  exact r_vret hx hb hr hlk hP hD hS (rfl) dX11_init_25

set_option maxHeartbeats 4000000 in
set_option maxRecDepth 100000 in
theorem ct_Ho_6 {l : Launch} {Γ : GA} {q : Nat} {x1 : Int32} {x2 : Int32} {x3 : Int32} {x4 : Int32} : rC l yX12_init cX12_init 5 ({ frames := 2, cells := 0, slots := 0, locals := 84 } : Room) 0 0 Γ q (.inr (6, [.int 0, .int 0, .int 0, .int 0])) [.int x1, .int x2, .int x3, .int x4] (fun ex => ex = [(q, .inr (6, [.int x1, .int x2, .int x3, .int x4]))]) := by
  intro sz
  refine r_of (by decide) rfl [(0, .ref q), (1, .int x1), (2, .int x2), (3, .int x3), (4, .int x4)] (fun _ h => h) (Nat.le_of_ble_eq_true rfl) ?_
  intro p e s m args below meth c ls hsz X hZ hin hP hl
  subst hsz
  obtain ⟨hx, hb, hml, hown, hts, hK, hr, hlk⟩ := X
  have hA : ∀ a, s.heap.size ≤ a → rA q s.heap.size a := fun a h => Or.inr h
  have hD : va_D (rA q s.heap.size) [(q, .inr (6, [.int 0, .int 0, .int 0, .int 0]))] := rD0
  have hS : va_S (rA q s.heap.size) s.heap s.heap [] := va_S.rf
  generalize hH : s.heap = H at hP ⊢
  replace hS : va_S (rA q s.heap.size) s.heap H [] := by rw [← hH]; exact va_S.rf
  refine lv_aload_n hx hb dX12_init_0 rfl (lv_at hl 0 rfl) ?_
  refine lv_iload_n hx hb dX12_init_1 rfl (lv_at hl 1 rfl) ?_
  refine lv_iload_n hx hb dX12_init_2 rfl (lv_at hl 2 rfl) ?_
  refine lv_iload_n hx hb dX12_init_3 rfl (lv_at hl 3 rfl) ?_
  refine lv_iload hx hb dX12_init_4 (lv_at hl 4 rfl) ?_
  refine r_go (X := []) (va_runI (As := [.int x1, .int x2, .int x3, .int x4]) (rest := []) ⟨hx, hb, hml, hown, hts⟩ (ct_T_6 H.size) (cwI 4 hts (lw_meth q713) rfl rfl rfl (hts _ q97) (hts _ q711) (hts _ q712) rfl (by decide +kernel) ⟨(Nat.le_of_ble_eq_true rfl), (Nat.le_of_ble_eq_true rfl)⟩) (r_pre hK hA hZ hP hD hS) rfl rfl hl.1 rfl (lv_room (Nat.le_of_ble_eq_true rfl)) dX12_init_6 ⟨(Nat.le_of_ble_eq_true rfl), (Nat.le_of_ble_eq_true rfl)⟩) hA hP hD hS (fun ex H locs hk hP hD hS => ?_)
  subst hk
  have hP : va_P Γ.1 clA ([(q, .inr (6, [.int x1, .int x2, .int x3, .int x4]))]) H := hP
  have hD : va_D (rA q s.heap.size) ([(q, .inr (6, [.int x1, .int x2, .int x3, .int x4]))]) := hD
  refine W.widen (k := 0) (n := 0) (Nat.le_of_ble_eq_true rfl) (Nat.le_of_ble_eq_true rfl) ?_
  exact r_vret hx hb hr hlk hP hD hS (rfl) dX12_init_9

set_option maxHeartbeats 4000000 in
set_option maxRecDepth 100000 in
theorem ct_Ho_8 {l : Launch} {Γ : GA} {q : Nat} {x1 : Int32} {x2 : Int32} {x3 : Int32} {x4 : Int32} : rC l yX12_init cX12_init 5 ({ frames := 2, cells := 0, slots := 0, locals := 84 } : Room) 0 0 Γ q (.inr (8, [.int 0, .int 0, .int 0, .int 0])) [.int x1, .int x2, .int x3, .int x4] (fun ex => ex = [(q, .inr (8, [.int x1, .int x2, .int x3, .int x4]))]) := by
  intro sz
  refine r_of (by decide) rfl [(0, .ref q), (1, .int x1), (2, .int x2), (3, .int x3), (4, .int x4)] (fun _ h => h) (Nat.le_of_ble_eq_true rfl) ?_
  intro p e s m args below meth c ls hsz X hZ hin hP hl
  subst hsz
  obtain ⟨hx, hb, hml, hown, hts, hK, hr, hlk⟩ := X
  have hA : ∀ a, s.heap.size ≤ a → rA q s.heap.size a := fun a h => Or.inr h
  have hD : va_D (rA q s.heap.size) [(q, .inr (8, [.int 0, .int 0, .int 0, .int 0]))] := rD0
  have hS : va_S (rA q s.heap.size) s.heap s.heap [] := va_S.rf
  generalize hH : s.heap = H at hP ⊢
  replace hS : va_S (rA q s.heap.size) s.heap H [] := by rw [← hH]; exact va_S.rf
  refine lv_aload_n hx hb dX12_init_0 rfl (lv_at hl 0 rfl) ?_
  refine lv_iload_n hx hb dX12_init_1 rfl (lv_at hl 1 rfl) ?_
  refine lv_iload_n hx hb dX12_init_2 rfl (lv_at hl 2 rfl) ?_
  refine lv_iload_n hx hb dX12_init_3 rfl (lv_at hl 3 rfl) ?_
  refine lv_iload hx hb dX12_init_4 (lv_at hl 4 rfl) ?_
  refine r_go (X := []) (va_runI (As := [.int x1, .int x2, .int x3, .int x4]) (rest := []) ⟨hx, hb, hml, hown, hts⟩ (ct_T_8 H.size) (cwI 4 hts (lw_meth q713) rfl rfl rfl (hts _ q97) (hts _ q711) (hts _ q712) rfl (by decide +kernel) ⟨(Nat.le_of_ble_eq_true rfl), (Nat.le_of_ble_eq_true rfl)⟩) (r_pre hK hA hZ hP hD hS) rfl rfl hl.1 rfl (lv_room (Nat.le_of_ble_eq_true rfl)) dX12_init_6 ⟨(Nat.le_of_ble_eq_true rfl), (Nat.le_of_ble_eq_true rfl)⟩) hA hP hD hS (fun ex H locs hk hP hD hS => ?_)
  subst hk
  have hP : va_P Γ.1 clA ([(q, .inr (8, [.int x1, .int x2, .int x3, .int x4]))]) H := hP
  have hD : va_D (rA q s.heap.size) ([(q, .inr (8, [.int x1, .int x2, .int x3, .int x4]))]) := hD
  refine W.widen (k := 0) (n := 0) (Nat.le_of_ble_eq_true rfl) (Nat.le_of_ble_eq_true rfl) ?_
  exact r_vret hx hb hr hlk hP hD hS (rfl) dX12_init_9

set_option maxHeartbeats 4000000 in
set_option maxRecDepth 100000 in
theorem ct_Ho_9 {l : Launch} {Γ : GA} {q : Nat} {x1 : Int32} {x2 : Int32} {x3 : Int32} {x4 : Int32} : rC l yX12_init cX12_init 5 ({ frames := 2, cells := 0, slots := 0, locals := 84 } : Room) 0 0 Γ q (.inr (9, [.int 0, .int 0, .int 0, .int 0])) [.int x1, .int x2, .int x3, .int x4] (fun ex => ex = [(q, .inr (9, [.int x1, .int x2, .int x3, .int x4]))]) := by
  intro sz
  refine r_of (by decide) rfl [(0, .ref q), (1, .int x1), (2, .int x2), (3, .int x3), (4, .int x4)] (fun _ h => h) (Nat.le_of_ble_eq_true rfl) ?_
  intro p e s m args below meth c ls hsz X hZ hin hP hl
  subst hsz
  obtain ⟨hx, hb, hml, hown, hts, hK, hr, hlk⟩ := X
  have hA : ∀ a, s.heap.size ≤ a → rA q s.heap.size a := fun a h => Or.inr h
  have hD : va_D (rA q s.heap.size) [(q, .inr (9, [.int 0, .int 0, .int 0, .int 0]))] := rD0
  have hS : va_S (rA q s.heap.size) s.heap s.heap [] := va_S.rf
  generalize hH : s.heap = H at hP ⊢
  replace hS : va_S (rA q s.heap.size) s.heap H [] := by rw [← hH]; exact va_S.rf
  refine lv_aload_n hx hb dX12_init_0 rfl (lv_at hl 0 rfl) ?_
  refine lv_iload_n hx hb dX12_init_1 rfl (lv_at hl 1 rfl) ?_
  refine lv_iload_n hx hb dX12_init_2 rfl (lv_at hl 2 rfl) ?_
  refine lv_iload_n hx hb dX12_init_3 rfl (lv_at hl 3 rfl) ?_
  refine lv_iload hx hb dX12_init_4 (lv_at hl 4 rfl) ?_
  refine r_go (X := []) (va_runI (As := [.int x1, .int x2, .int x3, .int x4]) (rest := []) ⟨hx, hb, hml, hown, hts⟩ (ct_T_9 H.size) (cwI 4 hts (lw_meth q713) rfl rfl rfl (hts _ q97) (hts _ q711) (hts _ q712) rfl (by decide +kernel) ⟨(Nat.le_of_ble_eq_true rfl), (Nat.le_of_ble_eq_true rfl)⟩) (r_pre hK hA hZ hP hD hS) rfl rfl hl.1 rfl (lv_room (Nat.le_of_ble_eq_true rfl)) dX12_init_6 ⟨(Nat.le_of_ble_eq_true rfl), (Nat.le_of_ble_eq_true rfl)⟩) hA hP hD hS (fun ex H locs hk hP hD hS => ?_)
  subst hk
  have hP : va_P Γ.1 clA ([(q, .inr (9, [.int x1, .int x2, .int x3, .int x4]))]) H := hP
  have hD : va_D (rA q s.heap.size) ([(q, .inr (9, [.int x1, .int x2, .int x3, .int x4]))]) := hD
  refine W.widen (k := 0) (n := 0) (Nat.le_of_ble_eq_true rfl) (Nat.le_of_ble_eq_true rfl) ?_
  exact r_vret hx hb hr hlk hP hD hS (rfl) dX12_init_9

set_option maxHeartbeats 4000000 in
set_option maxRecDepth 100000 in
theorem ct_Ho_10 {l : Launch} {Γ : GA} {q : Nat} {x1 : Int32} {x2 : Int32} {x3 : Int32} {x4 : Int32} : rC l yX12_init cX12_init 5 ({ frames := 2, cells := 0, slots := 0, locals := 84 } : Room) 0 0 Γ q (.inr (10, [.int 0, .int 0, .int 0, .int 0])) [.int x1, .int x2, .int x3, .int x4] (fun ex => ex = [(q, .inr (10, [.int x1, .int x2, .int x3, .int x4]))]) := by
  intro sz
  refine r_of (by decide) rfl [(0, .ref q), (1, .int x1), (2, .int x2), (3, .int x3), (4, .int x4)] (fun _ h => h) (Nat.le_of_ble_eq_true rfl) ?_
  intro p e s m args below meth c ls hsz X hZ hin hP hl
  subst hsz
  obtain ⟨hx, hb, hml, hown, hts, hK, hr, hlk⟩ := X
  have hA : ∀ a, s.heap.size ≤ a → rA q s.heap.size a := fun a h => Or.inr h
  have hD : va_D (rA q s.heap.size) [(q, .inr (10, [.int 0, .int 0, .int 0, .int 0]))] := rD0
  have hS : va_S (rA q s.heap.size) s.heap s.heap [] := va_S.rf
  generalize hH : s.heap = H at hP ⊢
  replace hS : va_S (rA q s.heap.size) s.heap H [] := by rw [← hH]; exact va_S.rf
  refine lv_aload_n hx hb dX12_init_0 rfl (lv_at hl 0 rfl) ?_
  refine lv_iload_n hx hb dX12_init_1 rfl (lv_at hl 1 rfl) ?_
  refine lv_iload_n hx hb dX12_init_2 rfl (lv_at hl 2 rfl) ?_
  refine lv_iload_n hx hb dX12_init_3 rfl (lv_at hl 3 rfl) ?_
  refine lv_iload hx hb dX12_init_4 (lv_at hl 4 rfl) ?_
  refine r_go (X := []) (va_runI (As := [.int x1, .int x2, .int x3, .int x4]) (rest := []) ⟨hx, hb, hml, hown, hts⟩ (ct_T_10 H.size) (cwI 4 hts (lw_meth q713) rfl rfl rfl (hts _ q97) (hts _ q711) (hts _ q712) rfl (by decide +kernel) ⟨(Nat.le_of_ble_eq_true rfl), (Nat.le_of_ble_eq_true rfl)⟩) (r_pre hK hA hZ hP hD hS) rfl rfl hl.1 rfl (lv_room (Nat.le_of_ble_eq_true rfl)) dX12_init_6 ⟨(Nat.le_of_ble_eq_true rfl), (Nat.le_of_ble_eq_true rfl)⟩) hA hP hD hS (fun ex H locs hk hP hD hS => ?_)
  subst hk
  have hP : va_P Γ.1 clA ([(q, .inr (10, [.int x1, .int x2, .int x3, .int x4]))]) H := hP
  have hD : va_D (rA q s.heap.size) ([(q, .inr (10, [.int x1, .int x2, .int x3, .int x4]))]) := hD
  refine W.widen (k := 0) (n := 0) (Nat.le_of_ble_eq_true rfl) (Nat.le_of_ble_eq_true rfl) ?_
  exact r_vret hx hb hr hlk hP hD hS (rfl) dX12_init_9

set_option maxHeartbeats 4000000 in
set_option maxRecDepth 100000 in
theorem ct_Te_7 {l : Launch} {Γ : GA} {q : Nat} {x1 : Int32} {x2 : Int32} {x3 : Int32} {x4 : Int32} : rC l yX13_init cX13_init 5 ({ frames := 2, cells := 0, slots := 0, locals := 84 } : Room) 0 0 Γ q (.inr (7, [.int 0, .int 0, .int 0, .int 0])) [.int x1, .int x2, .int x3, .int x4] (fun ex => ex = [(q, .inr (7, [.int x1, .int x2, .int x3, .int x4]))]) := by
  intro sz
  refine r_of (by decide) rfl [(0, .ref q), (1, .int x1), (2, .int x2), (3, .int x3), (4, .int x4)] (fun _ h => h) (Nat.le_of_ble_eq_true rfl) ?_
  intro p e s m args below meth c ls hsz X hZ hin hP hl
  subst hsz
  obtain ⟨hx, hb, hml, hown, hts, hK, hr, hlk⟩ := X
  have hA : ∀ a, s.heap.size ≤ a → rA q s.heap.size a := fun a h => Or.inr h
  have hD : va_D (rA q s.heap.size) [(q, .inr (7, [.int 0, .int 0, .int 0, .int 0]))] := rD0
  have hS : va_S (rA q s.heap.size) s.heap s.heap [] := va_S.rf
  generalize hH : s.heap = H at hP ⊢
  replace hS : va_S (rA q s.heap.size) s.heap H [] := by rw [← hH]; exact va_S.rf
  refine lv_aload_n hx hb dX13_init_0 rfl (lv_at hl 0 rfl) ?_
  refine lv_iload_n hx hb dX13_init_1 rfl (lv_at hl 1 rfl) ?_
  refine lv_iload_n hx hb dX13_init_2 rfl (lv_at hl 2 rfl) ?_
  refine lv_iload_n hx hb dX13_init_3 rfl (lv_at hl 3 rfl) ?_
  refine lv_iload hx hb dX13_init_4 (lv_at hl 4 rfl) ?_
  refine r_go (X := []) (va_runI (As := [.int x1, .int x2, .int x3, .int x4]) (rest := []) ⟨hx, hb, hml, hown, hts⟩ (ct_T_7 H.size) (cwI 4 hts (lw_meth q713) rfl rfl rfl (hts _ q97) (hts _ q757) (hts _ q712) rfl (by decide +kernel) ⟨(Nat.le_of_ble_eq_true rfl), (Nat.le_of_ble_eq_true rfl)⟩) (r_pre hK hA hZ hP hD hS) rfl rfl hl.1 rfl (lv_room (Nat.le_of_ble_eq_true rfl)) dX13_init_6 ⟨(Nat.le_of_ble_eq_true rfl), (Nat.le_of_ble_eq_true rfl)⟩) hA hP hD hS (fun ex H locs hk hP hD hS => ?_)
  subst hk
  have hP : va_P Γ.1 clA ([(q, .inr (7, [.int x1, .int x2, .int x3, .int x4]))]) H := hP
  have hD : va_D (rA q s.heap.size) ([(q, .inr (7, [.int x1, .int x2, .int x3, .int x4]))]) := hD
  refine W.widen (k := 0) (n := 0) (Nat.le_of_ble_eq_true rfl) (Nat.le_of_ble_eq_true rfl) ?_
  exact r_vret hx hb hr hlk hP hD hS (rfl) dX13_init_9

set_option maxHeartbeats 4000000 in
set_option maxRecDepth 100000 in
theorem ct_Te_11 {l : Launch} {Γ : GA} {q : Nat} {x1 : Int32} {x2 : Int32} {x3 : Int32} {x4 : Int32} : rC l yX13_init cX13_init 5 ({ frames := 2, cells := 0, slots := 0, locals := 84 } : Room) 0 0 Γ q (.inr (11, [.int 0, .int 0, .int 0, .int 0])) [.int x1, .int x2, .int x3, .int x4] (fun ex => ex = [(q, .inr (11, [.int x1, .int x2, .int x3, .int x4]))]) := by
  intro sz
  refine r_of (by decide) rfl [(0, .ref q), (1, .int x1), (2, .int x2), (3, .int x3), (4, .int x4)] (fun _ h => h) (Nat.le_of_ble_eq_true rfl) ?_
  intro p e s m args below meth c ls hsz X hZ hin hP hl
  subst hsz
  obtain ⟨hx, hb, hml, hown, hts, hK, hr, hlk⟩ := X
  have hA : ∀ a, s.heap.size ≤ a → rA q s.heap.size a := fun a h => Or.inr h
  have hD : va_D (rA q s.heap.size) [(q, .inr (11, [.int 0, .int 0, .int 0, .int 0]))] := rD0
  have hS : va_S (rA q s.heap.size) s.heap s.heap [] := va_S.rf
  generalize hH : s.heap = H at hP ⊢
  replace hS : va_S (rA q s.heap.size) s.heap H [] := by rw [← hH]; exact va_S.rf
  refine lv_aload_n hx hb dX13_init_0 rfl (lv_at hl 0 rfl) ?_
  refine lv_iload_n hx hb dX13_init_1 rfl (lv_at hl 1 rfl) ?_
  refine lv_iload_n hx hb dX13_init_2 rfl (lv_at hl 2 rfl) ?_
  refine lv_iload_n hx hb dX13_init_3 rfl (lv_at hl 3 rfl) ?_
  refine lv_iload hx hb dX13_init_4 (lv_at hl 4 rfl) ?_
  refine r_go (X := []) (va_runI (As := [.int x1, .int x2, .int x3, .int x4]) (rest := []) ⟨hx, hb, hml, hown, hts⟩ (ct_T_11 H.size) (cwI 4 hts (lw_meth q713) rfl rfl rfl (hts _ q97) (hts _ q757) (hts _ q712) rfl (by decide +kernel) ⟨(Nat.le_of_ble_eq_true rfl), (Nat.le_of_ble_eq_true rfl)⟩) (r_pre hK hA hZ hP hD hS) rfl rfl hl.1 rfl (lv_room (Nat.le_of_ble_eq_true rfl)) dX13_init_6 ⟨(Nat.le_of_ble_eq_true rfl), (Nat.le_of_ble_eq_true rfl)⟩) hA hP hD hS (fun ex H locs hk hP hD hS => ?_)
  subst hk
  have hP : va_P Γ.1 clA ([(q, .inr (11, [.int x1, .int x2, .int x3, .int x4]))]) H := hP
  have hD : va_D (rA q s.heap.size) ([(q, .inr (11, [.int x1, .int x2, .int x3, .int x4]))]) := hD
  refine W.widen (k := 0) (n := 0) (Nat.le_of_ble_eq_true rfl) (Nat.le_of_ble_eq_true rfl) ?_
  exact r_vret hx hb hr hlk hP hD hS (rfl) dX13_init_9

set_option maxHeartbeats 4000000 in
set_option maxRecDepth 100000 in
theorem ct_To_8 {l : Launch} {Γ : GA} {q : Nat} {x1 : Int32} {x2 : Int32} {x3 : Int32} {x4 : Int32} : rC l yX14_init cX14_init 5 ({ frames := 3, cells := 0, slots := 0, locals := 108 } : Room) 0 0 Γ q (.inr (8, [.int 0, .int 0, .int 0, .int 0])) [.int x1, .int x2, .int x3, .int x4] (fun ex => ex = [(q, .inr (8, [.int x1, .int x2, .int x3, .int x4]))]) := by
  intro sz
  refine r_of (by decide) rfl [(0, .ref q), (1, .int x1), (2, .int x2), (3, .int x3), (4, .int x4)] (fun _ h => h) (Nat.le_of_ble_eq_true rfl) ?_
  intro p e s m args below meth c ls hsz X hZ hin hP hl
  subst hsz
  obtain ⟨hx, hb, hml, hown, hts, hK, hr, hlk⟩ := X
  have hA : ∀ a, s.heap.size ≤ a → rA q s.heap.size a := fun a h => Or.inr h
  have hD : va_D (rA q s.heap.size) [(q, .inr (8, [.int 0, .int 0, .int 0, .int 0]))] := rD0
  have hS : va_S (rA q s.heap.size) s.heap s.heap [] := va_S.rf
  generalize hH : s.heap = H at hP ⊢
  replace hS : va_S (rA q s.heap.size) s.heap H [] := by rw [← hH]; exact va_S.rf
  refine lv_aload_n hx hb dX14_init_0 rfl (lv_at hl 0 rfl) ?_
  refine lv_iload_n hx hb dX14_init_1 rfl (lv_at hl 1 rfl) ?_
  refine lv_iload_n hx hb dX14_init_2 rfl (lv_at hl 2 rfl) ?_
  refine lv_iload_n hx hb dX14_init_3 rfl (lv_at hl 3 rfl) ?_
  refine lv_iload hx hb dX14_init_4 (lv_at hl 4 rfl) ?_
  refine r_go (X := []) (va_runI (As := [.int x1, .int x2, .int x3, .int x4]) (rest := []) ⟨hx, hb, hml, hown, hts⟩ (ct_Ho_8 H.size) (cwI 4 hts (lw_meth q710) rfl rfl rfl (hts _ q98) (hts _ q767) (hts _ q709) rfl (by decide +kernel) ⟨(Nat.le_of_ble_eq_true rfl), (Nat.le_of_ble_eq_true rfl)⟩) (r_pre hK hA hZ hP hD hS) rfl rfl hl.1 rfl (lv_room (Nat.le_of_ble_eq_true rfl)) dX14_init_6 ⟨(Nat.le_of_ble_eq_true rfl), (Nat.le_of_ble_eq_true rfl)⟩) hA hP hD hS (fun ex H locs hk hP hD hS => ?_)
  subst hk
  have hP : va_P Γ.1 clA ([(q, .inr (8, [.int x1, .int x2, .int x3, .int x4]))]) H := hP
  have hD : va_D (rA q s.heap.size) ([(q, .inr (8, [.int x1, .int x2, .int x3, .int x4]))]) := hD
  refine W.widen (k := 0) (n := 0) (Nat.le_of_ble_eq_true rfl) (Nat.le_of_ble_eq_true rfl) ?_
  exact r_vret hx hb hr hlk hP hD hS (rfl) dX14_init_9

set_option maxHeartbeats 4000000 in
set_option maxRecDepth 100000 in
theorem ct_Sy_9 {l : Launch} {Γ : GA} {q : Nat} {x1 : Int32} {x2 : Int32} {x3 : Int32} {x4 : Int32} : rC l yX15_init cX15_init 5 ({ frames := 3, cells := 0, slots := 0, locals := 108 } : Room) 0 0 Γ q (.inr (9, [.int 0, .int 0, .int 0, .int 0])) [.int x1, .int x2, .int x3, .int x4] (fun ex => ex = [(q, .inr (9, [.int x1, .int x2, .int x3, .int x4]))]) := by
  intro sz
  refine r_of (by decide) rfl [(0, .ref q), (1, .int x1), (2, .int x2), (3, .int x3), (4, .int x4)] (fun _ h => h) (Nat.le_of_ble_eq_true rfl) ?_
  intro p e s m args below meth c ls hsz X hZ hin hP hl
  subst hsz
  obtain ⟨hx, hb, hml, hown, hts, hK, hr, hlk⟩ := X
  have hA : ∀ a, s.heap.size ≤ a → rA q s.heap.size a := fun a h => Or.inr h
  have hD : va_D (rA q s.heap.size) [(q, .inr (9, [.int 0, .int 0, .int 0, .int 0]))] := rD0
  have hS : va_S (rA q s.heap.size) s.heap s.heap [] := va_S.rf
  generalize hH : s.heap = H at hP ⊢
  replace hS : va_S (rA q s.heap.size) s.heap H [] := by rw [← hH]; exact va_S.rf
  refine lv_aload_n hx hb dX15_init_0 rfl (lv_at hl 0 rfl) ?_
  refine lv_iload_n hx hb dX15_init_1 rfl (lv_at hl 1 rfl) ?_
  refine lv_iload_n hx hb dX15_init_2 rfl (lv_at hl 2 rfl) ?_
  refine lv_iload_n hx hb dX15_init_3 rfl (lv_at hl 3 rfl) ?_
  refine lv_iload hx hb dX15_init_4 (lv_at hl 4 rfl) ?_
  refine r_go (X := []) (va_runI (As := [.int x1, .int x2, .int x3, .int x4]) (rest := []) ⟨hx, hb, hml, hown, hts⟩ (ct_Ho_9 H.size) (cwI 4 hts (lw_meth q710) rfl rfl rfl (hts _ q98) (hts _ q777) (hts _ q709) rfl (by decide +kernel) ⟨(Nat.le_of_ble_eq_true rfl), (Nat.le_of_ble_eq_true rfl)⟩) (r_pre hK hA hZ hP hD hS) rfl rfl hl.1 rfl (lv_room (Nat.le_of_ble_eq_true rfl)) dX15_init_6 ⟨(Nat.le_of_ble_eq_true rfl), (Nat.le_of_ble_eq_true rfl)⟩) hA hP hD hS (fun ex H locs hk hP hD hS => ?_)
  subst hk
  have hP : va_P Γ.1 clA ([(q, .inr (9, [.int x1, .int x2, .int x3, .int x4]))]) H := hP
  have hD : va_D (rA q s.heap.size) ([(q, .inr (9, [.int x1, .int x2, .int x3, .int x4]))]) := hD
  refine W.widen (k := 0) (n := 0) (Nat.le_of_ble_eq_true rfl) (Nat.le_of_ble_eq_true rfl) ?_
  exact r_vret hx hb hr hlk hP hD hS (rfl) dX15_init_9

set_option maxHeartbeats 4000000 in
set_option maxRecDepth 100000 in
theorem ct_Bl_10 {l : Launch} {Γ : GA} {q : Nat} {x1 : Int32} {x2 : Int32} {x3 : Int32} {x4 : Int32} : rC l yX16_init cX16_init 5 ({ frames := 3, cells := 0, slots := 0, locals := 108 } : Room) 0 0 Γ q (.inr (10, [.int 0, .int 0, .int 0, .int 0])) [.int x1, .int x2, .int x3, .int x4] (fun ex => ex = [(q, .inr (10, [.int x1, .int x2, .int x3, .int x4]))]) := by
  intro sz
  refine r_of (by decide) rfl [(0, .ref q), (1, .int x1), (2, .int x2), (3, .int x3), (4, .int x4)] (fun _ h => h) (Nat.le_of_ble_eq_true rfl) ?_
  intro p e s m args below meth c ls hsz X hZ hin hP hl
  subst hsz
  obtain ⟨hx, hb, hml, hown, hts, hK, hr, hlk⟩ := X
  have hA : ∀ a, s.heap.size ≤ a → rA q s.heap.size a := fun a h => Or.inr h
  have hD : va_D (rA q s.heap.size) [(q, .inr (10, [.int 0, .int 0, .int 0, .int 0]))] := rD0
  have hS : va_S (rA q s.heap.size) s.heap s.heap [] := va_S.rf
  generalize hH : s.heap = H at hP ⊢
  replace hS : va_S (rA q s.heap.size) s.heap H [] := by rw [← hH]; exact va_S.rf
  refine lv_aload_n hx hb dX16_init_0 rfl (lv_at hl 0 rfl) ?_
  refine lv_iload_n hx hb dX16_init_1 rfl (lv_at hl 1 rfl) ?_
  refine lv_iload_n hx hb dX16_init_2 rfl (lv_at hl 2 rfl) ?_
  refine lv_iload_n hx hb dX16_init_3 rfl (lv_at hl 3 rfl) ?_
  refine lv_iload hx hb dX16_init_4 (lv_at hl 4 rfl) ?_
  refine r_go (X := []) (va_runI (As := [.int x1, .int x2, .int x3, .int x4]) (rest := []) ⟨hx, hb, hml, hown, hts⟩ (ct_Ho_10 H.size) (cwI 4 hts (lw_meth q710) rfl rfl rfl (hts _ q98) (hts _ q787) (hts _ q709) rfl (by decide +kernel) ⟨(Nat.le_of_ble_eq_true rfl), (Nat.le_of_ble_eq_true rfl)⟩) (r_pre hK hA hZ hP hD hS) rfl rfl hl.1 rfl (lv_room (Nat.le_of_ble_eq_true rfl)) dX16_init_6 ⟨(Nat.le_of_ble_eq_true rfl), (Nat.le_of_ble_eq_true rfl)⟩) hA hP hD hS (fun ex H locs hk hP hD hS => ?_)
  subst hk
  have hP : va_P Γ.1 clA ([(q, .inr (10, [.int x1, .int x2, .int x3, .int x4]))]) H := hP
  have hD : va_D (rA q s.heap.size) ([(q, .inr (10, [.int x1, .int x2, .int x3, .int x4]))]) := hD
  refine W.widen (k := 0) (n := 0) (Nat.le_of_ble_eq_true rfl) (Nat.le_of_ble_eq_true rfl) ?_
  exact r_vret hx hb hr hlk hP hD hS (rfl) dX16_init_9

set_option maxHeartbeats 4000000 in
set_option maxRecDepth 100000 in
theorem ct_Fi_11 {l : Launch} {Γ : GA} {q : Nat} {x1 : Int32} {x2 : Int32} {x3 : Int32} {x4 : Int32} : rC l yX17_init cX17_init 5 ({ frames := 3, cells := 0, slots := 0, locals := 108 } : Room) 0 0 Γ q (.inr (11, [.int 0, .int 0, .int 0, .int 0])) [.int x1, .int x2, .int x3, .int x4] (fun ex => ex = [(q, .inr (11, [.int x1, .int x2, .int x3, .int x4]))]) := by
  intro sz
  refine r_of (by decide) rfl [(0, .ref q), (1, .int x1), (2, .int x2), (3, .int x3), (4, .int x4)] (fun _ h => h) (Nat.le_of_ble_eq_true rfl) ?_
  intro p e s m args below meth c ls hsz X hZ hin hP hl
  subst hsz
  obtain ⟨hx, hb, hml, hown, hts, hK, hr, hlk⟩ := X
  have hA : ∀ a, s.heap.size ≤ a → rA q s.heap.size a := fun a h => Or.inr h
  have hD : va_D (rA q s.heap.size) [(q, .inr (11, [.int 0, .int 0, .int 0, .int 0]))] := rD0
  have hS : va_S (rA q s.heap.size) s.heap s.heap [] := va_S.rf
  generalize hH : s.heap = H at hP ⊢
  replace hS : va_S (rA q s.heap.size) s.heap H [] := by rw [← hH]; exact va_S.rf
  refine lv_aload_n hx hb dX17_init_0 rfl (lv_at hl 0 rfl) ?_
  refine lv_iload_n hx hb dX17_init_1 rfl (lv_at hl 1 rfl) ?_
  refine lv_iload_n hx hb dX17_init_2 rfl (lv_at hl 2 rfl) ?_
  refine lv_iload_n hx hb dX17_init_3 rfl (lv_at hl 3 rfl) ?_
  refine lv_iload hx hb dX17_init_4 (lv_at hl 4 rfl) ?_
  refine r_go (X := []) (va_runI (As := [.int x1, .int x2, .int x3, .int x4]) (rest := []) ⟨hx, hb, hml, hown, hts⟩ (ct_Te_11 H.size) (cwI 4 hts (lw_meth q756) rfl rfl rfl (hts _ q99) (hts _ q798) (hts _ q755) rfl (by decide +kernel) ⟨(Nat.le_of_ble_eq_true rfl), (Nat.le_of_ble_eq_true rfl)⟩) (r_pre hK hA hZ hP hD hS) rfl rfl hl.1 rfl (lv_room (Nat.le_of_ble_eq_true rfl)) dX17_init_6 ⟨(Nat.le_of_ble_eq_true rfl), (Nat.le_of_ble_eq_true rfl)⟩) hA hP hD hS (fun ex H locs hk hP hD hS => ?_)
  subst hk
  have hP : va_P Γ.1 clA ([(q, .inr (11, [.int x1, .int x2, .int x3, .int x4]))]) H := hP
  have hD : va_D (rA q s.heap.size) ([(q, .inr (11, [.int x1, .int x2, .int x3, .int x4]))]) := hD
  refine W.widen (k := 0) (n := 0) (Nat.le_of_ble_eq_true rfl) (Nat.le_of_ble_eq_true rfl) ?_
  exact r_vret hx hb hr hlk hP hD hS (rfl) dX17_init_9

set_option maxHeartbeats 4000000 in
set_option maxRecDepth 100000 in
theorem ct_Ro {l : Launch} {Γ : GA} {q : Nat} {raw : va_E} : rC l yX6_init cX6_init 1 ({ frames := 1, cells := 0, slots := 0, locals := 60 } : Room) 0 0 Γ q (raw) [] (fun ex => ex = [(q, raw)]) := by
  intro sz
  refine r_of (by decide) rfl [(0, .ref q)] (fun _ h => h) (Nat.le_of_ble_eq_true rfl) ?_
  intro p e s m args below meth c ls hsz X hZ hin hP hl
  subst hsz
  obtain ⟨hx, hb, hml, hown, hts, hK, hr, hlk⟩ := X
  have hA : ∀ a, s.heap.size ≤ a → rA q s.heap.size a := fun a h => Or.inr h
  have hD : va_D (rA q s.heap.size) [(q, raw)] := rD0
  have hS : va_S (rA q s.heap.size) s.heap s.heap [] := va_S.rf
  generalize hH : s.heap = H at hP ⊢
  replace hS : va_S (rA q s.heap.size) s.heap H [] := by rw [← hH]; exact va_S.rf
  refine lv_aload_n hx hb dX6_init_0 rfl (lv_at hl 0 rfl) ?_
  refine W.objInit hx hb hown (hts _ q360) (hts _ q115) (hts _ q116) rfl (hl.1.trans hml.symm) rfl dX6_init_1 (Nat.le_of_ble_eq_true rfl) (Nat.le_of_ble_eq_true rfl) ?_
  refine W.eq (g2 := F0 m 4 ls []) rfl ?_
  refine W.widen (k := 0) (n := 0) (Nat.le_of_ble_eq_true rfl) (Nat.le_of_ble_eq_true rfl) ?_
  exact r_vret hx hb hr hlk hP hD hS (rfl) dX6_init_4

set_option maxHeartbeats 4000000 in
set_option maxRecDepth 100000 in
theorem ct_By {l : Launch} {Γ : GA} {q : Nat} {x1 : Int32} {N : Nat} (hn : ¬ x1 < 0) (hN : x1.toNatClampNeg = N) (hle : N ≤ 160) : rC l yX7_init cX7_init 2 ({ frames := 2, cells := 1, slots := 160, locals := 80 } : Room) 1 160 Γ q (.inr (12, [.null])) [.int x1] (fun ex => ∃ a1, ex = [(a1, .inl (Γ.2 2, N, .inl (fun _ => 0))), (q, .inr (12, [.ref a1]))]) := by
  intro sz
  refine r_of (by decide) rfl [(0, .ref q), (1, .int x1)] (fun _ h => h) (Nat.le_of_ble_eq_true rfl) ?_
  intro p e s m args below meth c ls hsz X hZ hin hP hl
  subst hsz
  obtain ⟨hx, hb, hml, hown, hts, hK, hr, hlk⟩ := X
  have hA : ∀ a, s.heap.size ≤ a → rA q s.heap.size a := fun a h => Or.inr h
  have hD : va_D (rA q s.heap.size) [(q, .inr (12, [.null]))] := rD0
  have hS : va_S (rA q s.heap.size) s.heap s.heap [] := va_S.rf
  generalize hH : s.heap = H at hP ⊢
  replace hS : va_S (rA q s.heap.size) s.heap H [] := by rw [← hH]; exact va_S.rf
  refine lv_aload_n hx hb dX7_init_0 rfl (lv_at hl 0 rfl) ?_
  refine r_go (X := []) (va_runI (As := []) (rest := []) ⟨hx, hb, hml, hown, hts⟩ (ct_Ro H.size) (cwI 0 hts (lw_meth q359) rfl rfl rfl (hts _ q88) (hts _ q357) (hts _ q358) rfl (by decide +kernel) ⟨(Nat.le_of_ble_eq_true rfl), (Nat.le_of_ble_eq_true rfl)⟩) (r_pre hK hA hZ hP hD hS) rfl rfl hl.1 rfl (lv_room (Nat.le_of_ble_eq_true rfl)) dX7_init_1 ⟨(Nat.le_of_ble_eq_true rfl), (Nat.le_of_ble_eq_true rfl)⟩) hA hP hD hS (fun ex H locs hk hP hD hS => ?_)
  subst hk
  have hP : va_P Γ.1 clA ([(q, .inr (12, [.null]))]) H := hP
  have hD : va_D (rA q s.heap.size) ([(q, .inr (12, [.null]))]) := hD
  refine lv_aload_n hx hb dX7_init_4 rfl (lv_at hl 0 rfl) ?_
  refine lv_iload_n hx hb dX7_init_5 rfl (lv_at hl 1 rfl) ?_
  refine va_newa (D := Γ.1) (atype := .byte) (ty := .byte) (N' := N) (a0 := (N, .inl (fun _ => 0))) hx hb (hts _ q300) rfl hK.1 hP hD hS hA (fun _ => rfl) hn hN (Nat.le_trans (Nat.mul_le_mul_right _ hle) (Nat.le_of_ble_eq_true rfl)) (Nat.le_of_ble_eq_true rfl) (show 0 + N ≤ _ from Nat.le_trans (Nat.add_le_add_left hle 0) (Nat.le_of_ble_eq_true rfl)) dX7_init_6 (fun a1 cA H hK9 hP hD hS => ?_)
  obtain rfl : cA = Γ.2 2 := ka_same hK9 (t0 := 2) rfl
  replace hP := rotP hP
  replace hD := rotD hD
  have hP : va_P Γ.1 clA ([(a1, .inl (Γ.2 2, N, .inl (fun _ => 0))), (q, .inr (12, [.null]))]) H := hP
  have hD : va_D (rA q s.heap.size) ([(a1, .inl (Γ.2 2, N, .inl (fun _ => 0))), (q, .inr (12, [.null]))]) := hD
  refine va_putF (D := Γ.1) (ci := 12) (v := .ref a1) (ty := tyX7 0) (C := RX7) (T := TX7) (N := 1) hx hb hts in_X7 tyX7 tyX7_ok nmX7 hown hK.1 hP hD hS 1 rfl rfl 0 (by decide) (hts _ q361) (fun _ h9 => h9) rfl hin rfl (tyX7_ok 0 (by decide)) rfl rfl (Nat.le_of_ble_eq_true rfl) dX7_init_8 (fun H locs hP hD hS => ?_)
  have hP : va_P Γ.1 clA ([(a1, .inl (Γ.2 2, N, .inl (fun _ => 0))), (q, .inr (12, [.ref a1]))]) H := hP
  have hD : va_D (rA q s.heap.size) ([(a1, .inl (Γ.2 2, N, .inl (fun _ => 0))), (q, .inr (12, [.ref a1]))]) := hD
  refine W.widen (k := 1) (n := 160) (Nat.le_refl _) (show 0 + N ≤ 160 from by omega) ?_
  exact r_vret hx hb hr hlk hP hD hS (⟨a1, rfl⟩) dX7_init_11

set_option maxHeartbeats 4000000 in
set_option maxRecDepth 100000 in
theorem ct_So {l : Launch} {Γ : GA} {q : Nat} {x1 : Int32} {N : Nat} (hn : ¬ x1 < 0) (hN : x1.toNatClampNeg = N) (hle : N ≤ 160) : rC l yX8_init cX8_init 2 ({ frames := 2, cells := 1, slots := 160, locals := 80 } : Room) 1 160 Γ q (.inr (13, [.null])) [.int x1] (fun ex => ∃ a1, ex = [(a1, .inl (Γ.2 3, N, .inl (fun _ => 0))), (q, .inr (13, [.ref a1]))]) := by
  intro sz
  refine r_of (by decide) rfl [(0, .ref q), (1, .int x1)] (fun _ h => h) (Nat.le_of_ble_eq_true rfl) ?_
  intro p e s m args below meth c ls hsz X hZ hin hP hl
  subst hsz
  obtain ⟨hx, hb, hml, hown, hts, hK, hr, hlk⟩ := X
  have hA : ∀ a, s.heap.size ≤ a → rA q s.heap.size a := fun a h => Or.inr h
  have hD : va_D (rA q s.heap.size) [(q, .inr (13, [.null]))] := rD0
  have hS : va_S (rA q s.heap.size) s.heap s.heap [] := va_S.rf
  generalize hH : s.heap = H at hP ⊢
  replace hS : va_S (rA q s.heap.size) s.heap H [] := by rw [← hH]; exact va_S.rf
  refine lv_aload_n hx hb dX8_init_0 rfl (lv_at hl 0 rfl) ?_
  refine r_go (X := []) (va_runI (As := []) (rest := []) ⟨hx, hb, hml, hown, hts⟩ (ct_Ro H.size) (cwI 0 hts (lw_meth q359) rfl rfl rfl (hts _ q88) (hts _ q370) (hts _ q358) rfl (by decide +kernel) ⟨(Nat.le_of_ble_eq_true rfl), (Nat.le_of_ble_eq_true rfl)⟩) (r_pre hK hA hZ hP hD hS) rfl rfl hl.1 rfl (lv_room (Nat.le_of_ble_eq_true rfl)) dX8_init_1 ⟨(Nat.le_of_ble_eq_true rfl), (Nat.le_of_ble_eq_true rfl)⟩) hA hP hD hS (fun ex H locs hk hP hD hS => ?_)
  subst hk
  have hP : va_P Γ.1 clA ([(q, .inr (13, [.null]))]) H := hP
  have hD : va_D (rA q s.heap.size) ([(q, .inr (13, [.null]))]) := hD
  refine lv_aload_n hx hb dX8_init_4 rfl (lv_at hl 0 rfl) ?_
  refine lv_iload_n hx hb dX8_init_5 rfl (lv_at hl 1 rfl) ?_
  refine va_newa (D := Γ.1) (atype := .short) (ty := .short) (N' := N) (a0 := (N, .inl (fun _ => 0))) hx hb (hts _ q375) rfl hK.1 hP hD hS hA (fun _ => rfl) hn hN (Nat.le_trans (Nat.mul_le_mul_right _ hle) (Nat.le_of_ble_eq_true rfl)) (Nat.le_of_ble_eq_true rfl) (show 0 + N ≤ _ from Nat.le_trans (Nat.add_le_add_left hle 0) (Nat.le_of_ble_eq_true rfl)) dX8_init_6 (fun a1 cA H hK9 hP hD hS => ?_)
  obtain rfl : cA = Γ.2 3 := ka_same hK9 (t0 := 3) rfl
  replace hP := rotP hP
  replace hD := rotD hD
  have hP : va_P Γ.1 clA ([(a1, .inl (Γ.2 3, N, .inl (fun _ => 0))), (q, .inr (13, [.null]))]) H := hP
  have hD : va_D (rA q s.heap.size) ([(a1, .inl (Γ.2 3, N, .inl (fun _ => 0))), (q, .inr (13, [.null]))]) := hD
  refine va_putF (D := Γ.1) (ci := 13) (v := .ref a1) (ty := tyX8 0) (C := RX8) (T := TX8) (N := 1) hx hb hts in_X8 tyX8 tyX8_ok nmX8 hown hK.1 hP hD hS 1 rfl rfl 0 (by decide) (hts _ q371) (fun _ h9 => h9) rfl hin rfl (tyX8_ok 0 (by decide)) rfl rfl (Nat.le_of_ble_eq_true rfl) dX8_init_8 (fun H locs hP hD hS => ?_)
  have hP : va_P Γ.1 clA ([(a1, .inl (Γ.2 3, N, .inl (fun _ => 0))), (q, .inr (13, [.ref a1]))]) H := hP
  have hD : va_D (rA q s.heap.size) ([(a1, .inl (Γ.2 3, N, .inl (fun _ => 0))), (q, .inr (13, [.ref a1]))]) := hD
  refine W.widen (k := 1) (n := 160) (Nat.le_refl _) (show 0 + N ≤ 160 from by omega) ?_
  exact r_vret hx hb hr hlk hP hD hS (⟨a1, rfl⟩) dX8_init_11

set_option maxHeartbeats 4000000 in
set_option maxRecDepth 100000 in
theorem ct_In {l : Launch} {Γ : GA} {q : Nat} {x1 : Int32} {N : Nat} (hn : ¬ x1 < 0) (hN : x1.toNatClampNeg = N) (hle : N ≤ 160) : rC l yX9_init cX9_init 2 ({ frames := 2, cells := 1, slots := 160, locals := 80 } : Room) 1 160 Γ q (.inr (14, [.null])) [.int x1] (fun ex => ∃ a1, ex = [(a1, .inl (Γ.2 0, N, .inl (fun _ => 0))), (q, .inr (14, [.ref a1]))]) := by
  intro sz
  refine r_of (by decide) rfl [(0, .ref q), (1, .int x1)] (fun _ h => h) (Nat.le_of_ble_eq_true rfl) ?_
  intro p e s m args below meth c ls hsz X hZ hin hP hl
  subst hsz
  obtain ⟨hx, hb, hml, hown, hts, hK, hr, hlk⟩ := X
  have hA : ∀ a, s.heap.size ≤ a → rA q s.heap.size a := fun a h => Or.inr h
  have hD : va_D (rA q s.heap.size) [(q, .inr (14, [.null]))] := rD0
  have hS : va_S (rA q s.heap.size) s.heap s.heap [] := va_S.rf
  generalize hH : s.heap = H at hP ⊢
  replace hS : va_S (rA q s.heap.size) s.heap H [] := by rw [← hH]; exact va_S.rf
  refine lv_aload_n hx hb dX9_init_0 rfl (lv_at hl 0 rfl) ?_
  refine r_go (X := []) (va_runI (As := []) (rest := []) ⟨hx, hb, hml, hown, hts⟩ (ct_Ro H.size) (cwI 0 hts (lw_meth q359) rfl rfl rfl (hts _ q88) (hts _ q381) (hts _ q358) rfl (by decide +kernel) ⟨(Nat.le_of_ble_eq_true rfl), (Nat.le_of_ble_eq_true rfl)⟩) (r_pre hK hA hZ hP hD hS) rfl rfl hl.1 rfl (lv_room (Nat.le_of_ble_eq_true rfl)) dX9_init_1 ⟨(Nat.le_of_ble_eq_true rfl), (Nat.le_of_ble_eq_true rfl)⟩) hA hP hD hS (fun ex H locs hk hP hD hS => ?_)
  subst hk
  have hP : va_P Γ.1 clA ([(q, .inr (14, [.null]))]) H := hP
  have hD : va_D (rA q s.heap.size) ([(q, .inr (14, [.null]))]) := hD
  refine lv_aload_n hx hb dX9_init_4 rfl (lv_at hl 0 rfl) ?_
  refine lv_iload_n hx hb dX9_init_5 rfl (lv_at hl 1 rfl) ?_
  refine va_newa (D := Γ.1) (atype := .int) (ty := .int) (N' := N) (a0 := (N, .inl (fun _ => 0))) hx hb (hts _ q134) rfl hK.1 hP hD hS hA (fun _ => rfl) hn hN (Nat.le_trans (Nat.mul_le_mul_right _ hle) (Nat.le_of_ble_eq_true rfl)) (Nat.le_of_ble_eq_true rfl) (show 0 + N ≤ _ from Nat.le_trans (Nat.add_le_add_left hle 0) (Nat.le_of_ble_eq_true rfl)) dX9_init_6 (fun a1 cA H hK9 hP hD hS => ?_)
  obtain rfl : cA = Γ.2 0 := ka_same hK9 (t0 := 0) rfl
  replace hP := rotP hP
  replace hD := rotD hD
  have hP : va_P Γ.1 clA ([(a1, .inl (Γ.2 0, N, .inl (fun _ => 0))), (q, .inr (14, [.null]))]) H := hP
  have hD : va_D (rA q s.heap.size) ([(a1, .inl (Γ.2 0, N, .inl (fun _ => 0))), (q, .inr (14, [.null]))]) := hD
  refine va_putF (D := Γ.1) (ci := 14) (v := .ref a1) (ty := tyX9 0) (C := RX9) (T := TX9) (N := 1) hx hb hts in_X9 tyX9 tyX9_ok nmX9 hown hK.1 hP hD hS 1 rfl rfl 0 (by decide) (hts _ q382) (fun _ h9 => h9) rfl hin rfl (tyX9_ok 0 (by decide)) rfl rfl (Nat.le_of_ble_eq_true rfl) dX9_init_8 (fun H locs hP hD hS => ?_)
  have hP : va_P Γ.1 clA ([(a1, .inl (Γ.2 0, N, .inl (fun _ => 0))), (q, .inr (14, [.ref a1]))]) H := hP
  have hD : va_D (rA q s.heap.size) ([(a1, .inl (Γ.2 0, N, .inl (fun _ => 0))), (q, .inr (14, [.ref a1]))]) := hD
  refine W.widen (k := 1) (n := 160) (Nat.le_refl _) (show 0 + N ≤ 160 from by omega) ?_
  exact r_vret hx hb hr hlk hP hD hS (⟨a1, rfl⟩) dX9_init_11

set_option maxHeartbeats 4000000 in
set_option maxRecDepth 100000 in
theorem ct_Lo {l : Launch} {Γ : GA} {q : Nat} {x1 : Int32} {N : Nat} (hn : ¬ x1 < 0) (hN : x1.toNatClampNeg = N) (hle : N ≤ 160) : rC l yX10_init cX10_init 2 ({ frames := 2, cells := 1, slots := 160, locals := 80 } : Room) 1 160 Γ q (.inr (15, [.null])) [.int x1] (fun ex => ∃ a1, ex = [(a1, .inl (Γ.2 1, N, .inr (.inl (fun _ => 0)))), (q, .inr (15, [.ref a1]))]) := by
  intro sz
  refine r_of (by decide) rfl [(0, .ref q), (1, .int x1)] (fun _ h => h) (Nat.le_of_ble_eq_true rfl) ?_
  intro p e s m args below meth c ls hsz X hZ hin hP hl
  subst hsz
  obtain ⟨hx, hb, hml, hown, hts, hK, hr, hlk⟩ := X
  have hA : ∀ a, s.heap.size ≤ a → rA q s.heap.size a := fun a h => Or.inr h
  have hD : va_D (rA q s.heap.size) [(q, .inr (15, [.null]))] := rD0
  have hS : va_S (rA q s.heap.size) s.heap s.heap [] := va_S.rf
  generalize hH : s.heap = H at hP ⊢
  replace hS : va_S (rA q s.heap.size) s.heap H [] := by rw [← hH]; exact va_S.rf
  refine lv_aload_n hx hb dX10_init_0 rfl (lv_at hl 0 rfl) ?_
  refine r_go (X := []) (va_runI (As := []) (rest := []) ⟨hx, hb, hml, hown, hts⟩ (ct_Ro H.size) (cwI 0 hts (lw_meth q359) rfl rfl rfl (hts _ q88) (hts _ q391) (hts _ q358) rfl (by decide +kernel) ⟨(Nat.le_of_ble_eq_true rfl), (Nat.le_of_ble_eq_true rfl)⟩) (r_pre hK hA hZ hP hD hS) rfl rfl hl.1 rfl (lv_room (Nat.le_of_ble_eq_true rfl)) dX10_init_1 ⟨(Nat.le_of_ble_eq_true rfl), (Nat.le_of_ble_eq_true rfl)⟩) hA hP hD hS (fun ex H locs hk hP hD hS => ?_)
  subst hk
  have hP : va_P Γ.1 clA ([(q, .inr (15, [.null]))]) H := hP
  have hD : va_D (rA q s.heap.size) ([(q, .inr (15, [.null]))]) := hD
  refine lv_aload_n hx hb dX10_init_4 rfl (lv_at hl 0 rfl) ?_
  refine lv_iload_n hx hb dX10_init_5 rfl (lv_at hl 1 rfl) ?_
  refine va_newa (D := Γ.1) (atype := .long) (ty := .long) (N' := N) (a0 := (N, .inr (.inl (fun _ => 0)))) hx hb (hts _ q396) rfl hK.1 hP hD hS hA (fun _ => rfl) hn hN (Nat.le_trans (Nat.mul_le_mul_right _ hle) (Nat.le_of_ble_eq_true rfl)) (Nat.le_of_ble_eq_true rfl) (show 0 + N ≤ _ from Nat.le_trans (Nat.add_le_add_left hle 0) (Nat.le_of_ble_eq_true rfl)) dX10_init_6 (fun a1 cA H hK9 hP hD hS => ?_)
  obtain rfl : cA = Γ.2 1 := ka_same hK9 (t0 := 1) rfl
  replace hP := rotP hP
  replace hD := rotD hD
  have hP : va_P Γ.1 clA ([(a1, .inl (Γ.2 1, N, .inr (.inl (fun _ => 0)))), (q, .inr (15, [.null]))]) H := hP
  have hD : va_D (rA q s.heap.size) ([(a1, .inl (Γ.2 1, N, .inr (.inl (fun _ => 0)))), (q, .inr (15, [.null]))]) := hD
  refine va_putF (D := Γ.1) (ci := 15) (v := .ref a1) (ty := tyX10 0) (C := RX10) (T := TX10) (N := 1) hx hb hts in_X10 tyX10 tyX10_ok nmX10 hown hK.1 hP hD hS 1 rfl rfl 0 (by decide) (hts _ q392) (fun _ h9 => h9) rfl hin rfl (tyX10_ok 0 (by decide)) rfl rfl (Nat.le_of_ble_eq_true rfl) dX10_init_8 (fun H locs hP hD hS => ?_)
  have hP : va_P Γ.1 clA ([(a1, .inl (Γ.2 1, N, .inr (.inl (fun _ => 0)))), (q, .inr (15, [.ref a1]))]) H := hP
  have hD : va_D (rA q s.heap.size) ([(a1, .inl (Γ.2 1, N, .inr (.inl (fun _ => 0)))), (q, .inr (15, [.ref a1]))]) := hD
  refine W.widen (k := 1) (n := 160) (Nat.le_refl _) (show 0 + N ≤ 160 from by omega) ?_
  exact r_vret hx hb hr hlk hP hD hS (⟨a1, rfl⟩) dX10_init_11

set_option maxHeartbeats 4000000 in
set_option maxRecDepth 100000 in
theorem ct_G {l : Launch} {Γ : GA} {q : Nat} : rC l yX2_init cX2_init 1 ({ frames := 1, cells := 3, slots := 24, locals := 60 } : Room) 3 24 Γ q (.inr (3, [.int 0, .int 0, .int 0, .int 0, .int 0, .int 0, .null, .null, .null])) [] (fun ex => ∃ a1 a2 a3, ex = [(a3, .inl (Γ.2 0, 8, .inl (fun _ => 0))), (a2, .inl (Γ.2 0, 8, .inl (fun _ => 0))), (a1, .inl (Γ.2 4, 8, .inr (.inr (.inr (.inr (fun _ => none)))))), (q, .inr (3, [.int 0, .int 1, .int 9, .int 0, .int 0, .int 1, .ref a1, .ref a2, .ref a3]))]) := by
  intro sz
  refine r_of (by decide) rfl [(0, .ref q)] (fun _ h => h) (Nat.le_of_ble_eq_true rfl) ?_
  intro p e s m args below meth c ls hsz X hZ hin hP hl
  subst hsz
  obtain ⟨hx, hb, hml, hown, hts, hK, hr, hlk⟩ := X
  have hA : ∀ a, s.heap.size ≤ a → rA q s.heap.size a := fun a h => Or.inr h
  have hD : va_D (rA q s.heap.size) [(q, .inr (3, [.int 0, .int 0, .int 0, .int 0, .int 0, .int 0, .null, .null, .null]))] := rD0
  have hS : va_S (rA q s.heap.size) s.heap s.heap [] := va_S.rf
  generalize hH : s.heap = H at hP ⊢
  replace hS : va_S (rA q s.heap.size) s.heap H [] := by rw [← hH]; exact va_S.rf
  refine lv_aload_n hx hb dX2_init_0 rfl (lv_at hl 0 rfl) ?_
  refine W.objInit hx hb hown (hts _ q140) (hts _ q115) (hts _ q116) rfl (hl.1.trans hml.symm) rfl dX2_init_1 (Nat.le_of_ble_eq_true rfl) (Nat.le_of_ble_eq_true rfl) ?_
  refine W.eq (g2 := F0 m 4 ls []) rfl ?_
  refine lv_aload_n hx hb dX2_init_4 rfl (lv_at hl 0 rfl) ?_
  refine lv_iconst (v := 1) hx hb dX2_init_5 (by decide) ?_
  refine va_put (D := Γ.1) (ci := 3) (v := .int 1) (ty := tyX2 1) (C := RX2) (T := TX2) (N := 9) hx hb hts in_X2 tyX2 tyX2_ok nmX2 hown hK.1 hP hD hS 0 rfl rfl 1 (by decide) (hts _ q146) (fun _ h9 => h9) rfl (tyX2_ok 1 (by decide)) rfl rfl (Nat.le_of_ble_eq_true rfl) dX2_init_6 (fun H locs hP hD hS => ?_)
  have hP : va_P Γ.1 clA ([(q, .inr (3, [.int 0, .int 1, .int 0, .int 0, .int 0, .int 0, .null, .null, .null]))]) H := hP
  have hD : va_D (rA q s.heap.size) ([(q, .inr (3, [.int 0, .int 1, .int 0, .int 0, .int 0, .int 0, .null, .null, .null]))]) := hD
  refine lv_aload_n hx hb dX2_init_9 rfl (lv_at hl 0 rfl) ?_
  refine lv_bipush (v := 9) hx hb dX2_init_10 (by decide) ?_
  refine va_put (D := Γ.1) (ci := 3) (v := .int 9) (ty := tyX2 2) (C := RX2) (T := TX2) (N := 9) hx hb hts in_X2 tyX2 tyX2_ok nmX2 hown hK.1 hP hD hS 0 rfl rfl 2 (by decide) (hts _ q149) (fun _ h9 => h9) rfl (tyX2_ok 2 (by decide)) rfl rfl (Nat.le_of_ble_eq_true rfl) dX2_init_12 (fun H locs hP hD hS => ?_)
  have hP : va_P Γ.1 clA ([(q, .inr (3, [.int 0, .int 1, .int 9, .int 0, .int 0, .int 0, .null, .null, .null]))]) H := hP
  have hD : va_D (rA q s.heap.size) ([(q, .inr (3, [.int 0, .int 1, .int 9, .int 0, .int 0, .int 0, .null, .null, .null]))]) := hD
  refine lv_aload_n hx hb dX2_init_15 rfl (lv_at hl 0 rfl) ?_
  refine lv_iconst (v := 1) hx hb dX2_init_16 (by decide) ?_
  refine va_put (D := Γ.1) (ci := 3) (v := .int 1) (ty := tyX2 5) (C := RX2) (T := TX2) (N := 9) hx hb hts in_X2 tyX2 tyX2_ok nmX2 hown hK.1 hP hD hS 0 rfl rfl 5 (by decide) (hts _ q157) (fun _ h9 => h9) rfl (tyX2_ok 5 (by decide)) rfl rfl (Nat.le_of_ble_eq_true rfl) dX2_init_17 (fun H locs hP hD hS => ?_)
  have hP : va_P Γ.1 clA ([(q, .inr (3, [.int 0, .int 1, .int 9, .int 0, .int 0, .int 1, .null, .null, .null]))]) H := hP
  have hD : va_D (rA q s.heap.size) ([(q, .inr (3, [.int 0, .int 1, .int 9, .int 0, .int 0, .int 1, .null, .null, .null]))]) := hD
  refine lv_aload_n hx hb dX2_init_20 rfl (lv_at hl 0 rfl) ?_
  refine lv_bipush (v := 8) hx hb dX2_init_21 (by decide) ?_
  refine va_newq (D := Γ.1) (C := "SeenByOne$Thing") (N' := 8) hx hb hown (hts _ q141) hK.2.2.1 hK.1 hP hD hS hA (by decide) rfl (Nat.le_of_ble_eq_true rfl) (Nat.le_of_ble_eq_true rfl) (Nat.le_of_ble_eq_true rfl) dX2_init_23 (fun a1 cA H hK9 hP hD hS => ?_)
  obtain rfl : cA = Γ.2 4 := ka_same hK9 (t0 := 4) rfl
  replace hP := rotP hP
  replace hD := rotD hD
  have hP : va_P Γ.1 clA ([(a1, .inl (Γ.2 4, 8, .inr (.inr (.inr (.inr (fun _ => none)))))), (q, .inr (3, [.int 0, .int 1, .int 9, .int 0, .int 0, .int 1, .null, .null, .null]))]) H := hP
  have hD : va_D (rA q s.heap.size) ([(a1, .inl (Γ.2 4, 8, .inr (.inr (.inr (.inr (fun _ => none)))))), (q, .inr (3, [.int 0, .int 1, .int 9, .int 0, .int 0, .int 1, .null, .null, .null]))]) := hD
  refine va_putF (D := Γ.1) (ci := 3) (v := .ref a1) (ty := tyX2 6) (C := RX2) (T := TX2) (N := 9) hx hb hts in_X2 tyX2 tyX2_ok nmX2 hown hK.1 hP hD hS 1 rfl rfl 6 (by decide) (hts _ q159) (fun _ h9 => h9) rfl hin rfl (tyX2_ok 6 (by decide)) rfl rfl (Nat.le_of_ble_eq_true rfl) dX2_init_26 (fun H locs hP hD hS => ?_)
  have hP : va_P Γ.1 clA ([(a1, .inl (Γ.2 4, 8, .inr (.inr (.inr (.inr (fun _ => none)))))), (q, .inr (3, [.int 0, .int 1, .int 9, .int 0, .int 0, .int 1, .ref a1, .null, .null]))]) H := hP
  have hD : va_D (rA q s.heap.size) ([(a1, .inl (Γ.2 4, 8, .inr (.inr (.inr (.inr (fun _ => none)))))), (q, .inr (3, [.int 0, .int 1, .int 9, .int 0, .int 0, .int 1, .ref a1, .null, .null]))]) := hD
  refine lv_aload_n hx hb dX2_init_29 rfl (lv_at hl 0 rfl) ?_
  refine lv_bipush (v := 8) hx hb dX2_init_30 (by decide) ?_
  refine va_newa (D := Γ.1) (atype := .int) (ty := .int) (N' := 8) (a0 := (8, .inl (fun _ => 0))) hx hb (hts _ q134) rfl hK.1 hP hD hS hA (fun _ => rfl) (by decide) rfl (Nat.le_of_ble_eq_true rfl) (Nat.le_of_ble_eq_true rfl) (Nat.le_of_ble_eq_true rfl) dX2_init_32 (fun a2 cA H hK9 hP hD hS => ?_)
  obtain rfl : cA = Γ.2 0 := ka_same hK9 (t0 := 0) rfl
  replace hP := rotP hP
  replace hD := rotD hD
  have hP : va_P Γ.1 clA ([(a2, .inl (Γ.2 0, 8, .inl (fun _ => 0))), (a1, .inl (Γ.2 4, 8, .inr (.inr (.inr (.inr (fun _ => none)))))), (q, .inr (3, [.int 0, .int 1, .int 9, .int 0, .int 0, .int 1, .ref a1, .null, .null]))]) H := hP
  have hD : va_D (rA q s.heap.size) ([(a2, .inl (Γ.2 0, 8, .inl (fun _ => 0))), (a1, .inl (Γ.2 4, 8, .inr (.inr (.inr (.inr (fun _ => none)))))), (q, .inr (3, [.int 0, .int 1, .int 9, .int 0, .int 0, .int 1, .ref a1, .null, .null]))]) := hD
  refine va_putF (D := Γ.1) (ci := 3) (v := .ref a2) (ty := tyX2 7) (C := RX2) (T := TX2) (N := 9) hx hb hts in_X2 tyX2 tyX2_ok nmX2 hown hK.1 hP hD hS 2 rfl rfl 7 (by decide) (hts _ q161) (fun _ h9 => h9) rfl hin rfl (tyX2_ok 7 (by decide)) rfl rfl (Nat.le_of_ble_eq_true rfl) dX2_init_34 (fun H locs hP hD hS => ?_)
  have hP : va_P Γ.1 clA ([(a2, .inl (Γ.2 0, 8, .inl (fun _ => 0))), (a1, .inl (Γ.2 4, 8, .inr (.inr (.inr (.inr (fun _ => none)))))), (q, .inr (3, [.int 0, .int 1, .int 9, .int 0, .int 0, .int 1, .ref a1, .ref a2, .null]))]) H := hP
  have hD : va_D (rA q s.heap.size) ([(a2, .inl (Γ.2 0, 8, .inl (fun _ => 0))), (a1, .inl (Γ.2 4, 8, .inr (.inr (.inr (.inr (fun _ => none)))))), (q, .inr (3, [.int 0, .int 1, .int 9, .int 0, .int 0, .int 1, .ref a1, .ref a2, .null]))]) := hD
  refine lv_aload_n hx hb dX2_init_37 rfl (lv_at hl 0 rfl) ?_
  refine lv_bipush (v := 8) hx hb dX2_init_38 (by decide) ?_
  refine va_newa (D := Γ.1) (atype := .int) (ty := .int) (N' := 8) (a0 := (8, .inl (fun _ => 0))) hx hb (hts _ q134) rfl hK.1 hP hD hS hA (fun _ => rfl) (by decide) rfl (Nat.le_of_ble_eq_true rfl) (Nat.le_of_ble_eq_true rfl) (Nat.le_of_ble_eq_true rfl) dX2_init_40 (fun a3 cA H hK9 hP hD hS => ?_)
  obtain rfl : cA = Γ.2 0 := ka_same hK9 (t0 := 0) rfl
  replace hP := rotP hP
  replace hD := rotD hD
  have hP : va_P Γ.1 clA ([(a3, .inl (Γ.2 0, 8, .inl (fun _ => 0))), (a2, .inl (Γ.2 0, 8, .inl (fun _ => 0))), (a1, .inl (Γ.2 4, 8, .inr (.inr (.inr (.inr (fun _ => none)))))), (q, .inr (3, [.int 0, .int 1, .int 9, .int 0, .int 0, .int 1, .ref a1, .ref a2, .null]))]) H := hP
  have hD : va_D (rA q s.heap.size) ([(a3, .inl (Γ.2 0, 8, .inl (fun _ => 0))), (a2, .inl (Γ.2 0, 8, .inl (fun _ => 0))), (a1, .inl (Γ.2 4, 8, .inr (.inr (.inr (.inr (fun _ => none)))))), (q, .inr (3, [.int 0, .int 1, .int 9, .int 0, .int 0, .int 1, .ref a1, .ref a2, .null]))]) := hD
  refine va_putF (D := Γ.1) (ci := 3) (v := .ref a3) (ty := tyX2 8) (C := RX2) (T := TX2) (N := 9) hx hb hts in_X2 tyX2 tyX2_ok nmX2 hown hK.1 hP hD hS 3 rfl rfl 8 (by decide) (hts _ q164) (fun _ h9 => h9) rfl hin rfl (tyX2_ok 8 (by decide)) rfl rfl (Nat.le_of_ble_eq_true rfl) dX2_init_42 (fun H locs hP hD hS => ?_)
  have hP : va_P Γ.1 clA ([(a3, .inl (Γ.2 0, 8, .inl (fun _ => 0))), (a2, .inl (Γ.2 0, 8, .inl (fun _ => 0))), (a1, .inl (Γ.2 4, 8, .inr (.inr (.inr (.inr (fun _ => none)))))), (q, .inr (3, [.int 0, .int 1, .int 9, .int 0, .int 0, .int 1, .ref a1, .ref a2, .ref a3]))]) H := hP
  have hD : va_D (rA q s.heap.size) ([(a3, .inl (Γ.2 0, 8, .inl (fun _ => 0))), (a2, .inl (Γ.2 0, 8, .inl (fun _ => 0))), (a1, .inl (Γ.2 4, 8, .inr (.inr (.inr (.inr (fun _ => none)))))), (q, .inr (3, [.int 0, .int 1, .int 9, .int 0, .int 0, .int 1, .ref a1, .ref a2, .ref a3]))]) := hD
  refine W.widen (k := 3) (n := 24) (Nat.le_of_ble_eq_true rfl) (Nat.le_of_ble_eq_true rfl) ?_
  exact r_vret hx hb hr hlk hP hD hS (⟨a1, a2, a3, rfl⟩) dX2_init_45

set_option maxHeartbeats 4000000 in
set_option maxRecDepth 100000 in
theorem ct_Tr {l : Launch} {Γ : GA} {q : Nat} : rC l yX1_init cX1_init 1 ({ frames := 1, cells := 1, slots := 20, locals := 60 } : Room) 1 20 Γ q (.inr (2, [.null, .int 0])) [] (fun ex => ∃ a1, ex = [(a1, .inl (Γ.2 0, 20, .inl (fun _ => 0))), (q, .inr (2, [.ref a1, .int 0]))]) := by
  intro sz
  refine r_of (by decide) rfl [(0, .ref q)] (fun _ h => h) (Nat.le_of_ble_eq_true rfl) ?_
  intro p e s m args below meth c ls hsz X hZ hin hP hl
  subst hsz
  obtain ⟨hx, hb, hml, hown, hts, hK, hr, hlk⟩ := X
  have hA : ∀ a, s.heap.size ≤ a → rA q s.heap.size a := fun a h => Or.inr h
  have hD : va_D (rA q s.heap.size) [(q, .inr (2, [.null, .int 0]))] := rD0
  have hS : va_S (rA q s.heap.size) s.heap s.heap [] := va_S.rf
  generalize hH : s.heap = H at hP ⊢
  replace hS : va_S (rA q s.heap.size) s.heap H [] := by rw [← hH]; exact va_S.rf
  refine lv_aload_n hx hb dX1_init_0 rfl (lv_at hl 0 rfl) ?_
  refine W.objInit hx hb hown (hts _ q124) (hts _ q115) (hts _ q116) rfl (hl.1.trans hml.symm) rfl dX1_init_1 (Nat.le_of_ble_eq_true rfl) (Nat.le_of_ble_eq_true rfl) ?_
  refine W.eq (g2 := F0 m 4 ls []) rfl ?_
  refine lv_aload_n hx hb dX1_init_4 rfl (lv_at hl 0 rfl) ?_
  refine lv_bipush (v := 20) hx hb dX1_init_5 (by decide) ?_
  refine va_newa (D := Γ.1) (atype := .int) (ty := .int) (N' := 20) (a0 := (20, .inl (fun _ => 0))) hx hb (hts _ q134) rfl hK.1 hP hD hS hA (fun _ => rfl) (by decide) rfl (Nat.le_of_ble_eq_true rfl) (Nat.le_of_ble_eq_true rfl) (Nat.le_of_ble_eq_true rfl) dX1_init_7 (fun a1 cA H hK9 hP hD hS => ?_)
  obtain rfl : cA = Γ.2 0 := ka_same hK9 (t0 := 0) rfl
  replace hP := rotP hP
  replace hD := rotD hD
  have hP : va_P Γ.1 clA ([(a1, .inl (Γ.2 0, 20, .inl (fun _ => 0))), (q, .inr (2, [.null, .int 0]))]) H := hP
  have hD : va_D (rA q s.heap.size) ([(a1, .inl (Γ.2 0, 20, .inl (fun _ => 0))), (q, .inr (2, [.null, .int 0]))]) := hD
  refine va_putF (D := Γ.1) (ci := 2) (v := .ref a1) (ty := tyX1 0) (C := RX1) (T := TX1) (N := 2) hx hb hts in_X1 tyX1 tyX1_ok nmX1 hown hK.1 hP hD hS 1 rfl rfl 0 (by decide) (hts _ q125) (fun _ h9 => h9) rfl hin rfl (tyX1_ok 0 (by decide)) rfl rfl (Nat.le_of_ble_eq_true rfl) dX1_init_9 (fun H locs hP hD hS => ?_)
  have hP : va_P Γ.1 clA ([(a1, .inl (Γ.2 0, 20, .inl (fun _ => 0))), (q, .inr (2, [.ref a1, .int 0]))]) H := hP
  have hD : va_D (rA q s.heap.size) ([(a1, .inl (Γ.2 0, 20, .inl (fun _ => 0))), (q, .inr (2, [.ref a1, .int 0]))]) := hD
  refine W.widen (k := 1) (n := 20) (Nat.le_of_ble_eq_true rfl) (Nat.le_of_ble_eq_true rfl) ?_
  exact r_vret hx hb hr hlk hP hD hS (⟨a1, rfl⟩) dX1_init_12

set_option maxHeartbeats 4000000 in
set_option maxRecDepth 100000 in
theorem ct_Sh {l : Launch} {Γ : GA} {q : Nat} : rC l yX3_init cX3_init 1 ({ frames := 1, cells := 0, slots := 0, locals := 60 } : Room) 0 0 Γ q (.inr (4, [.null])) [] (fun ex => ex = [(q, .inr (4, [.null]))]) := by
  intro sz
  refine r_of (by decide) rfl [(0, .ref q)] (fun _ h => h) (Nat.le_of_ble_eq_true rfl) ?_
  intro p e s m args below meth c ls hsz X hZ hin hP hl
  subst hsz
  obtain ⟨hx, hb, hml, hown, hts, hK, hr, hlk⟩ := X
  have hA : ∀ a, s.heap.size ≤ a → rA q s.heap.size a := fun a h => Or.inr h
  have hD : va_D (rA q s.heap.size) [(q, .inr (4, [.null]))] := rD0
  have hS : va_S (rA q s.heap.size) s.heap s.heap [] := va_S.rf
  generalize hH : s.heap = H at hP ⊢
  replace hS : va_S (rA q s.heap.size) s.heap H [] := by rw [← hH]; exact va_S.rf
  refine lv_aload_n hx hb dX3_init_0 rfl (lv_at hl 0 rfl) ?_
  refine W.objInit hx hb hown (hts _ q190) (hts _ q115) (hts _ q116) rfl (hl.1.trans hml.symm) rfl dX3_init_1 (Nat.le_of_ble_eq_true rfl) (Nat.le_of_ble_eq_true rfl) ?_
  refine W.eq (g2 := F0 m 4 ls []) rfl ?_
  refine W.widen (k := 0) (n := 0) (Nat.le_of_ble_eq_true rfl) (Nat.le_of_ble_eq_true rfl) ?_
  exact r_vret hx hb hr hlk hP hD hS (rfl) dX3_init_4

set_option maxHeartbeats 4000000 in
set_option maxRecDepth 100000 in
theorem ct_Rd {l : Launch} {Γ : GA} {q : Nat} {t1 : Nat} {t2 : Nat} : rC l yX18_init cX18_init 3 ({ frames := 1, cells := 0, slots := 0, locals := 60 } : Room) 0 0 Γ q (.inr (16, [.null, .null, .int 0, .int 0])) [.ref t1, .ref t2] (fun ex => ex = [(q, .inr (16, [.ref t1, .ref t2, .int 0, .int 0]))]) := by
  intro sz
  refine r_of (by decide) rfl [(0, .ref q), (1, .ref t1), (2, .ref t2)] (fun _ h => h) (Nat.le_of_ble_eq_true rfl) ?_
  intro p e s m args below meth c ls hsz X hZ hin hP hl
  subst hsz
  obtain ⟨hx, hb, hml, hown, hts, hK, hr, hlk⟩ := X
  have hA : ∀ a, s.heap.size ≤ a → rA q s.heap.size a := fun a h => Or.inr h
  have hD : va_D (rA q s.heap.size) [(q, .inr (16, [.null, .null, .int 0, .int 0]))] := rD0
  have hS : va_S (rA q s.heap.size) s.heap s.heap [] := va_S.rf
  generalize hH : s.heap = H at hP ⊢
  replace hS : va_S (rA q s.heap.size) s.heap H [] := by rw [← hH]; exact va_S.rf
  refine lv_aload_n hx hb dX18_init_0 rfl (lv_at hl 0 rfl) ?_
  refine W.objInit hx hb hown (hts _ q882) (hts _ q115) (hts _ q116) rfl (hl.1.trans hml.symm) rfl dX18_init_1 (Nat.le_of_ble_eq_true rfl) (Nat.le_of_ble_eq_true rfl) ?_
  refine W.eq (g2 := F0 m 4 ls []) rfl ?_
  refine lv_aload_n hx hb dX18_init_4 rfl (lv_at hl 0 rfl) ?_
  refine lv_aload_n hx hb dX18_init_5 rfl (lv_at hl 1 rfl) ?_
  refine va_putF (D := Γ.1) (ci := 16) (v := .ref t1) (ty := tyX18 0) (C := RX18) (T := TX18) (N := 4) hx hb hts in_X18 tyX18 tyX18_ok nmX18 hown hK.1 hP hD hS 0 rfl rfl 0 (by decide) (hts _ q883) (fun _ h9 => h9) rfl hin rfl (tyX18_ok 0 (by decide)) rfl rfl (Nat.le_of_ble_eq_true rfl) dX18_init_6 (fun H locs hP hD hS => ?_)
  have hP : va_P Γ.1 clA ([(q, .inr (16, [.ref t1, .null, .int 0, .int 0]))]) H := hP
  have hD : va_D (rA q s.heap.size) ([(q, .inr (16, [.ref t1, .null, .int 0, .int 0]))]) := hD
  refine lv_aload_n hx hb dX18_init_9 rfl (lv_at hl 0 rfl) ?_
  refine lv_aload_n hx hb dX18_init_10 rfl (lv_at hl 2 rfl) ?_
  refine va_putF (D := Γ.1) (ci := 16) (v := .ref t2) (ty := tyX18 1) (C := RX18) (T := TX18) (N := 4) hx hb hts in_X18 tyX18 tyX18_ok nmX18 hown hK.1 hP hD hS 0 rfl rfl 1 (by decide) (hts _ q884) (fun _ h9 => h9) rfl hin rfl (tyX18_ok 1 (by decide)) rfl rfl (Nat.le_of_ble_eq_true rfl) dX18_init_11 (fun H locs hP hD hS => ?_)
  have hP : va_P Γ.1 clA ([(q, .inr (16, [.ref t1, .ref t2, .int 0, .int 0]))]) H := hP
  have hD : va_D (rA q s.heap.size) ([(q, .inr (16, [.ref t1, .ref t2, .int 0, .int 0]))]) := hD
  refine W.widen (k := 0) (n := 0) (Nat.le_of_ble_eq_true rfl) (Nat.le_of_ble_eq_true rfl) ?_
  exact r_vret hx hb hr hlk hP hD hS (rfl) dX18_init_14

set_option maxHeartbeats 4000000 in
set_option maxRecDepth 100000 in
theorem ct_Th_17 {l : Launch} {Γ : GA} {q : Nat} : rC l yJ0_init_3 cJ0_init_3 5 ({ frames := 1, cells := 0, slots := 0, locals := 60 } : Room) 0 0 Γ q (.inr (17, [.null, .null, .null, .null, .null, .int 0, .int 0])) [.null, .null, .int 0, .int 0] (fun ex => ex = [(q, .inr (17, [.null, .null, .null, .null, .null, .int 0, .int 0]))]) := by
  intro sz
  refine r_of (by decide) rfl [(0, .ref q), (1, .null), (2, .null), (3, .int 0), (4, .int 0)] (fun _ h => h) (Nat.le_of_ble_eq_true rfl) ?_
  intro p e s m args below meth c ls hsz X hZ hin hP hl
  subst hsz
  obtain ⟨hx, hb, hml, hown, hts, hK, hr, hlk⟩ := X
  have hA : ∀ a, s.heap.size ≤ a → rA q s.heap.size a := fun a h => Or.inr h
  have hD : va_D (rA q s.heap.size) [(q, .inr (17, [.null, .null, .null, .null, .null, .int 0, .int 0]))] := rD0
  have hS : va_S (rA q s.heap.size) s.heap s.heap [] := va_S.rf
  generalize hH : s.heap = H at hP ⊢
  replace hS : va_S (rA q s.heap.size) s.heap H [] := by rw [← hH]; exact va_S.rf
  refine lv_aload_n hx hb dJ0_init_3_0 rfl (lv_at hl 0 rfl) ?_
  refine W.objInit hx hb hown (hts _ q243) (hts _ q115) (hts _ q116) rfl (hl.1.trans hml.symm) rfl dJ0_init_3_1 (Nat.le_of_ble_eq_true rfl) (Nat.le_of_ble_eq_true rfl) ?_
  refine W.eq (g2 := F0 m 4 ls []) rfl ?_
  refine lv_aload_n hx hb dJ0_init_3_4 rfl (lv_at hl 0 rfl) ?_
  refine lv_aload_n hx hb dJ0_init_3_5 rfl (lv_at hl 0 rfl) ?_
  refine va_put (D := Γ.1) (ci := 17) (v := .ref q) (ty := tyX5 0) (C := RX5) (T := TX5) (N := 7) hx hb hts in_X5 tyX5 tyX5_ok nmX5 hown hK.1 hP hD hS 0 rfl rfl 0 (by decide) (hts _ q264) (fun _ h9 => h9) rfl (tyX5_ok 0 (by decide)) rfl rfl (Nat.le_of_ble_eq_true rfl) dJ0_init_3_6 (fun H locs hP hD hS => ?_)
  have hP : va_P Γ.1 clA ([(q, .inr (17, [.ref q, .null, .null, .null, .null, .int 0, .int 0]))]) H := hP
  have hD : va_D (rA q s.heap.size) ([(q, .inr (17, [.ref q, .null, .null, .null, .null, .int 0, .int 0]))]) := hD
  refine lv_aload_n hx hb dJ0_init_3_9 rfl (lv_at hl 0 rfl) ?_
  obtain ⟨v1, iv1, zv1⟩ := zq_v hZ.1.1
  refine va_gets hx hb zv1 hS hown (hts _ q244) (fun _ h9 => h9) dJ0_init_3_10 ?_
  refine va_put (D := Γ.1) (ci := 17) (v := v1) (ty := tyX5 1) (C := RX5) (T := TX5) (N := 7) hx hb hts in_X5 tyX5 tyX5_ok nmX5 hown hK.1 hP hD hS 0 rfl rfl 1 (by decide) (hts _ q265) (fun _ h9 => h9) rfl (tyX5_ok 1 (by decide)) rfl (by rcases iv1 with h9 | ⟨t9, h9⟩ <;> (rw [h9]; rfl)) (Nat.le_of_ble_eq_true rfl) dJ0_init_3_13 (fun H locs hP hD hS => ?_)
  have hP : va_P Γ.1 clA ([(q, .inr (17, [.ref q, v1, .null, .null, .null, .int 0, .int 0]))]) H := hP
  have hD : va_D (rA q s.heap.size) ([(q, .inr (17, [.ref q, v1, .null, .null, .null, .int 0, .int 0]))]) := hD
  refine lv_aload_n hx hb dJ0_init_3_16 rfl (lv_at hl 0 rfl) ?_
  obtain ⟨v2, iv2, zv2⟩ := zq_v hZ.2.1.1
  refine va_gets hx hb zv2 hS hown (hts _ q246) (fun _ h9 => h9) dJ0_init_3_17 ?_
  refine va_put (D := Γ.1) (ci := 17) (v := v2) (ty := tyX5 2) (C := RX5) (T := TX5) (N := 7) hx hb hts in_X5 tyX5 tyX5_ok nmX5 hown hK.1 hP hD hS 0 rfl rfl 2 (by decide) (hts _ q266) (fun _ h9 => h9) rfl (tyX5_ok 2 (by decide)) rfl (by rcases iv2 with h9 | ⟨t9, h9⟩ <;> (rw [h9]; rfl)) (Nat.le_of_ble_eq_true rfl) dJ0_init_3_20 (fun H locs hP hD hS => ?_)
  have hP : va_P Γ.1 clA ([(q, .inr (17, [.ref q, v1, v2, .null, .null, .int 0, .int 0]))]) H := hP
  have hD : va_D (rA q s.heap.size) ([(q, .inr (17, [.ref q, v1, v2, .null, .null, .int 0, .int 0]))]) := hD
  refine lv_iload hx hb dJ0_init_3_23 (lv_at hl 4 rfl) ?_
  refine lv_if_eq (tgt := 36) hx hb dJ0_init_3_25 (by decide) (fun c9 => ?_) (fun c9 => ?_)
  rotate_left
  · exact absurd rfl c9
  refine lv_aload_n hx hb dJ0_init_3_36 rfl (lv_at hl 0 rfl) ?_
  refine lv_null hx hb dJ0_init_3_37 ?_
  refine va_put (D := Γ.1) (ci := 17) (v := .null) (ty := tyX5 1) (C := RX5) (T := TX5) (N := 7) hx hb hts in_X5 tyX5 tyX5_ok nmX5 hown hK.1 hP hD hS 0 rfl rfl 1 (by decide) (hts _ q265) (fun _ h9 => h9) rfl (tyX5_ok 1 (by decide)) rfl rfl (Nat.le_of_ble_eq_true rfl) dJ0_init_3_38 (fun H locs hP hD hS => ?_)
  have hP : va_P Γ.1 clA ([(q, .inr (17, [.ref q, .null, v2, .null, .null, .int 0, .int 0]))]) H := hP
  have hD : va_D (rA q s.heap.size) ([(q, .inr (17, [.ref q, .null, v2, .null, .null, .int 0, .int 0]))]) := hD
  refine lv_aload_n hx hb dJ0_init_3_41 rfl (lv_at hl 0 rfl) ?_
  refine lv_aload_nN hx hb dJ0_init_3_42 rfl (lv_at hl 1 rfl) ?_
  refine va_put (D := Γ.1) (ci := 17) (v := .null) (ty := tyX5 3) (C := RX5) (T := TX5) (N := 7) hx hb hts in_X5 tyX5 tyX5_ok nmX5 hown hK.1 hP hD hS 0 rfl rfl 3 (by decide) (hts _ q263) (fun _ h9 => h9) rfl (tyX5_ok 3 (by decide)) rfl rfl (Nat.le_of_ble_eq_true rfl) dJ0_init_3_43 (fun H locs hP hD hS => ?_)
  have hP : va_P Γ.1 clA ([(q, .inr (17, [.ref q, .null, v2, .null, .null, .int 0, .int 0]))]) H := hP
  have hD : va_D (rA q s.heap.size) ([(q, .inr (17, [.ref q, .null, v2, .null, .null, .int 0, .int 0]))]) := hD
  refine lv_aload_n hx hb dJ0_init_3_46 rfl (lv_at hl 0 rfl) ?_
  refine lv_aload_nN hx hb dJ0_init_3_47 rfl (lv_at hl 2 rfl) ?_
  refine va_put (D := Γ.1) (ci := 17) (v := .null) (ty := tyX5 0) (C := RX5) (T := TX5) (N := 7) hx hb hts in_X5 tyX5 tyX5_ok nmX5 hown hK.1 hP hD hS 0 rfl rfl 0 (by decide) (hts _ q264) (fun _ h9 => h9) rfl (tyX5_ok 0 (by decide)) rfl rfl (Nat.le_of_ble_eq_true rfl) dJ0_init_3_48 (fun H locs hP hD hS => ?_)
  have hP : va_P Γ.1 clA ([(q, .inr (17, [.null, .null, v2, .null, .null, .int 0, .int 0]))]) H := hP
  have hD : va_D (rA q s.heap.size) ([(q, .inr (17, [.null, .null, v2, .null, .null, .int 0, .int 0]))]) := hD
  refine lv_iload_n hx hb dJ0_init_3_51 rfl (lv_at hl 3 rfl) ?_
  refine lv_if_ne (tgt := 60) hx hb dJ0_init_3_52 (by decide) (fun c9 => ?_) (fun c9 => ?_)
  · exact absurd rfl c9
  refine lv_aload_n hx hb dJ0_init_3_55 rfl (lv_at hl 0 rfl) ?_
  refine lv_null hx hb dJ0_init_3_56 ?_
  refine va_put (D := Γ.1) (ci := 17) (v := .null) (ty := tyX5 2) (C := RX5) (T := TX5) (N := 7) hx hb hts in_X5 tyX5 tyX5_ok nmX5 hown hK.1 hP hD hS 0 rfl rfl 2 (by decide) (hts _ q266) (fun _ h9 => h9) rfl (tyX5_ok 2 (by decide)) rfl rfl (Nat.le_of_ble_eq_true rfl) dJ0_init_3_57 (fun H locs hP hD hS => ?_)
  have hP : va_P Γ.1 clA ([(q, .inr (17, [.null, .null, .null, .null, .null, .int 0, .int 0]))]) H := hP
  have hD : va_D (rA q s.heap.size) ([(q, .inr (17, [.null, .null, .null, .null, .null, .int 0, .int 0]))]) := hD
  refine W.widen (k := 0) (n := 0) (Nat.le_of_ble_eq_true rfl) (Nat.le_of_ble_eq_true rfl) ?_
  exact r_vret hx hb hr hlk hP hD hS (rfl) dJ0_init_3_60

set_option maxHeartbeats 4000000 in
set_option maxRecDepth 100000 in
theorem ct_Th_18 {l : Launch} {Γ : GA} {q : Nat} : rC l yJ0_init_3 cJ0_init_3 5 ({ frames := 1, cells := 0, slots := 0, locals := 60 } : Room) 0 0 Γ q (.inr (18, [.null, .null, .null, .null, .null, .int 0, .int 0])) [.null, .null, .int 0, .int 0] (fun ex => ex = [(q, .inr (18, [.null, .null, .null, .null, .null, .int 0, .int 0]))]) := by
  intro sz
  refine r_of (by decide) rfl [(0, .ref q), (1, .null), (2, .null), (3, .int 0), (4, .int 0)] (fun _ h => h) (Nat.le_of_ble_eq_true rfl) ?_
  intro p e s m args below meth c ls hsz X hZ hin hP hl
  subst hsz
  obtain ⟨hx, hb, hml, hown, hts, hK, hr, hlk⟩ := X
  have hA : ∀ a, s.heap.size ≤ a → rA q s.heap.size a := fun a h => Or.inr h
  have hD : va_D (rA q s.heap.size) [(q, .inr (18, [.null, .null, .null, .null, .null, .int 0, .int 0]))] := rD0
  have hS : va_S (rA q s.heap.size) s.heap s.heap [] := va_S.rf
  generalize hH : s.heap = H at hP ⊢
  replace hS : va_S (rA q s.heap.size) s.heap H [] := by rw [← hH]; exact va_S.rf
  refine lv_aload_n hx hb dJ0_init_3_0 rfl (lv_at hl 0 rfl) ?_
  refine W.objInit hx hb hown (hts _ q243) (hts _ q115) (hts _ q116) rfl (hl.1.trans hml.symm) rfl dJ0_init_3_1 (Nat.le_of_ble_eq_true rfl) (Nat.le_of_ble_eq_true rfl) ?_
  refine W.eq (g2 := F0 m 4 ls []) rfl ?_
  refine lv_aload_n hx hb dJ0_init_3_4 rfl (lv_at hl 0 rfl) ?_
  refine lv_aload_n hx hb dJ0_init_3_5 rfl (lv_at hl 0 rfl) ?_
  refine va_put (D := Γ.1) (ci := 18) (v := .ref q) (ty := tyX19 0) (C := RX19) (T := TX19) (N := 7) hx hb hts in_X19 tyX19 tyX19_ok nmX19 hown hK.1 hP hD hS 0 rfl rfl 0 (by decide) (hts _ q264) (fun _ h9 => h9) rfl (tyX19_ok 0 (by decide)) rfl rfl (Nat.le_of_ble_eq_true rfl) dJ0_init_3_6 (fun H locs hP hD hS => ?_)
  have hP : va_P Γ.1 clA ([(q, .inr (18, [.ref q, .null, .null, .null, .null, .int 0, .int 0]))]) H := hP
  have hD : va_D (rA q s.heap.size) ([(q, .inr (18, [.ref q, .null, .null, .null, .null, .int 0, .int 0]))]) := hD
  refine lv_aload_n hx hb dJ0_init_3_9 rfl (lv_at hl 0 rfl) ?_
  obtain ⟨v1, iv1, zv1⟩ := zq_v hZ.1.1
  refine va_gets hx hb zv1 hS hown (hts _ q244) (fun _ h9 => h9) dJ0_init_3_10 ?_
  refine va_put (D := Γ.1) (ci := 18) (v := v1) (ty := tyX19 1) (C := RX19) (T := TX19) (N := 7) hx hb hts in_X19 tyX19 tyX19_ok nmX19 hown hK.1 hP hD hS 0 rfl rfl 1 (by decide) (hts _ q265) (fun _ h9 => h9) rfl (tyX19_ok 1 (by decide)) rfl (by rcases iv1 with h9 | ⟨t9, h9⟩ <;> (rw [h9]; rfl)) (Nat.le_of_ble_eq_true rfl) dJ0_init_3_13 (fun H locs hP hD hS => ?_)
  have hP : va_P Γ.1 clA ([(q, .inr (18, [.ref q, v1, .null, .null, .null, .int 0, .int 0]))]) H := hP
  have hD : va_D (rA q s.heap.size) ([(q, .inr (18, [.ref q, v1, .null, .null, .null, .int 0, .int 0]))]) := hD
  refine lv_aload_n hx hb dJ0_init_3_16 rfl (lv_at hl 0 rfl) ?_
  obtain ⟨v2, iv2, zv2⟩ := zq_v hZ.2.1.1
  refine va_gets hx hb zv2 hS hown (hts _ q246) (fun _ h9 => h9) dJ0_init_3_17 ?_
  refine va_put (D := Γ.1) (ci := 18) (v := v2) (ty := tyX19 2) (C := RX19) (T := TX19) (N := 7) hx hb hts in_X19 tyX19 tyX19_ok nmX19 hown hK.1 hP hD hS 0 rfl rfl 2 (by decide) (hts _ q266) (fun _ h9 => h9) rfl (tyX19_ok 2 (by decide)) rfl (by rcases iv2 with h9 | ⟨t9, h9⟩ <;> (rw [h9]; rfl)) (Nat.le_of_ble_eq_true rfl) dJ0_init_3_20 (fun H locs hP hD hS => ?_)
  have hP : va_P Γ.1 clA ([(q, .inr (18, [.ref q, v1, v2, .null, .null, .int 0, .int 0]))]) H := hP
  have hD : va_D (rA q s.heap.size) ([(q, .inr (18, [.ref q, v1, v2, .null, .null, .int 0, .int 0]))]) := hD
  refine lv_iload hx hb dJ0_init_3_23 (lv_at hl 4 rfl) ?_
  refine lv_if_eq (tgt := 36) hx hb dJ0_init_3_25 (by decide) (fun c9 => ?_) (fun c9 => ?_)
  rotate_left
  · exact absurd rfl c9
  refine lv_aload_n hx hb dJ0_init_3_36 rfl (lv_at hl 0 rfl) ?_
  refine lv_null hx hb dJ0_init_3_37 ?_
  refine va_put (D := Γ.1) (ci := 18) (v := .null) (ty := tyX19 1) (C := RX19) (T := TX19) (N := 7) hx hb hts in_X19 tyX19 tyX19_ok nmX19 hown hK.1 hP hD hS 0 rfl rfl 1 (by decide) (hts _ q265) (fun _ h9 => h9) rfl (tyX19_ok 1 (by decide)) rfl rfl (Nat.le_of_ble_eq_true rfl) dJ0_init_3_38 (fun H locs hP hD hS => ?_)
  have hP : va_P Γ.1 clA ([(q, .inr (18, [.ref q, .null, v2, .null, .null, .int 0, .int 0]))]) H := hP
  have hD : va_D (rA q s.heap.size) ([(q, .inr (18, [.ref q, .null, v2, .null, .null, .int 0, .int 0]))]) := hD
  refine lv_aload_n hx hb dJ0_init_3_41 rfl (lv_at hl 0 rfl) ?_
  refine lv_aload_nN hx hb dJ0_init_3_42 rfl (lv_at hl 1 rfl) ?_
  refine va_put (D := Γ.1) (ci := 18) (v := .null) (ty := tyX19 3) (C := RX19) (T := TX19) (N := 7) hx hb hts in_X19 tyX19 tyX19_ok nmX19 hown hK.1 hP hD hS 0 rfl rfl 3 (by decide) (hts _ q263) (fun _ h9 => h9) rfl (tyX19_ok 3 (by decide)) rfl rfl (Nat.le_of_ble_eq_true rfl) dJ0_init_3_43 (fun H locs hP hD hS => ?_)
  have hP : va_P Γ.1 clA ([(q, .inr (18, [.ref q, .null, v2, .null, .null, .int 0, .int 0]))]) H := hP
  have hD : va_D (rA q s.heap.size) ([(q, .inr (18, [.ref q, .null, v2, .null, .null, .int 0, .int 0]))]) := hD
  refine lv_aload_n hx hb dJ0_init_3_46 rfl (lv_at hl 0 rfl) ?_
  refine lv_aload_nN hx hb dJ0_init_3_47 rfl (lv_at hl 2 rfl) ?_
  refine va_put (D := Γ.1) (ci := 18) (v := .null) (ty := tyX19 0) (C := RX19) (T := TX19) (N := 7) hx hb hts in_X19 tyX19 tyX19_ok nmX19 hown hK.1 hP hD hS 0 rfl rfl 0 (by decide) (hts _ q264) (fun _ h9 => h9) rfl (tyX19_ok 0 (by decide)) rfl rfl (Nat.le_of_ble_eq_true rfl) dJ0_init_3_48 (fun H locs hP hD hS => ?_)
  have hP : va_P Γ.1 clA ([(q, .inr (18, [.null, .null, v2, .null, .null, .int 0, .int 0]))]) H := hP
  have hD : va_D (rA q s.heap.size) ([(q, .inr (18, [.null, .null, v2, .null, .null, .int 0, .int 0]))]) := hD
  refine lv_iload_n hx hb dJ0_init_3_51 rfl (lv_at hl 3 rfl) ?_
  refine lv_if_ne (tgt := 60) hx hb dJ0_init_3_52 (by decide) (fun c9 => ?_) (fun c9 => ?_)
  · exact absurd rfl c9
  refine lv_aload_n hx hb dJ0_init_3_55 rfl (lv_at hl 0 rfl) ?_
  refine lv_null hx hb dJ0_init_3_56 ?_
  refine va_put (D := Γ.1) (ci := 18) (v := .null) (ty := tyX19 2) (C := RX19) (T := TX19) (N := 7) hx hb hts in_X19 tyX19 tyX19_ok nmX19 hown hK.1 hP hD hS 0 rfl rfl 2 (by decide) (hts _ q266) (fun _ h9 => h9) rfl (tyX19_ok 2 (by decide)) rfl rfl (Nat.le_of_ble_eq_true rfl) dJ0_init_3_57 (fun H locs hP hD hS => ?_)
  have hP : va_P Γ.1 clA ([(q, .inr (18, [.null, .null, .null, .null, .null, .int 0, .int 0]))]) H := hP
  have hD : va_D (rA q s.heap.size) ([(q, .inr (18, [.null, .null, .null, .null, .null, .int 0, .int 0]))]) := hD
  refine W.widen (k := 0) (n := 0) (Nat.le_of_ble_eq_true rfl) (Nat.le_of_ble_eq_true rfl) ?_
  exact r_vret hx hb hr hlk hP hD hS (rfl) dJ0_init_3_60

set_option maxHeartbeats 4000000 in
set_option maxRecDepth 100000 in
theorem ct_Ex_17 {l : Launch} {Γ : GA} {q : Nat} : rC l yJ1_init_2 cJ1_init_2 5 ({ frames := 2, cells := 0, slots := 0, locals := 84 } : Room) 0 0 Γ q (.inr (17, [.null, .null, .null, .null, .null, .int 0, .int 0])) [.null, .null, .int 0, .int 0] (fun ex => ex = [(q, .inr (17, [.null, .null, .null, .null, .null, .int 0, .int 0]))]) := by
  intro sz
  refine r_of (by decide) rfl [(0, .ref q), (1, .null), (2, .null), (3, .int 0), (4, .int 0)] (fun _ h => h) (Nat.le_of_ble_eq_true rfl) ?_
  intro p e s m args below meth c ls hsz X hZ hin hP hl
  subst hsz
  obtain ⟨hx, hb, hml, hown, hts, hK, hr, hlk⟩ := X
  have hA : ∀ a, s.heap.size ≤ a → rA q s.heap.size a := fun a h => Or.inr h
  have hD : va_D (rA q s.heap.size) [(q, .inr (17, [.null, .null, .null, .null, .null, .int 0, .int 0]))] := rD0
  have hS : va_S (rA q s.heap.size) s.heap s.heap [] := va_S.rf
  generalize hH : s.heap = H at hP ⊢
  replace hS : va_S (rA q s.heap.size) s.heap H [] := by rw [← hH]; exact va_S.rf
  refine lv_aload_n hx hb dJ1_init_2_0 rfl (lv_at hl 0 rfl) ?_
  refine lv_aload_nN hx hb dJ1_init_2_1 rfl (lv_at hl 1 rfl) ?_
  refine lv_aload_nN hx hb dJ1_init_2_2 rfl (lv_at hl 2 rfl) ?_
  refine lv_iload_n hx hb dJ1_init_2_3 rfl (lv_at hl 3 rfl) ?_
  refine lv_iload hx hb dJ1_init_2_4 (lv_at hl 4 rfl) ?_
  refine r_go (X := []) (va_runI (As := [.null, .null, .int 0, .int 0]) (rest := []) ⟨hx, hb, hml, hown, hts⟩ (ct_Th_17 H.size) (cwI 4 hts (lw_meth q321) rfl rfl rfl (hts _ q80) (hts _ q319) (hts _ q320) rfl (by decide +kernel) ⟨(Nat.le_of_ble_eq_true rfl), (Nat.le_of_ble_eq_true rfl)⟩) (r_pre hK hA hZ hP hD hS) rfl rfl hl.1 rfl (lv_room (Nat.le_of_ble_eq_true rfl)) dJ1_init_2_6 ⟨(Nat.le_of_ble_eq_true rfl), (Nat.le_of_ble_eq_true rfl)⟩) hA hP hD hS (fun ex H locs hk hP hD hS => ?_)
  subst hk
  have hP : va_P Γ.1 clA ([(q, .inr (17, [.null, .null, .null, .null, .null, .int 0, .int 0]))]) H := hP
  have hD : va_D (rA q s.heap.size) ([(q, .inr (17, [.null, .null, .null, .null, .null, .int 0, .int 0]))]) := hD
  refine W.widen (k := 0) (n := 0) (Nat.le_of_ble_eq_true rfl) (Nat.le_of_ble_eq_true rfl) ?_
  exact r_vret hx hb hr hlk hP hD hS (rfl) dJ1_init_2_9

set_option maxHeartbeats 4000000 in
set_option maxRecDepth 100000 in
theorem ct_Ex_18 {l : Launch} {Γ : GA} {q : Nat} : rC l yJ1_init_2 cJ1_init_2 5 ({ frames := 2, cells := 0, slots := 0, locals := 84 } : Room) 0 0 Γ q (.inr (18, [.null, .null, .null, .null, .null, .int 0, .int 0])) [.null, .null, .int 0, .int 0] (fun ex => ex = [(q, .inr (18, [.null, .null, .null, .null, .null, .int 0, .int 0]))]) := by
  intro sz
  refine r_of (by decide) rfl [(0, .ref q), (1, .null), (2, .null), (3, .int 0), (4, .int 0)] (fun _ h => h) (Nat.le_of_ble_eq_true rfl) ?_
  intro p e s m args below meth c ls hsz X hZ hin hP hl
  subst hsz
  obtain ⟨hx, hb, hml, hown, hts, hK, hr, hlk⟩ := X
  have hA : ∀ a, s.heap.size ≤ a → rA q s.heap.size a := fun a h => Or.inr h
  have hD : va_D (rA q s.heap.size) [(q, .inr (18, [.null, .null, .null, .null, .null, .int 0, .int 0]))] := rD0
  have hS : va_S (rA q s.heap.size) s.heap s.heap [] := va_S.rf
  generalize hH : s.heap = H at hP ⊢
  replace hS : va_S (rA q s.heap.size) s.heap H [] := by rw [← hH]; exact va_S.rf
  refine lv_aload_n hx hb dJ1_init_2_0 rfl (lv_at hl 0 rfl) ?_
  refine lv_aload_nN hx hb dJ1_init_2_1 rfl (lv_at hl 1 rfl) ?_
  refine lv_aload_nN hx hb dJ1_init_2_2 rfl (lv_at hl 2 rfl) ?_
  refine lv_iload_n hx hb dJ1_init_2_3 rfl (lv_at hl 3 rfl) ?_
  refine lv_iload hx hb dJ1_init_2_4 (lv_at hl 4 rfl) ?_
  refine r_go (X := []) (va_runI (As := [.null, .null, .int 0, .int 0]) (rest := []) ⟨hx, hb, hml, hown, hts⟩ (ct_Th_18 H.size) (cwI 4 hts (lw_meth q321) rfl rfl rfl (hts _ q80) (hts _ q319) (hts _ q320) rfl (by decide +kernel) ⟨(Nat.le_of_ble_eq_true rfl), (Nat.le_of_ble_eq_true rfl)⟩) (r_pre hK hA hZ hP hD hS) rfl rfl hl.1 rfl (lv_room (Nat.le_of_ble_eq_true rfl)) dJ1_init_2_6 ⟨(Nat.le_of_ble_eq_true rfl), (Nat.le_of_ble_eq_true rfl)⟩) hA hP hD hS (fun ex H locs hk hP hD hS => ?_)
  subst hk
  have hP : va_P Γ.1 clA ([(q, .inr (18, [.null, .null, .null, .null, .null, .int 0, .int 0]))]) H := hP
  have hD : va_D (rA q s.heap.size) ([(q, .inr (18, [.null, .null, .null, .null, .null, .int 0, .int 0]))]) := hD
  refine W.widen (k := 0) (n := 0) (Nat.le_of_ble_eq_true rfl) (Nat.le_of_ble_eq_true rfl) ?_
  exact r_vret hx hb hr hlk hP hD hS (rfl) dJ1_init_2_9

set_option maxHeartbeats 4000000 in
set_option maxRecDepth 100000 in
theorem ct_Re {l : Launch} {Γ : GA} {q : Nat} {x1 : Int32} : rC l yX5_init cX5_init 2 ({ frames := 3, cells := 0, slots := 0, locals := 108 } : Room) 0 0 Γ q (.inr (17, [.null, .null, .null, .null, .null, .int 0, .int 0])) [.int x1] (fun ex => ex = [(q, .inr (17, [.null, .null, .null, .null, .null, .int 0, .int x1]))]) := by
  intro sz
  refine r_of (by decide) rfl [(0, .ref q), (1, .int x1)] (fun _ h => h) (Nat.le_of_ble_eq_true rfl) ?_
  intro p e s m args below meth c ls hsz X hZ hin hP hl
  subst hsz
  obtain ⟨hx, hb, hml, hown, hts, hK, hr, hlk⟩ := X
  have hA : ∀ a, s.heap.size ≤ a → rA q s.heap.size a := fun a h => Or.inr h
  have hD : va_D (rA q s.heap.size) [(q, .inr (17, [.null, .null, .null, .null, .null, .int 0, .int 0]))] := rD0
  have hS : va_S (rA q s.heap.size) s.heap s.heap [] := va_S.rf
  generalize hH : s.heap = H at hP ⊢
  replace hS : va_S (rA q s.heap.size) s.heap H [] := by rw [← hH]; exact va_S.rf
  refine lv_aload_n hx hb dX5_init_0 rfl (lv_at hl 0 rfl) ?_
  refine lv_null hx hb dX5_init_1 ?_
  refine lv_null hx hb dX5_init_2 ?_
  refine lv_iconst (v := 0) hx hb dX5_init_3 (by decide) ?_
  refine lv_iconst (v := 0) hx hb dX5_init_4 (by decide) ?_
  refine r_go (X := []) (va_runI (As := [.null, .null, .int 0, .int 0]) (rest := []) ⟨hx, hb, hml, hown, hts⟩ (ct_Ex_17 H.size) (cwI 4 hts (lw_meth q318) rfl rfl rfl (hts _ q81) (hts _ q316) (hts _ q317) rfl (by decide +kernel) ⟨(Nat.le_of_ble_eq_true rfl), (Nat.le_of_ble_eq_true rfl)⟩) (r_pre hK hA hZ hP hD hS) rfl rfl hl.1 rfl (lv_room (Nat.le_of_ble_eq_true rfl)) dX5_init_5 ⟨(Nat.le_of_ble_eq_true rfl), (Nat.le_of_ble_eq_true rfl)⟩) hA hP hD hS (fun ex H locs hk hP hD hS => ?_)
  subst hk
  have hP : va_P Γ.1 clA ([(q, .inr (17, [.null, .null, .null, .null, .null, .int 0, .int 0]))]) H := hP
  have hD : va_D (rA q s.heap.size) ([(q, .inr (17, [.null, .null, .null, .null, .null, .int 0, .int 0]))]) := hD
  refine lv_aload_n hx hb dX5_init_8 rfl (lv_at hl 0 rfl) ?_
  refine lv_iload_n hx hb dX5_init_9 rfl (lv_at hl 1 rfl) ?_
  refine va_putF (D := Γ.1) (ci := 17) (v := .int x1) (ty := tyX5 6) (C := RX5) (T := TX5) (N := 7) hx hb hts in_X5 tyX5 tyX5_ok nmX5 hown hK.1 hP hD hS 0 rfl rfl 6 (by decide) (hts _ q322) (fun _ h9 => h9) rfl hin rfl (tyX5_ok 6 (by decide)) rfl rfl (Nat.le_of_ble_eq_true rfl) dX5_init_10 (fun H locs hP hD hS => ?_)
  have hP : va_P Γ.1 clA ([(q, .inr (17, [.null, .null, .null, .null, .null, .int 0, .int x1]))]) H := hP
  have hD : va_D (rA q s.heap.size) ([(q, .inr (17, [.null, .null, .null, .null, .null, .int 0, .int x1]))]) := hD
  refine W.widen (k := 0) (n := 0) (Nat.le_of_ble_eq_true rfl) (Nat.le_of_ble_eq_true rfl) ?_
  exact r_vret hx hb hr hlk hP hD hS (rfl) dX5_init_13

set_option maxHeartbeats 4000000 in
set_option maxRecDepth 100000 in
theorem ct_Fa {l : Launch} {Γ : GA} {q : Nat} {x1 : Int32} : rC l yX19_init cX19_init 2 ({ frames := 3, cells := 0, slots := 0, locals := 108 } : Room) 0 0 Γ q (.inr (18, [.null, .null, .null, .null, .null, .int 0, .int 0])) [.int x1] (fun ex => ex = [(q, .inr (18, [.null, .null, .null, .null, .null, .int 0, .int x1]))]) := by
  intro sz
  refine r_of (by decide) rfl [(0, .ref q), (1, .int x1)] (fun _ h => h) (Nat.le_of_ble_eq_true rfl) ?_
  intro p e s m args below meth c ls hsz X hZ hin hP hl
  subst hsz
  obtain ⟨hx, hb, hml, hown, hts, hK, hr, hlk⟩ := X
  have hA : ∀ a, s.heap.size ≤ a → rA q s.heap.size a := fun a h => Or.inr h
  have hD : va_D (rA q s.heap.size) [(q, .inr (18, [.null, .null, .null, .null, .null, .int 0, .int 0]))] := rD0
  have hS : va_S (rA q s.heap.size) s.heap s.heap [] := va_S.rf
  generalize hH : s.heap = H at hP ⊢
  replace hS : va_S (rA q s.heap.size) s.heap H [] := by rw [← hH]; exact va_S.rf
  refine lv_aload_n hx hb dX19_init_0 rfl (lv_at hl 0 rfl) ?_
  refine lv_null hx hb dX19_init_1 ?_
  refine lv_null hx hb dX19_init_2 ?_
  refine lv_iconst (v := 0) hx hb dX19_init_3 (by decide) ?_
  refine lv_iconst (v := 0) hx hb dX19_init_4 (by decide) ?_
  refine r_go (X := []) (va_runI (As := [.null, .null, .int 0, .int 0]) (rest := []) ⟨hx, hb, hml, hown, hts⟩ (ct_Ex_18 H.size) (cwI 4 hts (lw_meth q318) rfl rfl rfl (hts _ q81) (hts _ q1005) (hts _ q317) rfl (by decide +kernel) ⟨(Nat.le_of_ble_eq_true rfl), (Nat.le_of_ble_eq_true rfl)⟩) (r_pre hK hA hZ hP hD hS) rfl rfl hl.1 rfl (lv_room (Nat.le_of_ble_eq_true rfl)) dX19_init_5 ⟨(Nat.le_of_ble_eq_true rfl), (Nat.le_of_ble_eq_true rfl)⟩) hA hP hD hS (fun ex H locs hk hP hD hS => ?_)
  subst hk
  have hP : va_P Γ.1 clA ([(q, .inr (18, [.null, .null, .null, .null, .null, .int 0, .int 0]))]) H := hP
  have hD : va_D (rA q s.heap.size) ([(q, .inr (18, [.null, .null, .null, .null, .null, .int 0, .int 0]))]) := hD
  refine lv_aload_n hx hb dX19_init_8 rfl (lv_at hl 0 rfl) ?_
  refine lv_iload_n hx hb dX19_init_9 rfl (lv_at hl 1 rfl) ?_
  refine va_putF (D := Γ.1) (ci := 18) (v := .int x1) (ty := tyX19 6) (C := RX19) (T := TX19) (N := 7) hx hb hts in_X19 tyX19 tyX19_ok nmX19 hown hK.1 hP hD hS 0 rfl rfl 6 (by decide) (hts _ q1006) (fun _ h9 => h9) rfl hin rfl (tyX19_ok 6 (by decide)) rfl rfl (Nat.le_of_ble_eq_true rfl) dX19_init_10 (fun H locs hP hD hS => ?_)
  have hP : va_P Γ.1 clA ([(q, .inr (18, [.null, .null, .null, .null, .null, .int 0, .int x1]))]) H := hP
  have hD : va_D (rA q s.heap.size) ([(q, .inr (18, [.null, .null, .null, .null, .null, .int 0, .int x1]))]) := hD
  refine W.widen (k := 0) (n := 0) (Nat.le_of_ble_eq_true rfl) (Nat.le_of_ble_eq_true rfl) ?_
  exact r_vret hx hb hr hlk hP hD hS (rfl) dX19_init_13
