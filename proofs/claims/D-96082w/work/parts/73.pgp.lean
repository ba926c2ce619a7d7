/-! set, copy -/
theorem KsI {a o j : Nat} {v : Int32} {δ : XSh} {σ : XSt} : Ks a (fun i => i = o) δ σ δ (tI σ 11 o j v) := ⟨Ext.rf, fun k i _ _ h => ⟨tI_n _ _ _ (fun z => h ⟨z.1, z.2⟩), rfl, rfl⟩⟩
theorem KsIa {a o : Nat} {f : Nat → Int32} {δ : XSh} {σ : XSt} : Ks a (fun i => i = o) δ σ δ (tIa σ 11 o f) := ⟨Ext.rf, fun k i _ _ h => ⟨tIa_n _ _ (fun z => h ⟨z.1, z.2⟩), rfl, rfl⟩⟩
theorem tJ_s (σ : XSt) (k i j : Nat) (v : Int64) : (tJ σ k i j v).2.1 k i = vp_updL (σ.2.1 k i) j v := by simp [tJ]
theorem tJ_n (σ : XSt) {k i k' i' : Nat} (j : Nat) (v : Int64) (h : ¬ (k' = k ∧ i' = i)) : (tJ σ k i j v).2.1 k' i' = σ.2.1 k' i' := by
  show (if k' = k ∧ i' = i then _ else _) = _
  rw [if_neg h]
theorem tJa_s (σ : XSt) (k i : Nat) (f : Nat → Int64) : (tJa σ k i f).2.1 k i = f := by simp [tJa]
theorem tJa_n (σ : XSt) {k i k' i' : Nat} (f : Nat → Int64) (h : ¬ (k' = k ∧ i' = i)) : (tJa σ k i f).2.1 k' i' = σ.2.1 k' i' := by
  show (if k' = k ∧ i' = i then _ else _) = _
  rw [if_neg h]
theorem KsJ {a o j : Nat} {v : Int64} {δ : XSh} {σ : XSt} : Ks a (fun i => i = o) δ σ δ (tJ σ 11 o j v) := ⟨Ext.rf, fun k i _ _ h => ⟨rfl, tJ_n _ _ _ (fun z => h ⟨z.1, z.2⟩), rfl⟩⟩
theorem KsJa {a o : Nat} {f : Nat → Int64} {δ : XSh} {σ : XSt} : Ks a (fun i => i = o) δ σ δ (tJa σ 11 o f) := ⟨Ext.rf, fun k i _ _ h => ⟨rfl, tJa_n _ _ (fun z => h ⟨z.1, z.2⟩), rfl⟩⟩
/-- a row's elements are written -/
theorem RQ.els {G : Gd} {tr x w s o k n : Nat} {sh : Nat → Nat} {δ : XSh} {σ σ' : XSt} {σm u : MSt} (h : RQ G w tr sh δ σ σm x) (hs : s < 8) (ho : σ.2.2 5 (sh s) 0 = some o) (hr : HRr δ σ σm s o k n) (hk : Ks (sh s) (fun i => i = o) δ σ δ σ') (h5 : σ'.2.2 = σ.2.2) (u1 : u.1 = σm.1) (u2 : u.2.1 = σm.2.1) (u3 : ∀ j, (j < 160 * s ∨ 160 * s + 160 ≤ j) → u.2.2 18 j = σm.2.2 18 j) (hv : ∀ i, i < n → rv σ' k o i = u.2.2 18 (160 * s + i) ∧ rok σ' k o i) : RQ G w tr sh δ σ' u x := by
  obtain ⟨d1, d2, d3, d4, d5, d6, d7, d8, d9, d10⟩ := hr
  refine h.shs (R := fun i => i = o) hs (fun i z => ?_) hk ⟨fun _ _ => by rw [u1], fun _ _ => by rw [u2], fun _ _ _ _ => by rw [u2], u3⟩ (Or.inr (Or.inr ⟨o, k, n, by rw [h5]; exact ho, d1, d2, d3, d4, d5, d6, by rw [u2]; exact d7, by rw [u2]; exact d8, by rw [u2]; exact d9, hv⟩)) (fun s' hs' ne o' q1 q2 q3 => ?_)
  · rw [z]; exact ⟨ho, by rw [d3]; omega⟩
  · rw [h5] at q2
    exact ne (h.2.2.2.2.2.2 s' s o' hs' hs q1 q2 q3)
theorem i8_id (z : Int32) : z.toInt8.toInt32.toInt8.toInt32 = z.toInt8.toInt32 := by
  have := pk_vb z
  rw [vp_nar_byte] at this
  exact this
theorem i16_id (z : Int32) : z.toInt16.toInt32.toInt16.toInt32 = z.toInt16.toInt32 := by
  have := pk_vs z
  rw [vp_nar_short] at this
  exact this
theorem kq3 {k c : Nat} {y : Int32} (hk : k ≤ 3) (hc : c ≤ 3) (hy : y = nI c) : (nI k = y) = (k = c) := kq (by omega) (by omega) hy
theorem pl_set : Pl_set RL := by
  intro δ σ σm x h x1 x2 x3
  obtain ⟨G, w, tr, sh, h⟩ := h
  unfold xw_S_set xw_S_set_34
  refine xp_shelf h (fun c q δ1 σ1 hN => xp_refuse 1 (by decide) (by decide) h hN (fun σ2 hr => ?_)) (fun s hs e => ?_)
  · unfold mw_set
    exact mp_shelf_f c ⟨fun z => absurd rfl z, fun _ => mp_no 1 (by decide) (by decide) ⟨rfl, hr⟩⟩
  · subst e
    refine xp_row h hs (fun a q δ1 σ1 hN => xp_refuse 3 (by decide) (by decide) h hN (fun σ2 hr => ?_)) (fun a q δ1 σ1 hN => xp_refuse 2 (by decide) (by decide) h hN (fun σ2 hr => ?_)) (fun o k n a1 a2 => ?_)
    · unfold mw_set
      refine mp_shelf_t hs ⟨fun _ => ⟨pin hs, ?_⟩, fun z => absurd z (by decide)⟩
      rw [pcl hs, a]
      exact br_n (by decide) ⟨pin hs, br_y rfl (mp_no 3 (by decide) (by decide) ⟨rfl, hr⟩)⟩
    · unfold mw_set
      refine mp_shelf_t hs ⟨fun _ => ⟨pin hs, ?_⟩, fun z => absurd z (by decide)⟩
      rw [pcl hs, a]
      exact br_y rfl (mp_no 2 (by decide) (by decide) ⟨rfl, hr⟩)
    · have hr := a2
      obtain ⟨d1, d2, d3, d4, d5, d6, d7, d8, d9, d10⟩ := a2
      have bad : ¬ vp_in x2 n → ∀ q δ1 σ1, NewRe (-nI 5) δ σ q δ1 σ1 → xw_S_refused δ1 (fun r σ2 => mw_set (fun r2 u => r = r2 ∧ RL δ1 σ2 u x) (nI s) x2 x3 σm) x q σ1 := by
        intro c q δ1 σ1 hN
        refine xp_refuse 5 (by decide) (by decide) h hN (fun σ2 hr => ?_)
        unfold mw_set mw_set_61
        refine mp_shelf_t hs ⟨fun _ => ⟨pin hs, ?_⟩, fun z => absurd z (by decide)⟩
        rw [pcl hs, d7, d9]
        refine br_n (by decide) ⟨pin hs, br_n (by decide) ⟨fun _ => mp_no 5 (by decide) (by decide) ⟨rfl, hr⟩, fun a => ⟨pin hs, fun b => ?_, fun _ => mp_no 5 (by decide) (by decide) ⟨rfl, hr⟩⟩⟩⟩
        exfalso
        rcases pk_ix x2 (n := n) (by omega) with q | q | ⟨i, hi, e⟩
        · exact a q
        · exact absurd b (Int32.not_lt.mpr q)
        · exact c (by rw [e]; exact vp_in_nI hi (by omega))
      have good : ∀ i, i < n → x2 = nI i → ∀ (σ' : XSt) (v : Int64), v = (if k = 0 then x3.toInt32.toInt8.toInt32.toInt64 else if k = 1 then x3.toInt32.toInt16.toInt32.toInt64 else if k = 2 then x3.toInt32.toInt64 else x3) → Ks (sh s) (fun i => i = o) δ σ δ σ' → σ'.2.2 = σ.2.2 → (∀ i', rv σ' k o i' = if i' = i then v else rv σ k o i') → (∀ i', i' = i → rok σ' k o i') → (∀ i', i' ≠ i → rok σ k o i' → rok σ' k o i') → mw_set (fun r2 u => (1 : Int32) = r2 ∧ RL δ σ' u x) (nI s) x2 x3 σm := by
        rintro i hi rfl σ' v hv kk e5 h1 h2 h3
        obtain ⟨i1, i2, i3⟩ := ix160 hs hi d6
        have fin : ∀ v', v' = v → mw_set_129 (fun r2 u => (1 : Int32) = r2 ∧ RL δ σ' u x) v' (160 * nI s + nI i) σm := by
          rintro v' rfl
          unfold mw_set_129
          rw [i1, i3]
          refine ⟨i2, ?_⟩
          rintro σ2 rfl
          refine ⟨rfl, (h.els (u := sJ σm 18 (160 * s + i) v') hs a1 hr kk e5 rfl rfl (fun j hj => by rw [sJ_s, updL_e, if_neg (by omega)]) (fun i' hi' => ?_)).rl⟩
          rw [sJ_s, updL_e, h1 i']
          by_cases q : i' = i
          · rw [if_pos q, if_pos (by omega)]; exact ⟨rfl, h2 i' q⟩
          · rw [if_neg q, if_neg (by omega)]; exact ⟨(d10 i' hi').1, h3 i' q (d10 i' hi').2⟩
        unfold mw_set
        refine mp_shelf_t hs ⟨fun _ => ⟨pin hs, ?_⟩, fun z => absurd z (by decide)⟩
        rw [pcl hs, d7, d8, d9, kq3 d4 (show 0 ≤ 3 by decide) (show (0 : Int32) = nI 0 from rfl), kq3 d4 (show 1 ≤ 3 by decide) (show (1 : Int32) = nI 1 from rfl), kq3 d4 (show 2 ≤ 3 by decide) (show (2 : Int32) = nI 2 from rfl)]
        refine br_n (by decide) ⟨pin hs, br_n (by decide) (br_f (nI_pos (by omega)) ⟨pin hs, br_t (nI_lt hi (by omega)) ⟨pin hs, fun c0 => ⟨pin hs, fun c1 => ⟨pin hs, fun c2 => fin _ ?_, fun c2 => fin _ ?_⟩, fun c1 => fin _ ?_⟩, fun c0 => fin _ ?_⟩⟩)⟩
        · rw [hv, if_neg c0, if_neg c1, if_neg c2]
        · rw [hv, if_neg c0, if_neg c1, if_pos c2]
        · rw [hv, if_neg c0, if_pos c1]
        · rw [hv, if_pos c0]
      have key : ∀ (σ' : Nat → XSt), (∀ i, i < n → x2 = nI i → mw_set (fun r2 u => (1 : Int32) = r2 ∧ RL δ (σ' i) u x) (nI s) x2 x3 σm) → (vp_in x2 (δ.2.2.2 o) → ∀ σ2, σ2 = σ' x2.toNatClampNeg → mw_set (fun r2 u => (1 : Int32) = r2 ∧ RL δ σ2 u x) (nI s) x2 x3 σm) ∧ (¬ vp_in x2 (δ.2.2.2 o) → δ.2.2.2 o < 2147483648 ∧ ∀ _ : Nat, ∀ q δ1 σ1, NewRe (-5) δ σ q δ1 σ1 → xw_S_refused δ1 (fun r σ2 => mw_set (fun r2 u => r = r2 ∧ RL δ1 σ2 u x) (nI s) x2 x3 σm) x q σ1) := by
        intro σ' hg
        rw [d5]
        refine ⟨fun c => ?_, fun c => ⟨by omega, fun _ => bad c⟩⟩
        obtain ⟨i, hi, e⟩ := vp_in_of c (by omega)
        rintro σ2 rfl
        have e2 : x2.toNatClampNeg = i := by rw [e, nI_clamp (by omega)]
        rw [e2]
        exact hg i hi e
      have iI : ∀ (v : Int32) (i i' : Nat), (tI σ 11 o i v).1 11 o i' = if i' = i then v else σ.1 11 o i' := fun v i i' => by rw [tI_s, upd_e]
      unfold xv_R_put
      rw [d3]
      rcases c4 d4 with e | e | e | e <;> subst e
      · refine ⟨fun _ => ?_, fun z => absurd z (by decide), fun z => absurd z (by decide), fun z => absurd z (by decide)⟩
        unfold xw_By_put
        rw [pk_vb]
        refine key (fun i => tI σ 11 o i x3.toInt32.toInt8.toInt32) (fun i hi e => good i hi e _ _ rfl KsI rfl (fun i' => ?_) (fun i' q => ?_) (fun i' q r => ?_))
        · show ((tI σ 11 o i _).1 11 o i').toInt64 = if i' = i then x3.toInt32.toInt8.toInt32.toInt64 else (σ.1 11 o i').toInt64
          rw [iI]
          by_cases q : i' = i
          · rw [if_pos q, if_pos q]
          · rw [if_neg q, if_neg q]
        · unfold rok; rw [iI, if_pos q]; exact ⟨fun _ => i8_id _, fun z => absurd z (by decide)⟩
        · unfold rok at r ⊢; rw [iI, if_neg q]; exact r
      · refine ⟨fun z => absurd z (by decide), fun _ => ?_, fun z => absurd z (by decide), fun z => absurd z (by decide)⟩
        unfold xw_So_put
        rw [pk_vs]
        refine key (fun i => tI σ 11 o i x3.toInt32.toInt16.toInt32) (fun i hi e => good i hi e _ _ rfl KsI rfl (fun i' => ?_) (fun i' q => ?_) (fun i' q r => ?_))
        · show ((tI σ 11 o i _).1 11 o i').toInt64 = if i' = i then x3.toInt32.toInt16.toInt32.toInt64 else (σ.1 11 o i').toInt64
          rw [iI]
          by_cases q : i' = i
          · rw [if_pos q, if_pos q]
          · rw [if_neg q, if_neg q]
        · unfold rok; rw [iI, if_pos q]; exact ⟨fun z => absurd z (by decide), fun _ => i16_id _⟩
        · unfold rok at r ⊢; rw [iI, if_neg q]; exact r
      · refine ⟨fun z => absurd z (by decide), fun z => absurd z (by decide), fun _ => ?_, fun z => absurd z (by decide)⟩
        unfold xw_In_put
        refine key (fun i => tI σ 11 o i x3.toInt32) (fun i hi e => good i hi e _ _ rfl KsI rfl (fun i' => ?_) (fun i' q => ?_) (fun i' q r => ?_))
        · show ((tI σ 11 o i _).1 11 o i').toInt64 = if i' = i then x3.toInt32.toInt64 else (σ.1 11 o i').toInt64
          rw [iI]
          by_cases q : i' = i
          · rw [if_pos q, if_pos q]
          · rw [if_neg q, if_neg q]
        · exact ⟨fun z => absurd z (by decide), fun z => absurd z (by decide)⟩
        · exact ⟨fun z => absurd z (by decide), fun z => absurd z (by decide)⟩
      · refine ⟨fun z => absurd z (by decide), fun z => absurd z (by decide), fun z => absurd z (by decide), fun _ => ?_⟩
        unfold xw_Lo_put
        refine key (fun i => tJ σ 11 o i x3) (fun i hi e => good i hi e _ _ rfl KsJ rfl (fun i' => ?_) (fun i' q => ?_) (fun i' q r => ?_))
        · show (tJ σ 11 o i _).2.1 11 o i' = if i' = i then x3 else σ.2.1 11 o i'
          rw [tJ_s, updL_e]
        · exact ⟨fun z => absurd z (by decide), fun z => absurd z (by decide)⟩
        · exact ⟨fun z => absurd z (by decide), fun z => absurd z (by decide)⟩
theorem fit8 {v : Int32} (h : v.toInt8.toInt32 = v) : fits .byte (.int v) = true := by
  have e : v.toInt = v.toInt8.toInt := by
    have := congrArg Int32.toInt h
    rw [Int8.toInt_toInt32] at this
    exact this.symm
  have h1 : v.toInt8.toInt < 2 ^ 7 := BitVec.toInt_lt (x := v.toInt8.toBitVec)
  have h2 : -2 ^ 7 ≤ v.toInt8.toInt := BitVec.le_toInt (x := v.toInt8.toBitVec)
  have l1 : (-128 : Int32) ≤ v := by rw [Int32.le_iff_toInt_le]; have : (-128 : Int32).toInt = -128 := by decide
                                     omega
  have l2 : v ≤ (127 : Int32) := by rw [Int32.le_iff_toInt_le]; have : (127 : Int32).toInt = 127 := by decide
                                    omega
  simp [fits, l1, l2]
theorem fit16 {v : Int32} (h : v.toInt16.toInt32 = v) : fits .short (.int v) = true := by
  have e : v.toInt = v.toInt16.toInt := by
    have := congrArg Int32.toInt h
    rw [Int16.toInt_toInt32] at this
    exact this.symm
  have h1 : v.toInt16.toInt < 2 ^ 15 := BitVec.toInt_lt (x := v.toInt16.toBitVec)
  have h2 : -2 ^ 15 ≤ v.toInt16.toInt := BitVec.le_toInt (x := v.toInt16.toBitVec)
  have l1 : (-32768 : Int32) ≤ v := by rw [Int32.le_iff_toInt_le]; have : (-32768 : Int32).toInt = -32768 := by decide
                                       omega
  have l2 : v ≤ (32767 : Int32) := by rw [Int32.le_iff_toInt_le]; have : (32767 : Int32).toInt = 32767 := by decide
                                      omega
  simp [fits, l1, l2]
