/-! THE RELATION between the class's world and the model's -/
def rv (σ : XSt) (k o i : Nat) : Int64 := if k = 3 then σ.2.1 11 o i else (σ.1 11 o i).toInt64
def rok (σ : XSt) (k o i : Nat) : Prop := (k = 0 → (σ.1 11 o i).toInt8.toInt32 = σ.1 11 o i) ∧ (k = 1 → (σ.1 11 o i).toInt16.toInt32 = σ.1 11 o i)
/-- a row on a shelf -/
def HRr (δ : XSh) (σ : XSt) (σm : MSt) (s o k n : Nat) : Prop := (7, o) ∈ δ.1 ∧ (11, o) ∈ δ.1 ∧ δ.2.2.1 o = 12 + k ∧ k ≤ 3 ∧ δ.2.2.2 o = n ∧ n ≤ 160 ∧ σm.2.1 14 s = 1 ∧ σm.2.1 15 s = nI k ∧ σm.2.1 16 s = nI n ∧ ∀ i, i < n → rv σ k o i = σm.2.2 18 (160 * s + i) ∧ rok σ k o i
/-- what a shelf holds -/
def HR (G : Gd) (δ : XSh) (σ : XSt) (σm : MSt) (w a s : Nat) : Prop := (σ.2.2 5 a 0 = none ∧ σm.2.1 14 s = 0) ∨ (∃ o t, σ.2.2 5 a 0 = some o ∧ t < gN G ∧ σ.2.2 8 w t = some o ∧ σm.2.1 14 s = 2 ∧ σm.2.1 17 s = nI t) ∨ (∃ o k n, σ.2.2 5 a 0 = some o ∧ HRr δ σ σm s o k n)
/-- a ground's own cells are there -/
def gI (δ : XSh) (g : Nat) : Prop := (6, g) ∈ δ.1 ∧ (8, g) ∈ δ.1 ∧ (9, g) ∈ δ.1 ∧ (10, g) ∈ δ.1
/-- a ground kept in the model's array -/
def RK (G : Gd) (f : Nat → Int32) : Prop := f 56 = nI (gN G) ∧ f 57 = gF G 0 ∧ f 58 = gF G 1 ∧ f 59 = gF G 2 ∧ f 60 = gF G 3 ∧ ∀ i, i < gN G → f i = nI (gK G i) ∧ f (8 + i) = gV G 1 i ∧ f (16 + i) = gV G 2 i ∧ f (24 + i) = gV G 4 i ∧ f (32 + i) = gV G 3 i ∧ f (40 + i) = bI (gC G i) ∧ f (48 + i) = bm (gS G i) (gN G)
def IM (δ : XSh) (σ : XSt) (σm : MSt) (x w tr : Nat) : Prop := (σ.2.2 0 x 5 = none ∧ σm.1 37 = 0) ∨ ∃ (im : Nat) (GI : Gd), σ.2.2 0 x 5 = some im ∧ im ≠ tr ∧ im ≠ w ∧ gI δ im ∧ gW GI ∧ RC GI δ σ im ∧ ¬ σm.1 37 = 0 ∧ RK GI (σm.2.1 28)
def RX (δ : XSh) (σ : XSt) (σm : MSt) (x w tr : Nat) : Prop := ((0, x) ∈ δ.1 ∧ (1, x) ∈ δ.1 ∧ (2, x) ∈ δ.1 ∧ (3, x) ∈ δ.1 ∧ (4, x) ∈ δ.1) ∧ gI δ w ∧ gI δ tr ∧ tr ≠ w ∧ σ.2.2 0 x 3 = some tr ∧ σ.2.2 0 x 4 = some w ∧ (∀ i, 1 ≤ i → i ≤ 7 → σ.1 2 x i = σm.2.1 6 i) ∧ σ.1 0 x 6 = σm.1 5 ∧ (∃ n, n ≤ 20 ∧ σ.1 3 x 1 = nI n ∧ σm.1 36 = nI n) ∧ (∀ i, i < 20 → σ.1 4 x i = σm.2.1 35 i) ∧ (∀ i, i < 32 → σm.2.1 20 i = wordsM i) ∧ IM δ σ σm x w tr
def RSh (G : Gd) (δ : XSh) (σ : XSt) (σm : MSt) (x w : Nat) (sh : Nat → Nat) : Prop := (∀ s, s < 8 → σ.2.2 1 x s = some (sh s) ∧ (5, sh s) ∈ δ.1 ∧ HR G δ σ σm w (sh s) s) ∧ (∀ s s', s < 8 → s' < 8 → sh s = sh s' → s = s') ∧ ∀ s s' o, s < 8 → s' < 8 → σ.2.2 5 (sh s) 0 = some o → σ.2.2 5 (sh s') 0 = some o → 12 ≤ δ.2.2.1 o → s = s'
def RQ (G : Gd) (w tr : Nat) (sh : Nat → Nat) (δ : XSh) (σ : XSt) (σm : MSt) (x : Nat) : Prop := gW G ∧ RM G σm ∧ RC G δ σ w ∧ RX δ σ σm x w tr ∧ RSh G δ σ σm x w sh
def RL (δ : XSh) (σ : XSt) (σm : MSt) (x : Nat) : Prop := ∃ (G : Gd) (w tr : Nat) (sh : Nat → Nat), RQ G w tr sh δ σ σm x
/-- all is kept but the ground that is tried -/
def isG (k : Nat) : Prop := k = 6 ∨ k = 8 ∨ k = 9 ∨ k = 10
def Kp (tr : Nat) (δ : XSh) (σ : XSt) (δ1 : XSh) (σ1 : XSt) : Prop := Ext δ δ1 ∧ ∀ k i, (k, i) ∈ δ.1 → ¬ (i = tr ∧ isG k) → σ1.1 k i = σ.1 k i ∧ σ1.2.1 k i = σ.2.1 k i ∧ σ1.2.2 k i = σ.2.2 k i
theorem Agr.kp {tr : Nat} {δ δ1 : XSh} {σ σ1 : XSt} (h : Agr δ σ δ1 σ1) : Kp tr δ σ δ1 σ1 := ⟨h.1, fun k i hk _ => h.2 (k, i) hk⟩
theorem Kp.rf {tr : Nat} {δ : XSh} {σ : XSt} : Kp tr δ σ δ σ := ⟨Ext.rf, fun _ _ _ _ => ⟨rfl, rfl, rfl⟩⟩
theorem Kp.tr {tr : Nat} {a b c : XSh} {x y z : XSt} (h : Kp tr a x b y) (g : Kp tr b y c z) : Kp tr a x c z := ⟨h.1.tr g.1, fun k i hk hn => by
  obtain ⟨a1, a2, a3⟩ := h.2 k i hk hn
  obtain ⟨b1, b2, b3⟩ := g.2 k i (h.1.m hk) hn
  exact ⟨b1.trans a1, b2.trans a2, b3.trans a3⟩⟩
theorem gI.m {δ δ1 : XSh} {g : Nat} (hE : Ext δ δ1) (h : gI δ g) : gI δ1 g := ⟨hE.m h.1, hE.m h.2.1, hE.m h.2.2.1, hE.m h.2.2.2⟩
theorem n7 {k i tr : Nat} (h : k ≠ 6 ∧ k ≠ 8 ∧ k ≠ 9 ∧ k ≠ 10) : ¬ (i = tr ∧ isG k) := by
  rintro ⟨-, h2⟩
  unfold isG at h2
  omega
/-- what a ground holds is kept -/
theorem RC.kp {G : Gd} {tr g : Nat} {δ δ1 : XSh} {σ σ1 : XSt} (h : RC G δ σ g) (hi : gI δ g) (hg : g ≠ tr) (hk : Kp tr δ σ δ1 σ1) : RC G δ1 σ1 g := by
  obtain ⟨h0, h1, h2, h3, h4, h5, h6⟩ := h
  have e6 := (hk.2 6 g hi.1 (fun z => hg z.1)).1
  have e8 := (hk.2 8 g hi.2.1 (fun z => hg z.1)).2.2
  have e9 := (hk.2 9 g hi.2.2.1 (fun z => hg z.1)).1
  have e10 := (hk.2 10 g hi.2.2.2 (fun z => hg z.1)).1
  unfold RC
  rw [e6, e8, e9, e10]
  refine ⟨h0, h1, h2, h3, h4, h5, fun i hi => ?_⟩
  obtain ⟨a1, a2, o, a3, a4, a5, a6⟩ := h6 i hi
  refine ⟨a1, a2, o, a3, hk.1.m a4, hk.1.eq a4 a5, ?_⟩
  rw [(hk.2 7 o a4 (n7 (by decide))).1]
  exact a6
theorem IM.kp {tr x w : Nat} {δ δ1 : XSh} {σ σ1 : XSt} {σm : MSt} (h : IM δ σ σm x w tr) (h0 : (0, x) ∈ δ.1) (hk : Kp tr δ σ δ1 σ1) : IM δ1 σ1 σm x w tr := by
  have e0 := (hk.2 0 x h0 (n7 (by decide))).2.2
  unfold IM
  rw [e0]
  rcases h with h | ⟨im, GI, a1, a2, a3, a4, a5, a6, a7⟩
  · exact Or.inl h
  · exact Or.inr ⟨im, GI, a1, a2, a3, a4.m hk.1, a5, a6.kp a4 a2 hk, a7⟩
theorem RX.kp {tr x w : Nat} {δ δ1 : XSh} {σ σ1 : XSt} {σm : MSt} (h : RX δ σ σm x w tr) (hk : Kp tr δ σ δ1 σ1) : RX δ1 σ1 σm x w tr := by
  obtain ⟨⟨m0, m1, m2, m3, m4⟩, b1, b2, b3, b4, b5, b6, b7, b8, b9, b10, b11⟩ := h
  have e0 := hk.2 0 x m0 (n7 (by decide))
  have e2 := hk.2 2 x m2 (n7 (by decide))
  have e3 := hk.2 3 x m3 (n7 (by decide))
  have e4 := hk.2 4 x m4 (n7 (by decide))
  refine ⟨⟨hk.1.m m0, hk.1.m m1, hk.1.m m2, hk.1.m m3, hk.1.m m4⟩, b1.m hk.1, b2.m hk.1, b3, ?_, ?_, ?_, ?_, ?_, ?_, b10, b11.kp m0 hk⟩
  · rw [e0.2.2]; exact b4
  · rw [e0.2.2]; exact b5
  · rw [e2.1]; exact b6
  · rw [e0.1]; exact b7
  · rw [e3.1]; exact b8
  · rw [e4.1]; exact b9
theorem HRr.kp {tr s o k n : Nat} {δ δ1 : XSh} {σ σ1 : XSt} {σm : MSt} (h : HRr δ σ σm s o k n) (hk : Kp tr δ σ δ1 σ1) : HRr δ1 σ1 σm s o k n := by
  obtain ⟨a1, a2, a3, a4, a5, a6, a7, a8, a9, a10⟩ := h
  have e := hk.2 11 o a2 (n7 (by decide))
  refine ⟨hk.1.m a1, hk.1.m a2, hk.1.eq a1 a3, a4, ?_, a6, a7, a8, a9, fun i hi => ?_⟩
  · rw [(hk.1.2 o a1).2]; exact a5
  · unfold rv rok
    rw [e.1, e.2.1]
    exact a10 i hi
theorem HR.kp {G : Gd} {tr w a s : Nat} {δ δ1 : XSh} {σ σ1 : XSt} {σm : MSt} (h : HR G δ σ σm w a s) (ha : (5, a) ∈ δ.1) (hw : gI δ w) (hn : w ≠ tr) (hk : Kp tr δ σ δ1 σ1) : HR G δ1 σ1 σm w a s := by
  have e5 := (hk.2 5 a ha (n7 (by decide))).2.2
  have e8 := (hk.2 8 w hw.2.1 (fun z => hn z.1)).2.2
  unfold HR
  rw [e5, e8]
  rcases h with h | h | ⟨o, k, n, a1, a2⟩
  · exact Or.inl h
  · exact Or.inr (Or.inl h)
  · exact Or.inr (Or.inr ⟨o, k, n, a1, a2.kp hk⟩)
theorem HR.role {G : Gd} {w a s o : Nat} {δ : XSh} {σ : XSt} {σm : MSt} (h : HR G δ σ σm w a s) (hC : RC G δ σ w) (ho : σ.2.2 5 a 0 = some o) : (7, o) ∈ δ.1 := by
  rcases h with h | ⟨o', t, a1, a2, a3, -⟩ | ⟨o', k, n, a1, a2⟩
  · rw [h.1] at ho; cases ho
  · rw [a1] at ho
    cases ho
    obtain ⟨-, -, o2, z1, z2, -⟩ := hC.2.2.2.2.2.2 t a2
    rw [a3] at z1
    cases z1
    exact z2
  · rw [a1] at ho
    cases ho
    exact a2.1
theorem RSh.kp {G : Gd} {tr x w : Nat} {sh : Nat → Nat} {δ δ1 : XSh} {σ σ1 : XSt} {σm : MSt} (h : RSh G δ σ σm x w sh) (hC : RC G δ σ w) (h1 : (1, x) ∈ δ.1) (hw : gI δ w) (hn : w ≠ tr) (hk : Kp tr δ σ δ1 σ1) : RSh G δ1 σ1 σm x w sh := by
  obtain ⟨a1, a2, a3⟩ := h
  have e1 := (hk.2 1 x h1 (n7 (by decide))).2.2
  refine ⟨fun s hs => ?_, a2, fun s s' o hs hs' => ?_⟩
  · rw [e1]
    exact ⟨(a1 s hs).1, hk.1.m (a1 s hs).2.1, (a1 s hs).2.2.kp (a1 s hs).2.1 hw hn hk⟩
  · rw [(hk.2 5 (sh s) (a1 s hs).2.1 (n7 (by decide))).2.2, (hk.2 5 (sh s') (a1 s' hs').2.1 (n7 (by decide))).2.2]
    intro q1 q2 q3
    have hr := (a1 s hs).2.2.role hC q1
    rw [(hk.1.2 o hr).1] at q3
    exact a3 s s' o hs hs' q1 q2 q3
theorem RQ.kp {G : Gd} {tr x w : Nat} {sh : Nat → Nat} {δ δ1 : XSh} {σ σ1 : XSt} {σm : MSt} (h : RQ G w tr sh δ σ σm x) (hk : Kp tr δ σ δ1 σ1) : RQ G w tr sh δ1 σ1 σm x := by
  obtain ⟨h1, h2, h3, h4, h5⟩ := h
  have hw := h4.2.1
  have hn : w ≠ tr := fun e => h4.2.2.2.1 e.symm
  exact ⟨h1, h2, h3.kp hw hn hk, h4.kp hk, h5.kp h3 h4.1.2.1 hw hn hk⟩
/-- the model's own scratch: nothing that is told of has changed -/
def Ms (σm σm' : MSt) : Prop := (∀ k, k ≤ 5 ∨ k = 36 ∨ k = 37 → σm'.1 k = σm.1 k) ∧ (∀ a, (6 ≤ a ∧ a ≤ 17) ∨ a = 20 ∨ a = 28 ∨ a = 35 → σm'.2.1 a = σm.2.1 a) ∧ σm'.2.2 18 = σm.2.2 18
theorem Ms.rf {σm : MSt} : Ms σm σm := ⟨fun _ _ => rfl, fun _ _ => rfl, rfl⟩
theorem Ms.tr {a b c : MSt} (h : Ms a b) (g : Ms b c) : Ms a c := ⟨fun k hk => (g.1 k hk).trans (h.1 k hk), fun k hk => (g.2.1 k hk).trans (h.2.1 k hk), g.2.2.trans h.2.2⟩
theorem RM.ms {G : Gd} {σm σm' : MSt} (h : RM G σm) (hs : Ms σm σm') : RM G σm' := by
  unfold RM
  rw [hs.1 0 (by decide), hs.1 1 (by decide), hs.1 2 (by decide), hs.1 3 (by decide), hs.1 4 (by decide), hs.2.1 7 (by decide), hs.2.1 8 (by decide), hs.2.1 9 (by decide), hs.2.1 10 (by decide), hs.2.1 11 (by decide), hs.2.1 12 (by decide), hs.2.1 13 (by decide)]
  exact h
theorem RQ.ms {G : Gd} {tr x w : Nat} {sh : Nat → Nat} {δ : XSh} {σ : XSt} {σm σm' : MSt} (h : RQ G w tr sh δ σ σm x) (hs : Ms σm σm') : RQ G w tr sh δ σ σm' x := by
  obtain ⟨h1, h2, h3, h4, h5⟩ := h
  refine ⟨h1, h2.ms hs, h3, ?_, ?_⟩
  · unfold RX IM at h4 ⊢
    rw [hs.1 5 (by decide), hs.1 36 (by decide), hs.1 37 (by decide), hs.2.1 6 (by decide), hs.2.1 35 (by decide), hs.2.1 20 (by decide), hs.2.1 28 (by decide)]
    exact h4
  · unfold RSh HR HRr at h5 ⊢
    rw [hs.2.1 14 (by decide), hs.2.1 15 (by decide), hs.2.1 16 (by decide), hs.2.1 17 (by decide), hs.2.2]
    exact h5
/-! refusals -/
theorem u_ne {f : Nat → Int32} {k j : Nat} {v : Int32} (h : j ≠ k) : upd f k v j = f j := pk_un h
theorem RQ.ref {G : Gd} {tr x w k : Nat} {sh : Nat → Nat} {δ : XSh} {σ : XSt} {σm : MSt} (h : RQ G w tr sh δ σ σm x) (k1 : 1 ≤ k) (k7 : k ≤ 7) : RQ G w tr sh δ (tI σ 2 x k (σ.1 2 x k + 1)) (sI σm 6 k (σm.2.1 6 k + 1)) x := by
  obtain ⟨h1, h2, h3, h4, h5⟩ := h
  have e : σ.1 2 x k = σm.2.1 6 k := h4.2.2.2.2.2.2.1 k k1 k7
  refine ⟨h1, h2, h3, ?_, h5⟩
  obtain ⟨b0, b1, b2, b3, b4, b5, b6, b7⟩ := h4
  refine ⟨b0, b1, b2, b3, b4, b5, fun i i1 i7 => ?_, b7⟩
  have e1 : (tI σ 2 x k (σ.1 2 x k + 1)).1 2 x = upd (σ.1 2 x) k (σ.1 2 x k + 1) := by simp [tI]
  have e2 : (sI σm 6 k (σm.2.1 6 k + 1)).2.1 6 = upd (σm.2.1 6) k (σm.2.1 6 k + 1) := by simp [sI, va_up]
  rw [e1, e2]
  by_cases q : i = k
  · subst q; rw [pk_us, pk_us, e]
  · rw [u_ne q, u_ne q]; exact b6 i i1 i7
theorem ng8 : ∀ k, 1 ≤ k → k ≤ 7 → vp_in (- (-nI k)) 8 ∧ (- (-nI k)).toNatClampNeg = k := by
  intro k h1 h2
  have : - (-nI k) = nI k := Int32.neg_neg
  rw [this]
  exact ⟨pin (by omega), pcl (by omega)⟩
theorem xp_refuse {G : Gd} {tr x w q : Nat} {sh : Nat → Nat} {δ δ1 : XSh} {σ σ1 : XSt} {σm : MSt} {K : Int32 → XSt → Prop} (k : Nat) (k1 : 1 ≤ k) (k7 : k ≤ 7) (h : RQ G w tr sh δ σ σm x) (hN : NewRe (-nI k) δ σ q δ1 σ1) (hK : ∀ σ2, RL δ1 σ2 (sI σm 6 k (σm.2.1 6 k + 1)) x → K (-nI k) σ2) : xw_S_refused δ1 K x q σ1 := by
  obtain ⟨hA, -, -, hw⟩ := hN
  unfold xw_S_refused
  obtain ⟨n1, n2⟩ := ng8 k k1 k7
  rw [hw, n2]
  refine ⟨n1, n1, ?_⟩
  rintro σ3 rfl
  have e : (tI σ1 2 x k (σ1.1 2 x k + 1)).1 13 q 6 = -nI k := by
    rw [← hw]; simp [tI]
  rw [e]
  exact hK _ ⟨G, w, tr, sh, (h.kp hA.kp).ref k1 k7⟩
theorem mp_no {σm : MSt} {K : Int32 → MSt → Prop} (k : Nat) (k1 : 1 ≤ k) (k7 : k ≤ 7) (hK : K (-nI k) (sI σm 6 k (σm.2.1 6 k + 1))) : mw_no K (-nI k) σm := by
  unfold mw_no
  obtain ⟨n1, n2⟩ := ng8 k k1 k7
  rw [n2]
  refine ⟨n1, n1, ?_⟩
  rintro σ3 rfl
  exact hK
theorem mp_noTen {σm : MSt} {K : Int32 → MSt → Prop} (k : Nat) (k1 : 1 ≤ k) (k7 : k ≤ 7) (hK : K (-nI k - 10) (sI σm 6 k (σm.2.1 6 k + 1))) : mw_noTen K (-nI k) σm := by
  unfold mw_noTen
  obtain ⟨n1, n2⟩ := ng8 k k1 k7
  rw [n2]
  refine ⟨n1, n1, ?_⟩
  rintro σ3 rfl
  exact hK
theorem mp_noMuch {σm : MSt} {K : Int32 → MSt → Prop} (k : Nat) (k1 : 1 ≤ k) (k7 : k ≤ 7) (hK : K (-nI k - 1000) (sI σm 6 k (σm.2.1 6 k + 1))) : mw_noMuch K (-nI k) σm := by
  unfold mw_noMuch
  obtain ⟨n1, n2⟩ := ng8 k k1 k7
  rw [n2]
  refine ⟨n1, n1, ?_⟩
  rintro σ3 rfl
  exact hK
