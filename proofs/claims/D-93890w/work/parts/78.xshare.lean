/-! X: wants shared (printed by gen/mk_x78.py) -/
set_option maxRecDepth 100000
abbrev WW2 (σ : cS) : Nat := Int32.toNatClampNeg (σ 2 0)
abbrev tW (σ : cS) (w : Nat) : Nat := Int32.toNatClampNeg (σ 19 w)
/-- the Seeker with its rows found -/
def SG (M : PM) (a wa : Nat) (σ : cS) (k : Nat) : Prop := skP M a ∧ WX M wa σ ∧ (∀ w, w < k → (σ 14 (tW σ w)).toInt ≤ (σ 20 w).toInt → ∀ s, s < 2 ^ ppN σ → mI M (a + (2 + w)) s = endF σ (tW σ w) (σ 20 w) s) ∧ (a + 10 ≤ M.1 ∧ ∀ o, o < 10 → ¬ inW wa (a + o))
def gvP (a : Nat) : Nat → Prop := fun q => q = a ∨ q = a + 7 ∨ q = a + 8 ∨ q = a + 9
def gvR (M : PM) (a : Nat) (σ : cS) (m : Nat) (g : Nat → Int32) (st : Nat → Nat) (B : BT) : Prop := (∀ w, w < WW2 σ → mI M (a + 9) w = nI (st w)) ∧ (∀ i, i < m → mI M (a + 7) i = g i) ∧ mI M a 4 = B.1 ∧ (¬ B.1 = -1 → ∀ i, i < ppN σ → mI M (a + 8) i = B.2 i)
theorem skP.nP {M : PM} {a q c : Nat} (h : skP M a) (hK : mK M q = (1, 12 + c)) : ¬ gvP a q ∧ ∀ j, j < 5 → q ≠ a + (2 + j) := by
  obtain ⟨h1, -, -, h4, h5, h6, h7⟩ := h
  refine ⟨?_, fun j hj e => ?_⟩
  · rintro (e | e | e | e) <;> rw [e] at hK
    · rw [h1] at hK; have := (Prod.mk.inj hK).2; omega
    · rw [h5.1] at hK; exact absurd (Prod.mk.inj hK).1 (by decide)
    · rw [h6.1] at hK; exact absurd (Prod.mk.inj hK).1 (by decide)
    · rw [h7.1] at hK; exact absurd (Prod.mk.inj hK).1 (by decide)
  · rw [e, (h4 j hj).2.1] at hK; exact absurd (Prod.mk.inj hK).1 (by decide)
/-- the Seeker's shape, when its references stay -/
theorem skP.fr {M M' : PM} {a : Nat} {P : Nat → Prop} (h : skP M a) (f : frP P M M') (hl : a + 10 ≤ M.1) (h0 : mR M' a = mR M a) (h1 : ¬ P (a + 1)) : skP M' a := by
  obtain ⟨k1, k2, k3, k4, k5, k6, k7⟩ := h
  have K : ∀ o, o < 10 → mK M' (a + o) = mK M (a + o) ∧ mZ M' (a + o) = mZ M (a + o) := fun o ho => ⟨(f.2 _ (by omega)).1, (f.2 _ (by omega)).2.1⟩
  have r1 : mR M' (a + 1) = mR M (a + 1) := ((f.2 (a + 1) (by omega)).2.2 h1).2.2
  refine ⟨(K 0 (by decide)).1.trans k1, by rw [h0]; exact k2, ⟨(K 1 (by decide)).1.trans k3.1, (K 1 (by decide)).2.trans k3.2⟩, fun j hj => ?_, ⟨(K 7 (by decide)).1.trans k5.1, (K 7 (by decide)).2.trans k5.2⟩, ⟨(K 8 (by decide)).1.trans k6.1, (K 8 (by decide)).2.trans k6.2⟩, ⟨(K 9 (by decide)).1.trans k7.1, (K 9 (by decide)).2.trans k7.2⟩⟩
  obtain ⟨a1, a2, a3⟩ := k4 j hj
  exact ⟨by rw [r1]; exact a1, (K (2 + j) (by omega)).1.trans a2, (K (2 + j) (by omega)).2.trans a3⟩
theorem SG.fr {M M' : PM} {a wa k : Nat} {σ : cS} (h : SG M a wa σ k) (hk : k ≤ 4) (f : frP (gvP a) M M') (h0 : mR M' a = mR M a) : SG M' a wa σ k := by
  obtain ⟨k1, k2, k3, k4, k5⟩ := h
  refine ⟨k1.fr f k4 h0 (fun hp => by rcases hp with e | e | e | e <;> omega), k2.fr f (fun q hq hp => ?_) (fun q c hK hp => (k1.nP hK).1 hp), fun w hw hl s hs => ?_, Nat.le_trans k4 f.1, k5⟩
  · rcases hp with e | e | e | e <;> rw [e] at hq
    · exact k5 0 (by decide) hq
    · exact k5 7 (by decide) hq
    · exact k5 8 (by decide) hq
    · exact k5 9 (by decide) hq
  · rw [((f.2 (a + (2 + w)) (by omega)).2.2 (fun hp => by rcases hp with e | e | e | e <;> omega)).1]
    exact k3 w hw hl s hs
/-- a want is met, as X sees it -/
theorem met_x {σ : cS} (h : OkW σ) {w : Nat} (hw : w < WW2 σ) {st : Nat → Nat} : (¬ σ 20 w < σ 14 (tW σ w) ∧ endF σ (tW σ w) (σ 20 w) (st w) = σ 20 w) ↔ metP σ st w := by
  obtain ⟨⟨t1, t2⟩, hp, -⟩ := h.2.2.2.2 w hw
  have ht : tW σ w < Int32.toNatClampNeg (σ 0 0) := by
    have a1 := ix_toInt t1
    have a2 := ix_toInt h.1.1.1
    show Int32.toNatClampNeg (σ 19 w) < Int32.toNatClampNeg (σ 0 0)
    omega
  unfold metP
  rw [show Int32.toNatClampNeg (σ 19 w) = tW σ w from rfl, i_lt]
  constructor
  · rintro ⟨a, b⟩
    by_cases c : σ 14 (tW σ w) = σ 20 w
    · exact Or.inl c
    · refine Or.inr ⟨i_lt.mpr ?_, b⟩
      have : (σ 14 (tW σ w)).toInt ≠ (σ 20 w).toInt := fun q => c (i_eq.mpr q)
      omega
  · rintro (a | ⟨a, b⟩)
    · have hl : (σ 14 (tW σ w)).toInt ≤ (σ 20 w).toInt := Int.le_of_eq (by rw [show σ 14 (tW σ w) = σ 20 w from a])
      refine ⟨by omega, ?_⟩
      obtain ⟨hon, h99⟩ := on_p h ht hp hl
      have e := end_on (fr := fun m => farS σ m (tW σ w)) (n := ppN σ) hon h99 hp.2.2 (h.frs ht) (st w)
      rw [i_eq]
      have e1 := e.1.2.1
      have e2 := e.2
      rw [show σ 14 (tW σ w) = σ 20 w from a] at e1 e2
      show (endC (σ 4 0) (σ 5 0) (σ 20 w) (fun m => farS σ m (tW σ w)) (σ 14 (tW σ w)) (ppN σ) (st w)).toInt = _
      rw [show σ 14 (tW σ w) = σ 20 w from a]
      omega
    · rw [i_lt] at a
      exact ⟨by omega, b⟩
theorem ct_X2_isMet {M : PM} {a wa w : Nat} {σ : cS} (h : SG M a wa σ (WW2 σ)) (hS : OkW σ) (hw : w < WW2 σ) {st : Nat → Nat} (hs : mI M (a + 9) w = nI (st w)) (hs2 : st w < 2 ^ ppN σ) : Ct (YX2_isMet, (0, 0, 0, 0), qi (fun r M' => r = bI (metP σ st w) ∧ M' = M), noX) [.ref a, .ref wa, .int (nI w)] M := by
  refine ct_of [some (.ref a), some (.ref wa), some (.int (nI w)), none] rfl rfl rfl (Nat.le_of_ble_eq_true rfl) rfl rfl ?_
  have hB := hS.t
  have hw9 := h.2.1
  have hk := h.1
  obtain ⟨W1, hW1, eW⟩ := bd_nI (n := 4) hB.1.2.2
  have nW : WW2 σ = W1 := by show Int32.toNatClampNeg (σ 2 0) = W1; rw [eW]; exact ix_nI (by omega)
  have ixw : Int32.toNatClampNeg (nI w) = w := ix_nI (by omega)
  have hwn : wnP σ (nI w) := ⟨nn_nI (by omega), by rw [eW, ltI (by omega) (by omega)]; omega⟩
  have hp8 : 2 ^ ppN σ ≤ 256 := pow8 (by have := ix_toInt hB.1.2.1.1; have := hB.1.2.1.2; show Int32.toNatClampNeg (σ 1 0) ≤ 8; omega)
  refine r_aload_n (pc := 0) dX2_isMet_0 rfl ?_
  refine r_getR (pc := 1) dX2_isMet_1 fl_X2_54_3 hw9.k (fun _ _ => rfl) hw9.r10 ?_
  refine r_aload_n (pc := 4) dX2_isMet_4 rfl ?_
  refine r_getR (pc := 5) dX2_isMet_5 fl_X2_51_3 hw9.k (fun _ _ => rfl) hw9.r15 ?_
  refine r_iload_n (pc := 8) dX2_isMet_8 rfl ?_
  refine r_ialdv (pc := 9) (v := σ 19 w) dX2_isMet_9 hw9.k15 hw9.z15 (hB.vw hwn) (by have h5 := hw9.a19 hwn; rw [ixw] at h5 ⊢; exact h5) ?_
  refine r_ialdv (pc := 10) (v := σ 14 (tW σ w)) dX2_isMet_10 hw9.k10 hw9.z10 (hB.vt (by have h5 := hS.wt hwn; rw [ixw] at h5; exact h5)) (by have h5 := hw9.a14 (hS.wt hwn); rw [ixw] at h5; exact h5) ?_
  refine r_istore3 (pc := 11) dX2_isMet_11 rfl ?_
  refine r_iload_n (pc := 12) dX2_isMet_12 rfl ?_
  refine r_aload_n (pc := 13) dX2_isMet_13 rfl ?_
  refine r_getR (pc := 14) dX2_isMet_14 fl_X2_57_3 hw9.k (fun _ _ => rfl) hw9.r16 ?_
  refine r_iload_n (pc := 17) dX2_isMet_17 rfl ?_
  refine r_ialdv (pc := 18) (v := σ 20 w) dX2_isMet_18 hw9.k16 hw9.z16 (hB.vw hwn) (by have h5 := hw9.a20 hwn; rw [ixw] at h5 ⊢; exact h5) ?_
  refine r_icmp_gt (pc := 19) 48 dX2_isMet_19 rfl (fun h19 => ?_) (fun h19 => ?_)
  · refine r_iconst (pc := 48) (v := 0) dX2_isMet_48 (by decide) ?_
    refine r_zreturn (pc := 49) rfl rfl dX2_isMet_49 ⟨_, rfl, ?_⟩
    exact ⟨bI_f' (fun q => by first | exact ((met_x hS hw).mpr q).1 h19 | exact h41 ((met_x hS hw).mpr q).2), rfl⟩
  · refine r_aload_n (pc := 22) dX2_isMet_22 rfl ?_
    refine r_getR (pc := 23) dX2_isMet_23 fl_X2_11_2 hk.1 (fun _ _ => rfl) hk.2.1.1 ?_
    refine r_iload_n (pc := 26) dX2_isMet_26 rfl ?_
    refine r_aaldR (pc := 27) dX2_isMet_27 hk.2.2.1.1 rfl hk.2.2.1.2 (vp_in_nI (by omega) (by decide)) (by rw [ixw]; exact (hk.2.2.2.1 w (by omega)).1) ?_
    refine r_aload_n (pc := 28) dX2_isMet_28 rfl ?_
    refine r_getR (pc := 29) dX2_isMet_29 fl_X2_23_2 hk.1 (fun _ _ => rfl) hk.2.1.2.2.2 ?_
    refine r_iload_n (pc := 32) dX2_isMet_32 rfl ?_
    refine r_ialdv (pc := 33) (v := nI (st w)) dX2_isMet_33 hk.2.2.2.2.2.2.1 hk.2.2.2.2.2.2.2 (vp_in_nI (by omega) (by decide)) (by rw [ixw]; exact hs) ?_
    refine r_ialdv (pc := 34) (v := endF σ (tW σ w) (σ 20 w) (st w)) dX2_isMet_34 (hk.2.2.2.1 w (by omega)).2.1 (hk.2.2.2.1 w (by omega)).2.2 (vp_in_nI (by omega) (by decide)) (by rw [ix_nI (by omega)]; exact h.2.2.1 w hw (by rw [i_lt] at h19; omega) _ hs2) ?_
    refine r_aload_n (pc := 35) dX2_isMet_35 rfl ?_
    refine r_getR (pc := 36) dX2_isMet_36 fl_X2_57_3 hw9.k (fun _ _ => rfl) hw9.r16 ?_
    refine r_iload_n (pc := 39) dX2_isMet_39 rfl ?_
    refine r_ialdv (pc := 40) (v := σ 20 w) dX2_isMet_40 hw9.k16 hw9.z16 (hB.vw hwn) (by have h5 := hw9.a20 hwn; rw [ixw] at h5 ⊢; exact h5) ?_
    refine r_icmp_ne (pc := 41) 48 dX2_isMet_41 rfl (fun h41 => ?_) (fun h41 => ?_)
    · refine r_iconst (pc := 48) (v := 0) dX2_isMet_48 (by decide) ?_
      refine r_zreturn (pc := 49) rfl rfl dX2_isMet_49 ⟨_, rfl, ?_⟩
      exact ⟨bI_f' (fun q => by first | exact ((met_x hS hw).mpr q).1 h19 | exact h41 ((met_x hS hw).mpr q).2), rfl⟩
    · refine r_iconst (pc := 44) (v := 1) dX2_isMet_44 (by decide) ?_
      refine r_goto (pc := 45) 49 dX2_isMet_45 rfl ?_
      refine r_zreturn (pc := 49) rfl rfl dX2_isMet_49 ⟨_, rfl, ?_⟩
      exact ⟨bI_t' ((met_x hS hw).mp ⟨h19, h41⟩), rfl⟩
theorem vup_lt {st : Nat → Nat} {j x b w : Nat} (h1 : x < b) (h2 : st w < b) : va_up st j x w < b := by
  by_cases e : w = j
  · rw [e, va_up_self]; exact h1
  · rw [va_up_ne _ _ e]; exact h2
theorem vup_back {st : Nat → Nat} {j x w : Nat} : va_up (va_up st j x) j (st j) w = st w := by
  by_cases e : w = j
  · rw [e, va_up_self]
  · rw [va_up_ne _ _ e, va_up_ne _ _ e]
theorem gvR.up {M : PM} {a m : Nat} {σ : cS} {g : Nat → Int32} {st : Nat → Nat} {B : BT} {v : Int32} (h : gvR M a σ m g st B) : gvR (sI M (a + 7) m v) a σ (m + 1) (va_up g m v) st B := by
  obtain ⟨h1, h2, h3, h4⟩ := h
  refine ⟨fun w hw => ?_, fun i hi => ?_, ?_, fun hb i hi => ?_⟩
  · show up2 (mI M) (a + 7) m v (a + 9) w = _
    rw [up2_ne (by omega)]; exact h1 w hw
  · by_cases c : i = m
    · rw [c, va_up_self]; exact sI_at
    · rw [sI_ne c, va_up_ne _ _ c]; exact h2 i (by omega)
  · show up2 (mI M) (a + 7) m v a 4 = _
    rw [up2_ne (by omega)]; exact h3
  · show up2 (mI M) (a + 7) m v (a + 8) i = _
    rw [up2_ne (by omega)]; exact h4 hb i hi
theorem gvR.set {M : PM} {a m j x : Nat} {σ : cS} {g : Nat → Int32} {st : Nat → Nat} {B : BT} (h : gvR M a σ m g st B) : gvR (sI M (a + 9) j (nI x)) a σ m g (va_up st j x) B := by
  obtain ⟨h1, h2, h3, h4⟩ := h
  refine ⟨fun w hw => ?_, fun i hi => ?_, ?_, fun hb i hi => ?_⟩
  · by_cases c : w = j
    · rw [c, va_up_self]; exact sI_at
    · rw [sI_ne c, va_up_ne _ _ c]; exact h1 w hw
  · show up2 (mI M) (a + 9) j (nI x) (a + 7) i = _
    rw [up2_ne (by omega)]; exact h2 i hi
  · show up2 (mI M) (a + 9) j (nI x) a 4 = _
    rw [up2_ne (by omega)]; exact h3
  · show up2 (mI M) (a + 9) j (nI x) (a + 8) i = _
    rw [up2_ne (by omega)]; exact h4 hb i hi
theorem gvR.less {M : PM} {a m : Nat} {σ : cS} {g g' : Nat → Int32} {st st' : Nat → Nat} {B : BT} (h : gvR M a σ (m + 1) g' st' B) (hg : ∀ i, i < m → g' i = g i) (hs : ∀ w, st' w = st w) : gvR M a σ m g st B := ⟨fun w hw => by rw [← hs w]; exact h.1 w hw, fun i hi => (h.2.1 i (by omega)).trans (hg i hi), h.2.2⟩
set_option maxHeartbeats 1000000 in
theorem ct_X2_gives {a wa N1 W1 : Nat} {σ : cS} (hS : OkW σ) (hN : N1 ≤ 8) (hW : W1 ≤ 4) (eN : σ 1 0 = nI N1) (eW : σ 2 0 = nI W1) : ∀ (d m : Nat) (M : PM) (g : Nat → Int32) (st : Nat → Nat) (B : BT), m + d = N1 → SG M a wa σ (WW2 σ) → gvR M a σ m g st B → (∀ w, w < W1 → st w < 2 ^ m) → Ct (YX2_gives, (3 + d, 80 + 24 * d, 0, 0), qv (fun M' => SG M' a wa σ (WW2 σ) ∧ gvR M' a σ m g st (shC σ d m g st B) ∧ frP (gvP a) M M' ∧ mR M' a = mR M a), noX) [.ref a, .ref wa, .int (nI m)] M := by
  have hB := hS.t
  have nN : ppN σ = N1 := by show Int32.toNatClampNeg (σ 1 0) = N1; rw [eN]; exact ix_nI (by omega)
  have nW : WW2 σ = W1 := by show Int32.toNatClampNeg (σ 2 0) = W1; rw [eW]; exact ix_nI (by omega)
  intro d
  induction d with
  | zero =>
    intro m M g st B hmd hG hR hst
    obtain rfl : N1 = m := by omega
    refine ct_of [some (.ref a), some (.ref wa), some (.int (nI N1)), none, none] rfl rfl rfl (Nat.le_of_ble_eq_true rfl) rfl rfl ?_
    have hw := hG.2.1
    have hk := hG.1
    have L : ∀ (n j : Nat) (s : Int32), j + n = W1 → wthC σ st = wthL σ st n j s → Wx (YX2_gives, (3 + 0, 80 + 24 * 0, 0, 0), qv (fun M' => SG M' a wa σ (WW2 σ) ∧ gvR M' a σ N1 g st (shC σ 0 N1 g st B) ∧ frP (gvP a) M M' ∧ mR M' a = mR M a), noX) 0 0 M 13 [some (.ref a), some (.ref wa), some (.int (nI N1)), some (.int s), some (.int (nI j))] [] := by
      intro n
      induction n with
      | zero =>
        intro j s hj hI
        have hI9 : wthC σ st = s := hI
        refine r_iload (pc := 13) dX2_gives_13 rfl ?_
        refine r_aload_n (pc := 15) dX2_gives_15 rfl ?_
        refine r_getIe (pc := 16) (v := σ 2 0) dX2_gives_16 fl_X2_48_3 hw.k (fun _ _ => rfl) hw.i6 ?_
        refine r_icmp_ge (pc := 19) 52 dX2_gives_19 rfl (fun _ => ?_) (fun hno => False.elim (by rw [eW, ltI (by omega) (by omega)] at hno; omega))
        refine r_iload_n (pc := 52) dX2_gives_52 rfl ?_
        refine r_aload_n (pc := 53) dX2_gives_53 rfl ?_
        refine r_getIe (pc := 54) (v := B.1) dX2_gives_54 fl_X2_64_2 hk.1 (fun _ _ => rfl) hR.2.2.1 ?_
        refine r_icmp_le (pc := 57) 82 dX2_gives_57 rfl (fun h57 => ?_) (fun h57 => ?_)
        · refine r_return (pc := 82) rfl dX2_gives_82 ⟨rfl, ?_⟩
          first | (exact ⟨hG2, ⟨fun w hw => by rw [(cpM_ne (by omega)).1]; show up2 (mI M) a 4 s (a + 9) w = _; rw [up2_ne (by omega)]; exact hR.1 w hw, fun i hi => by rw [(cpM_ne (by omega)).1]; show up2 (mI M) a 4 s (a + 7) i = _; rw [up2_ne (by omega)]; exact hR.2.1 i hi, by rw [shC, hI9, cI_t h57, (cpM_ne (by omega)).1]; exact sI_at, fun _ i hi => by rw [shC, hI9, cI_t h57, (cpM_at hi).1]; show up2 (mI M) a 4 s (a + 7) i = _; rw [up2_ne (by omega)]; exact hR.2.1 i (by rw [nN] at hi; exact hi)⟩, f1.trans f2, (cpM_ne (by omega)).2.2⟩) | (exact ⟨hG, by rw [shC, hI9, cI_f h57]; exact hR, frP.rf, rfl⟩)
        · refine r_aload_n (pc := 60) dX2_gives_60 rfl ?_
          refine r_iload_n (pc := 61) dX2_gives_61 rfl ?_
          refine r_putI (pc := 62) dX2_gives_62 fl_X2_64_2 hk.1 rfl rfl ?_
          have f1 : frP (gvP a) M (sI M a 4 s) := frP.rf.sI fun _ => Or.inl rfl
          have hG1 := hG.fr (by omega) f1 rfl
          have hk1 := hG1.1
          have hw1 := hG1.2.1
          refine r_aload_n (pc := 65) dX2_gives_65 rfl ?_
          refine r_getR (pc := 66) dX2_gives_66 fl_X2_16_2 hk1.1 (fun _ _ => rfl) hk1.2.1.2.1 ?_
          refine r_iconst (pc := 69) (v := 0) dX2_gives_69 (by decide) ?_
          refine r_aload_n (pc := 70) dX2_gives_70 rfl ?_
          refine r_getR (pc := 71) dX2_gives_71 fl_X2_20_2 hk1.1 (fun _ _ => rfl) hk1.2.1.2.2.1 ?_
          refine r_iconst (pc := 74) (v := 0) dX2_gives_74 (by decide) ?_
          refine r_aload_n (pc := 75) dX2_gives_75 rfl ?_
          refine r_getIe (pc := 76) (v := σ 1 0) dX2_gives_76 fl_X2_26_3 hw1.k (fun _ _ => rfl) hw1.i5 ?_
          refine r_copy (t := 0) (na := 8) (nb := 8) (pc := 79) dX2_gives_79 q1219 hk1.2.2.2.2.1.1 hk1.2.2.2.2.2.1.1 hk1.2.2.2.2.1.2 hk1.2.2.2.2.2.1.2 (by decide) (by decide) (n_neg hB.1.2.1.1) (by show 0 + Int32.toNatClampNeg (σ 1 0) ≤ 8; rw [eN, ix_nI (by omega)]; omega) (by show 0 + Int32.toNatClampNeg (σ 1 0) ≤ 8; rw [eN, ix_nI (by omega)]; omega) (fun ty h i hi => by cases h; rfl) (fun C h => by cases h) (fun ty h => by cases h) (Nat.le_of_ble_eq_true rfl) (Nat.le_of_ble_eq_true rfl) ?_
          show Wx _ 0 0 (cpM (sI M a 4 s) (a + 7) (a + 8) 0 0 (Int32.toNatClampNeg (σ 1 0))) 82 _ _
          have f2 : frP (gvP a) (sI M a 4 s) (cpM (sI M a 4 s) (a + 7) (a + 8) 0 0 (Int32.toNatClampNeg (σ 1 0))) := cpM_fr.mono (fun q _ hp => Or.inr (Or.inr (Or.inl hp)))
          have hG2 := hG1.fr (by omega) f2 (cpM_ne (by omega)).2.2
          refine r_return (pc := 82) rfl dX2_gives_82 ⟨rfl, ?_⟩
          first | (exact ⟨hG2, ⟨fun w hw => by rw [(cpM_ne (by omega)).1]; show up2 (mI M) a 4 s (a + 9) w = _; rw [up2_ne (by omega)]; exact hR.1 w hw, fun i hi => by rw [(cpM_ne (by omega)).1]; show up2 (mI M) a 4 s (a + 7) i = _; rw [up2_ne (by omega)]; exact hR.2.1 i hi, by rw [shC, hI9, cI_t h57, (cpM_ne (by omega)).1]; exact sI_at, fun _ i hi => by rw [shC, hI9, cI_t h57, (cpM_at hi).1]; show up2 (mI M) a 4 s (a + 7) i = _; rw [up2_ne (by omega)]; exact hR.2.1 i (by rw [nN] at hi; exact hi)⟩, f1.trans f2, (cpM_ne (by omega)).2.2⟩) | (exact ⟨hG, by rw [shC, hI9, cI_f h57]; exact hR, frP.rf, rfl⟩)
      | succ n ih =>
        intro j s hj hI
        rw [wthL] at hI
        have ixj : Int32.toNatClampNeg (nI j) = j := ix_nI (by omega)
        have hwn : wnP σ (nI j) := ⟨nn_nI (by omega), by rw [eW, ltI (by omega) (by omega)]; omega⟩
        refine r_iload (pc := 13) dX2_gives_13 rfl ?_
        refine r_aload_n (pc := 15) dX2_gives_15 rfl ?_
        refine r_getIe (pc := 16) (v := σ 2 0) dX2_gives_16 fl_X2_48_3 hw.k (fun _ _ => rfl) hw.i6 ?_
        refine r_icmp_ge (pc := 19) 52 dX2_gives_19 rfl (fun hno => False.elim (hno hwn.2)) (fun _ => ?_)
        refine r_iload_n (pc := 22) dX2_gives_22 rfl ?_
        refine r_aload_n (pc := 23) dX2_gives_23 rfl ?_
        refine r_aload_n (pc := 24) dX2_gives_24 rfl ?_
        refine r_iload (pc := 25) dX2_gives_25 rfl ?_
        refine r_o3 (pc := 27) (bc' := 0) (bs' := 0) (ct_X2_isMet (w := j) hG hS (by omega) (hR.1 j (by omega)) (by rw [nN]; exact hst j (by omega))) k_X2_71_2 dX2_gives_27 hk.1 (Nat.le_of_ble_eq_true rfl) ⟨Nat.le_of_ble_eq_true rfl, Nat.le_of_ble_eq_true rfl⟩ ⟨Nat.le_of_ble_eq_true rfl, Nat.le_of_ble_eq_true rfl⟩ (r_ci fun r27 M27 p27 => ?_) nox
        obtain ⟨rfl, p27⟩ := p27
        have p27 := Eq.symm (show _ = _ from p27)
        subst p27
        refine r_if_eq (pc := 30) 43 dX2_gives_30 rfl (fun h30 => ?_) (fun h30 => ?_)
        · rw [bI_eq0] at h30
          refine r_iconst (pc := 43) (v := 0) dX2_gives_43 (by decide) ?_
          refine r_iadd (pc := 44) dX2_gives_44 ?_
          refine r_istore3 (pc := 45) dX2_gives_45 rfl ?_
          refine r_iinc4 (pc := 46) dX2_gives_46 (nI_1 _) rfl ?_
          refine r_goto (pc := 49) 13 dX2_gives_49 rfl ?_
          first | (rw [cI_t h30] at hI; exact ih (j + 1) _ (by omega) hI) | (rw [cI_f h30] at hI; rw [Int32.add_zero]; exact ih (j + 1) _ (by omega) hI)
        · rw [bI_ne0] at h30
          refine r_aload_n (pc := 33) dX2_gives_33 rfl ?_
          refine r_getR (pc := 34) dX2_gives_34 fl_X2_75_3 hw.k (fun _ _ => rfl) hw.r17 ?_
          refine r_iload (pc := 37) dX2_gives_37 rfl ?_
          refine r_ialdv (pc := 39) (v := σ 21 j) dX2_gives_39 hw.k17 hw.z17 (hB.vw hwn) (by have h5 := hw.a21 hwn; rw [ixj] at h5 ⊢; exact h5) ?_
          refine r_goto (pc := 40) 44 dX2_gives_40 rfl ?_
          refine r_iadd (pc := 44) dX2_gives_44 ?_
          refine r_istore3 (pc := 45) dX2_gives_45 rfl ?_
          refine r_iinc4 (pc := 46) dX2_gives_46 (nI_1 _) rfl ?_
          refine r_goto (pc := 49) 13 dX2_gives_49 rfl ?_
          first | (rw [cI_t h30] at hI; exact ih (j + 1) _ (by omega) hI) | (rw [cI_f h30] at hI; rw [Int32.add_zero]; exact ih (j + 1) _ (by omega) hI)
    refine r_iload_n (pc := 0) dX2_gives_0 rfl ?_
    refine r_aload_n (pc := 1) dX2_gives_1 rfl ?_
    refine r_getIe (pc := 2) (v := σ 1 0) dX2_gives_2 fl_X2_26_3 hw.k (fun _ _ => rfl) hw.i5 ?_
    refine r_icmp_ne (pc := 5) 83 dX2_gives_5 rfl (fun hno => False.elim (hno eN.symm)) (fun _ => ?_)
    refine r_iconst (pc := 8) (v := 0) dX2_gives_8 (by decide) ?_
    refine r_istore3 (pc := 9) dX2_gives_9 rfl ?_
    refine r_iconst (pc := 10) (v := 0) dX2_gives_10 (by decide) ?_
    refine r_istore4 (pc := 11) dX2_gives_11 rfl ?_
    exact L W1 0 0 (by omega) (by unfold wthC; rw [show Int32.toNatClampNeg (σ 2 0) = W1 from nW])
  | succ d ihd =>
    intro m M g st B hmd hG hR hst
    refine ct_of [some (.ref a), some (.ref wa), some (.int (nI m)), none, none] rfl rfl rfl (Nat.le_of_ble_eq_true rfl) rfl rfl ?_
    have hw := hG.2.1
    have hk := hG.1
    have em : Int32.toNatClampNeg (nI m) = m := ix_nI (by omega)
    have vm8 : vp_in (nI m) 8 := vp_in_nI (by omega) (by decide)
    have hm8 : 2 ^ m ≤ 256 := pow8 (by omega)
    have hp2 : 2 ^ m ≤ 2 ^ (m + 1) := Nat.pow_le_pow_right (by decide) (by omega)
    have L : ∀ (n j : Nat) (M9 : PM) (B2 : BT) (o4 : Option Value), j + n = W1 → SG M9 a wa σ (WW2 σ) → gvR M9 a σ m g st B2 → frP (gvP a) M M9 → mR M9 a = mR M a → shC σ (d + 1) m g st B = (List.range' j n).foldl (fun (B : BT) w => shC σ d (m + 1) (va_up g m (nI w)) (va_up st w (st w + 2 ^ m)) B) B2 → Wx (YX2_gives, (3 + (d + 1), 80 + 24 * (d + 1), 0, 0), qv (fun M' => SG M' a wa σ (WW2 σ) ∧ gvR M' a σ m g st (shC σ (d + 1) m g st B) ∧ frP (gvP a) M M' ∧ mR M' a = mR M a), noX) 0 0 M9 100 [some (.ref a), some (.ref wa), some (.int (nI m)), some (.int (nI j)), o4] [] := by
      intro n
      induction n with
      | zero =>
        intro j M9 B2 o4 hj hG9 hR9 f9 hr9 hI
        have hw9 := hG9.2.1
        have hI9 : shC σ (d + 1) m g st B = B2 := hI
        refine r_iload_n (pc := 100) dX2_gives_100 rfl ?_
        refine r_aload_n (pc := 101) dX2_gives_101 rfl ?_
        refine r_getIe (pc := 102) (v := σ 2 0) dX2_gives_102 fl_X2_48_3 hw9.k (fun _ _ => rfl) hw9.i6 ?_
        refine r_icmp_ge (pc := 105) 155 dX2_gives_105 rfl (fun _ => ?_) (fun hno => False.elim (by rw [eW, ltI (by omega) (by omega)] at hno; omega))
        refine r_return (pc := 155) rfl dX2_gives_155 ⟨rfl, ?_⟩
        exact ⟨hG9, by rw [hI9]; exact hR9, f9, hr9⟩
      | succ n ih =>
        intro j M9 B2 o4 hj hG9 hR9 f9 hr9 hI
        have hw9 := hG9.2.1
        have ixj : Int32.toNatClampNeg (nI j) = j := ix_nI (by omega)
        have vj : vp_in (nI j) 4 := vp_in_nI (by omega) (by decide)
        rw [List.range'_succ, List.foldl_cons] at hI
        have hsj := hst j (by omega)
        obtain ⟨u1, u2, u3, u4⟩ := bt_top m (by omega) (st j) (by omega) hsj
        refine r_iload_n (pc := 100) dX2_gives_100 rfl ?_
        refine r_aload_n (pc := 101) dX2_gives_101 rfl ?_
        refine r_getIe (pc := 102) (v := σ 2 0) dX2_gives_102 fl_X2_48_3 hw9.k (fun _ _ => rfl) hw9.i6 ?_
        refine r_icmp_ge (pc := 105) 155 dX2_gives_105 rfl (fun hno => False.elim (by rw [eW, ltI (by omega) (by omega)] at hno; omega)) (fun _ => ?_)
        refine r_aload_n (pc := 108) dX2_gives_108 rfl ?_
        refine r_getR (pc := 109) dX2_gives_109 fl_X2_16_2 hG9.1.1 (fun _ _ => rfl) hG9.1.2.1.2.1 ?_
        refine r_iload_n (pc := 112) dX2_gives_112 rfl ?_
        refine r_iload_n (pc := 113) dX2_gives_113 rfl ?_
        refine r_iast (pc := 114) dX2_gives_114 hG9.1.2.2.2.2.1.1 hG9.1.2.2.2.2.1.2 vm8 ?_
        rw [em]
        have fa : frP (gvP a) M9 (sI M9 (a + 7) m (nI j)) := frP.rf.sI fun _ => Or.inr (Or.inl rfl)
        have hGa := hG9.fr (by omega) fa rfl
        have hRa := hR9.up (v := nI j)
        have hwa := hGa.2.1
        refine r_aload_n (pc := 115) dX2_gives_115 rfl ?_
        refine r_getR (pc := 116) dX2_gives_116 fl_X2_23_2 hGa.1.1 (fun _ _ => rfl) hGa.1.2.1.2.2.2 ?_
        refine r_iload_n (pc := 119) dX2_gives_119 rfl ?_
        refine r_dup2 (pc := 120) dX2_gives_120 rfl rfl ?_
        refine r_ialdv (pc := 121) (v := nI (st j)) dX2_gives_121 hGa.1.2.2.2.2.2.2.1 hGa.1.2.2.2.2.2.2.2 vj (by rw [ixj]; exact hRa.1 j (by omega)) ?_
        refine r_iconst (pc := 122) (v := 1) dX2_gives_122 (by decide) ?_
        refine r_iload_n (pc := 123) dX2_gives_123 rfl ?_
        refine r_ishl (pc := 124) dX2_gives_124 ?_
        refine r_ior (pc := 125) dX2_gives_125 ?_
        rw [bt_or (st j) (by omega) m (by omega) u1]
        refine r_iast (pc := 126) dX2_gives_126 hGa.1.2.2.2.2.2.2.1 hGa.1.2.2.2.2.2.2.2 vj ?_
        rw [ixj]
        have fb : frP (gvP a) (sI M9 (a + 7) m (nI j)) (sI (sI M9 (a + 7) m (nI j)) (a + 9) j (nI (st j + 2 ^ m))) := frP.rf.sI fun _ => Or.inr (Or.inr (Or.inr rfl))
        have hGb := hGa.fr (by omega) fb rfl
        have hRb := hRa.set (j := j) (x := st j + 2 ^ m)
        refine r_aload_n (pc := 127) dX2_gives_127 rfl ?_
        refine r_aload_n (pc := 128) dX2_gives_128 rfl ?_
        refine r_iload_n (pc := 129) dX2_gives_129 rfl ?_
        refine r_iconst (pc := 130) (v := 1) dX2_gives_130 (by decide) ?_
        refine r_iadd (pc := 131) dX2_gives_131 ?_
        rw [nI_1]
        refine r_o3 (pc := 132) (bc' := 0) (bs' := 0) (ihd (m + 1) (sI (sI M9 (a + 7) m (nI j)) (a + 9) j (nI (st j + 2 ^ m))) (va_up g m (nI j)) (va_up st j (st j + 2 ^ m)) B2 (by omega) hGb hRb (fun w hw2 => vup_lt u4 (Nat.lt_of_lt_of_le (hst w hw2) hp2))) k_X2_67_2 dX2_gives_132 hGb.1.1 (Nat.le_of_ble_eq_true rfl) ⟨by show (3 + d) + 1 ≤ 3 + (d + 1); omega, by show 8 + (5 + 11) + (80 + 24 * d) ≤ 80 + 24 * (d + 1); omega⟩ ⟨Nat.le_of_ble_eq_true rfl, Nat.le_of_ble_eq_true rfl⟩ (r_cv fun M132 p132 => ?_) nox
        obtain ⟨hGc, hRc, fc, hrc⟩ := p132
        have hwc := hGc.2.1
        refine r_aload_n (pc := 135) dX2_gives_135 rfl ?_
        refine r_getR (pc := 136) dX2_gives_136 fl_X2_23_2 hGc.1.1 (fun _ _ => rfl) hGc.1.2.1.2.2.2 ?_
        refine r_iload_n (pc := 139) dX2_gives_139 rfl ?_
        refine r_dup2 (pc := 140) dX2_gives_140 rfl rfl ?_
        refine r_ialdv (pc := 141) (v := nI (st j + 2 ^ m)) dX2_gives_141 hGc.1.2.2.2.2.2.2.1 hGc.1.2.2.2.2.2.2.2 vj (by rw [ixj, hRc.1 j (by omega), va_up_self]) ?_
        refine r_iconst (pc := 142) (v := 1) dX2_gives_142 (by decide) ?_
        refine r_iload_n (pc := 143) dX2_gives_143 rfl ?_
        refine r_ishl (pc := 144) dX2_gives_144 ?_
        refine r_iconst (pc := 145) (v := (-1)) dX2_gives_145 (by decide) ?_
        refine r_ixor (pc := 146) dX2_gives_146 ?_
        refine r_iand (pc := 147) dX2_gives_147 ?_
        rw [bt_clr (st j + 2 ^ m) (by omega) m (by omega), if_pos u2, Nat.add_sub_cancel]
        refine r_iast (pc := 148) dX2_gives_148 hGc.1.2.2.2.2.2.2.1 hGc.1.2.2.2.2.2.2.2 vj ?_
        rw [ixj]
        refine r_iinc3 (pc := 149) dX2_gives_149 (nI_1 _) rfl ?_
        refine r_goto (pc := 152) 100 dX2_gives_152 rfl ?_
        have fd : frP (gvP a) M132 (sI M132 (a + 9) j (nI (st j))) := frP.rf.sI fun _ => Or.inr (Or.inr (Or.inr rfl))
        have hGd := hGc.fr (by omega) fd rfl
        have hRd := hRc.set (j := j) (x := st j)
        exact ih (j + 1) _ _ _ (by omega) hGd (hRd.less (fun i hi => va_up_ne _ _ (by omega)) (fun w => vup_back)) (f9.trans (fa.trans (fb.trans (fc.trans fd)))) (hrc.trans hr9) hI
    refine r_iload_n (pc := 0) dX2_gives_0 rfl ?_
    refine r_aload_n (pc := 1) dX2_gives_1 rfl ?_
    refine r_getIe (pc := 2) (v := σ 1 0) dX2_gives_2 fl_X2_26_3 hw.k (fun _ _ => rfl) hw.i5 ?_
    refine r_icmp_ne (pc := 5) 83 dX2_gives_5 rfl (fun _ => ?_) (fun hno => False.elim (by rw [eN, nI_inj (by omega) (by omega)] at hno; omega))
    refine r_aload_n (pc := 83) dX2_gives_83 rfl ?_
    refine r_getR (pc := 84) dX2_gives_84 fl_X2_16_2 hG.1.1 (fun _ _ => rfl) hG.1.2.1.2.1 ?_
    refine r_iload_n (pc := 87) dX2_gives_87 rfl ?_
    refine r_iconst (pc := 88) (v := (-1)) dX2_gives_88 (by decide) ?_
    refine r_iast (pc := 89) dX2_gives_89 hG.1.2.2.2.2.1.1 hG.1.2.2.2.2.1.2 vm8 ?_
    rw [em]
    have fz : frP (gvP a) M (sI M (a + 7) m (-1)) := frP.rf.sI fun _ => Or.inr (Or.inl rfl)
    have hGz := hG.fr (by omega) fz rfl
    have hRz := hR.up (v := -1)
    refine r_aload_n (pc := 90) dX2_gives_90 rfl ?_
    refine r_aload_n (pc := 91) dX2_gives_91 rfl ?_
    refine r_iload_n (pc := 92) dX2_gives_92 rfl ?_
    refine r_iconst (pc := 93) (v := 1) dX2_gives_93 (by decide) ?_
    refine r_iadd (pc := 94) dX2_gives_94 ?_
    rw [nI_1]
    refine r_o3 (pc := 95) (bc' := 0) (bs' := 0) (ihd (m + 1) (sI M (a + 7) m (-1)) (va_up g m (-1)) st B (by omega) hGz hRz (fun w hw2 => Nat.lt_of_lt_of_le (hst w hw2) hp2)) k_X2_67_2 dX2_gives_95 hGz.1.1 (Nat.le_of_ble_eq_true rfl) ⟨by show (3 + d) + 1 ≤ 3 + (d + 1); omega, by show 8 + (5 + 11) + (80 + 24 * d) ≤ 80 + 24 * (d + 1); omega⟩ ⟨Nat.le_of_ble_eq_true rfl, Nat.le_of_ble_eq_true rfl⟩ (r_cv fun M95 p95 => ?_) nox
    obtain ⟨hGy, hRy, fy, hry⟩ := p95
    refine r_iconst (pc := 98) (v := 0) dX2_gives_98 (by decide) ?_
    refine r_istore3 (pc := 99) dX2_gives_99 rfl ?_
    exact L W1 0 M95 _ _ (by omega) hGy (hRy.less (fun i hi => va_up_ne _ _ (by omega)) (fun _ => rfl)) (fz.trans fy) hry (by rw [shC, show Int32.toNatClampNeg (σ 2 0) = W1 from nW])
