/-! X: share, shared, given (printed by gen/mk_x79.py) -/
set_option maxRecDepth 100000
def shP (a : Nat) : Nat → Prop := fun q => q = a ∨ (a + 2 ≤ q ∧ q ≤ a + 9)
theorem shP.g {a q : Nat} (h : gvP a q) : shP a q := by
  rcases h with e | e | e | e
  · exact Or.inl e
  all_goals exact Or.inr ⟨by omega, by omega⟩
theorem SG.row {M M' : PM} {a wa k : Nat} {σ : cS} (h : SG M a wa σ k) (hk : k < 4) (f : frP (fun q => q = a + (2 + k)) M M') (hR : mR M' = mR M) (hv : (σ 14 (tW σ k)).toInt ≤ (σ 20 k).toInt → ∀ s, s < 2 ^ ppN σ → mI M' (a + (2 + k)) s = endF σ (tW σ k) (σ 20 k) s) : SG M' a wa σ (k + 1) := by
  obtain ⟨k1, k2, k3, k4, k5⟩ := h
  refine ⟨k1.fr f k4 (by rw [hR]) (by omega), k2.fr f (fun q hq hp => k5 (2 + k) (by omega) (hp ▸ hq)) (fun q c hK hp => (k1.nP hK).2 k (by omega) hp), fun w hw hl s hs => ?_, Nat.le_trans k4 f.1, k5⟩
  by_cases c : w = k
  · subst c; exact hv hl s hs
  · rw [((f.2 (a + (2 + w)) (by omega)).2.2 (by omega)).1]
    exact k3 w (by omega) hl s hs
theorem XO.scr3 {M M' Z : PM} {xo wa mo : Nat} {S : ST} (h : XO M xo wa mo Z S) (f : frP (shP (xo + 5)) M M') (h5 : mR M' (xo + 5) = mR M (xo + 5)) : XO M' xo wa mo Z S := by
  obtain ⟨x1, ⟨x2, x3⟩, ⟨x4, x5, x6⟩, x7, ⟨y1, y2, y3, y4⟩, x9, x10, x11⟩ := h
  have x0 := x1.1
  have hx : ∀ o, o < 35 → (o < 5 ∨ o = 6 ∨ 14 < o) → mI M' (xo + o) = mI M (xo + o) ∧ mR M' (xo + o) = mR M (xo + o) := fun o ho hn => by
    obtain ⟨a1, -, a3⟩ := (f.2 (xo + o) (by omega)).2.2 (fun hp => by rcases hp with e | ⟨e1, e2⟩ <;> omega)
    exact ⟨a1, a3⟩
  have nW : ∀ w a, dyW xo mo w → inW w a → ¬ shP (xo + 5) a := fun w a hd ha hp => by
    rcases hp with e | ⟨e1, e2⟩
    · exact hd.out2 x2 (o := 5) (Or.inl (by decide)) (e ▸ ha)
    · exact (hd.out x2 ha).1 (Or.inr (Or.inr (Or.inr (Or.inr ⟨by omega, by omega⟩))))
  have nT : ∀ a c, mK M a = (1, 12 + c) → ¬ shP (xo + 5) a := fun a c hK hp => by
    rcases hp with e | ⟨e1, e2⟩
    · rw [e, x1.2.2.2.2.2.2.1.1] at hK; have := (Prod.mk.inj hK).2; omega
    · exact x1.nth hK (Or.inr (Or.inr (Or.inr (Or.inr ⟨by omega, by omega⟩))))
  have hw : ∀ w σ, dyW xo mo w → WX M w σ → WX M' w σ := fun w σ hd hw => hw.fr f (fun a ha hp => nW w a hd ha hp) nT
  refine ⟨x1.same f.1 (fun a ha => ⟨(f.2 a ha).1, (f.2 a ha).2.1⟩) (fun k _ => congrFun (hx 0 (by decide) (by decide)).2 k) (fun a ha => ?_), ⟨x2, Nat.le_trans x3 f.1⟩, ⟨(congrFun (hx 0 (by decide) (by decide)).2 6).trans x4, x5, hw wa _ x5 x6⟩, ?_, ⟨fun i hi => ?_, ?_, fun i hi => ?_, ?_⟩, fun s hs => ?_, ?_, fun a ha1 ha2 => ?_⟩
  · rcases ha with e | e | e | e <;> rw [e]
    · exact (hx 1 (by decide) (by decide)).2
    · exact (hx 3 (by decide) (by decide)).2
    · exact h5
    · exact (hx 6 (by decide) (by decide)).2
  · rcases x7 with ⟨a1, a2⟩ | ⟨a1, wi, a2, a3, a4, a5⟩
    · exact Or.inl ⟨a1, (congrFun (hx 0 (by decide) (by decide)).2 7).trans a2⟩
    · exact Or.inr ⟨a1, wi, (congrFun (hx 0 (by decide) (by decide)).2 7).trans a2, a3, a4, hw wi _ a3 a5⟩
  · rw [(hx 2 (by decide) (by decide)).1]; exact y1 i hi
  · rw [(hx 3 (by decide) (by decide)).1]; exact y2
  · rw [(hx 4 (by decide) (by decide)).1]; exact y3 i hi
  · rw [show mI M' xo = mI M xo from (hx 0 (by decide) (by decide)).1]; exact y4
  · rw [(hx (27 + s) (by omega) (by omega)).2]
    have w1 := x6.1.1
    exact (x9 s hs).fr f (by omega) (nW wa _ x5 (inW_o (o := 1) (by decide))) (fun ra n c t hr hm _ => ⟨fun hp => by rcases hp with e | ⟨e1, e2⟩ <;> omega, fun hp => by rcases hp with e | ⟨e1, e2⟩ <;> omega⟩) (fun _ _ _ => rfl) (fun _ _ => rfl)
  · intro s s' ra hs hs' e1 e2 e3
    rw [(hx (27 + s) (by omega) (by omega)).2] at e1
    rw [(hx (27 + s') (by omega) (by omega)).2] at e2
    exact x10 s s' ra hs hs' e1 e2 e3
  · obtain ⟨a1, a2, a3⟩ := f.2 a (by omega)
    obtain ⟨b1, b2, b3⟩ := a3 (fun hp => by rcases hp with e | ⟨e1, e2⟩ <;> omega)
    obtain ⟨z1, z2, z3, z4, z5⟩ := x11 a ha1 ha2
    exact ⟨a1.trans z1, a2.trans z2, b1.trans z3, b2.trans z4, b3.trans z5⟩
theorem XO.sg {M Z : PM} {xo wa mo : Nat} {S : ST} (h : XO M xo wa mo Z S) : SG M (xo + 5) wa S.1 0 := ⟨h.1.2.2.2.2.2.2.1, h.2.2.1.2.2, fun w hw => absurd hw (by omega), by have := h.1.1; omega, fun o ho => by
  have := h.2.2.1.2.1.out2 h.2.1.1 (o := 5 + o) (Or.inl (by omega))
  rwa [show xo + (5 + o) = xo + 5 + o by omega] at this⟩
theorem ct_X2_share {M : PM} {a wa : Nat} {σ : cS} (h : SG M a wa σ 0) (hS : OkW σ) : Ct (YX2_share, (12, 300, 0, 0), qv (fun M' => mI M' a 4 = (shAll σ).1 ∧ (∀ i, i < ppN σ → mI M' (a + 8) i = (shAll σ).2 i) ∧ frP (shP a) M M' ∧ mR M' a = mR M a), noX) [.ref a, .ref wa] M := by
  refine ct_of [some (.ref a), some (.ref wa), none] rfl rfl rfl (Nat.le_of_ble_eq_true rfl) rfl rfl ?_
  have hB := hS.t
  obtain ⟨N1, hN, eN⟩ := bd_nI (n := 8) hB.1.2.1
  obtain ⟨W1, hW, eW⟩ := bd_nI (n := 4) hB.1.2.2
  have nN : ppN σ = N1 := by show Int32.toNatClampNeg (σ 1 0) = N1; rw [eN]; exact ix_nI (by omega)
  have nW : WW2 σ = W1 := by show Int32.toNatClampNeg (σ 2 0) = W1; rw [eW]; exact ix_nI (by omega)
  have L : ∀ (n w : Nat) (M9 : PM), w + n = W1 → SG M9 a wa σ w → (∀ v, v < w → mI M9 (a + 9) v = nI 0) → frP (shP a) M M9 → mR M9 a = mR M a → Wx (YX2_share, (12, 300, 0, 0), qv (fun M' => mI M' a 4 = (shAll σ).1 ∧ (∀ i, i < ppN σ → mI M' (a + 8) i = (shAll σ).2 i) ∧ frP (shP a) M M' ∧ mR M' a = mR M a), noX) 0 0 M9 2 [some (.ref a), some (.ref wa), some (.int (nI w))] [] := by
    intro n
    induction n with
    | zero =>
      intro w M9 hw hG9 hz9 f9 hr9
      obtain rfl : W1 = w := by omega
      have hw9 := hG9.2.1
      have hk9 := hG9.1
      refine r_iload_n (pc := 2) dX2_share_2 rfl ?_
      refine r_aload_n (pc := 3) dX2_share_3 rfl ?_
      refine r_getIe (pc := 4) (v := σ 2 0) dX2_share_4 fl_X2_48_3 hw9.k (fun _ _ => rfl) hw9.i6 ?_
      refine r_icmp_ge (pc := 7) 53 dX2_share_7 rfl (fun _ => ?_) (fun hno => False.elim (by rw [eW, ltI (by omega) (by omega)] at hno; omega))
      refine r_aload_n (pc := 53) dX2_share_53 rfl ?_
      refine r_iconst (pc := 54) (v := (-1)) dX2_share_54 (by decide) ?_
      refine r_putI (pc := 55) dX2_share_55 fl_X2_64_2 hk9.1 rfl rfl ?_
      have fa : frP (gvP a) M9 (sI M9 a 4 (-1)) := frP.rf.sI fun _ => Or.inl rfl
      have hGa := hG9.fr (by omega) fa rfl
      rw [← nW] at hGa
      have hRa : gvR (sI M9 a 4 (-1)) a σ 0 (fun _ => 0) (fun _ => 0) (-1, fun _ => 0) := ⟨fun v hv => by show up2 (mI M9) a 4 (-1) (a + 9) v = _; rw [up2_ne (by omega)]; exact hz9 v (by omega), fun i hi => absurd hi (by omega), sI_at, fun q => absurd rfl q⟩
      refine r_aload_n (pc := 58) dX2_share_58 rfl ?_
      refine r_aload_n (pc := 59) dX2_share_59 rfl ?_
      refine r_iconst (pc := 60) (v := 0) dX2_share_60 (by decide) ?_
      refine r_o3 (pc := 61) (bc' := 0) (bs' := 0) (ct_X2_gives hS hN hW eN eW N1 0 (sI M9 a 4 (-1)) (fun _ => 0) (fun _ => 0) (-1, fun _ => 0) (by omega) hGa hRa (fun _ _ => by decide)) k_X2_67_2 dX2_share_61 hGa.1.1 (Nat.le_of_ble_eq_true rfl) ⟨by show (3 + N1) + 1 ≤ 12; omega, by show 8 + (5 + 11) + (80 + 24 * N1) ≤ 300; omega⟩ ⟨Nat.le_of_ble_eq_true rfl, Nat.le_of_ble_eq_true rfl⟩ (r_cv fun M61 p61 => ?_) nox
      obtain ⟨hGb, hRb, fb, hrb⟩ := p61
      refine r_return (pc := 64) rfl dX2_share_64 ⟨rfl, ?_⟩
      have hs0 := sh_0 hS (ppN σ) 0 (fun _ => 0) (fun _ => 0) (-1, fun _ => 0)
      have e9 : shC σ N1 0 (fun _ => 0) (fun _ => 0) (-1, fun _ => 0) = shAll σ := by unfold shAll; rw [nN]
      rw [e9] at hRb
      have hs1 : ¬ (shAll σ).1 = -1 := fun q => by have h5 : 0 ≤ (shAll σ).1.toInt := hs0; rw [q, c_m1] at h5; omega
      exact ⟨hRb.2.2.1, hRb.2.2.2 hs1, (f9.trans (fa.mono fun _ _ h => shP.g h)).trans (fb.mono fun _ _ h => shP.g h), hrb.trans hr9⟩
    | succ n ih =>
      intro w M9 hw hG9 hz9 f9 hr9
      have hw9 := hG9.2.1
      have hk9 := hG9.1
      have ixw : Int32.toNatClampNeg (nI w) = w := ix_nI (by omega)
      have hwn : wnP σ (nI w) := ⟨nn_nI (by omega), by rw [eW, ltI (by omega) (by omega)]; omega⟩
      have hth : thP σ (σ 19 w) := by have h5 := hS.wt hwn; rw [ixw] at h5; exact h5
      obtain ⟨-, hst, -⟩ := hS.2.2.2.2 w (by show w < WW2 σ; omega)
      refine r_iload_n (pc := 2) dX2_share_2 rfl ?_
      refine r_aload_n (pc := 3) dX2_share_3 rfl ?_
      refine r_getIe (pc := 4) (v := σ 2 0) dX2_share_4 fl_X2_48_3 hw9.k (fun _ _ => rfl) hw9.i6 ?_
      refine r_icmp_ge (pc := 7) 53 dX2_share_7 rfl (fun hno => False.elim (hno hwn.2)) (fun _ => ?_)
      refine r_aload_n (pc := 10) dX2_share_10 rfl ?_
      refine r_aload_n (pc := 11) dX2_share_11 rfl ?_
      refine r_aload_n (pc := 12) dX2_share_12 rfl ?_
      refine r_getR (pc := 13) dX2_share_13 fl_X2_51_3 hw9.k (fun _ _ => rfl) hw9.r15 ?_
      refine r_iload_n (pc := 16) dX2_share_16 rfl ?_
      refine r_ialdv (pc := 17) (v := σ 19 w) dX2_share_17 hw9.k15 hw9.z15 (hB.vw hwn) (by have h5 := hw9.a19 hwn; rw [ixw] at h5 ⊢; exact h5) ?_
      refine r_aload_n (pc := 18) dX2_share_18 rfl ?_
      refine r_getR (pc := 19) dX2_share_19 fl_X2_54_3 hw9.k (fun _ _ => rfl) hw9.r10 ?_
      refine r_aload_n (pc := 22) dX2_share_22 rfl ?_
      refine r_getR (pc := 23) dX2_share_23 fl_X2_51_3 hw9.k (fun _ _ => rfl) hw9.r15 ?_
      refine r_iload_n (pc := 26) dX2_share_26 rfl ?_
      refine r_ialdv (pc := 27) (v := σ 19 w) dX2_share_27 hw9.k15 hw9.z15 (hB.vw hwn) (by have h5 := hw9.a19 hwn; rw [ixw] at h5 ⊢; exact h5) ?_
      refine r_ialdv (pc := 28) (v := σ 14 (tW σ w)) dX2_share_28 hw9.k10 hw9.z10 (hB.vt hth) (hw9.a14 hth) ?_
      refine r_aload_n (pc := 29) dX2_share_29 rfl ?_
      refine r_getR (pc := 30) dX2_share_30 fl_X2_57_3 hw9.k (fun _ _ => rfl) hw9.r16 ?_
      refine r_iload_n (pc := 33) dX2_share_33 rfl ?_
      refine r_ialdv (pc := 34) (v := σ 20 w) dX2_share_34 hw9.k16 hw9.z16 (hB.vw hwn) (by have h5 := hw9.a20 hwn; rw [ixw] at h5 ⊢; exact h5) ?_
      refine r_iload_n (pc := 35) dX2_share_35 rfl ?_
      refine r_o6 (pc := 36) (bc' := 0) (bs' := 0) (ct_X2_find (row := w) hk9 hw9 (σ 19 w) (σ 14 (tW σ w)) (σ 20 w) hB hth (by omega) (hG9.2.2.2.2 (2 + w) (by omega)) (by have := hG9.2.2.2.1; omega)) k_X2_60_2 dX2_share_36 hk9.1 (Nat.le_of_ble_eq_true rfl) ⟨Nat.le_of_ble_eq_true rfl, Nat.le_of_ble_eq_true rfl⟩ ⟨Nat.le_of_ble_eq_true rfl, Nat.le_of_ble_eq_true rfl⟩ (r_cr fun r36 M36 p36 => ?_) nox
      obtain ⟨rfl, f1, hR1, hE⟩ := p36
      have hGa := hG9.row (by omega) f1 hR1 (fun hl s hs => (hE s hs).trans (enX_F hS (ix_lt hth.1 hth.2) hst hl s))
      have hwa := hGa.2.1
      refine r_pop (pc := 39) dX2_share_39 rfl ?_
      refine r_aload_n (pc := 40) dX2_share_40 rfl ?_
      refine r_getR (pc := 41) dX2_share_41 fl_X2_23_2 hGa.1.1 (fun _ _ => rfl) hGa.1.2.1.2.2.2 ?_
      refine r_iload_n (pc := 44) dX2_share_44 rfl ?_
      refine r_iconst (pc := 45) (v := 0) dX2_share_45 (by decide) ?_
      refine r_iast (pc := 46) dX2_share_46 hGa.1.2.2.2.2.2.2.1 hGa.1.2.2.2.2.2.2.2 (vp_in_nI (by omega) (by decide)) ?_
      rw [ixw]
      have fb : frP (gvP a) M36 (sI M36 (a + 9) w 0) := frP.rf.sI fun _ => Or.inr (Or.inr (Or.inr rfl))
      have hGb := hGa.fr (by omega) fb rfl
      refine r_iinc2 (pc := 47) dX2_share_47 (nI_1 _) rfl ?_
      refine r_goto (pc := 50) 2 dX2_share_50 rfl ?_
      refine ih (w + 1) _ (by omega) hGb (fun v hv => ?_) ((f9.trans (f1.mono fun q _ hp => Or.inr ⟨by omega, by omega⟩)).trans (fb.mono fun _ _ h => shP.g h)) (by show mR M36 a = _; rw [hR1]; exact hr9)
      by_cases c : v = w
      · rw [c]; exact sI_at
      · rw [sI_ne c, ((f1.2 (a + 9) (by have := hG9.2.2.2.1; omega)).2.2 (by omega)).1]; exact hz9 v (by omega)
  refine r_iconst (pc := 0) (v := 0) dX2_share_0 (by decide) ?_
  refine r_istore2 (pc := 1) dX2_share_1 rfl ?_
  exact L W1 0 M (by omega) h (fun v hv => absurd hv (by omega)) frP.rf rfl
theorem ct_X0_shared {M : PM} {xo wa mo : Nat} {Z : PM} {S : ST} (hx : XO M xo wa mo Z S) (hS : OkS S.1) : Ct (YX0_shared, (13, 322, 0, 0), qi (fun r M' => oX xo mo Z (sharedS S) r M'), noX) [.ref xo] M := by
  refine ct_of [some (.ref xo)] rfl rfl rfl (Nat.le_of_ble_eq_true rfl) rfl rfl ?_
  refine r_aload_n (pc := 0) dX0_shared_0 rfl ?_
  refine r_getR (pc := 1) dX0_shared_1 fl_X0_77_0 hx.1.2.1 (fun _ _ => rfl) hx.1.2.2.1.2.2.2.1 ?_
  refine r_aload_n (pc := 4) dX0_shared_4 rfl ?_
  refine r_getR (pc := 5) dX0_shared_5 fl_X0_90_0 hx.1.2.1 (fun _ _ => rfl) hx.2.2.1.1 ?_
  refine r_o2 (pc := 8) (bc' := 0) (bs' := 0) (ct_X2_share hx.sg hS.1) k_X0_347_2 dX0_shared_8 hx.1.2.2.2.2.2.2.1.1 (Nat.le_of_ble_eq_true rfl) ⟨Nat.le_of_ble_eq_true rfl, Nat.le_of_ble_eq_true rfl⟩ ⟨Nat.le_of_ble_eq_true rfl, Nat.le_of_ble_eq_true rfl⟩ (r_cv fun M8 p8 => ?_) nox
  obtain ⟨em, eg, fs, rs⟩ := p8
  have hx1 := hx.scr3 fs rs
  refine r_aload_n (pc := 11) dX0_shared_11 rfl ?_
  refine r_getR (pc := 12) dX0_shared_12 fl_X0_77_0 hx1.1.2.1 (fun _ _ => rfl) hx1.1.2.2.1.2.2.2.1 ?_
  refine r_getIe (pc := 15) (v := (shAll S.1).1) dX0_shared_15 fl_X0_351_2 hx1.1.2.2.2.2.2.2.1.1 (fun _ _ => rfl) em ?_
  refine r_ireturn (pc := 18) rfl dX0_shared_18 ⟨_, rfl, ?_⟩
  exact ⟨rfl, wa, hx1⟩
theorem ct_X0_given {M : PM} {xo wa mo : Nat} {Z : PM} {S : ST} (hx : XO M xo wa mo Z S) (x1 : Int32) (hS : OkS S.1) : Ct (YX0_given, (13, 322, 1, 7), qi (fun r M' => oX xo mo Z (givenS S x1) r M'), noX) [.ref xo, .int x1] M := by
  refine ct_ofH [some (.ref xo), some (.int x1), none] rfl rfl (Nat.le_of_ble_eq_true rfl) rfl rfl ?_
  have hB := hS.1.t
  have hC : ∀ (M9 : PM) (q : Nat) (b : Int32) (o2 : Option Value), mK M9 q = (1, 6) → mI M9 q 6 = b → bd b (-7) (-1) → XO M9 xo wa mo Z S → givenS S x1 = noTenS S b → Wx (YX0_given, (13, 322, 1, 7), qi (fun r M' => oX xo mo Z (givenS S x1) r M'), noX) 0 0 M9 30 [some (.ref xo), some (.int x1), o2] [.ref q] := by
    intro M9 q b o2 h1 h2 h3 h4 h5
    refine r_astore2 (pc := 30) dX0_given_30 rfl ?_
    refine r_aload_n (pc := 31) dX0_given_31 rfl ?_
    refine r_aload_n (pc := 32) dX0_given_32 rfl ?_
    refine r_o2 (pc := 33) (bc' := 0) (bs' := 0) (ct_X0_refused h4 h1 h2 h3) k_X0_173_0 dX0_given_33 h4.1.2.1 (Nat.le_of_ble_eq_true rfl) ⟨Nat.le_of_ble_eq_true rfl, Nat.le_of_ble_eq_true rfl⟩ ⟨Nat.le_of_ble_eq_true rfl, Nat.le_of_ble_eq_true rfl⟩ (r_ci fun r33 M33 p33 => ?_) nox
    obtain ⟨rfl, h6⟩ := p33
    refine r_bipush (pc := 36) (v := 10) dX0_given_36 (by decide) ?_
    refine r_isub (pc := 38) dX0_given_38 ?_
    refine r_ireturn (pc := 39) rfl dX0_given_39 ⟨_, rfl, ?_⟩
    exact (show oX xo mo Z (givenS S x1) _ _ by rw [h5]; exact ⟨rfl, wa, h6⟩)
  refine r_aload_n (pc := 0) dX0_given_0 rfl ?_
  refine r_iload_n (pc := 1) dX0_given_1 rfl ?_
  refine r_o2 (pc := 2) (bc' := 1) (bs' := 7) (ct_X0_isMan hx x1 hB) k_X0_126_0 dX0_given_2 hx.1.2.1 (Nat.le_of_ble_eq_true rfl) ⟨Nat.le_of_ble_eq_true rfl, Nat.le_of_ble_eq_true rfl⟩ ⟨Nat.le_of_ble_eq_true rfl, Nat.le_of_ble_eq_true rfl⟩ (r_ci fun r2 M2 p2 => ?_) nox
  obtain ⟨rfl, p2⟩ := p2
  have p2 := Eq.symm (show _ = _ from p2)
  subst p2
  refine r_iconst (pc := 5) (v := (-1)) dX0_given_5 (by decide) ?_
  refine r_s2 (pc := 6) (bc' := 0) (bs' := 0) (ct_X0_need _ _) k_X0_115 dX0_given_6 (Nat.le_of_ble_eq_true rfl) ⟨Nat.le_of_ble_eq_true rfl, Nat.le_of_ble_eq_true rfl⟩ ⟨Nat.le_of_ble_eq_true rfl, Nat.le_of_ble_eq_true rfl⟩ (r_cv fun M6 p6 => ?_) (fun q E M9 h8 => by have h9 := And.intro (bI_eq0.mp h8.1) (hx.rf h8.2); obtain ⟨hn9, rfl, k9, w9, o9⟩ := h9; exact t_catch [] _ _ _ rfl (fun z hz => absurd hz List.not_mem_nil) rfl (by decide) q305 q389 ((hC M9 q _ _ k9 w9 (by decide) o9 (by unfold givenS; rw [cI_t hn9])).loose (Nat.zero_le _) (Nat.zero_le _)))
  obtain ⟨hz, p6⟩ := p6
  have p6 := Eq.symm (show _ = _ from p6)
  subst p6
  rw [bI_ne0] at hz
  refine r_aload_n (pc := 9) dX0_given_9 rfl ?_
  refine r_getR (pc := 10) dX0_given_10 fl_X0_77_0 hx.1.2.1 (fun _ _ => rfl) hx.1.2.2.1.2.2.2.1 ?_
  refine r_aload_n (pc := 13) dX0_given_13 rfl ?_
  refine r_getR (pc := 14) dX0_given_14 fl_X0_90_0 hx.1.2.1 (fun _ _ => rfl) hx.2.2.1.1 ?_
  refine r_o2 (pc := 17) (bc' := 0) (bs' := 0) (ct_X2_share hx.sg hS.1) k_X0_347_2 dX0_given_17 hx.1.2.2.2.2.2.2.1.1 (Nat.le_of_ble_eq_true rfl) ⟨Nat.le_of_ble_eq_true rfl, Nat.le_of_ble_eq_true rfl⟩ ⟨Nat.le_of_ble_eq_true rfl, Nat.le_of_ble_eq_true rfl⟩ (r_cv fun M17 p17 => ?_) nox
  obtain ⟨em, eg, fs, rs⟩ := p17
  have hx1 := hx.scr3 fs rs
  refine r_aload_n (pc := 20) dX0_given_20 rfl ?_
  refine r_getR (pc := 21) dX0_given_21 fl_X0_77_0 hx1.1.2.1 (fun _ _ => rfl) hx1.1.2.2.1.2.2.2.1 ?_
  refine r_getR (pc := 24) dX0_given_24 fl_X0_354_2 hx1.1.2.2.2.2.2.2.1.1 (fun _ _ => rfl) hx1.1.2.2.2.2.2.2.1.2.1.2.2.1 ?_
  refine r_iload_n (pc := 27) dX0_given_27 rfl ?_
  refine r_ialdv (pc := 28) (v := (shAll S.1).2 (Int32.toNatClampNeg x1)) dX0_given_28 hx1.1.2.2.2.2.2.2.1.2.2.2.2.2.1.1 hx1.1.2.2.2.2.2.2.1.2.2.2.2.2.1.2 (hB.vm hz) (eg _ (ix_lt hz.1 hz.2)) ?_
  refine r_ireturn (pc := 29) rfl dX0_given_29 ⟨_, rfl, ?_⟩
  exact (show oX xo mo Z (givenS S x1) _ _ by rw [show givenS S x1 = ((shAll S.1).2 (Int32.toNatClampNeg x1), S) by unfold givenS; rw [cI_f (fun q => q hz)]]; exact ⟨rfl, wa, hx1⟩)
