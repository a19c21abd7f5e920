/-! X IS MADE (printed by gen/mk_x82.py) -/
set_option maxRecDepth 100000
abbrev gE (a : Nat) : Nat → Prop := fun q => a ≤ q
/-- an array, untouched -/
def AF (M : PM) (a t n : Nat) : Prop := a < M.1 ∧ mK M a = (2, t) ∧ mZ M a = n ∧ mI M a = (fun _ => 0) ∧ mR M a = fun _ => none
theorem AF.fr {M M' : PM} {a t n : Nat} {P : Nat → Prop} (h : AF M a t n) (f : frP P M M') (hp : ¬ P a) : AF M' a t n := by
  obtain ⟨h1, h2, h3, h4, h5⟩ := h
  obtain ⟨f1, f2, f3⟩ := f.2 a h1
  obtain ⟨g1, g2, g3⟩ := f3 hp
  exact ⟨Nat.lt_of_lt_of_le h1 f.1, f1.trans h2, f2.trans h3, g1.trans h4, g3.trans h5⟩
theorem AF.nw (M : PM) (t n : Nat) : AF (nw M (2, t) n) M.1 t n := ⟨Nat.lt_succ_self _, nw_K M _ _, nw_Z M _ _, nw_I M _ _, if_pos rfl⟩
def TF (M : PM) (a : Nat) : Prop := a + 2 ≤ M.1 ∧ trP M a ∧ mI M a = (fun _ => 0) ∧ mI M (a + 1) = fun _ => 0
theorem TF.fr {M M' : PM} {a : Nat} {P : Nat → Prop} (h : TF M a) (f : frP P M M') (hp : ¬ P a) (hp1 : ¬ P (a + 1)) : TF M' a := by
  obtain ⟨h1, ⟨h2, h3, h4, h5⟩, h6, h7⟩ := h
  obtain ⟨f1, f2, f3⟩ := f.2 a (by omega)
  obtain ⟨e1, e2, e3⟩ := f.2 (a + 1) (by omega)
  exact ⟨Nat.le_trans h1 f.1, ⟨f1.trans h2, by rw [(f3 hp).2.2]; exact h3, e1.trans h4, e2.trans h5⟩, (f3 hp).1.trans h6, (e3 hp1).1.trans h7⟩
def SF (M : PM) (a : Nat) : Prop := a + 10 ≤ M.1 ∧ skP M a
theorem SF.fr {M M' : PM} {a : Nat} {P : Nat → Prop} (h : SF M a) (f : frP P M M') (hp : ¬ P a) (hp1 : ¬ P (a + 1)) : SF M' a := ⟨Nat.le_trans h.1 f.1, h.2.fr f h.1 ((f.2 a (by have := h.1; omega)).2.2 hp).2.2 hp1⟩
theorem frG {M M' : PM} {a : Nat} (f : frP (gE a) M M') (h : M.1 ≤ a) : frP noP M M' := f.mono fun q hq hp => by omega
theorem ct_X4_init {M : PM} {a : Nat} (hK : mK M a = (1, 4)) : Ct (YX4_init, (1, 24, 0, 0), qv (fun M' => M' = M), noX) [.ref a] M := by
  refine ct_of [some (.ref a)] rfl rfl rfl (Nat.le_of_ble_eq_true rfl) rfl rfl ?_
  refine r_aload_n (pc := 0) dX4_init_0 rfl ?_
  refine r_objInit (pc := 1) dX4_init_1 q267 q120 q121 (Nat.le_of_ble_eq_true rfl) (Nat.le_of_ble_eq_true rfl) ?_
  refine r_return (pc := 4) rfl dX4_init_4 ⟨rfl, ?_⟩
  rfl
theorem ct_X1_init {M : PM} {a : Nat} (hK : mK M a = (1, 1)) (h0 : M.1 = a + 1) (hz : mI M a = fun _ => 0) : Ct (YX1_init, (1, 24, 1, 20), qv (fun M' => TF M' a ∧ M'.1 = a + 2 ∧ frP (gE a) M M'), noX) [.ref a] M := by
  refine ct_of [some (.ref a)] rfl rfl rfl (Nat.le_of_ble_eq_true rfl) rfl rfl ?_
  refine r_aload_n (pc := 0) dX1_init_0 rfl ?_
  refine r_objInit (pc := 1) dX1_init_1 q129 q120 q121 (Nat.le_of_ble_eq_true rfl) (Nat.le_of_ble_eq_true rfl) ?_
  refine r_aload_n (pc := 4) dX1_init_4 rfl ?_
  refine r_bipush (pc := 5) (v := 20) dX1_init_5 (by decide) ?_
  refine r_newa (t := 0) (n := 20) (pc := 7) dX1_init_7 rfl rfl q139 rfl (by decide) rfl (Nat.le_of_ble_eq_true rfl) arN0 (Nat.le_of_ble_eq_true rfl) (Nat.le_of_ble_eq_true rfl) ?_
  have hne : a ≠ M.1 := by omega
  refine r_putFR (pc := 9) dX1_init_9 fl_X1_9_1 ((nwK (κ := (2, 0)) (n := 20) hne).trans hK) rfl rfl rfl ?_
  refine r_return (pc := 12) rfl dX1_init_12 ⟨rfl, ?_⟩
  refine ⟨⟨by show a + 2 ≤ M.1 + 1; omega, ⟨(nwK (κ := (2, 0)) (n := 20) hne).trans hK, ?_, ?_, ?_⟩, (nwI (κ := (2, 0)) (n := 20) hne).trans hz, ?_⟩, by show M.1 + 1 = _; omega, frP.rf.nw.sR fun _ => Nat.le_refl _⟩
  · show up2 (mR (nw M (2, 0) 20)) a 0 (some M.1) a 0 = _
    rw [up2_self, va_up_self, h0]
  · rw [← h0]; exact nw_K M (2, 0) 20
  · rw [← h0]; exact nw_Z M (2, 0) 20
  · rw [← h0]; exact nw_I M (2, 0) 20
theorem ml_facts (M : PM) (n : Nat) : ∀ i, i ≤ 5 → frP noP M (mlM M n i) ∧ (∀ j, j < i → mR (mlM M n i) M.1 j = some (M.1 + (1 + j)) ∧ mK (mlM M n i) (M.1 + (1 + j)) = (2, 0) ∧ mZ (mlM M n i) (M.1 + (1 + j)) = n)
  | 0, _ => ⟨frP.rf.nw, fun j hj => absurd hj (Nat.not_lt_zero _)⟩
  | i + 1, hi => by
    obtain ⟨f, h⟩ := ml_facts M n i (by omega)
    have h1 := mlM_1 M n i
    refine ⟨f.nw.sR (fun hq => absurd hq (Nat.lt_irrefl _)), fun j hj => ?_⟩
    by_cases c : j = i
    · subst c
      refine ⟨?_, ?_, ?_⟩
      · show up2 (mR (nw (mlM M n j) (2, 0) n)) M.1 j (some (M.1 + (1 + j))) M.1 j = _
        rw [up2_self, va_up_self]
      · rw [← h1]; exact nw_K (mlM M n j) (2, 0) n
      · rw [← h1]; exact nw_Z (mlM M n j) (2, 0) n
    · obtain ⟨a1, a2, a3⟩ := h j (by omega)
      refine ⟨?_, ?_, ?_⟩
      · show up2 (mR (nw (mlM M n i) (2, 0) n)) M.1 i (some (M.1 + (1 + i))) M.1 j = _
        rw [up2_self, va_up_ne _ _ c, nwR (by omega)]; exact a1
      · exact (nwK (κ := (2, 0)) (n := n) (M := mlM M n i) (by omega)).trans a2
      · exact (nwZ (κ := (2, 0)) (n := n) (M := mlM M n i) (by omega)).trans a3
def sZ (i : Nat) : Nat := if i < 2 then 8 else 4
def SPart (M0 M : PM) (a j : Nat) : Prop := M.1 = a + 7 + j ∧ mK M a = (1, 2) ∧ mR M a 0 = some (a + 1) ∧ (mK M (a + 1) = (2, 7) ∧ mZ M (a + 1) = 5) ∧ (∀ i, i < 5 → mR M (a + 1) i = some (a + (2 + i)) ∧ mK M (a + (2 + i)) = (2, 0) ∧ mZ M (a + (2 + i)) = 256) ∧ (∀ i, i < j → mR M a (1 + i) = some (a + (7 + i)) ∧ mK M (a + (7 + i)) = (2, 0) ∧ mZ M (a + (7 + i)) = sZ i) ∧ frP (gE a) M0 M
theorem SPart.step {M0 M : PM} {a j : Nat} (h : SPart M0 M a j) : SPart M0 (sR (nw M (2, 0) (sZ j)) a (1 + j) (some M.1)) a (j + 1) := by
  obtain ⟨h1, h2, h3, h4, h5, h6, h7⟩ := h
  have hne : a ≠ M.1 := by omega
  refine ⟨by show M.1 + 1 = _; omega, (nwK (κ := (2, 0)) (n := (sZ j)) hne).trans h2, ?_, ⟨(nwK (κ := (2, 0)) (n := (sZ j)) (by omega)).trans h4.1, (nwZ (κ := (2, 0)) (n := (sZ j)) (by omega)).trans h4.2⟩, fun i hi => ?_, fun i hi => ?_, h7.nw.sR fun _ => Nat.le_refl _⟩
  · show up2 (mR (nw M (2, 0) (sZ j))) a (1 + j) (some M.1) a 0 = _
    rw [up2_self, va_up_ne _ _ (by omega), nwR hne]; exact h3
  · obtain ⟨a1, a2, a3⟩ := h5 i hi
    refine ⟨?_, (nwK (κ := (2, 0)) (n := (sZ j)) (by omega)).trans a2, (nwZ (κ := (2, 0)) (n := (sZ j)) (by omega)).trans a3⟩
    show up2 (mR (nw M (2, 0) (sZ j))) a (1 + j) (some M.1) (a + 1) i = _
    rw [up2_ne (by omega), nwR (by omega)]; exact a1
  · by_cases c : i = j
    · subst c
      have e : a + (7 + i) = M.1 := by omega
      refine ⟨?_, by rw [e]; exact nw_K M (2, 0) (sZ i), by rw [e]; exact nw_Z M (2, 0) (sZ i)⟩
      show up2 (mR (nw M (2, 0) (sZ i))) a (1 + i) (some M.1) a (1 + i) = _
      rw [up2_self, va_up_self, e]
    · obtain ⟨a1, a2, a3⟩ := h6 i (by omega)
      refine ⟨?_, (nwK (κ := (2, 0)) (n := (sZ j)) (by omega)).trans a2, (nwZ (κ := (2, 0)) (n := (sZ j)) (by omega)).trans a3⟩
      show up2 (mR (nw M (2, 0) (sZ j))) a (1 + j) (some M.1) a (1 + i) = _
      rw [up2_self, va_up_ne _ _ (by omega), nwR hne]; exact a1
theorem SPart.k {M0 M : PM} {a j t n : Nat} (h : SPart M0 M a j) : mK (nw M (2, t) n) a = (1, 2) := (nwK (κ := (2, t)) (n := n) (by have := h.1; omega)).trans h.2.1
theorem SPart.done {M0 M : PM} {a : Nat} (h : SPart M0 M a 3) : SF M a ∧ M.1 = a + 10 ∧ frP (gE a) M0 M := by
  obtain ⟨h1, h2, h3, h4, h5, h6, h7⟩ := h
  obtain ⟨a0, b0, c0⟩ := h6 0 (by decide)
  obtain ⟨a1, b1, c1⟩ := h6 1 (by decide)
  obtain ⟨a2, b2, c2⟩ := h6 2 (by decide)
  exact ⟨⟨by omega, h2, ⟨h3, a0, a1, a2⟩, h4, h5, ⟨b0, c0⟩, ⟨b1, c1⟩, ⟨b2, c2⟩⟩, by omega, h7⟩
theorem ct_X2_init {M : PM} {a : Nat} (hK : mK M a = (1, 2)) (h0 : M.1 = a + 1) : Ct (YX2_init, (1, 24, 9, 1305), qv (fun M' => SF M' a ∧ M'.1 = a + 10 ∧ frP (gE a) M M'), noX) [.ref a] M := by
  refine ct_of [some (.ref a)] rfl rfl rfl (Nat.le_of_ble_eq_true rfl) rfl rfl ?_
  refine r_aload_n (pc := 0) dX2_init_0 rfl ?_
  refine r_objInit (pc := 1) dX2_init_1 q145 q120 q121 (Nat.le_of_ble_eq_true rfl) (Nat.le_of_ble_eq_true rfl) ?_
  refine r_aload_n (pc := 4) dX2_init_4 rfl ?_
  refine r_iconst (pc := 5) (v := 5) dX2_init_5 (by decide) ?_
  refine r_sipush (pc := 6) (v := 256) dX2_init_6 (by decide) ?_
  refine r_multi (n := 256) (pc := 9) dX2_init_9 q146 (by decide) rfl (Nat.le_of_ble_eq_true rfl) (Nat.le_of_ble_eq_true rfl) (Nat.le_of_ble_eq_true rfl) ?_
  obtain ⟨fm, hm⟩ := ml_facts M 256 5 (Nat.le_refl _)
  have m1 := mlM_1 M 256 5
  have mk := mlM_K M 256 5
  refine r_putFR (pc := 13) dX2_init_13 fl_X2_11_2 ((fm.2 a (by omega)).1.trans hK) rfl rfl rfl ?_
  refine r_gen (P := fun M' => SPart M M' a 0) ⟨by show (mlM M 256 5).1 = _; omega, (fm.2 a (by omega)).1.trans hK, ?_, ⟨by rw [← h0]; exact mk.1, by rw [← h0]; exact mk.2⟩, fun i hi => ?_, fun i hi => absurd hi (Nat.not_lt_zero _), (fm.mono fun _ _ h => h.elim).sR fun _ => Nat.le_refl _⟩ (fun N0 w0 => ?_)
  · show up2 (mR (mlM M 256 5)) a 0 (some M.1) a 0 = _
    rw [up2_self, va_up_self, h0]
  · obtain ⟨a1, a2, a3⟩ := hm i hi
    have e : M.1 + (1 + i) = a + (2 + i) := by omega
    rw [e] at a1 a2 a3
    refine ⟨?_, a2, a3⟩
    show up2 (mR (mlM M 256 5)) a 0 (some M.1) (a + 1) i = _
    rw [up2_ne (by omega), ← h0]; exact a1
  refine r_aload_n (pc := 16) dX2_init_16 rfl ?_
  refine r_bipush (pc := 17) (v := 8) dX2_init_17 (by decide) ?_
  refine r_newa (t := 0) (n := 8) (pc := 19) dX2_init_19 rfl rfl q139 rfl (by decide) rfl (Nat.le_of_ble_eq_true rfl) arN0 (Nat.le_of_ble_eq_true rfl) (Nat.le_of_ble_eq_true rfl) ?_
  refine r_putFR (pc := 21) dX2_init_21 fl_X2_16_2 w0.k rfl rfl rfl ?_
  refine r_gen (P := fun M' => SPart M M' a 1) w0.step (fun N1 w1 => ?_)
  refine r_aload_n (pc := 24) dX2_init_24 rfl ?_
  refine r_bipush (pc := 25) (v := 8) dX2_init_25 (by decide) ?_
  refine r_newa (t := 0) (n := 8) (pc := 27) dX2_init_27 rfl rfl q139 rfl (by decide) rfl (Nat.le_of_ble_eq_true rfl) arN0 (Nat.le_of_ble_eq_true rfl) (Nat.le_of_ble_eq_true rfl) ?_
  refine r_putFR (pc := 29) dX2_init_29 fl_X2_20_2 w1.k rfl rfl rfl ?_
  refine r_gen (P := fun M' => SPart M M' a 2) w1.step (fun N2 w2 => ?_)
  refine r_aload_n (pc := 32) dX2_init_32 rfl ?_
  refine r_iconst (pc := 33) (v := 4) dX2_init_33 (by decide) ?_
  refine r_newa (t := 0) (n := 4) (pc := 34) dX2_init_34 rfl rfl q139 rfl (by decide) rfl (Nat.le_of_ble_eq_true rfl) arN0 (Nat.le_of_ble_eq_true rfl) (Nat.le_of_ble_eq_true rfl) ?_
  refine r_putFR (pc := 36) dX2_init_36 fl_X2_23_2 w2.k rfl rfl rfl ?_
  refine r_gen (P := fun M' => SPart M M' a 3) w2.step (fun N3 w3 => ?_)
  refine r_return (pc := 39) rfl dX2_init_39 ⟨rfl, ?_⟩
  exact w3.done
def xOf (k : Nat) : Nat := [1, 2, 3, 5, 15, 16, 17, 27].getD k 0
def XC (M0 M : PM) (xo k : Nat) : Prop := M.1 = xo + xOf k ∧ mK M xo = (1, 0) ∧ (∀ j, j < k → mR M xo j = some (xo + xOf j)) ∧ mR M xo 7 = none ∧ frP (gE xo) M0 M
theorem XC.step {M0 M B : PM} {xo k : Nat} (h : XC M0 M xo k) (f : frP noP M B) (hB : B.1 = xo + xOf (k + 1)) (hk : k < 7) (h1 : 0 < xOf k) : XC M0 (sR B xo k (some M.1)) xo (k + 1) ∧ frP (fun q => q = xo) B (sR B xo k (some M.1)) ∧ frP (fun q => q = xo) M (sR B xo k (some M.1)) := by
  obtain ⟨a1, a2, a3, a4, a5⟩ := h
  obtain ⟨f1, f2, f3⟩ := f.2 xo (by omega)
  obtain ⟨-, -, f4⟩ := f3 id
  have g : frP (fun q => q = xo) M B := f.mono fun _ _ h => h.elim
  refine ⟨⟨hB, f1.trans a2, fun j hj => ?_, ?_, (a5.trans (f.mono fun _ _ h => h.elim)).sR fun _ => Nat.le_refl _⟩, frP.rf.sR fun _ => rfl, g.sR fun _ => rfl⟩
  · show up2 (mR B) xo k (some M.1) xo j = _
    rw [up2_self]
    by_cases c : j = k
    · subst c; rw [va_up_self, a1]
    · rw [va_up_ne _ _ c, f4]; exact a3 j (by omega)
  · show up2 (mR B) xo k (some M.1) xo 7 = _
    rw [up2_self, va_up_ne _ _ (by omega), f4]; exact a4
theorem XC.k {M0 M B : PM} {xo k : Nat} (h : XC M0 M xo k) (f : frP noP M B) (h1 : 0 < xOf k) : mK B xo = (1, 0) := (f.2 xo (by have := h.1; omega)).1.trans h.2.1
/-- X just made -/
def XI0 (M : PM) (xo : Nat) : Prop := XS M xo ∧ mR M xo 6 = some (xo + 17) ∧ mR M xo 7 = none ∧ mI M xo 8 = -1 ∧ WX M (xo + 17) w0S ∧ mI M (xo + 2) = (fun _ => 0) ∧ mI M (xo + 3) = (fun _ => 0) ∧ mI M (xo + 4) = (fun _ => 0) ∧ ∀ s, s < 8 → mR M (xo + (27 + s)) 0 = none
/-- the first j shelves are made -/
def XL (N M : PM) (xo j : Nat) : Prop := M.1 = xo + 27 + j ∧ frP (fun q => q = xo + 1) N M ∧ ∀ i, i < j → mR M (xo + 1) i = some (xo + (27 + i)) ∧ mK M (xo + (27 + i)) = (1, 4) ∧ mR M (xo + (27 + i)) 0 = none
theorem XL.step {N M : PM} {xo j : Nat} (h : XL N M xo j) : XL N (sR (nw M (1, 4) 0) (xo + 1) j (some M.1)) xo (j + 1) := by
  obtain ⟨h1, h2, h3⟩ := h
  refine ⟨by show M.1 + 1 = _; omega, h2.nw.sR fun _ => rfl, fun i hi => ?_⟩
  show up2 (mR (nw M (1, 4) 0)) (xo + 1) j (some M.1) (xo + 1) i = _ ∧ _ ∧ up2 (mR (nw M (1, 4) 0)) (xo + 1) j (some M.1) (xo + (27 + i)) 0 = _
  rw [up2_self, up2_ne (show xo + (27 + i) ≠ xo + 1 by omega)]
  by_cases c : i = j
  · subst c
    have e : xo + (27 + i) = M.1 := by omega
    rw [va_up_self, e]
    exact ⟨rfl, nw_K M (1, 4) 0, congrFun (show mR (nw M (1, 4) 0) M.1 = fun _ => none from if_pos rfl) 0⟩
  · obtain ⟨a1, a2, a3⟩ := h3 i (by omega)
    rw [va_up_ne _ _ c, nwR (by omega), nwR (by omega)]
    exact ⟨a1, (nwK (κ := (1, 4)) (n := 0) (by omega)).trans a2, a3⟩
theorem ct_X0_init {M : PM} {xo : Nat} (hK : mK M xo = (1, 0)) (h0 : M.1 = xo + 1) (h7 : mR M xo 7 = none) : Ct (YX0_init, (2, 44, 34, 1450), qv (fun M' => XI0 M' xo ∧ M'.1 = xo + 35 ∧ frP (gE xo) M M'), noX) [.ref xo] M := by
  refine ct_of [some (.ref xo), none] rfl rfl rfl (Nat.le_of_ble_eq_true rfl) rfl rfl ?_
  refine r_aload_n (pc := 0) dX0_init_0 rfl ?_
  refine r_objInit (pc := 1) dX0_init_1 q119 q120 q121 (Nat.le_of_ble_eq_true rfl) (Nat.le_of_ble_eq_true rfl) ?_
  refine r_gen (P := fun M' => XC M M' xo 0) ⟨h0, hK, fun j hj => absurd hj (Nat.not_lt_zero _), h7, frP.rf⟩ (fun N0 w0 => ?_)
  refine r_aload_n (pc := 4) dX0_init_4 rfl ?_
  refine r_bipush (pc := 5) (v := 8) dX0_init_5 (by decide) ?_
  refine r_anew (t := 5) (n := 8) (pc := 7) dX0_init_7 rfl q122 arN5 (by decide) rfl (Nat.le_of_ble_eq_true rfl) (Nat.le_of_ble_eq_true rfl) (Nat.le_of_ble_eq_true rfl) ?_
  have s0 := w0.step (B := nw N0 (2, 5) 8) frP.rf.nw (by show N0.1 + 1 = _; rw [w0.1]; rfl) (by decide) (by decide)
  have hx9 : mK (nw N0 (2, 5) 8) xo = (1, 0) := w0.k frP.rf.nw (by decide)
  refine r_putFR (pc := 10) dX0_init_10 fl_X0_59_0 hx9 rfl rfl rfl ?_
  refine r_gen (P := fun M' => XC M M' xo 1 ∧ AF M' (xo + 1) 5 8) ⟨s0.1, ((show AF (nw N0 (2, 5) 8) (xo + 1) 5 8 by have h := AF.nw N0 5 8; rw [w0.1] at h; exact h)).fr s0.2.1 (by show ¬ _ = xo; omega)⟩ (fun N1 z1 => ?_)
  obtain ⟨w1, c1_0⟩ := z1
  refine r_aload_n (pc := 13) dX0_init_13 rfl ?_
  refine r_bipush (pc := 14) (v := 8) dX0_init_14 (by decide) ?_
  refine r_newa (t := 0) (n := 8) (pc := 16) dX0_init_16 rfl rfl q139 rfl (by decide) rfl (Nat.le_of_ble_eq_true rfl) arN0 (Nat.le_of_ble_eq_true rfl) (Nat.le_of_ble_eq_true rfl) ?_
  have s1 := w1.step (B := nw N1 (2, 0) 8) frP.rf.nw (by show N1.1 + 1 = _; rw [w1.1]; rfl) (by decide) (by decide)
  have hx9 : mK (nw N1 (2, 0) 8) xo = (1, 0) := w1.k frP.rf.nw (by decide)
  refine r_putFR (pc := 18) dX0_init_18 fl_X0_63_0 hx9 rfl rfl rfl ?_
  refine r_gen (P := fun M' => XC M M' xo 2 ∧ AF M' (xo + 1) 5 8 ∧ AF M' (xo + 2) 0 8) ⟨s1.1, c1_0.fr s1.2.2 (by show ¬ _ = xo; omega), ((show AF (nw N1 (2, 0) 8) (xo + 2) 0 8 by have h := AF.nw N1 0 8; rw [w1.1] at h; exact h)).fr s1.2.1 (by show ¬ _ = xo; omega)⟩ (fun N2 z2 => ?_)
  obtain ⟨w2, c2_0, c2_1⟩ := z2
  refine r_aload_n (pc := 21) dX0_init_21 rfl ?_
  refine r_new (c := 1) (pc := 22) (RX1, TX1, 2) dX0_init_22 rfl q124 q125 q80 dv_1 (Nat.le_of_ble_eq_true rfl) rfl (Nat.le_of_ble_eq_true rfl) ?_
  refine r_dup (pc := 25) dX0_init_25 rfl ?_
  refine r_o1 (pc := 26) (bc' := 30) (bs' := 1412) (ct_X1_init (a := N2.1) (nw_K _ _ _) rfl (nw_I _ _ _)) k_X0_69_1 dX0_init_26 (nw_K _ _ _) (Nat.le_of_ble_eq_true rfl) ⟨Nat.le_of_ble_eq_true rfl, Nat.le_of_ble_eq_true rfl⟩ ⟨Nat.le_of_ble_eq_true rfl, Nat.le_of_ble_eq_true rfl⟩ (r_cv fun B2 p26 => ?_) nox
  obtain ⟨e2, m2, g2⟩ := p26
  have f2 : frP noP N2 B2 := (frP.rf.nw.trans (g2.mono (Q := gE N2.1) fun q _ h => h)).mono (P := gE N2.1) (fun q h1 h2 => by omega)
  have s2 := w2.step (B := B2) f2 (by rw [m2, w2.1]; rfl) (by decide) (by decide)
  have hx9 : mK (B2) xo = (1, 0) := w2.k f2 (by decide)
  refine r_putFR (pc := 29) dX0_init_29 fl_X0_70_0 hx9 rfl rfl rfl ?_
  refine r_gen (P := fun M' => XC M M' xo 3 ∧ AF M' (xo + 1) 5 8 ∧ AF M' (xo + 2) 0 8 ∧ TF M' (xo + 3)) ⟨s2.1, c2_0.fr s2.2.2 (by show ¬ _ = xo; omega), c2_1.fr s2.2.2 (by show ¬ _ = xo; omega), ((show TF B2 (xo + 3) by have h := e2; rw [w2.1] at h; exact h)).fr s2.2.1 (by show ¬ _ = xo; omega) (by show ¬ _ = xo; omega)⟩ (fun N3 z3 => ?_)
  obtain ⟨w3, c3_0, c3_1, c3_2⟩ := z3
  refine r_aload_n (pc := 32) dX0_init_32 rfl ?_
  refine r_new (c := 2) (pc := 33) (RX2, TX2, 5) dX0_init_33 rfl q140 q141 q81 dv_2 (Nat.le_of_ble_eq_true rfl) rfl (Nat.le_of_ble_eq_true rfl) ?_
  refine r_dup (pc := 36) dX0_init_36 rfl ?_
  refine r_o1 (pc := 37) (bc' := 20) (bs' := 102) (ct_X2_init (a := N3.1) (nw_K _ _ _) rfl) k_X0_76_2 dX0_init_37 (nw_K _ _ _) (Nat.le_of_ble_eq_true rfl) ⟨Nat.le_of_ble_eq_true rfl, Nat.le_of_ble_eq_true rfl⟩ ⟨Nat.le_of_ble_eq_true rfl, Nat.le_of_ble_eq_true rfl⟩ (r_cv fun B3 p37 => ?_) nox
  obtain ⟨e3, m3, g3⟩ := p37
  have f3 : frP noP N3 B3 := (frP.rf.nw.trans (g3.mono (Q := gE N3.1) fun q _ h => h)).mono (P := gE N3.1) (fun q h1 h2 => by omega)
  have s3 := w3.step (B := B3) f3 (by rw [m3, w3.1]; rfl) (by decide) (by decide)
  have hx9 : mK (B3) xo = (1, 0) := w3.k f3 (by decide)
  refine r_putFR (pc := 40) dX0_init_40 fl_X0_77_0 hx9 rfl rfl rfl ?_
  refine r_gen (P := fun M' => XC M M' xo 4 ∧ AF M' (xo + 1) 5 8 ∧ AF M' (xo + 2) 0 8 ∧ TF M' (xo + 3) ∧ SF M' (xo + 5)) ⟨s3.1, c3_0.fr s3.2.2 (by show ¬ _ = xo; omega), c3_1.fr s3.2.2 (by show ¬ _ = xo; omega), c3_2.fr s3.2.2 (by show ¬ _ = xo; omega) (by show ¬ _ = xo; omega), ((show SF B3 (xo + 5) by have h := e3; rw [w3.1] at h; exact h)).fr s3.2.1 (by show ¬ _ = xo; omega) (by show ¬ _ = xo; omega)⟩ (fun N4 z4 => ?_)
  obtain ⟨w4, c4_0, c4_1, c4_2, c4_3⟩ := z4
  refine r_aload_n (pc := 43) dX0_init_43 rfl ?_
  refine r_bipush (pc := 44) (v := 8) dX0_init_44 (by decide) ?_
  refine r_newa (t := 0) (n := 8) (pc := 46) dX0_init_46 rfl rfl q139 rfl (by decide) rfl (Nat.le_of_ble_eq_true rfl) arN0 (Nat.le_of_ble_eq_true rfl) (Nat.le_of_ble_eq_true rfl) ?_
  have s4 := w4.step (B := nw N4 (2, 0) 8) frP.rf.nw (by show N4.1 + 1 = _; rw [w4.1]; rfl) (by decide) (by decide)
  have hx9 : mK (nw N4 (2, 0) 8) xo = (1, 0) := w4.k frP.rf.nw (by decide)
  refine r_putFR (pc := 48) dX0_init_48 fl_X0_81_0 hx9 rfl rfl rfl ?_
  refine r_gen (P := fun M' => XC M M' xo 5 ∧ AF M' (xo + 1) 5 8 ∧ AF M' (xo + 2) 0 8 ∧ TF M' (xo + 3) ∧ SF M' (xo + 5) ∧ AF M' (xo + 15) 0 8) ⟨s4.1, c4_0.fr s4.2.2 (by show ¬ _ = xo; omega), c4_1.fr s4.2.2 (by show ¬ _ = xo; omega), c4_2.fr s4.2.2 (by show ¬ _ = xo; omega) (by show ¬ _ = xo; omega), c4_3.fr s4.2.2 (by show ¬ _ = xo; omega) (by show ¬ _ = xo; omega), ((show AF (nw N4 (2, 0) 8) (xo + 15) 0 8 by have h := AF.nw N4 0 8; rw [w4.1] at h; exact h)).fr s4.2.1 (by show ¬ _ = xo; omega)⟩ (fun N5 z5 => ?_)
  obtain ⟨w5, c5_0, c5_1, c5_2, c5_3, c5_4⟩ := z5
  refine r_aload_n (pc := 51) dX0_init_51 rfl ?_
  refine r_bipush (pc := 52) (v := 8) dX0_init_52 (by decide) ?_
  refine r_newa (t := 0) (n := 8) (pc := 54) dX0_init_54 rfl rfl q139 rfl (by decide) rfl (Nat.le_of_ble_eq_true rfl) arN0 (Nat.le_of_ble_eq_true rfl) (Nat.le_of_ble_eq_true rfl) ?_
  have s5 := w5.step (B := nw N5 (2, 0) 8) frP.rf.nw (by show N5.1 + 1 = _; rw [w5.1]; rfl) (by decide) (by decide)
  have hx9 : mK (nw N5 (2, 0) 8) xo = (1, 0) := w5.k frP.rf.nw (by decide)
  refine r_putFR (pc := 56) dX0_init_56 fl_X0_84_0 hx9 rfl rfl rfl ?_
  refine r_gen (P := fun M' => XC M M' xo 6 ∧ AF M' (xo + 1) 5 8 ∧ AF M' (xo + 2) 0 8 ∧ TF M' (xo + 3) ∧ SF M' (xo + 5) ∧ AF M' (xo + 15) 0 8 ∧ AF M' (xo + 16) 0 8) ⟨s5.1, c5_0.fr s5.2.2 (by show ¬ _ = xo; omega), c5_1.fr s5.2.2 (by show ¬ _ = xo; omega), c5_2.fr s5.2.2 (by show ¬ _ = xo; omega) (by show ¬ _ = xo; omega), c5_3.fr s5.2.2 (by show ¬ _ = xo; omega) (by show ¬ _ = xo; omega), c5_4.fr s5.2.2 (by show ¬ _ = xo; omega), ((show AF (nw N5 (2, 0) 8) (xo + 16) 0 8 by have h := AF.nw N5 0 8; rw [w5.1] at h; exact h)).fr s5.2.1 (by show ¬ _ = xo; omega)⟩ (fun N6 z6 => ?_)
  obtain ⟨w6, c6_0, c6_1, c6_2, c6_3, c6_4, c6_5⟩ := z6
  refine r_aload_n (pc := 59) dX0_init_59 rfl ?_
  refine r_new (c := 3) (pc := 60) (RX3, TX3, 18) dX0_init_60 rfl q166 q167 q82 dv_3 (Nat.le_of_ble_eq_true rfl) rfl (Nat.le_of_ble_eq_true rfl) ?_
  refine r_dup (pc := 63) dX0_init_63 rfl ?_
  refine r_o1 (pc := 64) (bc' := 8) (bs' := 8) (ct_X3_init (wa := N6.1) (nw_K _ _ _) rfl (nw_I _ _ _)) k_X0_89_3 dX0_init_64 (nw_K _ _ _) (Nat.le_of_ble_eq_true rfl) ⟨Nat.le_of_ble_eq_true rfl, Nat.le_of_ble_eq_true rfl⟩ ⟨Nat.le_of_ble_eq_true rfl, Nat.le_of_ble_eq_true rfl⟩ (r_cv fun B6 p64 => ?_) nox
  obtain ⟨e6, m6, g6⟩ := p64
  have f6 : frP noP N6 B6 := (frP.rf.nw.trans (g6.mono (Q := gE N6.1) fun q _ h => h.1)).mono (P := gE N6.1) (fun q h1 h2 => by omega)
  have s6 := w6.step (B := B6) f6 (by rw [m6, w6.1]; rfl) (by decide) (by decide)
  have hx9 : mK (B6) xo = (1, 0) := w6.k f6 (by decide)
  refine r_putR (pc := 67) dX0_init_67 fl_X0_90_0 hx9 rfl rfl ?_
  refine r_gen (P := fun M' => XC M M' xo 7 ∧ AF M' (xo + 1) 5 8 ∧ AF M' (xo + 2) 0 8 ∧ TF M' (xo + 3) ∧ SF M' (xo + 5) ∧ AF M' (xo + 15) 0 8 ∧ AF M' (xo + 16) 0 8 ∧ WX M' (xo + 17) w0S) ⟨s6.1, c6_0.fr s6.2.2 (by show ¬ _ = xo; omega), c6_1.fr s6.2.2 (by show ¬ _ = xo; omega), c6_2.fr s6.2.2 (by show ¬ _ = xo; omega) (by show ¬ _ = xo; omega), c6_3.fr s6.2.2 (by show ¬ _ = xo; omega) (by show ¬ _ = xo; omega), c6_4.fr s6.2.2 (by show ¬ _ = xo; omega), c6_5.fr s6.2.2 (by show ¬ _ = xo; omega), ((show WX B6 (xo + 17) w0S by have h := e6; rw [w6.1] at h; exact h)).fr s6.2.1 (fun q h1 h2 => by have := h1.1; omega) (fun q c hK9 h2 => by rw [h2, hx9] at hK9; have := (Prod.mk.inj hK9).2; omega)⟩ (fun N7 z7 => ?_)
  obtain ⟨w7, c7_0, c7_1, c7_2, c7_3, c7_4, c7_5, c7_6⟩ := z7
  refine r_aload_n (pc := 70) dX0_init_70 rfl ?_
  refine r_iconst (pc := 71) (v := (-1)) dX0_init_71 (by decide) ?_
  have hx9 := w7.2.1
  refine r_putI (pc := 72) dX0_init_72 fl_X0_94_0 hx9 rfl rfl ?_
  refine r_gen (P := fun M' => (XC M M' xo 7 ∧ mI M' xo 8 = -1) ∧ AF M' (xo + 1) 5 8 ∧ AF M' (xo + 2) 0 8 ∧ TF M' (xo + 3) ∧ SF M' (xo + 5) ∧ AF M' (xo + 15) 0 8 ∧ AF M' (xo + 16) 0 8 ∧ WX M' (xo + 17) w0S) ⟨⟨⟨w7.1, w7.2.1, w7.2.2.1, w7.2.2.2.1, w7.2.2.2.2.sI fun _ => Nat.le_refl _⟩, congrFun (up2_self (mI N7) xo 8 (-1)) 8⟩, c7_0.fr (frP.rf.sI (P := fun q => q = xo) fun _ => rfl) (by show ¬ _ = xo; omega), c7_1.fr (frP.rf.sI (P := fun q => q = xo) fun _ => rfl) (by show ¬ _ = xo; omega), c7_2.fr (frP.rf.sI (P := fun q => q = xo) fun _ => rfl) (by show ¬ _ = xo; omega) (by show ¬ _ = xo; omega), c7_3.fr (frP.rf.sI (P := fun q => q = xo) fun _ => rfl) (by show ¬ _ = xo; omega) (by show ¬ _ = xo; omega), c7_4.fr (frP.rf.sI (P := fun q => q = xo) fun _ => rfl) (by show ¬ _ = xo; omega), c7_5.fr (frP.rf.sI (P := fun q => q = xo) fun _ => rfl) (by show ¬ _ = xo; omega), c7_6.fr (frP.rf.sI (P := fun q => q = xo) fun _ => rfl) (fun q h1 h2 => by have := h1.1; omega) (fun q c hK9 h2 => by rw [h2, hx9] at hK9; have := (Prod.mk.inj hK9).2; omega)⟩ (fun N8 z8 => ?_)
  obtain ⟨⟨w8, h8⟩, c0, c1, c2, c3, c4, c5, c6⟩ := z8
  have o8 := w8.1
  refine r_iconst (pc := 75) (v := 0) dX0_init_75 (by decide) ?_
  refine r_istore1 (pc := 76) dX0_init_76 rfl ?_
  have fin : ∀ M9 : PM, XL N8 M9 xo 8 → XI0 M9 xo ∧ M9.1 = xo + 35 ∧ frP (gE xo) M M9 := by
    intro M9 hl
    obtain ⟨l1, l2, l3⟩ := hl
    have f8 : frP (gE xo) M M9 := w8.2.2.2.2.trans (l2.mono fun q _ h => by show xo ≤ q; omega)
    have g0 := l2.2 xo (by rw [o8]; show xo < xo + 27; omega)
    obtain ⟨g1, g2, g3⟩ := g0
    obtain ⟨gi, -, gr⟩ := g3 (by show ¬ xo = xo + 1; omega)
    have r := w8.2.2.1
    have n1 := c1.fr l2 (by show ¬ _ = xo + 1; omega)
    have n2 := c2.fr l2 (by show ¬ _ = xo + 1; omega) (by show ¬ _ = xo + 1; omega)
    have n3 := c3.fr l2 (by show ¬ _ = xo + 1; omega) (by show ¬ _ = xo + 1; omega)
    have n4 := c4.fr l2 (by show ¬ _ = xo + 1; omega)
    have n5 := c5.fr l2 (by show ¬ _ = xo + 1; omega)
    have n6 := c6.fr l2 (fun q h1 h2 => by have := h1.1; omega) (fun q c hK9 h2 => by rw [h2, c0.2.1] at hK9; exact absurd (Prod.mk.inj hK9).1 (by decide))
    have e0 := l2.2 (xo + 1) (by rw [o8]; show xo + 1 < xo + 27; omega)
    refine ⟨⟨⟨by omega, g1.trans w8.2.1, ⟨?_, ?_, ?_, ?_, ?_, ?_⟩, ⟨e0.1.trans c0.2.1, e0.2.1.trans c0.2.2.1⟩, ⟨n1.2.1, n1.2.2.1⟩, n2.2.1, n3.2, ⟨n4.2.1, n4.2.2.1⟩, ⟨n5.2.1, n5.2.2.1⟩, fun s hs => ⟨(l3 s hs).1, (l3 s hs).2.1⟩⟩, ?_, ?_, ?_, n6, n1.2.2.2.1, n2.2.2.1, n2.2.2.2, fun s hs => (l3 s hs).2.2⟩, by omega, f8⟩
    · rw [gr]; exact r 0 (by decide)
    · rw [gr]; exact r 1 (by decide)
    · rw [gr]; exact r 2 (by decide)
    · rw [gr]; exact r 3 (by decide)
    · rw [gr]; exact r 4 (by decide)
    · rw [gr]; exact r 5 (by decide)
    · rw [gr]; exact r 6 (by decide)
    · rw [gr]; exact w8.2.2.2.1
    · rw [gi]; exact h8
  have hsh : ∀ (M9 : PM) (j : Nat), XL N8 M9 xo j → mR M9 xo 0 = some (xo + 1) ∧ mK M9 xo = (1, 0) ∧ mK M9 (xo + 1) = (2, 5) ∧ mZ M9 (xo + 1) = 8 := by
    intro M9 j h
    have g0 := h.2.1.2 xo (by rw [o8]; show xo < xo + 27; omega)
    have g1 := h.2.1.2 (xo + 1) (by rw [o8]; show xo + 1 < xo + 27; omega)
    exact ⟨(congrFun (g0.2.2 (by show ¬ xo = xo + 1; omega)).2.2 0).trans (w8.2.2.1 0 (by decide)), g0.1.trans w8.2.1, g1.1.trans c0.2.1, g1.2.1.trans c0.2.2.1⟩
  have L : ∀ (n j : Nat), j + n = 8 → ∀ M9 : PM, XL N8 M9 xo j → Wx (YX0_init, (2, 44, 34, 1450), qv (fun M' => XI0 M' xo ∧ M'.1 = xo + 35 ∧ frP (gE xo) M M'), noX) n n M9 77 [some (.ref xo), some (.int (nI j))] [] := by
    intro n
    induction n with
    | zero =>
      intro j hj M9 hl
      have e8 : j = 8 := by omega
      subst e8
      refine r_iload_n (pc := 77) dX0_init_77 rfl ?_
      refine r_bipush (pc := 78) (v := 8) dX0_init_78 (by decide) ?_
      refine r_icmp_ge (pc := 80) 102 dX0_init_80 rfl (fun _ => ?_) (fun hno => False.elim (absurd hno (show ¬ nI 8 < 8 by decide)))
      refine r_return (pc := 102) rfl dX0_init_102 ⟨rfl, ?_⟩
      exact fin M9 hl
    | succ n ih =>
      intro j hj M9 hl
      obtain ⟨q1, q2, q3, q4⟩ := hsh M9 j hl
      have hj8 : nI j < 8 := by rw [show (8 : Int32) = nI 8 from rfl, lt_nI (by omega) (by omega)]; omega
      have hne : xo ≠ M9.1 := by have := hl.1; omega
      have hn1 : xo + 1 ≠ M9.1 := by have := hl.1; omega
      refine r_iload_n (pc := 77) dX0_init_77 rfl ?_
      refine r_bipush (pc := 78) (v := 8) dX0_init_78 (by decide) ?_
      refine r_icmp_ge (pc := 80) 102 dX0_init_80 rfl (fun hno => absurd hno (fun q : ¬ nI j < 8 => q hj8)) (fun _ => ?_)
      refine r_aload_n (pc := 83) dX0_init_83 rfl ?_
      refine r_getR (pc := 84) dX0_init_84 fl_X0_59_0 q2 (fun _ _ => rfl) q1 ?_
      refine r_iload_n (pc := 87) dX0_init_87 rfl ?_
      refine r_new (c := 4) (pc := 88) (RX4, TX4, 1) dX0_init_88 rfl q122 q263 q83 dv_4 (Nat.le_add_left 1 n) rfl (Nat.le_add_left 1 n) ?_
      refine r_dup (pc := 91) dX0_init_91 rfl ?_
      refine r_o1 (pc := 92) (bc' := n) (bs' := n) (ct_X4_init (a := M9.1) (nw_K _ _ _)) k_X0_98_4 dX0_init_92 (nw_K _ _ _) (Nat.le_of_ble_eq_true rfl) ⟨Nat.le_of_ble_eq_true rfl, Nat.le_of_ble_eq_true rfl⟩ ⟨Nat.le_refl _, Nat.le_refl _⟩ (r_cv fun M92 p92 => ?_) nox
      have p92 : _ = _ := p92
      subst p92
      refine r_aast (pc := 95) (t := 5) (c := 4) (RX4, TX4, 1) "NoFartherThanAThrow$Shelf" dX0_init_95 ((nwK (κ := (1, 4)) (n := 0) hn1).trans q3) rfl ((nwZ (κ := (1, 4)) (n := 0) hn1).trans q4) (nw_K _ _ _) rfl (Or.inl rfl) (vp_b (nn_nI (by omega)) hj8 (by decide)) ?_
      rw [cl_nI (by omega)]
      refine r_iinc1 (pc := 96) dX0_init_96 (nI_1 _) rfl ?_
      refine r_goto (pc := 99) 77 dX0_init_99 rfl ?_
      exact ih (j + 1) (by omega) _ hl.step
  exact L 8 0 rfl N8 ⟨o8, frP.rf, fun i hi => absurd hi (Nat.not_lt_zero _)⟩
