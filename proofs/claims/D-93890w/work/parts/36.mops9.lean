/-! THE MODEL's calls: wants shared (printed by gen/model11.py) -/
set_option maxRecDepth 100000
/-- J is I but for the arrays of sharing; the table of what each set brings is there -/
def shI (I J : Nat → Nat → Int32) (mo : Nat) : Prop := (∀ x, x ≠ mo → x ≠ mo + 29 → x ≠ mo + 30 → x ≠ mo + 31 → J x = I x) ∧ ∀ k, k ≠ 46 → J mo k = I mo k
def shB (I : Nat → Nat → Int32) (mo N W : Nat) : Prop := ∀ w, w < W → ∀ s, s < 2 ^ N → I (mo + 28) (256 * w + s) = bI (metP (sM I mo) (fun _ => s) w)
theorem met_c {σ : cS} {a b : Nat → Nat} {w : Nat} (h : a w = b w) : metP σ a w = metP σ b w := by unfold metP; rw [h]
theorem shI.s {I J : Nat → Nat → Int32} {mo : Nat} (h : shI I J mo) : ∀ k, k ≤ 26 → sM J mo k = sM I mo k := fun k hk => sM_eq (h.2 k (by omega)) (fun o ho => h.1 _ (by rcases ho with ⟨g1, g2, g3⟩ | ⟨g1, g2, g3⟩ | ⟨g1, g3⟩ <;> omega) (by rcases ho with ⟨g1, g2, g3⟩ | ⟨g1, g2, g3⟩ | ⟨g1, g3⟩ <;> omega) (by rcases ho with ⟨g1, g2, g3⟩ | ⟨g1, g2, g3⟩ | ⟨g1, g3⟩ <;> omega) (by rcases ho with ⟨g1, g2, g3⟩ | ⟨g1, g2, g3⟩ | ⟨g1, g3⟩ <;> omega))
theorem shI.trans {I J K : Nat → Nat → Int32} {mo : Nat} (h : shI I J mo) (g : shI J K mo) : shI I K mo := ⟨fun x a b c d => (g.1 x a b c d).trans (h.1 x a b c d), fun k hk => (g.2 k hk).trans (h.2 k hk)⟩
theorem ct_X5_worthOf {M0 : PM} {mo : Nat} {I : Nat → Nat → Int32} {L : Nat → Nat → Int64} (hm : MR M0 mo) (J : Nat → Nat → Int32) (N W : Nat) (hN : N ≤ 8) (hW : W ≤ 4) (eW : I mo 2 = nI W) (hJ : shI I J mo) (hB : shB I mo N W) (st : Nat → Nat) (hs : ∀ w, w < W → J (mo + 29) w = nI (st w) ∧ st w < 2 ^ N) : Ct (YX5_worthOf, (0, 0, 0, 0), qi (fun r M' => r = wthC (sM I mo) st ∧ M' = wIL M0 J L), noX) [.ref mo] (wIL M0 J L) := by
  refine ct_of [some (.ref mo), none, none] rfl rfl rfl (Nat.le_of_ble_eq_true rfl) rfl rfl ?_
  have h256 := pow8 hN
  have iW : Int32.toNatClampNeg (sM I mo 2 0) = W := by show Int32.toNatClampNeg (I mo 2) = W; rw [eW, ix_nI (by omega)]
  have L1 : ∀ (n : Nat) (j : Nat) (s : Int32), j + n = W → wthC (sM I mo) st = wthL (sM I mo) st n j s → Wx (YX5_worthOf, (0, 0, 0, 0), qi (fun r M' => r = wthC (sM I mo) st ∧ M' = wIL M0 J L), noX) 0 0 (wIL M0 J L) 4 [some (.ref mo), some (.int s), some (.int (nI j))] [] := by
    intro n
    induction n with
    | zero =>
      intro j s hj hw
      refine r_iload_n (pc := 4) dX5_worthOf_4 rfl ?_
      refine r_aload_n (pc := 5) dX5_worthOf_5 rfl ?_
      refine rm_getI (pc := 6) dX5_worthOf_6 fl_X5_162_5 (MR_k hm) (fun _ _ => rfl) ?_
      refine r_icmp_ge (pc := 9) 48 dX5_worthOf_9 rfl (fun _ => ?_) (fun hno => False.elim (by rw [hJ.2 2 (by decide), eW, nI_ltI (by omega) (by omega)] at hno; omega))
      refine r_iload_n (pc := 48) dX5_worthOf_48 rfl ?_
      refine r_ireturn (pc := 49) rfl dX5_worthOf_49 ⟨_, rfl, ?_⟩
      exact ⟨by rw [hw]; rfl, rfl⟩
    | succ n ih =>
      intro j s hj hw
      have hv : vp_in (nI j) 4 := vp_in_nI (by omega) (by decide)
      have ej : Int32.toNatClampNeg (nI j) = j := ix_nI (by omega)
      obtain ⟨s1, s2⟩ := hs j (by omega)
      rw [wthL] at hw
      have q28 : J (mo + 28) = I (mo + 28) := hJ.1 _ (by omega) (by omega) (by omega) (by omega)
      have q12 : J (mo + 12) = I (mo + 12) := hJ.1 _ (by omega) (by omega) (by omega) (by omega)
      have hb : I (mo + 28) (256 * j + st j) = bI (metP (sM I mo) st j) := hB j (by omega) (st j) s2
      refine r_iload_n (pc := 4) dX5_worthOf_4 rfl ?_
      refine r_aload_n (pc := 5) dX5_worthOf_5 rfl ?_
      refine rm_getI (pc := 6) dX5_worthOf_6 fl_X5_162_5 (MR_k hm) (fun _ _ => rfl) ?_
      refine r_icmp_ge (pc := 9) 48 dX5_worthOf_9 rfl (fun hno => False.elim (by rw [hJ.2 2 (by decide), eW, nI_ltI (by omega) (by omega)] at hno; omega)) (fun _ => ?_)
      refine r_aload_n (pc := 12) dX5_worthOf_12 rfl ?_
      refine r_getR (pc := 13) dX5_worthOf_13 fl_X5_102_5 (MR_k hm) (fun _ _ => rfl) (MR_r42 hm) ?_
      refine r_sipush (pc := 16) (v := 256) dX5_worthOf_16 (by decide) ?_
      refine r_iload_n (pc := 19) dX5_worthOf_19 rfl ?_
      refine r_imul (pc := 20) dX5_worthOf_20 ?_
      refine r_aload_n (pc := 21) dX5_worthOf_21 rfl ?_
      refine r_getR (pc := 22) dX5_worthOf_22 fl_X5_105_5 (MR_k hm) (fun _ _ => rfl) (MR_r43 hm) ?_
      refine r_iload_n (pc := 25) dX5_worthOf_25 rfl ?_
      refine rm_iald (pc := 26) dX5_worthOf_26 (MR_k43 hm) (MR_z43 hm) (by first | assumption | exact vp_in_lit rfl) ?_
      rw [ej, s1]
      refine r_iadd (pc := 27) dX5_worthOf_27 ?_
      refine r_eqi (nI (256 * j + st j)) (by rw [show (256 : Int32) = nI 256 from rfl, pk_mul, nI_add]) ?_
      refine rm_iald (pc := 28) dX5_worthOf_28 (MR_k42 hm) (MR_z42 hm) (vp_in_nI (by omega) (by decide)) ?_
      rw [ix_nI (by omega), q28, hb]
      refine r_iconst (pc := 29) (v := 1) dX5_worthOf_29 (by decide) ?_
      refine r_icmp_ne (pc := 30) 42 dX5_worthOf_30 rfl (fun h30 => ?_) (fun h30 => ?_)
      · have hb1 : ¬ metP (sM I mo) st j := fun q => h30 (bI_t q)
        rw [cI_f hb1] at hw
        refine r_iinc2 (pc := 42) dX5_worthOf_42 (nI_1 _) rfl ?_
        refine r_goto (pc := 45) 4 dX5_worthOf_45 rfl ?_
        exact ih (j + 1) _ (by omega) hw
      · have hb1 : metP (sM I mo) st j := Classical.byContradiction fun q => absurd ((bI_f q).symm.trans h30) (by decide)
        rw [cI_t hb1] at hw
        refine r_iload_n (pc := 33) dX5_worthOf_33 rfl ?_
        refine r_aload_n (pc := 34) dX5_worthOf_34 rfl ?_
        refine r_getR (pc := 35) dX5_worthOf_35 fl_X5_53_5 (MR_k hm) (fun _ _ => rfl) (MR_r21 hm) ?_
        refine r_iload_n (pc := 38) dX5_worthOf_38 rfl ?_
        refine rm_iald (pc := 39) dX5_worthOf_39 (MR_k21 hm) (MR_z21 hm) (by first | assumption | exact vp_in_lit rfl) ?_
        rw [ej, q12]
        refine r_iadd (pc := 40) dX5_worthOf_40 ?_
        refine r_istore1 (pc := 41) dX5_worthOf_41 rfl ?_
        refine r_iinc2 (pc := 42) dX5_worthOf_42 (nI_1 _) rfl ?_
        refine r_goto (pc := 45) 4 dX5_worthOf_45 rfl ?_
        exact ih (j + 1) _ (by omega) hw
  refine r_iconst (pc := 0) (v := 0) dX5_worthOf_0 (by decide) ?_
  refine r_istore1 (pc := 1) dX5_worthOf_1 rfl ?_
  refine r_iconst (pc := 2) (v := 0) dX5_worthOf_2 (by decide) ?_
  refine r_istore2 (pc := 3) dX5_worthOf_3 rfl ?_
  exact L1 W 0 0 (by omega) (by rw [wthC, iW])
theorem ct_X5_shares {M0 : PM} {mo : Nat} {I : Nat → Nat → Int32} {L : Nat → Nat → Int64} (hm : MR M0 mo) (N W : Nat) (hN : N ≤ 8) (hW : W ≤ 4) (eN : I mo 1 = nI N) (eW : I mo 2 = nI W) (hB : shB I mo N W) : ∀ (d m : Nat) (J : Nat → Nat → Int32) (g : Nat → Int32) (st : Nat → Nat) (B : BT), m + d = N → shI I J mo → (∀ i, i < m → J (mo + 30) i = g i) → (∀ w, w < W → J (mo + 29) w = nI (st w) ∧ st w < 2 ^ m) → J mo 46 = B.1 → (¬ B.1 = -1 → ∀ i, i < N → J (mo + 31) i = B.2 i) → Ct (YX5_shares, (1 + d, 22 + 23 * d, 0, 0), qv (fun M' => ∃ K, M' = wIL M0 K L ∧ shI I K mo ∧ (∀ i, i < m → K (mo + 30) i = g i) ∧ (∀ w, w < W → K (mo + 29) w = nI (st w)) ∧ K mo 46 = (shC (sM I mo) d m g st B).1 ∧ (¬ (shC (sM I mo) d m g st B).1 = -1 → ∀ i, i < N → K (mo + 31) i = (shC (sM I mo) d m g st B).2 i)), noX) [.ref mo, .int (nI m)] (wIL M0 J L) := by
  have iW : Int32.toNatClampNeg (sM I mo 2 0) = W := by show Int32.toNatClampNeg (I mo 2) = W; rw [eW, ix_nI (by omega)]
  intro d
  induction d with
  | zero =>
    intro m J g st B hmd hJ hg hst hb1 hb2
    have hmN : m = N := by omega
    refine ct_of [some (.ref mo), some (.int (nI m)), none, none] rfl rfl rfl (Nat.le_of_ble_eq_true rfl) rfl rfl ?_
    have L1 : B.1 < wthC (sM I mo) st → ∀ (n j : Nat) (K : Nat → Nat → Int32), j + n = N → shI I K mo → (∀ i, i < m → K (mo + 30) i = g i) → (∀ w, w < W → K (mo + 29) w = nI (st w)) → K mo 46 = wthC (sM I mo) st → (∀ i, i < j → K (mo + 31) i = g i) → Wx (YX5_shares, (1 + 0, 22 + 23 * 0, 0, 0), qv (fun M' => ∃ K, M' = wIL M0 K L ∧ shI I K mo ∧ (∀ i, i < m → K (mo + 30) i = g i) ∧ (∀ w, w < W → K (mo + 29) w = nI (st w)) ∧ K mo 46 = (shC (sM I mo) 0 m g st B).1 ∧ (¬ (shC (sM I mo) 0 m g st B).1 = -1 → ∀ i, i < N → K (mo + 31) i = (shC (sM I mo) 0 m g st B).2 i)), noX) 0 0 (wIL M0 K L) 29 [some (.ref mo), some (.int (nI m)), some (.int (wthC (sM I mo) st)), some (.int (nI j))] [] := by
      intro hlt n
      have hsh : shC (sM I mo) 0 m g st B = (wthC (sM I mo) st, g) := by rw [shC, cI_t hlt]
      induction n with
      | zero =>
        intro j K hj c1 c2 c3 c4 c5
        refine r_iload_n (pc := 29) dX5_shares_29 rfl ?_
        refine r_aload_n (pc := 30) dX5_shares_30 rfl ?_
        refine rm_getI (pc := 31) dX5_shares_31 fl_X5_120_5 (MR_k hm) (fun _ _ => rfl) ?_
        refine r_icmp_ge (pc := 34) 55 dX5_shares_34 rfl (fun _ => ?_) (fun hno => False.elim (by rw [c1.2 1 (by decide), eN, nI_ltI (by omega) (by omega)] at hno; omega))
        refine r_return (pc := 55) rfl dX5_shares_55 ⟨rfl, ?_⟩
        exact ⟨K, rfl, c1, c2, c3, by rw [hsh]; exact c4, fun _ i hi => by rw [hsh]; exact c5 i (by omega)⟩
      | succ n ih =>
        intro j K hj c1 c2 c3 c4 c5
        have hv : vp_in (nI j) 8 := vp_in_nI (by omega) (by decide)
        have ej : Int32.toNatClampNeg (nI j) = j := ix_nI (by omega)
        refine r_iload_n (pc := 29) dX5_shares_29 rfl ?_
        refine r_aload_n (pc := 30) dX5_shares_30 rfl ?_
        refine rm_getI (pc := 31) dX5_shares_31 fl_X5_120_5 (MR_k hm) (fun _ _ => rfl) ?_
        refine r_icmp_ge (pc := 34) 55 dX5_shares_34 rfl (fun hno => False.elim (by rw [c1.2 1 (by decide), eN, nI_ltI (by omega) (by omega)] at hno; omega)) (fun _ => ?_)
        refine r_aload_n (pc := 37) dX5_shares_37 rfl ?_
        refine r_getR (pc := 38) dX5_shares_38 fl_X5_111_5 (MR_k hm) (fun _ _ => rfl) (MR_r45 hm) ?_
        refine r_iload_n (pc := 41) dX5_shares_41 rfl ?_
        refine r_aload_n (pc := 42) dX5_shares_42 rfl ?_
        refine r_getR (pc := 43) dX5_shares_43 fl_X5_108_5 (MR_k hm) (fun _ _ => rfl) (MR_r44 hm) ?_
        refine r_iload_n (pc := 46) dX5_shares_46 rfl ?_
        refine rm_iald (pc := 47) dX5_shares_47 (MR_k44 hm) (MR_z44 hm) (by first | assumption | exact vp_in_lit rfl) ?_
        refine rm_iast (pc := 48) dX5_shares_48 (MR_k45 hm) (MR_z45 hm) (by first | assumption | exact vp_in_lit rfl) ?_
        refine r_iinc3 (pc := 49) dX5_shares_49 (nI_1 _) rfl ?_
        refine r_goto (pc := 52) 29 dX5_shares_52 rfl ?_
        refine ih (j + 1) _ (by omega) ⟨fun x h1 h2 h3 h4 => (up2_ne h4).trans (c1.1 x h1 h2 h3 h4), fun k hk => by rw [up2_ne (by omega)]; exact c1.2 k hk⟩ (fun i hi => by rw [up2_ne (by omega)]; exact c2 i hi) (fun w hw => by rw [up2_ne (by omega)]; exact c3 w hw) (by rw [up2_ne (by omega)]; exact c4) (fun i hi => ?_)
        rw [up2_self, ej]
        by_cases e : i = j
        · subst e; rw [va_up_self]; exact c2 i (by omega)
        · rw [va_up_ne _ _ e]; exact c5 i (by omega)
    refine r_iload_n (pc := 0) dX5_shares_0 rfl ?_
    refine r_aload_n (pc := 1) dX5_shares_1 rfl ?_
    refine rm_getI (pc := 2) dX5_shares_2 fl_X5_120_5 (MR_k hm) (fun _ _ => rfl) ?_
    refine r_icmp_ne (pc := 5) 56 dX5_shares_5 rfl (fun hno => False.elim (hno (by rw [hJ.2 1 (by decide), eN, hmN]))) (fun _ => ?_)
    refine r_aload_n (pc := 8) dX5_shares_8 rfl ?_
    refine r_o1 (pc := 9) (bc' := 0) (bs' := 0) (ct_X5_worthOf hm J N W hN hW eW hJ hB st (fun w hw => ⟨(hst w hw).1, by rw [← hmN]; exact (hst w hw).2⟩)) k_X5_274_5 dX5_shares_9 (MR_k hm) (Nat.le_of_ble_eq_true rfl) ⟨Nat.le_of_ble_eq_true rfl, Nat.le_of_ble_eq_true rfl⟩ ⟨Nat.le_of_ble_eq_true rfl, Nat.le_of_ble_eq_true rfl⟩ (r_ci fun r9 M9 p9 => ?_) nox
    obtain ⟨rfl, rfl⟩ := p9
    refine r_istore2 (pc := 12) dX5_shares_12 rfl ?_
    refine r_iload_n (pc := 13) dX5_shares_13 rfl ?_
    refine r_aload_n (pc := 14) dX5_shares_14 rfl ?_
    refine rm_getI (pc := 15) dX5_shares_15 fl_X5_277_5 (MR_k hm) (fun _ _ => rfl) ?_
    rw [hb1]
    refine r_icmp_gt (pc := 18) 22 dX5_shares_18 rfl (fun h18 => ?_) (fun h18 => ?_)
    · refine r_aload_n (pc := 22) dX5_shares_22 rfl ?_
      refine r_iload_n (pc := 23) dX5_shares_23 rfl ?_
      refine rm_putI (pc := 24) dX5_shares_24 fl_X5_277_5 (MR_k hm) rfl rfl ?_
      refine r_iconst (pc := 27) (v := 0) dX5_shares_27 (by decide) ?_
      refine r_istore3 (pc := 28) dX5_shares_28 rfl ?_
      refine L1 h18 N 0 _ (by omega) ⟨fun x h1 h2 h3 h4 => (up2_ne h1).trans (hJ.1 x h1 h2 h3 h4), fun k hk => by rw [up2_self, va_up_ne _ _ hk]; exact hJ.2 k hk⟩ (fun i hi => by rw [up2_ne (by omega)]; exact hg i hi) (fun w hw => by rw [up2_ne (by omega)]; exact (hst w hw).1) (by rw [up2_self, va_up_self]) (fun i hi => absurd hi (by omega))
    · refine r_return (pc := 21) rfl dX5_shares_21 ⟨rfl, ?_⟩
      have hsh : shC (sM I mo) 0 m g st B = B := by rw [shC, cI_f h18]
      exact ⟨J, rfl, hJ, hg, fun w hw => (hst w hw).1, by rw [hsh]; exact hb1, fun h i hi => by rw [hsh] at h ⊢; exact hb2 h i hi⟩
  | succ d ihd =>
    intro m J g st B hmd hJ hg hst hb1 hb2
    refine ct_of [some (.ref mo), some (.int (nI m)), none, none] rfl rfl rfl (Nat.le_of_ble_eq_true rfl) rfl rfl ?_
    have hv : vp_in (nI m) 8 := vp_in_nI (by omega) (by decide)
    have em : Int32.toNatClampNeg (nI m) = m := ix_nI (by omega)
    have hp2 := Nat.two_pow_pos m
    have hm8 : 2 ^ m ≤ 256 := pow8 (by omega)
    have L1 : ∀ (n j : Nat) (K : Nat → Nat → Int32) (B2 : BT) (o3 : Option Value), j + n = W → shI I K mo → (∀ i, i < m → K (mo + 30) i = g i) → (∀ w, w < W → K (mo + 29) w = nI (st w)) → K mo 46 = B2.1 → (¬ B2.1 = -1 → ∀ i, i < N → K (mo + 31) i = B2.2 i) → shC (sM I mo) (d + 1) m g st B = (List.range' j n).foldl (fun (B : BT) w => shC (sM I mo) d (m + 1) (va_up g m (nI w)) (va_up st w (st w + 2 ^ m)) B) B2 → Wx (YX5_shares, (1 + (d + 1), 22 + 23 * (d + 1), 0, 0), qv (fun M' => ∃ K, M' = wIL M0 K L ∧ shI I K mo ∧ (∀ i, i < m → K (mo + 30) i = g i) ∧ (∀ w, w < W → K (mo + 29) w = nI (st w)) ∧ K mo 46 = (shC (sM I mo) (d + 1) m g st B).1 ∧ (¬ (shC (sM I mo) (d + 1) m g st B).1 = -1 → ∀ i, i < N → K (mo + 31) i = (shC (sM I mo) (d + 1) m g st B).2 i)), noX) 0 0 (wIL M0 K L) 72 [some (.ref mo), some (.int (nI m)), some (.int (nI j)), o3] [] := by
      intro n
      induction n with
      | zero =>
        intro j K B2 o3 hj c1 c2 c3 c4 c5 hw
        refine r_iload_n (pc := 72) dX5_shares_72 rfl ?_
        refine r_aload_n (pc := 73) dX5_shares_73 rfl ?_
        refine rm_getI (pc := 74) dX5_shares_74 fl_X5_162_5 (MR_k hm) (fun _ _ => rfl) ?_
        refine r_icmp_ge (pc := 77) 126 dX5_shares_77 rfl (fun _ => ?_) (fun hno => False.elim (by rw [c1.2 2 (by decide), eW, nI_ltI (by omega) (by omega)] at hno; omega))
        refine r_return (pc := 126) rfl dX5_shares_126 ⟨rfl, ?_⟩
        have hw : shC (sM I mo) (d + 1) m g st B = B2 := hw
        exact ⟨K, rfl, c1, c2, c3, by rw [hw]; exact c4, fun h i hi => by rw [hw] at h ⊢; exact c5 h i hi⟩
      | succ n ih =>
        intro j K B2 o3 hj c1 c2 c3 c4 c5 hw
        have hvj : vp_in (nI j) 4 := vp_in_nI (by omega) (by decide)
        have ej : Int32.toNatClampNeg (nI j) = j := ix_nI (by omega)
        rw [List.range'_succ, List.foldl_cons] at hw
        have hsj := (hst j (by omega)).2
        obtain ⟨u1, u2, u3, u4⟩ := bt_top m (by omega) (st j) (by omega) hsj
        refine r_iload_n (pc := 72) dX5_shares_72 rfl ?_
        refine r_aload_n (pc := 73) dX5_shares_73 rfl ?_
        refine rm_getI (pc := 74) dX5_shares_74 fl_X5_162_5 (MR_k hm) (fun _ _ => rfl) ?_
        refine r_icmp_ge (pc := 77) 126 dX5_shares_77 rfl (fun hno => False.elim (by rw [c1.2 2 (by decide), eW, nI_ltI (by omega) (by omega)] at hno; omega)) (fun _ => ?_)
        refine r_aload_n (pc := 80) dX5_shares_80 rfl ?_
        refine r_getR (pc := 81) dX5_shares_81 fl_X5_108_5 (MR_k hm) (fun _ _ => rfl) (MR_r44 hm) ?_
        refine r_iload_n (pc := 84) dX5_shares_84 rfl ?_
        refine r_iload_n (pc := 85) dX5_shares_85 rfl ?_
        refine rm_iast (pc := 86) dX5_shares_86 (MR_k44 hm) (MR_z44 hm) (by first | assumption | exact vp_in_lit rfl) ?_
        refine r_aload_n (pc := 87) dX5_shares_87 rfl ?_
        refine r_getR (pc := 88) dX5_shares_88 fl_X5_105_5 (MR_k hm) (fun _ _ => rfl) (MR_r43 hm) ?_
        refine r_iload_n (pc := 91) dX5_shares_91 rfl ?_
        refine r_dup2 (pc := 92) dX5_shares_92 rfl rfl ?_
        refine rm_ialde (pc := 93) (f := K (mo + 29)) dX5_shares_93 (MR_k43 hm) (MR_z43 hm) (by first | assumption | exact vp_in_lit rfl) (by simp [up2_ne]) ?_
        refine r_eqi (nI (st j)) (by rw [ej]; exact c3 j (by omega)) ?_
        refine r_iconst (pc := 94) (v := 1) dX5_shares_94 (by decide) ?_
        refine r_iload_n (pc := 95) dX5_shares_95 rfl ?_
        refine r_ishl (pc := 96) dX5_shares_96 ?_
        refine r_ior (pc := 97) dX5_shares_97 ?_
        refine r_eqi (nI (st j + 2 ^ m)) (bt_or (st j) (by omega) m (by omega) u1) ?_
        refine rm_iast (pc := 98) dX5_shares_98 (MR_k43 hm) (MR_z43 hm) (by first | assumption | exact vp_in_lit rfl) ?_
        refine r_mem (wIL M0 (up2 (up2 K (mo + 30) m (nI j)) (mo + 29) j (nI (st j + 2 ^ m))) L) (by rw [ej, em]) ?_
        have k1 : shI I (up2 (up2 K (mo + 30) m (nI j)) (mo + 29) j (nI (st j + 2 ^ m))) mo := ⟨fun x h1 h2 h3 h4 => (up2_ne h2).trans ((up2_ne h3).trans (c1.1 x h1 h2 h3 h4)), fun k hk => by rw [up2_ne (by omega), up2_ne (by omega)]; exact c1.2 k hk⟩
        have k2 : ∀ i, i < m + 1 → (up2 (up2 K (mo + 30) m (nI j)) (mo + 29) j (nI (st j + 2 ^ m))) (mo + 30) i = va_up g m (nI j) i := fun i hi => by
          rw [up2_ne (by omega), up2_self]
          by_cases e : i = m
          · subst e; rw [va_up_self, va_up_self]
          · rw [va_up_ne _ _ e, va_up_ne _ _ e]; exact c2 i (by omega)
        have k3 : ∀ w, w < W → (up2 (up2 K (mo + 30) m (nI j)) (mo + 29) j (nI (st j + 2 ^ m))) (mo + 29) w = nI (va_up st j (st j + 2 ^ m) w) ∧ va_up st j (st j + 2 ^ m) w < 2 ^ (m + 1) := fun w hw2 => by
          rw [up2_self]
          by_cases e : w = j
          · subst e; rw [va_up_self, va_up_self]; exact ⟨rfl, u4⟩
          · rw [va_up_ne _ _ e, va_up_ne _ _ e, up2_ne (by omega)]; exact ⟨c3 w hw2, Nat.lt_of_lt_of_le (hst w hw2).2 (Nat.pow_le_pow_right (by decide) (by omega))⟩
        have k4 : (up2 (up2 K (mo + 30) m (nI j)) (mo + 29) j (nI (st j + 2 ^ m))) mo 46 = B2.1 := by rw [up2_ne (by omega), up2_ne (by omega)]; exact c4
        have k5 : ¬ B2.1 = -1 → ∀ i, i < N → (up2 (up2 K (mo + 30) m (nI j)) (mo + 29) j (nI (st j + 2 ^ m))) (mo + 31) i = B2.2 i := fun h i hi => by rw [up2_ne (by omega), up2_ne (by omega)]; exact c5 h i hi
        refine r_aload_n (pc := 99) dX5_shares_99 rfl ?_
        refine r_iload_n (pc := 100) dX5_shares_100 rfl ?_
        refine r_iconst (pc := 101) (v := 1) dX5_shares_101 (by decide) ?_
        refine r_iadd (pc := 102) dX5_shares_102 ?_
        refine r_eqi (nI (m + 1)) (nI_1 _) ?_
        refine r_o2 (pc := 103) (bc' := 0) (bs' := 0) (ihd (m + 1) (up2 (up2 K (mo + 30) m (nI j)) (mo + 29) j (nI (st j + 2 ^ m))) (va_up g m (nI j)) (va_up st j (st j + 2 ^ m)) B2 (by omega) k1 k2 k3 k4 k5) k_X5_280_5 dX5_shares_103 (MR_k hm) (Nat.le_of_ble_eq_true rfl) ⟨by show (1 + d) + 1 ≤ 1 + (d + 1); omega, by show 8 + (4 + 11) + (22 + 23 * d) ≤ 22 + 23 * (d + 1); omega⟩ ⟨Nat.le_of_ble_eq_true rfl, Nat.le_of_ble_eq_true rfl⟩ (r_cv fun M103 p103 => ?_) nox
        obtain ⟨K3, rfl, z1, z2, z3, z4, z5⟩ := p103
        refine r_aload_n (pc := 106) dX5_shares_106 rfl ?_
        refine r_getR (pc := 107) dX5_shares_107 fl_X5_105_5 (MR_k hm) (fun _ _ => rfl) (MR_r43 hm) ?_
        refine r_iload_n (pc := 110) dX5_shares_110 rfl ?_
        refine r_dup2 (pc := 111) dX5_shares_111 rfl rfl ?_
        refine rm_iald (pc := 112) dX5_shares_112 (MR_k43 hm) (MR_z43 hm) (by first | assumption | exact vp_in_lit rfl) ?_
        refine r_eqi (nI (st j + 2 ^ m)) (by rw [ej, z3 j (by omega), va_up_self]) ?_
        refine r_iconst (pc := 113) (v := 1) dX5_shares_113 (by decide) ?_
        refine r_iload_n (pc := 114) dX5_shares_114 rfl ?_
        refine r_ishl (pc := 115) dX5_shares_115 ?_
        refine r_iconst (pc := 116) (v := (-1)) dX5_shares_116 (by decide) ?_
        refine r_ixor (pc := 117) dX5_shares_117 ?_
        refine r_iand (pc := 118) dX5_shares_118 ?_
        refine r_eqi (nI (st j)) (by rw [bt_clr (st j + 2 ^ m) (by omega) m (by omega), if_pos u2, Nat.add_sub_cancel]) ?_
        refine rm_iast (pc := 119) dX5_shares_119 (MR_k43 hm) (MR_z43 hm) (by first | assumption | exact vp_in_lit rfl) ?_
        refine r_iinc2 (pc := 120) dX5_shares_120 (nI_1 _) rfl ?_
        refine r_goto (pc := 123) 72 dX5_shares_123 rfl ?_
        refine ih (j + 1) _ _ _ (by omega) ⟨fun x h1 h2 h3 h4 => (up2_ne h2).trans (z1.1 x h1 h2 h3 h4), fun k hk => by rw [up2_ne (by omega)]; exact z1.2 k hk⟩ (fun i hi => ?_) (fun w hw2 => ?_) ?_ ?_ hw
        · rw [up2_ne (by omega), z2 i (by omega), va_up_ne _ _ (by omega)]
        · rw [up2_self, ej]
          by_cases e : w = j
          · subst e; rw [va_up_self]
          · rw [va_up_ne _ _ e, z3 w hw2, va_up_ne _ _ e]
        · rw [up2_ne (by omega)]; exact z4
        · intro h i hi; rw [up2_ne (by omega)]; exact z5 h i hi
    refine r_iload_n (pc := 0) dX5_shares_0 rfl ?_
    refine r_aload_n (pc := 1) dX5_shares_1 rfl ?_
    refine rm_getI (pc := 2) dX5_shares_2 fl_X5_120_5 (MR_k hm) (fun _ _ => rfl) ?_
    refine r_icmp_ne (pc := 5) 56 dX5_shares_5 rfl (fun _ => ?_) (fun hno => False.elim ((by rw [hJ.2 1 (by decide), eN, nI_eq (by omega) (by omega)] at hno; omega)))
    refine r_aload_n (pc := 56) dX5_shares_56 rfl ?_
    refine r_getR (pc := 57) dX5_shares_57 fl_X5_108_5 (MR_k hm) (fun _ _ => rfl) (MR_r44 hm) ?_
    refine r_iload_n (pc := 60) dX5_shares_60 rfl ?_
    refine r_iconst (pc := 61) (v := (-1)) dX5_shares_61 (by decide) ?_
    refine rm_iast (pc := 62) dX5_shares_62 (MR_k44 hm) (MR_z44 hm) (by first | assumption | exact vp_in_lit rfl) ?_
    refine r_mem (wIL M0 (up2 J (mo + 30) m (-1)) L) (by rw [em]) ?_
    have k1 : shI I (up2 J (mo + 30) m (-1)) mo := ⟨fun x h1 h2 h3 h4 => (up2_ne h3).trans (hJ.1 x h1 h2 h3 h4), fun k hk => by rw [up2_ne (by omega)]; exact hJ.2 k hk⟩
    have k2 : ∀ i, i < m + 1 → (up2 J (mo + 30) m (-1)) (mo + 30) i = va_up g m (-1) i := fun i hi => by
      rw [up2_self]
      by_cases e : i = m
      · subst e; rw [va_up_self, va_up_self]
      · rw [va_up_ne _ _ e, va_up_ne _ _ e]; exact hg i (by omega)
    have k3 : ∀ w, w < W → (up2 J (mo + 30) m (-1)) (mo + 29) w = nI (st w) ∧ st w < 2 ^ (m + 1) := fun w hw2 => by rw [up2_ne (by omega)]; exact ⟨(hst w hw2).1, Nat.lt_of_lt_of_le (hst w hw2).2 (Nat.pow_le_pow_right (by decide) (by omega))⟩
    have k4 : (up2 J (mo + 30) m (-1)) mo 46 = B.1 := by rw [up2_ne (by omega)]; exact hb1
    have k5 : ¬ B.1 = -1 → ∀ i, i < N → (up2 J (mo + 30) m (-1)) (mo + 31) i = B.2 i := fun h i hi => by rw [up2_ne (by omega)]; exact hb2 h i hi
    refine r_aload_n (pc := 63) dX5_shares_63 rfl ?_
    refine r_iload_n (pc := 64) dX5_shares_64 rfl ?_
    refine r_iconst (pc := 65) (v := 1) dX5_shares_65 (by decide) ?_
    refine r_iadd (pc := 66) dX5_shares_66 ?_
    refine r_eqi (nI (m + 1)) (nI_1 _) ?_
    refine r_o2 (pc := 67) (bc' := 0) (bs' := 0) (ihd (m + 1) (up2 J (mo + 30) m (-1)) (va_up g m (-1)) st B (by omega) k1 k2 k3 k4 k5) k_X5_280_5 dX5_shares_67 (MR_k hm) (Nat.le_of_ble_eq_true rfl) ⟨by show (1 + d) + 1 ≤ 1 + (d + 1); omega, by show 8 + (4 + 11) + (22 + 23 * d) ≤ 22 + 23 * (d + 1); omega⟩ ⟨Nat.le_of_ble_eq_true rfl, Nat.le_of_ble_eq_true rfl⟩ (r_cv fun M67 p67 => ?_) nox
    obtain ⟨K3, rfl, z1, z2, z3, z4, z5⟩ := p67
    refine r_iconst (pc := 70) (v := 0) dX5_shares_70 (by decide) ?_
    refine r_istore2 (pc := 71) dX5_shares_71 rfl ?_
    refine L1 W 0 K3 _ _ (by omega) z1 (fun i hi => by rw [z2 i (by omega), va_up_ne _ _ (by omega)]) z3 z4 z5 ?_
    rw [shC, iW]
theorem wth_0 {σ : cS} (h : OkW σ) (st : Nat → Nat) : ∀ (n j : Nat) (s : Int32), j + n = Int32.toNatClampNeg (σ 2 0) → 0 ≤ s.toInt → s.toInt ≤ 99 * j → j + n ≤ 4 → 0 ≤ (wthL σ st n j s).toInt
  | 0, _, s, _, h1, _, _ => h1
  | n + 1, j, s, hj, h1, h2, h4 => by
    rw [wthL]
    have hw := (h.2.2.2.2 j (by omega)).2.2
    by_cases c : metP σ st j
    · rw [cI_t c]
      have ha := i_add (x := s) (y := σ 21 j) (by omega) (by omega)
      exact wth_0 h st n (j + 1) _ (by omega) (by omega) (by omega) (by omega)
    · rw [cI_f c]; exact wth_0 h st n (j + 1) s (by omega) h1 (by omega) (by omega)
theorem wthC_0 {σ : cS} (h : OkW σ) (st : Nat → Nat) : 0 ≤ (wthC σ st).toInt := by
  have := h.1.2.2
  refine wth_0 h st _ 0 0 (by omega) (by decide) (by decide) ?_
  have := ix_toInt this.1
  omega
theorem fold_0 {α : Type} (f : BT → α → BT) (hf : ∀ B a, 0 ≤ B.1.toInt → 0 ≤ (f B a).1.toInt) : ∀ (l : List α) (B : BT), 0 ≤ B.1.toInt → 0 ≤ (l.foldl f B).1.toInt
  | [], _, h => h
  | a :: l, B, h => fold_0 f hf l _ (hf B a h)
theorem sh_0 {σ : cS} (h : OkW σ) : ∀ (d m : Nat) (g : Nat → Int32) (s : Nat → Nat) (B : BT), 0 ≤ (shC σ d m g s B).1.toInt
  | 0, m, g, s, B => by
    rw [shC]
    have := wthC_0 h s
    by_cases c : B.1 < wthC σ s
    · rw [cI_t c]; exact this
    · rw [cI_f c]; rw [i_lt] at c; omega
  | d + 1, m, g, s, B => by
    rw [shC]
    exact fold_0 _ (fun B w _ => sh_0 h d (m + 1) _ _ B) _ _ (sh_0 h d (m + 1) _ _ B)
theorem met_k {σ τ : cS} (h : ∀ k, k ≤ 21 → σ k = τ k) {s : Nat → Nat} {w : Nat} : metP σ s w = metP τ s w := by
  unfold metP
  rw [endF_c (σ := σ) (τ := τ) (h 4 (by omega)) (h 5 (by omega)) (h 1 (by omega)) (h 6 (by omega)) (h 11 (by omega)) (h 12 (by omega)) (h 13 (by omega)) (h 14 (by omega)) (h 17 (by omega)) (h 18 (by omega)), h 14 (by omega), h 19 (by omega), h 20 (by omega)]
theorem wth_k {σ τ : cS} (h : ∀ k, k ≤ 21 → σ k = τ k) {st : Nat → Nat} : ∀ (n j : Nat) (s : Int32), wthL σ st n j s = wthL τ st n j s
  | 0, _, _ => rfl
  | n + 1, j, s => by rw [wthL, wthL, met_k h, h 21 (by omega), wth_k h n]
theorem wthC_k {σ τ : cS} (h : ∀ k, k ≤ 21 → σ k = τ k) {st : Nat → Nat} : wthC σ st = wthC τ st := by rw [wthC, wthC, h 2 (by omega), wth_k h]
theorem sh_k {σ τ : cS} (h : ∀ k, k ≤ 21 → σ k = τ k) : ∀ (d m : Nat) (g : Nat → Int32) (s : Nat → Nat) (B : BT), shC σ d m g s B = shC τ d m g s B
  | 0, m, g, s, B => by rw [shC, shC, wthC_k h]
  | d + 1, m, g, s, B => by
    rw [shC, shC, h 2 (by omega), sh_k h d]
    congr 1
    funext B w
    exact sh_k h d _ _ _ _
theorem shAll_k {σ τ : cS} (h : ∀ k, k ≤ 21 → σ k = τ k) : shAll σ = shAll τ := by
  unfold shAll ppN
  rw [h 1 (by omega), sh_k h]
theorem ct_X5_shareAll {M0 : PM} {mo : Nat} {I : Nat → Nat → Int32} {L : Nat → Nat → Int64} (hm : MR M0 mo) (hk : OkS (sM I mo)) (N : Nat) (hN : N ≤ 8) (eN : I mo 1 = nI N) : Ct (YX5_shareAll, (10, 254, 0, 0), qv (fun M' => ∃ K, M' = wIL M0 K L ∧ (∀ x, x ≠ mo → (x < mo + 24 ∨ mo + 31 < x) → K x = I x) ∧ (∀ k, k ≠ 46 → K mo k = I mo k) ∧ K mo 46 = (shAll (sM I mo)).1 ∧ (∀ i, i < N → K (mo + 31) i = (shAll (sM I mo)).2 i)), noX) [.ref mo] (wIL M0 I L) := by
  refine ct_of [some (.ref mo), none, none, none, none, none] rfl rfl rfl (Nat.le_of_ble_eq_true rfl) rfl rfl ?_
  obtain ⟨W, hW, eW⟩ := bd_nI (n := 4) hk.1.1.2.2
  have eW : I mo 2 = nI W := eW
  have h256 := pow8 hN
  have eP : ppN (sM I mo) = N := by show Int32.toNatClampNeg (I mo 1) = N; rw [eN, ix_nI (by omega)]
  have iW : Int32.toNatClampNeg (sM I mo 2 0) = W := by show Int32.toNatClampNeg (I mo 2) = W; rw [eW, ix_nI (by omega)]
  have L1 : ∀ (n : Nat) (w : Nat) (J : Nat → Nat → Int32) (o2 o3 o4 o5 : Option Value), w + n = W → (∀ x, (x < mo + 24 ∨ mo + 31 < x) → J x = I x) → (∀ v, v < w → ∀ s, s < 2 ^ N → J (mo + 28) (256 * v + s) = bI (metP (sM I mo) (fun _ => s) v)) → (∀ v, v < w → J (mo + 29) v = 0) → Wx (YX5_shareAll, (10, 254, 0, 0), qv (fun M' => ∃ K, M' = wIL M0 K L ∧ (∀ x, x ≠ mo → (x < mo + 24 ∨ mo + 31 < x) → K x = I x) ∧ (∀ k, k ≠ 46 → K mo k = I mo k) ∧ K mo 46 = (shAll (sM I mo)).1 ∧ (∀ i, i < N → K (mo + 31) i = (shAll (sM I mo)).2 i)), noX) 0 0 (wIL M0 J L) 2 [some (.ref mo), some (.int (nI w)), o2, o3, o4, o5] [] := by
    intro n
    induction n with
    | zero =>
      intro w J o2 o3 o4 o5 hw a1 a2 a3
      refine r_iload_n (pc := 2) dX5_shareAll_2 rfl ?_
      refine r_aload_n (pc := 3) dX5_shareAll_3 rfl ?_
      refine rm_getI (pc := 4) dX5_shareAll_4 fl_X5_162_5 (MR_k hm) (fun _ _ => rfl) ?_
      refine r_icmp_ge (pc := 7) 134 dX5_shareAll_7 rfl (fun _ => ?_) (fun hno => False.elim (by rw [a1 mo (by omega), eW, nI_ltI (by omega) (by omega)] at hno; omega))
      refine r_aload_n (pc := 134) dX5_shareAll_134 rfl ?_
      refine r_iconst (pc := 135) (v := (-1)) dX5_shareAll_135 (by decide) ?_
      refine rm_putI (pc := 136) dX5_shareAll_136 fl_X5_277_5 (MR_k hm) rfl rfl ?_
      refine r_aload_n (pc := 139) dX5_shareAll_139 rfl ?_
      refine r_iconst (pc := 140) (v := 0) dX5_shareAll_140 (by decide) ?_
      have kk : ∀ k, k ≤ 21 → sM (up2 J mo 46 (-1)) mo k = sM I mo k := fun k hk2 => sM_eq (by rw [up2_self, va_up_ne _ _ (by omega), a1 mo (by omega)]) (fun o ho => by rw [up2_ne (by rcases ho with ⟨g1, g2, g3⟩ | ⟨g1, g2, g3⟩ | ⟨g1, g3⟩ <;> omega)]; exact a1 _ (by rcases ho with ⟨g1, g2, g3⟩ | ⟨g1, g2, g3⟩ | ⟨g1, g3⟩ <;> omega))
      have k1 : shB (up2 J mo 46 (-1)) mo N W := fun v hv s hs => by rw [up2_ne (by omega), met_k kk]; exact a2 v (by omega) s hs
      refine r_o2 (pc := 141) (bc' := 0) (bs' := 0) (ct_X5_shares (I := (up2 J mo 46 (-1))) hm N W hN hW (by rw [up2_self, va_up_ne _ _ (by decide), a1 mo (by omega)]; exact eN) (by rw [up2_self, va_up_ne _ _ (by decide), a1 mo (by omega)]; exact eW) k1 N 0 (up2 J mo 46 (-1)) (fun _ => 0) (fun _ => 0) (-1, fun _ => 0) (by omega) ⟨fun _ _ _ _ _ => rfl, fun _ _ => rfl⟩ (fun i hi => absurd hi (by omega)) (fun v hv => ⟨by rw [up2_ne (by omega)]; exact a3 v (by omega), by decide⟩) (by rw [up2_self, va_up_self]) (fun h => absurd rfl h)) k_X5_280_5 dX5_shareAll_141 (MR_k hm) (Nat.le_of_ble_eq_true rfl) ⟨by show (1 + N) + 1 ≤ 10; omega, by show 8 + (4 + 11) + (22 + 23 * N) ≤ 254; omega⟩ ⟨Nat.le_of_ble_eq_true rfl, Nat.le_of_ble_eq_true rfl⟩ (r_cv fun M141 p141 => ?_) nox
      obtain ⟨K, rfl, z1, z2, z3, z4, z5⟩ := p141
      refine r_return (pc := 144) rfl dX5_shareAll_144 ⟨rfl, ?_⟩
      have ea : shC (sM (up2 J mo 46 (-1)) mo) N 0 (fun _ => 0) (fun _ => 0) (-1, fun _ => 0) = shAll (sM I mo) := by rw [sh_k kk, shAll, eP]
      rw [ea] at z4 z5
      refine ⟨K, rfl, fun x h1 h2 => (z1.1 x h1 (by omega) (by omega) (by omega)).trans ((up2_ne h1).trans (a1 x h2)), fun k hk2 => ?_, z4, z5 ?_⟩
      · rw [z1.2 k hk2, up2_self, va_up_ne _ _ hk2, a1 mo (by omega)]
      · intro h
        have := sh_0 hk.1 (ppN (sM I mo)) 0 (fun _ => 0) (fun _ => 0) (-1, fun _ => 0)
        rw [show shC (sM I mo) (ppN (sM I mo)) 0 (fun _ => 0) (fun _ => 0) (-1, fun _ => 0) = shAll (sM I mo) from rfl, h, c_m1] at this
        omega
    | succ n ih =>
      intro w J o2 o3 o4 o5 hw a1 a2 a3
      have hvw : vp_in (nI w) 4 := vp_in_nI (by omega) (by decide)
      have ew : Int32.toNatClampNeg (nI w) = w := ix_nI (by omega)
      have hw2 := hk.1.2.2.2.2 w (by rw [iW]; omega)
      have hw21 : 0 ≤ (I (mo + 10) w).toInt ∧ (I (mo + 10) w).toInt < (I mo 0).toInt := hw2.1
      have ht : vp_in (I (mo + 10) w) 8 := vp_n ⟨hw21.1, Int.lt_of_lt_of_le hw21.2 hk.1.1.1.2⟩
      have hd := hk.1.far (t := (Int32.toNatClampNeg (I (mo + 10) w))) (by
        have a := ix_toInt hw21.1
        have b := ix_toInt hk.1.1.1.1
        have b : (Int32.toNatClampNeg (sM I mo 0 0) : Int) = (I mo 0).toInt := b
        omega)
      have L2 : ∀ (c s : Nat) (K : Nat → Nat → Int32), s + c = 2 ^ N → (∀ x, (x < mo + 24 ∨ mo + 31 < x) → K x = I x) → (∀ v, v < w → ∀ s, s < 2 ^ N → K (mo + 28) (256 * v + s) = bI (metP (sM I mo) (fun _ => s) v)) → (∀ v, v < w → K (mo + 29) v = 0) → (I (mo + 5) (Int32.toNatClampNeg (I (mo + 10) w)) < I (mo + 11) w → ∀ j, j < 2 ^ N → K (mo + 24) j = endF (sM I mo) (Int32.toNatClampNeg (I (mo + 10) w)) (I (mo + 11) w) j) → (∀ r, r < s → K (mo + 28) (256 * w + r) = bI (metP (sM I mo) (fun _ => r) w)) → Wx (YX5_shareAll, (10, 254, 0, 0), qv (fun M' => ∃ K, M' = wIL M0 K L ∧ (∀ x, x ≠ mo → (x < mo + 24 ∨ mo + 31 < x) → K x = I x) ∧ (∀ k, k ≠ 46 → K mo k = I mo k) ∧ K mo 46 = (shAll (sM I mo)).1 ∧ (∀ i, i < N → K (mo + 31) i = (shAll (sM I mo)).2 i)), noX) 0 0 (wIL M0 K L) 60 [some (.ref mo), some (.int (nI w)), some (.int (I (mo + 10) w)), some (.int (I (mo + 11) w)), some (.int (bI (I (mo + 5) (Int32.toNatClampNeg (I (mo + 10) w)) = I (mo + 11) w))), some (.int (nI s))] [] := by
        intro c
        induction c with
        | zero =>
          intro s K hs b1 b2 b3 b4 b5
          refine r_iload (pc := 60) dX5_shareAll_60 rfl ?_
          refine r_iconst (pc := 62) (v := 1) dX5_shareAll_62 (by decide) ?_
          refine r_aload_n (pc := 63) dX5_shareAll_63 rfl ?_
          refine rm_getI (pc := 64) dX5_shareAll_64 fl_X5_120_5 (MR_k hm) (fun _ _ => rfl) ?_
          refine r_ishl (pc := 67) dX5_shareAll_67 ?_
          refine r_icmp_ge (pc := 68) 121 dX5_shareAll_68 rfl (fun _ => ?_) (fun hno => False.elim (by rw [b1 mo (by omega), eN, bt_shl N (by omega), nI_ltI (by omega) (by omega)] at hno; omega))
          refine r_aload_n (pc := 121) dX5_shareAll_121 rfl ?_
          refine r_getR (pc := 122) dX5_shareAll_122 fl_X5_105_5 (MR_k hm) (fun _ _ => rfl) (MR_r43 hm) ?_
          refine r_iload_n (pc := 125) dX5_shareAll_125 rfl ?_
          refine r_iconst (pc := 126) (v := 0) dX5_shareAll_126 (by decide) ?_
          refine rm_iast (pc := 127) dX5_shareAll_127 (MR_k43 hm) (MR_z43 hm) (by first | assumption | exact vp_in_lit rfl) ?_
          refine r_iinc1 (pc := 128) dX5_shareAll_128 (nI_1 _) rfl ?_
          refine r_goto (pc := 131) 2 dX5_shareAll_131 rfl ?_
          refine ih (w + 1) _ _ _ _ _ (by omega) (fun x hx => (up2_ne (by omega)).trans (b1 x hx)) (fun v hv r hr => ?_) (fun v hv => ?_)
          · rw [up2_ne (by omega)]
            by_cases e : v = w
            · subst e; exact b5 r (by omega)
            · exact b2 v (by omega) r hr
          · rw [up2_self, ew]
            by_cases e : v = w
            · subst e; rw [va_up_self]
            · rw [va_up_ne _ _ e]; exact b3 v (by omega)
        | succ c ic =>
          intro s K hs b1 b2 b3 b4 b5
          have hvs : vp_in (nI s) 256 := vp_in_nI (by omega) (by decide)
          have es : Int32.toNatClampNeg (nI s) = s := ix_nI (by omega)
          have q5 : K (mo + 5) = I (mo + 5) := b1 _ (by omega)
          have hix : (256 : Int32) * nI w + nI s = nI (256 * w + s) := by rw [show (256 : Int32) = nI 256 from rfl, pk_mul, nI_add]
          have next : ∀ v : Int32, v = bI (metP (sM I mo) (fun _ => s) w) → Wx (YX5_shareAll, (10, 254, 0, 0), qv (fun M' => ∃ K, M' = wIL M0 K L ∧ (∀ x, x ≠ mo → (x < mo + 24 ∨ mo + 31 < x) → K x = I x) ∧ (∀ k, k ≠ 46 → K mo k = I mo k) ∧ K mo 46 = (shAll (sM I mo)).1 ∧ (∀ i, i < N → K (mo + 31) i = (shAll (sM I mo)).2 i)), noX) 0 0 (wIL M0 (up2 K (mo + 28) (256 * w + s) v) L) 60 [some (.ref mo), some (.int (nI w)), some (.int (I (mo + 10) w)), some (.int (I (mo + 11) w)), some (.int (bI (I (mo + 5) (Int32.toNatClampNeg (I (mo + 10) w)) = I (mo + 11) w))), some (.int (nI (s + 1)))] [] := by
            intro v hv
            refine ic (s + 1) _ (by omega) (fun x hx => (up2_ne (by omega)).trans (b1 x hx)) (fun u hu r hr => ?_) (fun u hu => by rw [up2_ne (by omega)]; exact b3 u hu) (fun h j hj => by rw [up2_ne (by omega)]; exact b4 h j hj) (fun r hr => ?_)
            · rw [up2_self, va_up_ne _ _ (by omega)]; exact b2 u hu r hr
            · rw [up2_self]
              by_cases e : r = s
              · subst e; rw [va_up_self]; exact hv
              · rw [va_up_ne _ _ (by omega)]; exact b5 r (by omega)
          refine r_iload (pc := 60) dX5_shareAll_60 rfl ?_
          refine r_iconst (pc := 62) (v := 1) dX5_shareAll_62 (by decide) ?_
          refine r_aload_n (pc := 63) dX5_shareAll_63 rfl ?_
          refine rm_getI (pc := 64) dX5_shareAll_64 fl_X5_120_5 (MR_k hm) (fun _ _ => rfl) ?_
          refine r_ishl (pc := 67) dX5_shareAll_67 ?_
          refine r_icmp_ge (pc := 68) 121 dX5_shareAll_68 rfl (fun hno => False.elim (by rw [b1 mo (by omega), eN, bt_shl N (by omega), nI_ltI (by omega) (by omega)] at hno; omega)) (fun _ => ?_)
          refine r_aload_n (pc := 71) dX5_shareAll_71 rfl ?_
          refine r_getR (pc := 72) dX5_shareAll_72 fl_X5_102_5 (MR_k hm) (fun _ _ => rfl) (MR_r42 hm) ?_
          refine r_sipush (pc := 75) (v := 256) dX5_shareAll_75 (by decide) ?_
          refine r_iload_n (pc := 78) dX5_shareAll_78 rfl ?_
          refine r_imul (pc := 79) dX5_shareAll_79 ?_
          refine r_iload (pc := 80) dX5_shareAll_80 rfl ?_
          refine r_iadd (pc := 82) dX5_shareAll_82 ?_
          rw [hix]
          refine r_iload (pc := 83) dX5_shareAll_83 rfl ?_
          refine r_if_ne (pc := 85) 109 dX5_shareAll_85 rfl (fun h85 => ?_) (fun h85 => ?_)
          · rw [bI_ne0] at h85
            refine r_iconst (pc := 109) (v := 1) dX5_shareAll_109 (by decide) ?_
            refine r_goto (pc := 110) 114 dX5_shareAll_110 rfl ?_
            refine rm_iast (pc := 114) dX5_shareAll_114 (MR_k42 hm) (MR_z42 hm) (vp_in_nI (by omega) (by decide)) ?_
            rw [ix_nI (n := 256 * w + s) (by omega)]
            refine r_iinc5 (pc := 115) dX5_shareAll_115 (nI_1 _) rfl ?_
            refine r_goto (pc := 118) 60 dX5_shareAll_118 rfl ?_
            refine next _ ?_
            first
              | exact bI_t' (show metP (sM I mo) (fun _ => s) w from Or.inl h85)
              | exact bI_t' (show metP (sM I mo) (fun _ => s) w from Or.inr ⟨h95, h106⟩)
              | exact bI_f' (show ¬ metP (sM I mo) (fun _ => s) w from fun q => q.elim h85 (fun q => h95 q.1))
              | exact bI_f' (show ¬ metP (sM I mo) (fun _ => s) w from fun q => q.elim h85 (fun q => h106 q.2))
          · rw [bI_eq0] at h85
            refine r_iload_n (pc := 88) dX5_shareAll_88 rfl ?_
            refine r_aload_n (pc := 89) dX5_shareAll_89 rfl ?_
            refine r_getR (pc := 90) dX5_shareAll_90 fl_X5_32_5 (MR_k hm) (fun _ _ => rfl) (MR_r14 hm) ?_
            refine r_iload_n (pc := 93) dX5_shareAll_93 rfl ?_
            refine rm_iald (pc := 94) dX5_shareAll_94 (MR_k14 hm) (MR_z14 hm) (by first | assumption | exact vp_in_lit rfl) ?_
            rw [q5]
            refine r_icmp_le (pc := 95) 113 dX5_shareAll_95 rfl (fun h95 => ?_) (fun h95 => ?_)
            · refine r_iconst (pc := 113) (v := 0) dX5_shareAll_113 (by decide) ?_
              refine rm_iast (pc := 114) dX5_shareAll_114 (MR_k42 hm) (MR_z42 hm) (vp_in_nI (by omega) (by decide)) ?_
              rw [ix_nI (n := 256 * w + s) (by omega)]
              refine r_iinc5 (pc := 115) dX5_shareAll_115 (nI_1 _) rfl ?_
              refine r_goto (pc := 118) 60 dX5_shareAll_118 rfl ?_
              refine next _ ?_
              first
                | exact bI_t' (show metP (sM I mo) (fun _ => s) w from Or.inl h85)
                | exact bI_t' (show metP (sM I mo) (fun _ => s) w from Or.inr ⟨h95, h106⟩)
                | exact bI_f' (show ¬ metP (sM I mo) (fun _ => s) w from fun q => q.elim h85 (fun q => h95 q.1))
                | exact bI_f' (show ¬ metP (sM I mo) (fun _ => s) w from fun q => q.elim h85 (fun q => h106 q.2))
            · refine r_aload_n (pc := 98) dX5_shareAll_98 rfl ?_
              refine r_getR (pc := 99) dX5_shareAll_99 fl_X5_90_5 (MR_k hm) (fun _ _ => rfl) (MR_r38 hm) ?_
              refine r_iload (pc := 102) dX5_shareAll_102 rfl ?_
              refine rm_iald (pc := 104) dX5_shareAll_104 (MR_k38 hm) (MR_z38 hm) (by first | assumption | exact vp_in_lit rfl) ?_
              rw [es]
              refine r_iload_n (pc := 105) dX5_shareAll_105 rfl ?_
              refine r_icmp_ne (pc := 106) 113 dX5_shareAll_106 rfl (fun h106 => ?_) (fun h106 => ?_)
              · rw [b4 h95 s (by omega)] at h106
                refine r_iconst (pc := 113) (v := 0) dX5_shareAll_113 (by decide) ?_
                refine rm_iast (pc := 114) dX5_shareAll_114 (MR_k42 hm) (MR_z42 hm) (vp_in_nI (by omega) (by decide)) ?_
                rw [ix_nI (n := 256 * w + s) (by omega)]
                refine r_iinc5 (pc := 115) dX5_shareAll_115 (nI_1 _) rfl ?_
                refine r_goto (pc := 118) 60 dX5_shareAll_118 rfl ?_
                refine next _ ?_
                first
                  | exact bI_t' (show metP (sM I mo) (fun _ => s) w from Or.inl h85)
                  | exact bI_t' (show metP (sM I mo) (fun _ => s) w from Or.inr ⟨h95, h106⟩)
                  | exact bI_f' (show ¬ metP (sM I mo) (fun _ => s) w from fun q => q.elim h85 (fun q => h95 q.1))
                  | exact bI_f' (show ¬ metP (sM I mo) (fun _ => s) w from fun q => q.elim h85 (fun q => h106 q.2))
              · rw [b4 h95 s (by omega)] at h106
                refine r_iconst (pc := 109) (v := 1) dX5_shareAll_109 (by decide) ?_
                refine r_goto (pc := 110) 114 dX5_shareAll_110 rfl ?_
                refine rm_iast (pc := 114) dX5_shareAll_114 (MR_k42 hm) (MR_z42 hm) (vp_in_nI (by omega) (by decide)) ?_
                rw [ix_nI (n := 256 * w + s) (by omega)]
                refine r_iinc5 (pc := 115) dX5_shareAll_115 (nI_1 _) rfl ?_
                refine r_goto (pc := 118) 60 dX5_shareAll_118 rfl ?_
                refine next _ ?_
                first
                  | exact bI_t' (show metP (sM I mo) (fun _ => s) w from Or.inl h85)
                  | exact bI_t' (show metP (sM I mo) (fun _ => s) w from Or.inr ⟨h95, h106⟩)
                  | exact bI_f' (show ¬ metP (sM I mo) (fun _ => s) w from fun q => q.elim h85 (fun q => h95 q.1))
                  | exact bI_f' (show ¬ metP (sM I mo) (fun _ => s) w from fun q => q.elim h85 (fun q => h106 q.2))
      have e2 : J (mo + 2) = I (mo + 2) := a1 _ (by omega)
      have e3 : J (mo + 3) = I (mo + 3) := a1 _ (by omega)
      have e4 : J (mo + 4) = I (mo + 4) := a1 _ (by omega)
      have e5 : J (mo + 5) = I (mo + 5) := a1 _ (by omega)
      have e8 : J (mo + 8) = I (mo + 8) := a1 _ (by omega)
      have e9 : J (mo + 9) = I (mo + 9) := a1 _ (by omega)
      have e10 : J (mo + 10) = I (mo + 10) := a1 _ (by omega)
      have e11 : J (mo + 11) = I (mo + 11) := a1 _ (by omega)
      have e0 : J mo = I mo := a1 mo (by omega)
      refine r_iload_n (pc := 2) dX5_shareAll_2 rfl ?_
      refine r_aload_n (pc := 3) dX5_shareAll_3 rfl ?_
      refine rm_getI (pc := 4) dX5_shareAll_4 fl_X5_162_5 (MR_k hm) (fun _ _ => rfl) ?_
      refine r_icmp_ge (pc := 7) 134 dX5_shareAll_7 rfl (fun hno => False.elim (by rw [a1 mo (by omega), eW, nI_ltI (by omega) (by omega)] at hno; omega)) (fun _ => ?_)
      refine r_aload_n (pc := 10) dX5_shareAll_10 rfl ?_
      refine r_getR (pc := 11) dX5_shareAll_11 fl_X5_47_5 (MR_k hm) (fun _ _ => rfl) (MR_r19 hm) ?_
      refine r_iload_n (pc := 14) dX5_shareAll_14 rfl ?_
      refine rm_iald (pc := 15) dX5_shareAll_15 (MR_k19 hm) (MR_z19 hm) (by first | assumption | exact vp_in_lit rfl) ?_
      rw [ew, e10]
      refine r_istore2 (pc := 16) dX5_shareAll_16 rfl ?_
      refine r_aload_n (pc := 17) dX5_shareAll_17 rfl ?_
      refine r_getR (pc := 18) dX5_shareAll_18 fl_X5_50_5 (MR_k hm) (fun _ _ => rfl) (MR_r20 hm) ?_
      refine r_iload_n (pc := 21) dX5_shareAll_21 rfl ?_
      refine rm_iald (pc := 22) dX5_shareAll_22 (MR_k20 hm) (MR_z20 hm) (by first | assumption | exact vp_in_lit rfl) ?_
      rw [ew, e11]
      refine r_istore3 (pc := 23) dX5_shareAll_23 rfl ?_
      refine r_aload_n (pc := 24) dX5_shareAll_24 rfl ?_
      refine r_getR (pc := 25) dX5_shareAll_25 fl_X5_32_5 (MR_k hm) (fun _ _ => rfl) (MR_r14 hm) ?_
      refine r_iload_n (pc := 28) dX5_shareAll_28 rfl ?_
      refine rm_iald (pc := 29) dX5_shareAll_29 (MR_k14 hm) (MR_z14 hm) (by first | assumption | exact vp_in_lit rfl) ?_
      rw [e5]
      refine r_iload_n (pc := 30) dX5_shareAll_30 rfl ?_
      refine r_icmp_ne (pc := 31) 38 dX5_shareAll_31 rfl (fun h31 => ?_) (fun h31 => ?_)
      · refine r_iconst (pc := 38) (v := 0) dX5_shareAll_38 (by decide) ?_
        refine r_eqi (bI (I (mo + 5) (Int32.toNatClampNeg (I (mo + 10) w)) = I (mo + 11) w)) (by first | exact bI_t' h31 | exact bI_f' h31) ?_
        refine r_istore4 (pc := 39) dX5_shareAll_39 rfl ?_
        refine r_iload_n (pc := 41) dX5_shareAll_41 rfl ?_
        refine r_aload_n (pc := 42) dX5_shareAll_42 rfl ?_
        refine r_getR (pc := 43) dX5_shareAll_43 fl_X5_32_5 (MR_k hm) (fun _ _ => rfl) (MR_r14 hm) ?_
        refine r_iload_n (pc := 46) dX5_shareAll_46 rfl ?_
        refine rm_iald (pc := 47) dX5_shareAll_47 (MR_k14 hm) (MR_z14 hm) (by first | assumption | exact vp_in_lit rfl) ?_
        rw [e5]
        refine r_icmp_le (pc := 48) 57 dX5_shareAll_48 rfl (fun h48 => ?_) (fun h48 => ?_)
        · refine r_iconst (pc := 57) (v := 0) dX5_shareAll_57 (by decide) ?_
          refine r_istore5 (pc := 58) dX5_shareAll_58 rfl ?_
          first
            | exact L2 (2 ^ N) 0 J (by omega) a1 a2 a3 (fun h => absurd h h48) (fun r hr => absurd hr (by omega))
            | (refine L2 (2 ^ N) 0 K (by omega) (fun x hx => (z1 x (by omega) (by omega)).trans (a1 x hx)) (fun v hv s hs => by rw [z1 _ (by omega) (by omega)]; exact a2 v hv s hs) (fun v hv => by rw [z1 _ (by omega) (by omega)]; exact a3 v hv) (fun _ j hj => ?_) (fun r hr => absurd hr (by omega))
               rw [z3 j hj]; exact endF_c (σ := sM J mo) (τ := sM I mo) (kk 4 (by omega)) (kk 5 (by omega)) (kk 1 (by omega)) (kk 6 (by omega)) (kk 11 (by omega)) (kk 12 (by omega)) (kk 13 (by omega)) (kk 14 (by omega)) (kk 17 (by omega)) (kk 18 (by omega)) j)
        · refine r_aload_n (pc := 51) dX5_shareAll_51 rfl ?_
          refine r_iload_n (pc := 52) dX5_shareAll_52 rfl ?_
          refine r_iload_n (pc := 53) dX5_shareAll_53 rfl ?_
          refine r_o3 (pc := 54) (bc' := 0) (bs' := 0) (ct_X5_rowsFor hm _ _ N hN (by rw [e0]; exact eN) ht (by rw [e3]; exact hd.1) (by rw [e2, e3, e4]; exact hd.2)) k_X5_262_5 dX5_shareAll_54 (MR_k hm) (Nat.le_of_ble_eq_true rfl) ⟨Nat.le_of_ble_eq_true rfl, Nat.le_of_ble_eq_true rfl⟩ ⟨Nat.le_of_ble_eq_true rfl, Nat.le_of_ble_eq_true rfl⟩ (r_cv fun M54 p54 => ?_) nox
          obtain ⟨K, rfl, z1, z2, z3⟩ := p54
          have kk : ∀ k, k ≤ 21 → sM J mo k = sM I mo k := fun k hk2 => sM_eq (by rw [e0]) (fun o ho => a1 _ (by rcases ho with ⟨g1, g2, g3⟩ | ⟨g1, g2, g3⟩ | ⟨g1, g3⟩ <;> omega))
          refine r_iconst (pc := 57) (v := 0) dX5_shareAll_57 (by decide) ?_
          refine r_istore5 (pc := 58) dX5_shareAll_58 rfl ?_
          first
            | exact L2 (2 ^ N) 0 J (by omega) a1 a2 a3 (fun h => absurd h h48) (fun r hr => absurd hr (by omega))
            | (refine L2 (2 ^ N) 0 K (by omega) (fun x hx => (z1 x (by omega) (by omega)).trans (a1 x hx)) (fun v hv s hs => by rw [z1 _ (by omega) (by omega)]; exact a2 v hv s hs) (fun v hv => by rw [z1 _ (by omega) (by omega)]; exact a3 v hv) (fun _ j hj => ?_) (fun r hr => absurd hr (by omega))
               rw [z3 j hj]; exact endF_c (σ := sM J mo) (τ := sM I mo) (kk 4 (by omega)) (kk 5 (by omega)) (kk 1 (by omega)) (kk 6 (by omega)) (kk 11 (by omega)) (kk 12 (by omega)) (kk 13 (by omega)) (kk 14 (by omega)) (kk 17 (by omega)) (kk 18 (by omega)) j)
      · refine r_iconst (pc := 34) (v := 1) dX5_shareAll_34 (by decide) ?_
        refine r_goto (pc := 35) 39 dX5_shareAll_35 rfl ?_
        refine r_eqi (bI (I (mo + 5) (Int32.toNatClampNeg (I (mo + 10) w)) = I (mo + 11) w)) (by first | exact bI_t' h31 | exact bI_f' h31) ?_
        refine r_istore4 (pc := 39) dX5_shareAll_39 rfl ?_
        refine r_iload_n (pc := 41) dX5_shareAll_41 rfl ?_
        refine r_aload_n (pc := 42) dX5_shareAll_42 rfl ?_
        refine r_getR (pc := 43) dX5_shareAll_43 fl_X5_32_5 (MR_k hm) (fun _ _ => rfl) (MR_r14 hm) ?_
        refine r_iload_n (pc := 46) dX5_shareAll_46 rfl ?_
        refine rm_iald (pc := 47) dX5_shareAll_47 (MR_k14 hm) (MR_z14 hm) (by first | assumption | exact vp_in_lit rfl) ?_
        rw [e5]
        refine r_icmp_le (pc := 48) 57 dX5_shareAll_48 rfl (fun h48 => ?_) (fun h48 => ?_)
        · refine r_iconst (pc := 57) (v := 0) dX5_shareAll_57 (by decide) ?_
          refine r_istore5 (pc := 58) dX5_shareAll_58 rfl ?_
          first
            | exact L2 (2 ^ N) 0 J (by omega) a1 a2 a3 (fun h => absurd h h48) (fun r hr => absurd hr (by omega))
            | (refine L2 (2 ^ N) 0 K (by omega) (fun x hx => (z1 x (by omega) (by omega)).trans (a1 x hx)) (fun v hv s hs => by rw [z1 _ (by omega) (by omega)]; exact a2 v hv s hs) (fun v hv => by rw [z1 _ (by omega) (by omega)]; exact a3 v hv) (fun _ j hj => ?_) (fun r hr => absurd hr (by omega))
               rw [z3 j hj]; exact endF_c (σ := sM J mo) (τ := sM I mo) (kk 4 (by omega)) (kk 5 (by omega)) (kk 1 (by omega)) (kk 6 (by omega)) (kk 11 (by omega)) (kk 12 (by omega)) (kk 13 (by omega)) (kk 14 (by omega)) (kk 17 (by omega)) (kk 18 (by omega)) j)
        · refine r_aload_n (pc := 51) dX5_shareAll_51 rfl ?_
          refine r_iload_n (pc := 52) dX5_shareAll_52 rfl ?_
          refine r_iload_n (pc := 53) dX5_shareAll_53 rfl ?_
          refine r_o3 (pc := 54) (bc' := 0) (bs' := 0) (ct_X5_rowsFor hm _ _ N hN (by rw [e0]; exact eN) ht (by rw [e3]; exact hd.1) (by rw [e2, e3, e4]; exact hd.2)) k_X5_262_5 dX5_shareAll_54 (MR_k hm) (Nat.le_of_ble_eq_true rfl) ⟨Nat.le_of_ble_eq_true rfl, Nat.le_of_ble_eq_true rfl⟩ ⟨Nat.le_of_ble_eq_true rfl, Nat.le_of_ble_eq_true rfl⟩ (r_cv fun M54 p54 => ?_) nox
          obtain ⟨K, rfl, z1, z2, z3⟩ := p54
          have kk : ∀ k, k ≤ 21 → sM J mo k = sM I mo k := fun k hk2 => sM_eq (by rw [e0]) (fun o ho => a1 _ (by rcases ho with ⟨g1, g2, g3⟩ | ⟨g1, g2, g3⟩ | ⟨g1, g3⟩ <;> omega))
          refine r_iconst (pc := 57) (v := 0) dX5_shareAll_57 (by decide) ?_
          refine r_istore5 (pc := 58) dX5_shareAll_58 rfl ?_
          first
            | exact L2 (2 ^ N) 0 J (by omega) a1 a2 a3 (fun h => absurd h h48) (fun r hr => absurd hr (by omega))
            | (refine L2 (2 ^ N) 0 K (by omega) (fun x hx => (z1 x (by omega) (by omega)).trans (a1 x hx)) (fun v hv s hs => by rw [z1 _ (by omega) (by omega)]; exact a2 v hv s hs) (fun v hv => by rw [z1 _ (by omega) (by omega)]; exact a3 v hv) (fun _ j hj => ?_) (fun r hr => absurd hr (by omega))
               rw [z3 j hj]; exact endF_c (σ := sM J mo) (τ := sM I mo) (kk 4 (by omega)) (kk 5 (by omega)) (kk 1 (by omega)) (kk 6 (by omega)) (kk 11 (by omega)) (kk 12 (by omega)) (kk 13 (by omega)) (kk 14 (by omega)) (kk 17 (by omega)) (kk 18 (by omega)) j)
  refine r_iconst (pc := 0) (v := 0) dX5_shareAll_0 (by decide) ?_
  refine r_istore1 (pc := 1) dX5_shareAll_1 rfl ?_
  exact L1 W 0 I _ _ _ _ (by omega) (fun _ _ => rfl) (fun v hv => absurd hv (by omega)) (fun v hv => absurd hv (by omega))
theorem ct_X5_shared {M0 : PM} {mo : Nat} {I : Nat → Nat → Int32} {L : Nat → Nat → Int64} (hm : MR M0 mo)  (hk : OkS (sM I mo)) : Ct (YX5_shared, (11, 279, 0, 0), qi (fun r M' => oM M0 mo I L (sharedS (sS I L mo)) r M'), noX) [.ref mo] (wIL M0 I L) := by
  refine ct_of [some (.ref mo)] rfl rfl rfl (Nat.le_of_ble_eq_true rfl) rfl rfl ?_
  obtain ⟨N, hN, eN⟩ := bd_nI (n := 8) hk.1.1.2.1
  have eN : I mo 1 = nI N := eN
  have h256 := pow8 hN
  have eP : ppN (sM I mo) = N := by show Int32.toNatClampNeg (I mo 1) = N; rw [eN, ix_nI (by omega)]
  refine r_aload_n (pc := 0) dX5_shared_0 rfl ?_
  refine r_o1 (pc := 1) (bc' := 0) (bs' := 0) (ct_X5_shareAll hm hk N hN eN) k_X5_284_5 dX5_shared_1 (MR_k hm) (Nat.le_of_ble_eq_true rfl) ⟨Nat.le_of_ble_eq_true rfl, Nat.le_of_ble_eq_true rfl⟩ ⟨Nat.le_of_ble_eq_true rfl, Nat.le_of_ble_eq_true rfl⟩ (r_cv fun M1 p1 => ?_) nox
  obtain ⟨K, rfl, z1, z2, z3, z4⟩ := p1
  refine r_aload_n (pc := 4) dX5_shared_4 rfl ?_
  refine rm_getI (pc := 5) dX5_shared_5 fl_X5_277_5 (MR_k hm) (fun _ _ => rfl) ?_
  refine r_ireturn (pc := 8) rfl dX5_shared_8 ⟨_, rfl, ?_⟩
  rw [z3]
  exact oM_scr frM.rf z1 z2 rfl
theorem ct_X5_given {M0 : PM} {mo : Nat} {I : Nat → Nat → Int32} {L : Nat → Nat → Int64} (hm : MR M0 mo) (x1 : Int32) (hk : OkS (sM I mo)) : Ct (YX5_given, (11, 279, 0, 0), qi (fun r M' => oM M0 mo I L (givenS (sS I L mo) x1) r M'), noX) [.ref mo, .int x1] (wIL M0 I L) := by
  refine ct_of [some (.ref mo), some (.int x1)] rfl rfl rfl (Nat.le_of_ble_eq_true rfl) rfl rfl ?_
  obtain ⟨N, hN, eN⟩ := bd_nI (n := 8) hk.1.1.2.1
  have eN : I mo 1 = nI N := eN
  have h256 := pow8 hN
  have eP : ppN (sM I mo) = N := by show Int32.toNatClampNeg (I mo 1) = N; rw [eN, ix_nI (by omega)]
  refine r_aload_n (pc := 0) dX5_given_0 rfl ?_
  refine r_iload_n (pc := 1) dX5_given_1 rfl ?_
  refine r_o2 (pc := 2) (bc' := 0) (bs' := 0) (ct_X5_isMan hm _) k_X5_178_5 dX5_given_2 (MR_k hm) (Nat.le_of_ble_eq_true rfl) ⟨Nat.le_of_ble_eq_true rfl, Nat.le_of_ble_eq_true rfl⟩ ⟨Nat.le_of_ble_eq_true rfl, Nat.le_of_ble_eq_true rfl⟩ (r_ci fun r2 M2 p2 => ?_) nox
  obtain ⟨rfl, rfl⟩ := p2
  refine r_if_ne (pc := 5) 14 dX5_given_5 rfl (fun h5 => ?_) (fun h5 => ?_)
  · rw [bI_ne0] at h5
    have hn := vp_b (n := 8) h5.1 h5.2 hk.1.1.2.1.2
    have hlt : Int32.toNatClampNeg x1 < N := by rw [← eP]; exact ix_lt h5.1 h5.2
    refine r_aload_n (pc := 14) dX5_given_14 rfl ?_
    refine r_o1 (pc := 15) (bc' := 0) (bs' := 0) (ct_X5_shareAll hm hk N hN eN) k_X5_284_5 dX5_given_15 (MR_k hm) (Nat.le_of_ble_eq_true rfl) ⟨Nat.le_of_ble_eq_true rfl, Nat.le_of_ble_eq_true rfl⟩ ⟨Nat.le_of_ble_eq_true rfl, Nat.le_of_ble_eq_true rfl⟩ (r_cv fun M15 p15 => ?_) nox
    obtain ⟨K, rfl, z1, z2, z3, z4⟩ := p15
    refine r_aload_n (pc := 18) dX5_given_18 rfl ?_
    refine r_getR (pc := 19) dX5_given_19 fl_X5_111_5 (MR_k hm) (fun _ _ => rfl) (MR_r45 hm) ?_
    refine r_iload_n (pc := 22) dX5_given_22 rfl ?_
    refine rm_iald (pc := 23) dX5_given_23 (MR_k45 hm) (MR_z45 hm) (by first | assumption | exact vp_in_lit rfl) ?_
    refine r_ireturn (pc := 24) rfl dX5_given_24 ⟨_, rfl, ?_⟩
    rw [z4 _ hlt]
    refine oM_scr frM.rf z1 z2 ?_
    rw [givenS, cI_f (by intro q; exact q h5)]
  · rw [bI_eq0] at h5
    refine r_aload_n (pc := 8) dX5_given_8 rfl ?_
    refine r_iconst (pc := 9) (v := (-1)) dX5_given_9 (by decide) ?_
    refine r_o2 (pc := 10) (bc' := 0) (bs' := 0) (ct_X5_noTen hm _ (vp_in_lit rfl)) k_X5_271_5 dX5_given_10 (MR_k hm) (Nat.le_of_ble_eq_true rfl) ⟨Nat.le_of_ble_eq_true rfl, Nat.le_of_ble_eq_true rfl⟩ ⟨Nat.le_of_ble_eq_true rfl, Nat.le_of_ble_eq_true rfl⟩ (r_ci fun r10 M10 p10 => ?_) nox
    obtain ⟨rfl, rfl⟩ := p10
    refine r_ireturn (pc := 13) rfl dX5_given_13 ⟨_, rfl, ?_⟩
    first
      | contradiction
      | (refine oM.of ?_ (by repeat' (first | exact frM.rf | assumption | refine frM.up0 ?_ | refine frM.up ?_ (by decide) | refine frM.upL ?_ (by decide)))
         simp (decide := true) only [givenS, noS, noTenS, thP, mnP, shelfP, stepS, farP, eq_false h5, not_true_eq_false, not_false_eq_true, true_and, and_true, false_and, and_false, true_or, or_true, false_or, or_false, cI_True, cI_False, if_true, if_false, sm0, sm1, sm2, sm3, sm4, sm5, sm6, sm7, sm8, sm9, sm10, sm11, sm12, sm13, sm14, sm15, sm16, sm17, sm18, sm19, sm20, sm21, sm22, sm23, sm24, sm25, sm26, sm27, sm28, sm29, sm30, sm31, sm32, sm33, sm34, sm35, sm36, sm37, sm38, sm39, sm40, sm41, sm42, sm43, sm44, sm45, sm46, sm47, sm48, sm49, su0, su1, su2, su3, su4, su5, su6, su7, su8, su9, su10, su11, su12, su13, su14, su15, su16, su17, su18, su19, su20, su21, su22, su23, su24, su25, su26, su27, su28, su29, su30, su31, su32, su33, su34, su35, su36, su37, su38, su39, su40, su41, su42, su43, su44, su45, su46, su47, su48, su49])
