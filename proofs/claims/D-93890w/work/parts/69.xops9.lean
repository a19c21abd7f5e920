/-! X: men, judge (printed by gen/mk_x69.py) -/
set_option maxRecDepth 100000
theorem w_1 {S : ST} {s : Int32} (h : ¬ shelfP s) : wantsC S s = -1 := by
  unfold wantsC
  rw [if_pos h]
theorem w_2 {S : ST} {s : Int32} (h : shelfP s) (h2 : S.1 22 (Int32.toNatClampNeg s) = 2) : wantsC S s = -2 := by
  unfold wantsC
  rw [if_neg (fun q => q h), if_pos h2]
theorem w_3 {S : ST} {s : Int32} (h : shelfP s) (h2 : S.1 22 (Int32.toNatClampNeg s) = 0) : wantsC S s = -3 := by
  unfold wantsC
  rw [if_neg (fun q => q h), if_neg (by rw [h2]; decide), if_pos h2]
theorem w_0 {S : ST} {s : Int32} (h : shelfP s) (h2 : S.1 22 (Int32.toNatClampNeg s) = 1) : wantsC S s = 0 := by
  unfold wantsC
  rw [if_neg (fun q => q h), if_neg (by rw [h2]; decide), if_neg (by rw [h2]; decide)]
theorem roX.fr {M M' : PM} {S S' : ST} {xo mo s ra n : Nat} {P : Nat → Prop} (h : roX M S xo mo s ra n) (f : frP P M M') (h0 : xo + 35 ≤ M.1) (hs : s < 8) (hp : ¬ P (xo + (27 + s)) ∧ ¬ P ra ∧ ¬ P (ra + 1)) (e : ∀ k, 22 ≤ k → k ≤ 25 → S'.1 k = S.1 k) (ec : S'.2 = S.2) : roX M' S' xo mo s ra n := by
  obtain ⟨h1, h2, h3, h4, h5, h6⟩ := h
  refine ⟨by rw [e 22 (by decide) (by decide)]; exact h1, by rw [((f.2 _ (by omega)).2.2 hp.1).2.2]; exact h2, ⟨h3.1, Nat.le_trans h3.2 f.1⟩, by rw [e 23 (by decide) (by decide)]; exact h4.fr f (by omega) (by omega) hp.2.1, by rw [e 24 (by decide) (by decide)]; exact h5, fun i hi => ?_⟩
  obtain ⟨b1, b2, -⟩ := (f.2 (ra + 1) (by omega)).2.2 hp.2.2
  rw [ec, e 23 (by decide) (by decide), ← h6 i hi]
  unfold elM
  rw [b1, b2]
theorem man_ok {S : ST} (hS : OkS S.1) {x : Int32} {T : ST} (h : manS S x = (S.1 1 0, T)) : ¬ (S.1 1 0 = 8 ∨ x < 1 ∨ 99 < x) := by
  have b := hS.1.1.2.1.1
  unfold manS at h
  rintro (c | c | c)
  · by_cases q : x < 1 ∨ 99 < x
    · rw [cI_t q] at h
      have h1 : (-6 : Int32) = S.1 1 0 := congrArg Prod.fst h
      rw [← h1] at b
      exact absurd b (by decide)
    · rw [cI_f q, cI_t c] at h
      have h1 : (-7 : Int32) = S.1 1 0 := congrArg Prod.fst h
      rw [← h1] at b
      exact absurd b (by decide)
  · rw [cI_t (Or.inl c)] at h
    have h1 : (-6 : Int32) = S.1 1 0 := congrArg Prod.fst h
    rw [← h1] at b
    exact absurd b (by decide)
  · rw [cI_t (Or.inr c)] at h
    have h1 : (-6 : Int32) = S.1 1 0 := congrArg Prod.fst h
    rw [← h1] at b
    exact absurd b (by decide)
theorem man_no {S : ST} (hS : OkS S.1) {x b : Int32} (hb : bd b (-7) (-1)) (h : manS S x = noS S b) : S.1 1 0 = 8 ∨ x < 1 ∨ 99 < x := by
  apply Classical.byContradiction
  intro q
  unfold manS at h
  rw [cI_f (fun c => q (Or.inr c)), cI_f (fun c => q (Or.inl c))] at h
  have h1 : S.1 1 0 = b := congrArg Prod.fst h
  have b1 := hS.1.1.2.1.1
  rw [h1] at b1
  have := hb.2
  omega
theorem addM_k {σ : cS} {s : Int32} {k : Nat} (h : 22 ≤ k) : menS σ s k = σ k := men_k (by omega)
theorem men_in {i n : Int32} {z : Nat} (hz : z ≤ 160) (hn : ¬ n < 0) (h : ¬ (i < 0 ∨ nI z - n < i)) : ∃ a b : Nat, i = nI a ∧ n = nI b ∧ a + b ≤ z := by
  obtain ⟨b, hb, rfl⟩ := nI_of hn
  obtain ⟨a, ha, rfl⟩ := nI_of (x := i) (fun q => h (Or.inl q))
  refine ⟨a, b, rfl, rfl, ?_⟩
  have h2 : ¬ nI z - nI b < nI a := fun q => h (Or.inr q)
  rw [i_lt, i_sub (by rw [nI_toInt hb, nI_toInt (by omega)]; omega) (by rw [nI_toInt hb, nI_toInt (by omega)]; omega), nI_toInt hb, nI_toInt ha, nI_toInt (by omega)] at h2
  omega
theorem men_cond {i n : Int32} {z : Nat} (hz : z ≤ 160) (hn : ¬ n < 0) : (¬ i < 0 ∧ ¬ nI z < n ∧ ¬ nI z - n < i) ↔ ¬ (i < 0 ∨ nI z - n < i) := by
  constructor
  · rintro ⟨a, b, c⟩ (d | d)
    · exact a d
    · exact c d
  · intro h
    refine ⟨fun q => h (Or.inl q), fun q => ?_, fun q => h (Or.inr q)⟩
    obtain ⟨a, b, rfl, rfl, h3⟩ := men_in hz hn h
    rw [i_lt, nI_toInt (by omega), nI_toInt (by omega)] at q
    omega
theorem ltI {a b : Nat} (ha : a < 2147483648) (hb : b < 2147483648) : nI a < nI b ↔ a < b := by
  rw [i_lt, nI_toInt ha, nI_toInt hb]
  omega
theorem ct_X0_men {M : PM} {xo wa mo : Nat} {Z : PM} {S : ST} (hx : XO M xo wa mo Z S) (x1 x2 x3 : Int32) (hS : OkS S.1) : Ct (YX0_men, (9, 10282, 330, 3450), qi (fun r M' => oX xo mo Z (menRS S x1 x2 x3) r M'), noX) [.ref xo, .int x1, .int x2, .int x3] M := by
  refine ct_ofH [some (.ref xo), some (.int x1), some (.int x2), some (.int x3), none, none, none] rfl rfl (Nat.le_of_ble_eq_true rfl) rfl rfl ?_
  have hB := hS.1.t
  have hC : ∀ (M9 : PM) (q : Nat) (b : Int32) (o4 o5 o6 : Option Value), mK M9 q = (1, 6) → mI M9 q 6 = b → bd b (-7) (-1) → XO M9 xo wa mo Z S → menRS S x1 x2 x3 = noS S b → Wx (YX0_men, (9, 10282, 330, 3450), qi (fun r M' => oX xo mo Z (menRS S x1 x2 x3) r M'), noX) 0 0 M9 103 [some (.ref xo), some (.int x1), some (.int x2), some (.int x3), o4, o5, o6] [.ref q] := by
    intro M9 q b o4 o5 o6 h1 h2 h3 h4 h5
    refine r_astore4 (pc := 103) dX0_men_103 rfl ?_
    refine r_aload_n (pc := 105) dX0_men_105 rfl ?_
    refine r_aload (pc := 106) dX0_men_106 rfl ?_
    refine r_o2 (pc := 108) (bc' := 0) (bs' := 0) (ct_X0_refused h4 h1 h2 h3) k_X0_173_0 dX0_men_108 h4.1.2.1 (Nat.le_of_ble_eq_true rfl) ⟨Nat.le_of_ble_eq_true rfl, Nat.le_of_ble_eq_true rfl⟩ ⟨Nat.le_of_ble_eq_true rfl, Nat.le_of_ble_eq_true rfl⟩ (r_ci fun r108 M108 p108 => ?_) nox
    obtain ⟨rfl, h6⟩ := p108
    refine r_ireturn (pc := 111) rfl dX0_men_111 ⟨_, rfl, ?_⟩
    exact (show oX xo mo Z (menRS S x1 x2 x3) _ _ by rw [h5]; exact ⟨rfl, wa, h6⟩)
  have L : ∀ (ra z a b : Nat), shelfP x1 → x2 = nI a → x3 = nI b → a + b ≤ z → z ≤ 160 → ∀ (n m : Nat) (M9 : PM) (σ9 : cS), m + n = b → roX M9 (σ9, S.2) xo mo (Int32.toNatClampNeg x1) ra z → XO M9 xo wa mo Z (σ9, S.2) → OkS σ9 → (∀ k, 22 ≤ k → σ9 k = S.1 k) → menRS S x1 x2 x3 = ((menL (fun k => (S.2 (160 * (Int32.toNatClampNeg x1) + Int32.toNatClampNeg x2 + k)).toInt32) n m σ9).1, ((menL (fun k => (S.2 (160 * (Int32.toNatClampNeg x1) + Int32.toNatClampNeg x2 + k)).toInt32) n m σ9).2, S.2)) → Wx (YX0_men, (9, 10282, 330, 3450), qi (fun r M' => oX xo mo Z (menRS S x1 x2 x3) r M'), noX) (2 * n) (14 * n) M9 64 [some (.ref xo), some (.int x1), some (.int x2), some (.int x3), some (.ref ra), some (.int (nI m)), some (.int (nI (a + m)))] [] := by
    intro ra z a b hy ea eb hab hz n
    have ab : x2 + x3 = nI (a + b) := by rw [ea, eb, nI_add]
    induction n with
    | zero =>
      intro m M9 σ9 hm hro hx9 hS9 hk9 hI
      refine r_iload (pc := 64) dX0_men_64 rfl ?_
      refine r_iload_n (pc := 66) dX0_men_66 rfl ?_
      refine r_iload_n (pc := 67) dX0_men_67 rfl ?_
      refine r_iadd (pc := 68) dX0_men_68 ?_
      rw [ab]
      refine r_icmp_ge (pc := 69) 92 dX0_men_69 rfl (fun _ => ?_) (fun hno => False.elim (by rw [ltI (by omega) (by omega)] at hno; omega))
      refine r_goto (pc := 92) 100 dX0_men_92 rfl ?_
      refine r_iload (pc := 100) dX0_men_100 rfl ?_
      refine r_ireturn (pc := 102) rfl dX0_men_102 ⟨_, rfl, ?_⟩
      exact (show oX xo mo Z (menRS S x1 x2 x3) _ _ by rw [hI]; exact ⟨rfl, wa, hx9⟩)
    | succ n ih =>
      intro m M9 σ9 hm hro hx9 hS9 hk9 hI
      have ix6 : Int32.toNatClampNeg (nI (a + m)) = a + m := ix_nI (by omega)
      have hin : vp_in (nI (a + m)) z := vp_in_nI (by omega) (by omega)
      have el : (elM M9 (σ9 23 (Int32.toNatClampNeg x1)) (ra + 1) (Int32.toNatClampNeg (nI (a + m)))).toInt32 = (fun k => (S.2 (160 * (Int32.toNatClampNeg x1) + Int32.toNatClampNeg x2 + k)).toInt32) m := by
        rw [ix6, hro.2.2.2.2.2 (a + m) (by omega)]
        show (S.2 (160 * (Int32.toNatClampNeg x1) + (a + m))).toInt32 = (S.2 (160 * (Int32.toNatClampNeg x1) + Int32.toNatClampNeg x2 + m)).toInt32
        rw [ea, ix_nI (by omega), Nat.add_assoc]
      rw [menL] at hI
      refine r_iload (pc := 64) dX0_men_64 rfl ?_
      refine r_iload_n (pc := 66) dX0_men_66 rfl ?_
      refine r_iload_n (pc := 67) dX0_men_67 rfl ?_
      refine r_iadd (pc := 68) dX0_men_68 ?_
      rw [ab]
      refine r_icmp_ge (pc := 69) 92 dX0_men_69 rfl (fun hno => False.elim (by rw [ltI (by omega) (by omega)] at hno; omega)) (fun _ => ?_)
      refine r_aload_n (pc := 72) dX0_men_72 rfl ?_
      refine r_aload (pc := 73) dX0_men_73 rfl ?_
      refine r_iload (pc := 75) dX0_men_75 rfl ?_
      refine r_X0_asInt (pc := 77) (nI (a + m)) hro.2.2.2.1 ((hS9.2.1 _ (vp_in_lt (vp_sh hy))).2.1 hro.1).1 hin dX0_men_77 rfl (Nat.le_of_ble_eq_true rfl) (Nat.le_of_ble_eq_true rfl) (Nat.le_of_ble_eq_true rfl) ?_
      refine r_eqi ((fun k => (S.2 (160 * (Int32.toNatClampNeg x1) + Int32.toNatClampNeg x2 + k)).toInt32) m) el ?_
      have hS9' : OkS ((σ9, S.2) : ST).1 := hS9
      refine r_o2 (pc := 80) (bc' := 2 * n) (bs' := 14 * n) (ct_X0_addMan hx9 ((fun k => (S.2 (160 * (Int32.toNatClampNeg x1) + Int32.toNatClampNeg x2 + k)).toInt32) m) hS9') k_X0_214_0 dX0_men_80 hx9.1.2.1 (Nat.le_of_ble_eq_true rfl) ⟨Nat.le_of_ble_eq_true rfl, Nat.le_of_ble_eq_true rfl⟩ ⟨by show 2 * n + 2 ≤ 2 * (n + 1); omega, by show 14 * n + 14 ≤ 14 * (n + 1); omega⟩ (r_cv fun M80 p80 => ?_) (fun q E M8 h8 => ?_)
      · obtain ⟨e5, hx10, g10⟩ := p80
        have hnc := man_ok (S := (σ9, S.2)) hS9 e5
        have hnc9 : ¬ (σ9 1 0 = 8 ∨ (fun k => (S.2 (160 * (Int32.toNatClampNeg x1) + Int32.toNatClampNeg x2 + k)).toInt32) m < 1 ∨ 99 < (fun k => (S.2 (160 * (Int32.toNatClampNeg x1) + Int32.toNatClampNeg x2 + k)).toInt32) m) := hnc
        rw [cI_f hnc9] at hI
        have hbd : bd ((fun k => (S.2 (160 * (Int32.toNatClampNeg x1) + Int32.toNatClampNeg x2 + k)).toInt32) m) 1 99 := bdi (lo := 1) (hi := 99) ⟨fun q => hnc9 (Or.inr (Or.inl q)), fun q => hnc9 (Or.inr (Or.inr q))⟩
        have hc8 : ¬ σ9 1 0 = 8 := fun q => hnc9 (Or.inl q)
        have hro2 : roX M80 (menS σ9 ((fun k => (S.2 (160 * (Int32.toNatClampNeg x1) + Int32.toNatClampNeg x2 + k)).toInt32) m), S.2) xo mo (Int32.toNatClampNeg x1) ra z := by
          obtain ⟨rb, z', h1, h2, h3, h4, h5, h6⟩ := hx10.ro (vp_in_lt (vp_sh hy)) (show menS σ9 ((fun k => (S.2 (160 * (Int32.toNatClampNeg x1) + Int32.toNatClampNeg x2 + k)).toInt32) m) 22 (Int32.toNatClampNeg x1) = 1 by rw [addM_k (by decide)]; exact hro.1)
          rw [show mR M80 (xo + (27 + (Int32.toNatClampNeg x1))) 0 = mR M9 (xo + (27 + (Int32.toNatClampNeg x1))) 0 by rw [g10]] at h2
          cases h2.symm.trans hro.2.1
          have hz' : z' = z := by
            have e1 : menS σ9 ((fun k => (S.2 (160 * (Int32.toNatClampNeg x1) + Int32.toNatClampNeg x2 + k)).toInt32) m) 24 (Int32.toNatClampNeg x1) = nI z' := h5
            rw [addM_k (by decide)] at e1
            have e2 := congrArg Int32.toNatClampNeg (e1.symm.trans hro.2.2.2.2.1)
            have := h4.2.2.2.2
            rwa [ix_nI (by omega), ix_nI (by omega)] at e2
          subst hz'
          exact ⟨h1, by rw [g10]; exact hro.2.1, h3, h4, h5, h6⟩
        refine r_iinc5 (pc := 83) dX0_men_83 (nI_1 _) rfl ?_
        refine r_iinc6 (pc := 86) dX0_men_86 (nI_1 _) rfl ?_
        refine r_goto (pc := 89) 64 dX0_men_89 rfl ?_
        exact ih (m + 1) _ (menS σ9 ((fun k => (S.2 (160 * (Int32.toNatClampNeg x1) + Int32.toNatClampNeg x2 + k)).toInt32) m)) (by omega) hro2 hx10 (hS9'.men hbd hc8) (fun k hk => (addM_k hk).trans (hk9 k hk)) hI
      · obtain ⟨b8, e8, d8, rfl, k8, w8, o8⟩ := h8
        have hc9 : σ9 1 0 = 8 ∨ (fun k => (S.2 (160 * (Int32.toNatClampNeg x1) + Int32.toNatClampNeg x2 + k)).toInt32) m < 1 ∨ 99 < (fun k => (S.2 (160 * (Int32.toNatClampNeg x1) + Int32.toNatClampNeg x2 + k)).toInt32) m := man_no (S := (σ9, S.2)) hS9 d8 e8
        rw [cI_t hc9] at hI
        refine t_catch [] _ _ _ rfl (fun z hz => absurd hz List.not_mem_nil) rfl (by decide) q305 q389 ?_
        show Wx _ (2 * n) (14 * n) M8 95 _ _
        refine r_astore6 (pc := 95) dX0_men_95 rfl ?_
        refine r_iload (pc := 97) dX0_men_97 rfl ?_
        refine r_ireturn (pc := 99) rfl dX0_men_99 ⟨_, rfl, ?_⟩
        exact (show oX xo mo Z (menRS S x1 x2 x3) _ _ by rw [hI]; exact ⟨rfl, wa, o8⟩)
  refine r_aload_n (pc := 0) dX0_men_0 rfl ?_
  refine r_iload_n (pc := 1) dX0_men_1 rfl ?_
  refine r_o2 (pc := 2) (bc' := 326) (bs' := 3221) (ct_X0_shelf hx x1) k_X0_163_0 dX0_men_2 hx.1.2.1 (Nat.le_of_ble_eq_true rfl) ⟨Nat.le_of_ble_eq_true rfl, Nat.le_of_ble_eq_true rfl⟩ ⟨Nat.le_of_ble_eq_true rfl, Nat.le_of_ble_eq_true rfl⟩ (r_cr fun r2 M2 p2 => ?_) (fun q E M9 h9 => by obtain ⟨hn9, rfl, k9, w9, o9⟩ := h9; exact t_catch [_] _ _ _ rfl (fun z hz => Or.inl (by rw [List.mem_singleton.mp hz]; rfl)) rfl (by decide) q305 q389 ((hC M9 q _ _ _ _ k9 w9 (by decide) o9 (by unfold menRS; rw [cI_t (by rw [w_1 hn9]; decide), w_1 hn9])).loose (Nat.zero_le _) (Nat.zero_le _)))
  obtain ⟨hy, rfl, p2⟩ := p2
  have p2 := Eq.symm (show _ = _ from p2)
  subst p2
  refine r_o1 (pc := 5) (bc' := 322) (bs' := 2264) (ct_X4_row hx (vp_in_lt (vp_sh hy)) hS) k_X0_177_4 dX0_men_5 (hx.1.2.2.2.2.2.2.2.2.2 (Int32.toNatClampNeg x1) (vp_in_lt (vp_sh hy))).2 (Nat.le_of_ble_eq_true rfl) ⟨Nat.le_of_ble_eq_true rfl, Nat.le_of_ble_eq_true rfl⟩ ⟨Nat.le_of_ble_eq_true rfl, Nat.le_of_ble_eq_true rfl⟩ (r_cr fun r5 M5 p5 => ?_) (fun q E M9 h9 => by rcases h9 with ⟨hn9, rfl, k9, w9, o9⟩ | ⟨hn9, rfl, k9, w9, o9⟩; exact t_catch [_] _ _ _ rfl (fun z hz => Or.inl (by rw [List.mem_singleton.mp hz]; rfl)) rfl (by decide) q305 q389 ((hC M9 q _ _ _ _ k9 w9 (by decide) o9 (by unfold menRS; rw [cI_t (by rw [w_2 hy hn9]; decide), w_2 hy hn9])).loose (Nat.zero_le _) (Nat.zero_le _)); exact t_catch [_] _ _ _ rfl (fun z hz => Or.inl (by rw [List.mem_singleton.mp hz]; rfl)) rfl (by decide) q305 q389 ((hC M9 q _ _ _ _ k9 w9 (by decide) o9 (by unfold menRS; rw [cI_t (by rw [w_3 hy hn9]; decide), w_3 hy hn9])).loose (Nat.zero_le _) (Nat.zero_le _)))
  obtain ⟨⟨n, hro⟩, p5⟩ := p5
  have p5 := Eq.symm (show _ = _ from p5)
  subst p5
  refine r_astore4 (pc := 8) dX0_men_8 rfl ?_
  refine r_iload_n (pc := 10) dX0_men_10 rfl ?_
  refine r_if_lt (pc := 11) 18 dX0_men_11 rfl (fun h11 => ?_) (fun h11 => ?_)
  · refine r_iconst (pc := 18) (v := 0) dX0_men_18 (by decide) ?_
    refine r_eqi (bI (¬ x3 < 0)) (by first | exact bI_t' h11 | exact bI_f' (fun h => h h11)) ?_
    refine r_bipush (pc := 19) (v := (-4)) dX0_men_19 (by decide) ?_
    refine r_s2 (pc := 21) (bc' := 321) (bs' := 2257) (ct_X0_need _ _) k_X0_115 dX0_men_21 (Nat.le_of_ble_eq_true rfl) ⟨Nat.le_of_ble_eq_true rfl, Nat.le_of_ble_eq_true rfl⟩ ⟨Nat.le_of_ble_eq_true rfl, Nat.le_of_ble_eq_true rfl⟩ (r_cv fun M21 p21 => ?_) (fun q E M9 h8 => by have hn9 := bI_eq0.mp h8.1; have h9 := hx.rf h8.2; obtain ⟨rfl, k9, w9, o9⟩ := h9; exact t_catch [_] _ _ _ rfl (fun z hz => Or.inl (by rw [List.mem_singleton.mp hz]; rfl)) rfl (by decide) q305 q389 ((hC M9 q _ _ _ _ k9 w9 (by decide) o9 (by unfold menRS; rw [cI_f (fun q => q (w_0 hy hro.1)), cI_t (Classical.not_not.mp hn9)])).loose (Nat.zero_le _) (Nat.zero_le _)))
    obtain ⟨h1, p21⟩ := p21
    have p21 := Eq.symm (show _ = _ from p21)
    subst p21
    rw [bI_ne0] at h1
    refine r_iload_n (pc := 24) dX0_men_24 rfl ?_
    refine r_if_lt (pc := 25) 52 dX0_men_25 rfl (fun h25 => ?_) (fun h25 => ?_)
    · refine r_iconst (pc := 52) (v := 0) dX0_men_52 (by decide) ?_
      refine r_eqi (bI (¬ x2 < 0 ∧ ¬ nI n < x3 ∧ ¬ nI n - x3 < x2)) (by first | exact bI_t' ⟨h25, h34, h45⟩ | exact bI_f' (fun h => h.1 h25) | exact bI_f' (fun h => h.2.1 h34) | exact bI_f' (fun h => h.2.2 h45)) ?_
      refine r_bipush (pc := 53) (v := (-5)) dX0_men_53 (by decide) ?_
      refine r_s2 (pc := 55) (bc' := 320) (bs' := 2250) (ct_X0_need _ _) k_X0_115 dX0_men_55 (Nat.le_of_ble_eq_true rfl) ⟨Nat.le_of_ble_eq_true rfl, Nat.le_of_ble_eq_true rfl⟩ ⟨Nat.le_of_ble_eq_true rfl, Nat.le_of_ble_eq_true rfl⟩ (r_cv fun M55 p55 => ?_) (fun q E M9 h8 => by have hn9 := bI_eq0.mp h8.1; rw [men_cond hro.2.2.2.1.2.2.2.2 h1] at hn9; have h9 := hx.rf h8.2; obtain ⟨rfl, k9, w9, o9⟩ := h9; exact t_catch [_] _ _ _ rfl (fun z hz => Or.inl (by rw [List.mem_singleton.mp hz]; rfl)) rfl (by decide) q305 q389 ((hC M9 q _ _ _ _ k9 w9 (by decide) o9 (by unfold menRS; rw [cI_f (fun q => q (w_0 hy hro.1)), cI_f h1, cI_t (by rw [hro.2.2.2.2.1]; exact Classical.not_not.mp hn9)])).loose (Nat.zero_le _) (Nat.zero_le _)))
      obtain ⟨h2, p55⟩ := p55
      have p55 := Eq.symm (show _ = _ from p55)
      subst p55
      rw [bI_ne0, men_cond hro.2.2.2.1.2.2.2.2 h1] at h2
      obtain ⟨a, b, ea, eb, hab⟩ := men_in hro.2.2.2.1.2.2.2.2 h1 h2
      have h160 := hro.2.2.2.1.2.2.2.2
      refine r_iconst (pc := 58) (v := 0) dX0_men_58 (by decide) ?_
      refine r_istore5 (pc := 59) dX0_men_59 rfl ?_
      refine r_iload_n (pc := 61) dX0_men_61 rfl ?_
      refine r_istore6 (pc := 62) dX0_men_62 rfl ?_
      have Z0 := L r5 n a b hy ea eb hab hro.2.2.2.1.2.2.2.2 b 0 M S.1 (by omega) hro hx hS (fun _ _ => rfl) (by unfold menRS; rw [cI_f (fun q => q (w_0 hy hro.1)), cI_f h1, cI_f (by rw [hro.2.2.2.2.1]; exact h2), show Int32.toNatClampNeg x3 = b by rw [eb, ix_nI (by omega)]])
      rw [show nI (a + 0) = x2 by rw [ea]; rfl] at Z0
      exact Z0.loose (by omega) (by omega)
    · refine r_iload_n (pc := 28) dX0_men_28 rfl ?_
      refine r_aload (pc := 29) dX0_men_29 rfl ?_
      refine r_X0_length (pc := 31) hro.2.2.2.1 ((hS.2.1 _ (vp_in_lt (vp_sh hy))).2.1 hro.1).1 dX0_men_31 rfl (Nat.le_of_ble_eq_true rfl) (Nat.le_of_ble_eq_true rfl) (Nat.le_of_ble_eq_true rfl) ?_
      refine r_icmp_gt (pc := 34) 52 dX0_men_34 rfl (fun h34 => ?_) (fun h34 => ?_)
      · refine r_iconst (pc := 52) (v := 0) dX0_men_52 (by decide) ?_
        refine r_eqi (bI (¬ x2 < 0 ∧ ¬ nI n < x3 ∧ ¬ nI n - x3 < x2)) (by first | exact bI_t' ⟨h25, h34, h45⟩ | exact bI_f' (fun h => h.1 h25) | exact bI_f' (fun h => h.2.1 h34) | exact bI_f' (fun h => h.2.2 h45)) ?_
        refine r_bipush (pc := 53) (v := (-5)) dX0_men_53 (by decide) ?_
        refine r_s2 (pc := 55) (bc' := 320) (bs' := 2250) (ct_X0_need _ _) k_X0_115 dX0_men_55 (Nat.le_of_ble_eq_true rfl) ⟨Nat.le_of_ble_eq_true rfl, Nat.le_of_ble_eq_true rfl⟩ ⟨Nat.le_of_ble_eq_true rfl, Nat.le_of_ble_eq_true rfl⟩ (r_cv fun M55 p55 => ?_) (fun q E M9 h8 => by have hn9 := bI_eq0.mp h8.1; rw [men_cond hro.2.2.2.1.2.2.2.2 h1] at hn9; have h9 := hx.rf h8.2; obtain ⟨rfl, k9, w9, o9⟩ := h9; exact t_catch [_] _ _ _ rfl (fun z hz => Or.inl (by rw [List.mem_singleton.mp hz]; rfl)) rfl (by decide) q305 q389 ((hC M9 q _ _ _ _ k9 w9 (by decide) o9 (by unfold menRS; rw [cI_f (fun q => q (w_0 hy hro.1)), cI_f h1, cI_t (by rw [hro.2.2.2.2.1]; exact Classical.not_not.mp hn9)])).loose (Nat.zero_le _) (Nat.zero_le _)))
        obtain ⟨h2, p55⟩ := p55
        have p55 := Eq.symm (show _ = _ from p55)
        subst p55
        rw [bI_ne0, men_cond hro.2.2.2.1.2.2.2.2 h1] at h2
        obtain ⟨a, b, ea, eb, hab⟩ := men_in hro.2.2.2.1.2.2.2.2 h1 h2
        have h160 := hro.2.2.2.1.2.2.2.2
        refine r_iconst (pc := 58) (v := 0) dX0_men_58 (by decide) ?_
        refine r_istore5 (pc := 59) dX0_men_59 rfl ?_
        refine r_iload_n (pc := 61) dX0_men_61 rfl ?_
        refine r_istore6 (pc := 62) dX0_men_62 rfl ?_
        have Z0 := L r5 n a b hy ea eb hab hro.2.2.2.1.2.2.2.2 b 0 M S.1 (by omega) hro hx hS (fun _ _ => rfl) (by unfold menRS; rw [cI_f (fun q => q (w_0 hy hro.1)), cI_f h1, cI_f (by rw [hro.2.2.2.2.1]; exact h2), show Int32.toNatClampNeg x3 = b by rw [eb, ix_nI (by omega)]])
        rw [show nI (a + 0) = x2 by rw [ea]; rfl] at Z0
        exact Z0.loose (by omega) (by omega)
      · refine r_iload_n (pc := 37) dX0_men_37 rfl ?_
        refine r_aload (pc := 38) dX0_men_38 rfl ?_
        refine r_X0_length (pc := 40) hro.2.2.2.1 ((hS.2.1 _ (vp_in_lt (vp_sh hy))).2.1 hro.1).1 dX0_men_40 rfl (Nat.le_of_ble_eq_true rfl) (Nat.le_of_ble_eq_true rfl) (Nat.le_of_ble_eq_true rfl) ?_
        refine r_iload_n (pc := 43) dX0_men_43 rfl ?_
        refine r_isub (pc := 44) dX0_men_44 ?_
        refine r_icmp_gt (pc := 45) 52 dX0_men_45 rfl (fun h45 => ?_) (fun h45 => ?_)
        · refine r_iconst (pc := 52) (v := 0) dX0_men_52 (by decide) ?_
          refine r_eqi (bI (¬ x2 < 0 ∧ ¬ nI n < x3 ∧ ¬ nI n - x3 < x2)) (by first | exact bI_t' ⟨h25, h34, h45⟩ | exact bI_f' (fun h => h.1 h25) | exact bI_f' (fun h => h.2.1 h34) | exact bI_f' (fun h => h.2.2 h45)) ?_
          refine r_bipush (pc := 53) (v := (-5)) dX0_men_53 (by decide) ?_
          refine r_s2 (pc := 55) (bc' := 320) (bs' := 2250) (ct_X0_need _ _) k_X0_115 dX0_men_55 (Nat.le_of_ble_eq_true rfl) ⟨Nat.le_of_ble_eq_true rfl, Nat.le_of_ble_eq_true rfl⟩ ⟨Nat.le_of_ble_eq_true rfl, Nat.le_of_ble_eq_true rfl⟩ (r_cv fun M55 p55 => ?_) (fun q E M9 h8 => by have hn9 := bI_eq0.mp h8.1; rw [men_cond hro.2.2.2.1.2.2.2.2 h1] at hn9; have h9 := hx.rf h8.2; obtain ⟨rfl, k9, w9, o9⟩ := h9; exact t_catch [_] _ _ _ rfl (fun z hz => Or.inl (by rw [List.mem_singleton.mp hz]; rfl)) rfl (by decide) q305 q389 ((hC M9 q _ _ _ _ k9 w9 (by decide) o9 (by unfold menRS; rw [cI_f (fun q => q (w_0 hy hro.1)), cI_f h1, cI_t (by rw [hro.2.2.2.2.1]; exact Classical.not_not.mp hn9)])).loose (Nat.zero_le _) (Nat.zero_le _)))
          obtain ⟨h2, p55⟩ := p55
          have p55 := Eq.symm (show _ = _ from p55)
          subst p55
          rw [bI_ne0, men_cond hro.2.2.2.1.2.2.2.2 h1] at h2
          obtain ⟨a, b, ea, eb, hab⟩ := men_in hro.2.2.2.1.2.2.2.2 h1 h2
          have h160 := hro.2.2.2.1.2.2.2.2
          refine r_iconst (pc := 58) (v := 0) dX0_men_58 (by decide) ?_
          refine r_istore5 (pc := 59) dX0_men_59 rfl ?_
          refine r_iload_n (pc := 61) dX0_men_61 rfl ?_
          refine r_istore6 (pc := 62) dX0_men_62 rfl ?_
          have Z0 := L r5 n a b hy ea eb hab hro.2.2.2.1.2.2.2.2 b 0 M S.1 (by omega) hro hx hS (fun _ _ => rfl) (by unfold menRS; rw [cI_f (fun q => q (w_0 hy hro.1)), cI_f h1, cI_f (by rw [hro.2.2.2.2.1]; exact h2), show Int32.toNatClampNeg x3 = b by rw [eb, ix_nI (by omega)]])
          rw [show nI (a + 0) = x2 by rw [ea]; rfl] at Z0
          exact Z0.loose (by omega) (by omega)
        · refine r_iconst (pc := 48) (v := 1) dX0_men_48 (by decide) ?_
          refine r_goto (pc := 49) 53 dX0_men_49 rfl ?_
          refine r_eqi (bI (¬ x2 < 0 ∧ ¬ nI n < x3 ∧ ¬ nI n - x3 < x2)) (by first | exact bI_t' ⟨h25, h34, h45⟩ | exact bI_f' (fun h => h.1 h25) | exact bI_f' (fun h => h.2.1 h34) | exact bI_f' (fun h => h.2.2 h45)) ?_
          refine r_bipush (pc := 53) (v := (-5)) dX0_men_53 (by decide) ?_
          refine r_s2 (pc := 55) (bc' := 320) (bs' := 2250) (ct_X0_need _ _) k_X0_115 dX0_men_55 (Nat.le_of_ble_eq_true rfl) ⟨Nat.le_of_ble_eq_true rfl, Nat.le_of_ble_eq_true rfl⟩ ⟨Nat.le_of_ble_eq_true rfl, Nat.le_of_ble_eq_true rfl⟩ (r_cv fun M55 p55 => ?_) (fun q E M9 h8 => by have hn9 := bI_eq0.mp h8.1; rw [men_cond hro.2.2.2.1.2.2.2.2 h1] at hn9; have h9 := hx.rf h8.2; obtain ⟨rfl, k9, w9, o9⟩ := h9; exact t_catch [_] _ _ _ rfl (fun z hz => Or.inl (by rw [List.mem_singleton.mp hz]; rfl)) rfl (by decide) q305 q389 ((hC M9 q _ _ _ _ k9 w9 (by decide) o9 (by unfold menRS; rw [cI_f (fun q => q (w_0 hy hro.1)), cI_f h1, cI_t (by rw [hro.2.2.2.2.1]; exact Classical.not_not.mp hn9)])).loose (Nat.zero_le _) (Nat.zero_le _)))
          obtain ⟨h2, p55⟩ := p55
          have p55 := Eq.symm (show _ = _ from p55)
          subst p55
          rw [bI_ne0, men_cond hro.2.2.2.1.2.2.2.2 h1] at h2
          obtain ⟨a, b, ea, eb, hab⟩ := men_in hro.2.2.2.1.2.2.2.2 h1 h2
          have h160 := hro.2.2.2.1.2.2.2.2
          refine r_iconst (pc := 58) (v := 0) dX0_men_58 (by decide) ?_
          refine r_istore5 (pc := 59) dX0_men_59 rfl ?_
          refine r_iload_n (pc := 61) dX0_men_61 rfl ?_
          refine r_istore6 (pc := 62) dX0_men_62 rfl ?_
          have Z0 := L r5 n a b hy ea eb hab hro.2.2.2.1.2.2.2.2 b 0 M S.1 (by omega) hro hx hS (fun _ _ => rfl) (by unfold menRS; rw [cI_f (fun q => q (w_0 hy hro.1)), cI_f h1, cI_f (by rw [hro.2.2.2.2.1]; exact h2), show Int32.toNatClampNeg x3 = b by rw [eb, ix_nI (by omega)]])
          rw [show nI (a + 0) = x2 by rw [ea]; rfl] at Z0
          exact Z0.loose (by omega) (by omega)
  · refine r_iconst (pc := 14) (v := 1) dX0_men_14 (by decide) ?_
    refine r_goto (pc := 15) 19 dX0_men_15 rfl ?_
    refine r_eqi (bI (¬ x3 < 0)) (by first | exact bI_t' h11 | exact bI_f' (fun h => h h11)) ?_
    refine r_bipush (pc := 19) (v := (-4)) dX0_men_19 (by decide) ?_
    refine r_s2 (pc := 21) (bc' := 321) (bs' := 2257) (ct_X0_need _ _) k_X0_115 dX0_men_21 (Nat.le_of_ble_eq_true rfl) ⟨Nat.le_of_ble_eq_true rfl, Nat.le_of_ble_eq_true rfl⟩ ⟨Nat.le_of_ble_eq_true rfl, Nat.le_of_ble_eq_true rfl⟩ (r_cv fun M21 p21 => ?_) (fun q E M9 h8 => by have hn9 := bI_eq0.mp h8.1; have h9 := hx.rf h8.2; obtain ⟨rfl, k9, w9, o9⟩ := h9; exact t_catch [_] _ _ _ rfl (fun z hz => Or.inl (by rw [List.mem_singleton.mp hz]; rfl)) rfl (by decide) q305 q389 ((hC M9 q _ _ _ _ k9 w9 (by decide) o9 (by unfold menRS; rw [cI_f (fun q => q (w_0 hy hro.1)), cI_t (Classical.not_not.mp hn9)])).loose (Nat.zero_le _) (Nat.zero_le _)))
    obtain ⟨h1, p21⟩ := p21
    have p21 := Eq.symm (show _ = _ from p21)
    subst p21
    rw [bI_ne0] at h1
    refine r_iload_n (pc := 24) dX0_men_24 rfl ?_
    refine r_if_lt (pc := 25) 52 dX0_men_25 rfl (fun h25 => ?_) (fun h25 => ?_)
    · refine r_iconst (pc := 52) (v := 0) dX0_men_52 (by decide) ?_
      refine r_eqi (bI (¬ x2 < 0 ∧ ¬ nI n < x3 ∧ ¬ nI n - x3 < x2)) (by first | exact bI_t' ⟨h25, h34, h45⟩ | exact bI_f' (fun h => h.1 h25) | exact bI_f' (fun h => h.2.1 h34) | exact bI_f' (fun h => h.2.2 h45)) ?_
      refine r_bipush (pc := 53) (v := (-5)) dX0_men_53 (by decide) ?_
      refine r_s2 (pc := 55) (bc' := 320) (bs' := 2250) (ct_X0_need _ _) k_X0_115 dX0_men_55 (Nat.le_of_ble_eq_true rfl) ⟨Nat.le_of_ble_eq_true rfl, Nat.le_of_ble_eq_true rfl⟩ ⟨Nat.le_of_ble_eq_true rfl, Nat.le_of_ble_eq_true rfl⟩ (r_cv fun M55 p55 => ?_) (fun q E M9 h8 => by have hn9 := bI_eq0.mp h8.1; rw [men_cond hro.2.2.2.1.2.2.2.2 h1] at hn9; have h9 := hx.rf h8.2; obtain ⟨rfl, k9, w9, o9⟩ := h9; exact t_catch [_] _ _ _ rfl (fun z hz => Or.inl (by rw [List.mem_singleton.mp hz]; rfl)) rfl (by decide) q305 q389 ((hC M9 q _ _ _ _ k9 w9 (by decide) o9 (by unfold menRS; rw [cI_f (fun q => q (w_0 hy hro.1)), cI_f h1, cI_t (by rw [hro.2.2.2.2.1]; exact Classical.not_not.mp hn9)])).loose (Nat.zero_le _) (Nat.zero_le _)))
      obtain ⟨h2, p55⟩ := p55
      have p55 := Eq.symm (show _ = _ from p55)
      subst p55
      rw [bI_ne0, men_cond hro.2.2.2.1.2.2.2.2 h1] at h2
      obtain ⟨a, b, ea, eb, hab⟩ := men_in hro.2.2.2.1.2.2.2.2 h1 h2
      have h160 := hro.2.2.2.1.2.2.2.2
      refine r_iconst (pc := 58) (v := 0) dX0_men_58 (by decide) ?_
      refine r_istore5 (pc := 59) dX0_men_59 rfl ?_
      refine r_iload_n (pc := 61) dX0_men_61 rfl ?_
      refine r_istore6 (pc := 62) dX0_men_62 rfl ?_
      have Z0 := L r5 n a b hy ea eb hab hro.2.2.2.1.2.2.2.2 b 0 M S.1 (by omega) hro hx hS (fun _ _ => rfl) (by unfold menRS; rw [cI_f (fun q => q (w_0 hy hro.1)), cI_f h1, cI_f (by rw [hro.2.2.2.2.1]; exact h2), show Int32.toNatClampNeg x3 = b by rw [eb, ix_nI (by omega)]])
      rw [show nI (a + 0) = x2 by rw [ea]; rfl] at Z0
      exact Z0.loose (by omega) (by omega)
    · refine r_iload_n (pc := 28) dX0_men_28 rfl ?_
      refine r_aload (pc := 29) dX0_men_29 rfl ?_
      refine r_X0_length (pc := 31) hro.2.2.2.1 ((hS.2.1 _ (vp_in_lt (vp_sh hy))).2.1 hro.1).1 dX0_men_31 rfl (Nat.le_of_ble_eq_true rfl) (Nat.le_of_ble_eq_true rfl) (Nat.le_of_ble_eq_true rfl) ?_
      refine r_icmp_gt (pc := 34) 52 dX0_men_34 rfl (fun h34 => ?_) (fun h34 => ?_)
      · refine r_iconst (pc := 52) (v := 0) dX0_men_52 (by decide) ?_
        refine r_eqi (bI (¬ x2 < 0 ∧ ¬ nI n < x3 ∧ ¬ nI n - x3 < x2)) (by first | exact bI_t' ⟨h25, h34, h45⟩ | exact bI_f' (fun h => h.1 h25) | exact bI_f' (fun h => h.2.1 h34) | exact bI_f' (fun h => h.2.2 h45)) ?_
        refine r_bipush (pc := 53) (v := (-5)) dX0_men_53 (by decide) ?_
        refine r_s2 (pc := 55) (bc' := 320) (bs' := 2250) (ct_X0_need _ _) k_X0_115 dX0_men_55 (Nat.le_of_ble_eq_true rfl) ⟨Nat.le_of_ble_eq_true rfl, Nat.le_of_ble_eq_true rfl⟩ ⟨Nat.le_of_ble_eq_true rfl, Nat.le_of_ble_eq_true rfl⟩ (r_cv fun M55 p55 => ?_) (fun q E M9 h8 => by have hn9 := bI_eq0.mp h8.1; rw [men_cond hro.2.2.2.1.2.2.2.2 h1] at hn9; have h9 := hx.rf h8.2; obtain ⟨rfl, k9, w9, o9⟩ := h9; exact t_catch [_] _ _ _ rfl (fun z hz => Or.inl (by rw [List.mem_singleton.mp hz]; rfl)) rfl (by decide) q305 q389 ((hC M9 q _ _ _ _ k9 w9 (by decide) o9 (by unfold menRS; rw [cI_f (fun q => q (w_0 hy hro.1)), cI_f h1, cI_t (by rw [hro.2.2.2.2.1]; exact Classical.not_not.mp hn9)])).loose (Nat.zero_le _) (Nat.zero_le _)))
        obtain ⟨h2, p55⟩ := p55
        have p55 := Eq.symm (show _ = _ from p55)
        subst p55
        rw [bI_ne0, men_cond hro.2.2.2.1.2.2.2.2 h1] at h2
        obtain ⟨a, b, ea, eb, hab⟩ := men_in hro.2.2.2.1.2.2.2.2 h1 h2
        have h160 := hro.2.2.2.1.2.2.2.2
        refine r_iconst (pc := 58) (v := 0) dX0_men_58 (by decide) ?_
        refine r_istore5 (pc := 59) dX0_men_59 rfl ?_
        refine r_iload_n (pc := 61) dX0_men_61 rfl ?_
        refine r_istore6 (pc := 62) dX0_men_62 rfl ?_
        have Z0 := L r5 n a b hy ea eb hab hro.2.2.2.1.2.2.2.2 b 0 M S.1 (by omega) hro hx hS (fun _ _ => rfl) (by unfold menRS; rw [cI_f (fun q => q (w_0 hy hro.1)), cI_f h1, cI_f (by rw [hro.2.2.2.2.1]; exact h2), show Int32.toNatClampNeg x3 = b by rw [eb, ix_nI (by omega)]])
        rw [show nI (a + 0) = x2 by rw [ea]; rfl] at Z0
        exact Z0.loose (by omega) (by omega)
      · refine r_iload_n (pc := 37) dX0_men_37 rfl ?_
        refine r_aload (pc := 38) dX0_men_38 rfl ?_
        refine r_X0_length (pc := 40) hro.2.2.2.1 ((hS.2.1 _ (vp_in_lt (vp_sh hy))).2.1 hro.1).1 dX0_men_40 rfl (Nat.le_of_ble_eq_true rfl) (Nat.le_of_ble_eq_true rfl) (Nat.le_of_ble_eq_true rfl) ?_
        refine r_iload_n (pc := 43) dX0_men_43 rfl ?_
        refine r_isub (pc := 44) dX0_men_44 ?_
        refine r_icmp_gt (pc := 45) 52 dX0_men_45 rfl (fun h45 => ?_) (fun h45 => ?_)
        · refine r_iconst (pc := 52) (v := 0) dX0_men_52 (by decide) ?_
          refine r_eqi (bI (¬ x2 < 0 ∧ ¬ nI n < x3 ∧ ¬ nI n - x3 < x2)) (by first | exact bI_t' ⟨h25, h34, h45⟩ | exact bI_f' (fun h => h.1 h25) | exact bI_f' (fun h => h.2.1 h34) | exact bI_f' (fun h => h.2.2 h45)) ?_
          refine r_bipush (pc := 53) (v := (-5)) dX0_men_53 (by decide) ?_
          refine r_s2 (pc := 55) (bc' := 320) (bs' := 2250) (ct_X0_need _ _) k_X0_115 dX0_men_55 (Nat.le_of_ble_eq_true rfl) ⟨Nat.le_of_ble_eq_true rfl, Nat.le_of_ble_eq_true rfl⟩ ⟨Nat.le_of_ble_eq_true rfl, Nat.le_of_ble_eq_true rfl⟩ (r_cv fun M55 p55 => ?_) (fun q E M9 h8 => by have hn9 := bI_eq0.mp h8.1; rw [men_cond hro.2.2.2.1.2.2.2.2 h1] at hn9; have h9 := hx.rf h8.2; obtain ⟨rfl, k9, w9, o9⟩ := h9; exact t_catch [_] _ _ _ rfl (fun z hz => Or.inl (by rw [List.mem_singleton.mp hz]; rfl)) rfl (by decide) q305 q389 ((hC M9 q _ _ _ _ k9 w9 (by decide) o9 (by unfold menRS; rw [cI_f (fun q => q (w_0 hy hro.1)), cI_f h1, cI_t (by rw [hro.2.2.2.2.1]; exact Classical.not_not.mp hn9)])).loose (Nat.zero_le _) (Nat.zero_le _)))
          obtain ⟨h2, p55⟩ := p55
          have p55 := Eq.symm (show _ = _ from p55)
          subst p55
          rw [bI_ne0, men_cond hro.2.2.2.1.2.2.2.2 h1] at h2
          obtain ⟨a, b, ea, eb, hab⟩ := men_in hro.2.2.2.1.2.2.2.2 h1 h2
          have h160 := hro.2.2.2.1.2.2.2.2
          refine r_iconst (pc := 58) (v := 0) dX0_men_58 (by decide) ?_
          refine r_istore5 (pc := 59) dX0_men_59 rfl ?_
          refine r_iload_n (pc := 61) dX0_men_61 rfl ?_
          refine r_istore6 (pc := 62) dX0_men_62 rfl ?_
          have Z0 := L r5 n a b hy ea eb hab hro.2.2.2.1.2.2.2.2 b 0 M S.1 (by omega) hro hx hS (fun _ _ => rfl) (by unfold menRS; rw [cI_f (fun q => q (w_0 hy hro.1)), cI_f h1, cI_f (by rw [hro.2.2.2.2.1]; exact h2), show Int32.toNatClampNeg x3 = b by rw [eb, ix_nI (by omega)]])
          rw [show nI (a + 0) = x2 by rw [ea]; rfl] at Z0
          exact Z0.loose (by omega) (by omega)
        · refine r_iconst (pc := 48) (v := 1) dX0_men_48 (by decide) ?_
          refine r_goto (pc := 49) 53 dX0_men_49 rfl ?_
          refine r_eqi (bI (¬ x2 < 0 ∧ ¬ nI n < x3 ∧ ¬ nI n - x3 < x2)) (by first | exact bI_t' ⟨h25, h34, h45⟩ | exact bI_f' (fun h => h.1 h25) | exact bI_f' (fun h => h.2.1 h34) | exact bI_f' (fun h => h.2.2 h45)) ?_
          refine r_bipush (pc := 53) (v := (-5)) dX0_men_53 (by decide) ?_
          refine r_s2 (pc := 55) (bc' := 320) (bs' := 2250) (ct_X0_need _ _) k_X0_115 dX0_men_55 (Nat.le_of_ble_eq_true rfl) ⟨Nat.le_of_ble_eq_true rfl, Nat.le_of_ble_eq_true rfl⟩ ⟨Nat.le_of_ble_eq_true rfl, Nat.le_of_ble_eq_true rfl⟩ (r_cv fun M55 p55 => ?_) (fun q E M9 h8 => by have hn9 := bI_eq0.mp h8.1; rw [men_cond hro.2.2.2.1.2.2.2.2 h1] at hn9; have h9 := hx.rf h8.2; obtain ⟨rfl, k9, w9, o9⟩ := h9; exact t_catch [_] _ _ _ rfl (fun z hz => Or.inl (by rw [List.mem_singleton.mp hz]; rfl)) rfl (by decide) q305 q389 ((hC M9 q _ _ _ _ k9 w9 (by decide) o9 (by unfold menRS; rw [cI_f (fun q => q (w_0 hy hro.1)), cI_f h1, cI_t (by rw [hro.2.2.2.2.1]; exact Classical.not_not.mp hn9)])).loose (Nat.zero_le _) (Nat.zero_le _)))
          obtain ⟨h2, p55⟩ := p55
          have p55 := Eq.symm (show _ = _ from p55)
          subst p55
          rw [bI_ne0, men_cond hro.2.2.2.1.2.2.2.2 h1] at h2
          obtain ⟨a, b, ea, eb, hab⟩ := men_in hro.2.2.2.1.2.2.2.2 h1 h2
          have h160 := hro.2.2.2.1.2.2.2.2
          refine r_iconst (pc := 58) (v := 0) dX0_men_58 (by decide) ?_
          refine r_istore5 (pc := 59) dX0_men_59 rfl ?_
          refine r_iload_n (pc := 61) dX0_men_61 rfl ?_
          refine r_istore6 (pc := 62) dX0_men_62 rfl ?_
          have Z0 := L r5 n a b hy ea eb hab hro.2.2.2.1.2.2.2.2 b 0 M S.1 (by omega) hro hx hS (fun _ _ => rfl) (by unfold menRS; rw [cI_f (fun q => q (w_0 hy hro.1)), cI_f h1, cI_f (by rw [hro.2.2.2.2.1]; exact h2), show Int32.toNatClampNeg x3 = b by rw [eb, ix_nI (by omega)]])
          rw [show nI (a + 0) = x2 by rw [ea]; rfl] at Z0
          exact Z0.loose (by omega) (by omega)
theorem ju_1 {S : ST} {t s n : Int32} (h : ¬ shelfP s) : judgeS S t s n = noS S (-1) := by
  unfold judgeS
  by_cases c : thP S.1 t
  · rw [cI_f (fun q => q c), cI_t (by rw [w_1 h]; decide), w_1 h]
  · rw [cI_t c]
theorem half_le {n : Nat} {x : Int32} (hn : n ≤ 160) (h0 : ¬ x < 0) (h : ¬ nI n / 2 < x) : ∃ b : Nat, x = nI b ∧ 2 * b ≤ n := by
  obtain ⟨b, hb, rfl⟩ := nI_of h0
  refine ⟨b, rfl, ?_⟩
  have d := i_div (x := nI n) (y := 2) (by rw [nI_toInt (by omega)]; omega) (by decide)
  rw [i_lt, d, nI_toInt (by omega), nI_toInt hb, show (2 : Int32).toInt = 2 by decide] at h
  omega
theorem two_mul {i : Nat} : (2 : Int32) * nI i = nI (2 * i) := by rw [show (2 : Int32) = nI 2 from rfl, pk_mul]
theorem ct_X0_judge {M : PM} {xo wa mo : Nat} {Z : PM} {S : ST} (hx : XO M xo wa mo Z S) (x1 x2 x3 : Int32) (hS : OkS S.1) : Ct (YX0_judge, (9, 10282, 22, 1300), qi (fun r M' => oX xo mo Z (judgeS S x1 x2 x3) r M'), noX) [.ref xo, .int x1, .int x2, .int x3] M := by
  refine ct_ofH [some (.ref xo), some (.int x1), some (.int x2), some (.int x3), none, none, none, none, none, none] rfl rfl (Nat.le_of_ble_eq_true rfl) rfl rfl ?_
  have hB := hS.1.t
  have hC : ∀ (M9 : PM) (q : Nat) (b : Int32) (o4 o5 o6 o7 o8 o9 : Option Value), mK M9 q = (1, 6) → mI M9 q 6 = b → bd b (-7) (-1) → XO M9 xo wa mo Z S → judgeS S x1 x2 x3 = noS S b → Wx (YX0_judge, (9, 10282, 22, 1300), qi (fun r M' => oX xo mo Z (judgeS S x1 x2 x3) r M'), noX) 0 0 M9 156 [some (.ref xo), some (.int x1), some (.int x2), some (.int x3), o4, o5, o6, o7, o8, o9] [.ref q] := by
    intro M9 q b o4 o5 o6 o7 o8 o9 h1 h2 h3 h4 h5
    refine r_astore4 (pc := 156) dX0_judge_156 rfl ?_
    refine r_aload_n (pc := 158) dX0_judge_158 rfl ?_
    refine r_aload (pc := 159) dX0_judge_159 rfl ?_
    refine r_o2 (pc := 161) (bc' := 0) (bs' := 0) (ct_X0_refused h4 h1 h2 h3) k_X0_173_0 dX0_judge_161 h4.1.2.1 (Nat.le_of_ble_eq_true rfl) ⟨Nat.le_of_ble_eq_true rfl, Nat.le_of_ble_eq_true rfl⟩ ⟨Nat.le_of_ble_eq_true rfl, Nat.le_of_ble_eq_true rfl⟩ (r_ci fun r161 M161 p161 => ?_) nox
    obtain ⟨rfl, h6⟩ := p161
    refine r_ireturn (pc := 164) rfl dX0_judge_164 ⟨_, rfl, ?_⟩
    exact (show oX xo mo Z (judgeS S x1 x2 x3) _ _ by rw [h5]; exact ⟨rfl, wa, h6⟩)
  have L : ∀ (ra z b : Nat), thP S.1 x1 → shelfP x2 → x3 = nI b → 2 * b ≤ z → z ≤ 160 → roX M S xo mo (Int32.toNatClampNeg x2) ra z → ∀ (n i : Nat) (M9 : PM) (σ9 : cS) (o4 o8 o9 : Option Value), i + n = b → frP noP M M9 → WX M9 M.1 σ9 → OkW σ9 → (∀ k, k ≠ 14 → k ≠ 15 → k ≠ 18 → σ9 k = S.1 k) → judgeS S x1 x2 x3 = (judgeL (fun k => (S.2 (160 * (Int32.toNatClampNeg x2) + k)).toInt32) (Int32.toNatClampNeg x1) n i σ9, S) → Wx (YX0_judge, (9, 10282, 22, 1300), qi (fun r M' => oX xo mo Z (judgeS S x1 x2 x3) r M'), noX) 0 0 M9 83 [some (.ref xo), some (.int x1), some (.int x2), some (.int x3), o4, some (.ref ra), some (.ref M.1), some (.int (nI i)), o8, o9] [] := by
    intro ra z b hy1 hy eb hbz hz hro n
    induction n with
    | zero =>
      intro i M9 σ9 o4 o8 o9 hi f9 hw9 hok9 hk9 hI
      have hx9 := hx.grown f9
      refine r_iload (pc := 83) dX0_judge_83 rfl ?_
      refine r_iload_n (pc := 85) dX0_judge_85 rfl ?_
      refine r_icmp_ge (pc := 86) 154 dX0_judge_86 rfl (fun _ => ?_) (fun hno => False.elim (by rw [eb, ltI (by omega) (by omega)] at hno; omega))
      refine r_iconst (pc := 154) (v := (-1)) dX0_judge_154 (by decide) ?_
      refine r_ireturn (pc := 155) rfl dX0_judge_155 ⟨_, rfl, ?_⟩
      exact (show oX xo mo Z (judgeS S x1 x2 x3) _ _ by rw [hI]; exact ⟨rfl, wa, hx9⟩)
    | succ n ih =>
      intro i M9 σ9 o4 o8 o9 hi f9 hw9 hok9 hk9 hI
      have hx9 := hx.grown f9
      have hro9 := hro.fr (S' := S) f9 hx.1.1 (vp_in_lt (vp_sh hy)) ⟨id, id, id⟩ (fun _ _ _ => rfl) rfl
      have so := ((hS.2.1 _ (vp_in_lt (vp_sh hy))).2.1 hro.1).1
      have el : ∀ j, j < z → (elM M9 (S.1 23 (Int32.toNatClampNeg x2)) (ra + 1) (Int32.toNatClampNeg (nI j))).toInt32 = (fun k => (S.2 (160 * (Int32.toNatClampNeg x2) + k)).toInt32) j := fun j hj => by
        rw [ix_nI (by omega), hro9.2.2.2.2.2 j hj]
      have hB9 : thP σ9 x1 := by show ¬ x1 < 0 ∧ x1 < σ9 0 0; rw [hk9 0 (by decide) (by decide) (by decide)]; exact hy1
      have em : ∀ m, mnP σ9 m ↔ mnP S.1 m := fun m => by show (¬ m < 0 ∧ m < σ9 1 0) ↔ _; rw [hk9 1 (by decide) (by decide) (by decide)]
      rw [judgeL] at hI
      refine r_iload (pc := 83) dX0_judge_83 rfl ?_
      refine r_iload_n (pc := 85) dX0_judge_85 rfl ?_
      refine r_icmp_ge (pc := 86) 154 dX0_judge_86 rfl (fun hno => False.elim (by rw [eb, ltI (by omega) (by omega)] at hno; omega)) (fun _ => ?_)
      refine r_aload (pc := 89) dX0_judge_89 rfl ?_
      refine r_iconst (pc := 91) (v := 2) dX0_judge_91 (by decide) ?_
      refine r_iload (pc := 92) dX0_judge_92 rfl ?_
      refine r_imul (pc := 94) dX0_judge_94 ?_
      rw [two_mul]
      refine r_X0_asInt (pc := 95) (nI (2 * i)) hro9.2.2.2.1 so (vp_in_nI (by omega) (by omega)) dX0_judge_95 rfl (Nat.le_of_ble_eq_true rfl) (Nat.le_of_ble_eq_true rfl) (Nat.le_of_ble_eq_true rfl) ?_
      refine r_eqi ((fun k => (S.2 (160 * (Int32.toNatClampNeg x2) + k)).toInt32) (2 * i)) (el (2 * i) (by omega)) ?_
      refine r_istore8 (pc := 98) dX0_judge_98 rfl ?_
      refine r_aload (pc := 100) dX0_judge_100 rfl ?_
      refine r_iconst (pc := 102) (v := 2) dX0_judge_102 (by decide) ?_
      refine r_iload (pc := 103) dX0_judge_103 rfl ?_
      refine r_imul (pc := 105) dX0_judge_105 ?_
      rw [two_mul]
      refine r_iconst (pc := 106) (v := 1) dX0_judge_106 (by decide) ?_
      refine r_iadd (pc := 107) dX0_judge_107 ?_
      rw [nI_1]
      refine r_X0_asInt (pc := 108) (nI (2 * i + 1)) hro9.2.2.2.1 so (vp_in_nI (by omega) (by omega)) dX0_judge_108 rfl (Nat.le_of_ble_eq_true rfl) (Nat.le_of_ble_eq_true rfl) (Nat.le_of_ble_eq_true rfl) ?_
      refine r_eqi ((fun k => (S.2 (160 * (Int32.toNatClampNeg x2) + k)).toInt32) (2 * i + 1)) (el (2 * i + 1) (by omega)) ?_
      refine r_istore9 (pc := 111) dX0_judge_111 rfl ?_
      refine r_aload_n (pc := 113) dX0_judge_113 rfl ?_
      refine r_iload (pc := 114) dX0_judge_114 rfl ?_
      refine r_o2 (pc := 116) (bc' := 0) (bs' := 0) (ct_X0_isMan hx9 ((fun k => (S.2 (160 * (Int32.toNatClampNeg x2) + k)).toInt32) (2 * i)) hS.1.t) k_X0_126_0 dX0_judge_116 hx9.1.2.1 (Nat.le_of_ble_eq_true rfl) ⟨Nat.le_of_ble_eq_true rfl, Nat.le_of_ble_eq_true rfl⟩ ⟨Nat.le_of_ble_eq_true rfl, Nat.le_of_ble_eq_true rfl⟩ (r_ci fun r116 M116 p116 => ?_) nox
      obtain ⟨rfl, p116⟩ := p116
      have p116 := Eq.symm (show _ = _ from p116)
      subst p116
      refine r_if_eq (pc := 119) 135 dX0_judge_119 rfl (fun h119 => ?_) (fun h119 => ?_)
      · rw [bI_eq0] at h119
        refine r_iload (pc := 135) dX0_judge_135 rfl ?_
        refine r_ireturn (pc := 137) rfl dX0_judge_137 ⟨_, rfl, ?_⟩
        exact (show oX xo mo Z (judgeS S x1 x2 x3) _ _ by rw [hI, cI_f (by first | exact fun q => h119 ((em _).mp q.1) | exact fun q => h132 q.2)]; exact ⟨rfl, wa, hx9⟩)
      · rw [bI_ne0] at h119
        refine r_aload (pc := 122) dX0_judge_122 rfl ?_
        refine r_iload (pc := 124) dX0_judge_124 rfl ?_
        refine r_iload_n (pc := 126) dX0_judge_126 rfl ?_
        refine r_iload (pc := 127) dX0_judge_127 rfl ?_
        refine r_o4 (pc := 129) (bc' := 0) (bs' := 0) (ct_X3_wrong hw9 ((fun k => (S.2 (160 * (Int32.toNatClampNeg x2) + k)).toInt32) (2 * i)) x1 ((fun k => (S.2 (160 * (Int32.toNatClampNeg x2) + k)).toInt32) (2 * i + 1)) hok9 ((em _).mpr h119) hB9) k_X0_307_3 dX0_judge_129 hw9.k (Nat.le_of_ble_eq_true rfl) ⟨Nat.le_of_ble_eq_true rfl, Nat.le_of_ble_eq_true rfl⟩ ⟨Nat.le_of_ble_eq_true rfl, Nat.le_of_ble_eq_true rfl⟩ (r_ci fun r129 M129 p129 => ?_) nox
        obtain ⟨rfl, p129⟩ := p129
        have p129 := Eq.symm (show _ = _ from p129)
        subst p129
        refine r_if_eq (pc := 132) 138 dX0_judge_132 rfl (fun h132 => ?_) (fun h132 => ?_)
        · refine r_aload (pc := 138) dX0_judge_138 rfl ?_
          refine r_iload (pc := 140) dX0_judge_140 rfl ?_
          refine r_iload_n (pc := 142) dX0_judge_142 rfl ?_
          refine r_iload (pc := 143) dX0_judge_143 rfl ?_
          refine r_o4 (pc := 145) (bc' := 0) (bs' := 0) (ct_X3_carry hw9 ((fun k => (S.2 (160 * (Int32.toNatClampNeg x2) + k)).toInt32) (2 * i)) x1 ((fun k => (S.2 (160 * (Int32.toNatClampNeg x2) + k)).toInt32) (2 * i + 1)) hok9.t ((em _).mpr h119) hB9) k_X0_311_3 dX0_judge_145 hw9.k (Nat.le_of_ble_eq_true rfl) ⟨Nat.le_of_ble_eq_true rfl, Nat.le_of_ble_eq_true rfl⟩ ⟨Nat.le_of_ble_eq_true rfl, Nat.le_of_ble_eq_true rfl⟩ (r_cv fun M145 p145 => ?_) nox
          obtain ⟨w3, f3, g3⟩ := p145
          have f4 : frP noP M M145 := (((f9.mono (Q := fun a => M.1 ≤ a) (fun _ _ h => h.elim)).trans (f3.mono (fun a _ h => h.1))).mono (fun a ha h => by omega))
          refine r_iinc7 (pc := 148) dX0_judge_148 (nI_1 _) rfl ?_
          refine r_goto (pc := 151) 83 dX0_judge_151 rfl ?_
          rw [cI_t ⟨(em _).mpr h119, h132⟩] at hI
          exact ih (i + 1) _ _ _ _ _ (by omega) f4 w3 (hok9.carries ((em _).mpr h119) (ix_lt hB9.1 hB9.2) (wrong_step hok9 (ix_lt hB9.1 hB9.2) h132)) (fun k a b c => (carries_k ⟨a, b, c⟩).trans (hk9 k a b c)) hI
        · refine r_iload (pc := 135) dX0_judge_135 rfl ?_
          refine r_ireturn (pc := 137) rfl dX0_judge_137 ⟨_, rfl, ?_⟩
          exact (show oX xo mo Z (judgeS S x1 x2 x3) _ _ by rw [hI, cI_f (by first | exact fun q => h119 ((em _).mp q.1) | exact fun q => h132 q.2)]; exact ⟨rfl, wa, hx9⟩)
  refine r_aload_n (pc := 0) dX0_judge_0 rfl ?_
  refine r_iload_n (pc := 1) dX0_judge_1 rfl ?_
  refine r_o2 (pc := 2) (bc' := 18) (bs' := 1071) (ct_X0_shelf hx x2) k_X0_163_0 dX0_judge_2 hx.1.2.1 (Nat.le_of_ble_eq_true rfl) ⟨Nat.le_of_ble_eq_true rfl, Nat.le_of_ble_eq_true rfl⟩ ⟨Nat.le_of_ble_eq_true rfl, Nat.le_of_ble_eq_true rfl⟩ (r_cr fun r2 M2 p2 => ?_) (fun q E M9 h9 => by obtain ⟨hn9, rfl, k9, w9, o9⟩ := h9; exact t_catch [] _ _ _ rfl (fun z hz => absurd hz List.not_mem_nil) rfl (by decide) q305 q389 ((hC M9 q _ _ _ _ _ _ _ k9 w9 (by decide) o9 (by exact ju_1 hn9)).loose (Nat.zero_le _) (Nat.zero_le _)))
  obtain ⟨hy, rfl, p2⟩ := p2
  have p2 := Eq.symm (show _ = _ from p2)
  subst p2
  refine r_astore4 (pc := 5) dX0_judge_5 rfl ?_
  refine r_aload_n (pc := 7) dX0_judge_7 rfl ?_
  refine r_iload_n (pc := 8) dX0_judge_8 rfl ?_
  refine r_o2 (pc := 9) (bc' := 17) (bs' := 1064) (ct_X0_thingAt hx x1 hB) k_X0_193_0 dX0_judge_9 hx.1.2.1 (Nat.le_of_ble_eq_true rfl) ⟨Nat.le_of_ble_eq_true rfl, Nat.le_of_ble_eq_true rfl⟩ ⟨Nat.le_of_ble_eq_true rfl, Nat.le_of_ble_eq_true rfl⟩ (r_cr fun r9 M9 p9 => ?_) (fun q E M9 h9 => by obtain ⟨hn9, rfl, k9, w9, o9⟩ := h9; exact t_catch [] _ _ _ rfl (fun z hz => absurd hz List.not_mem_nil) rfl (by decide) q305 q389 ((hC M9 q _ _ _ _ _ _ _ k9 w9 (by decide) o9 (by unfold judgeS; rw [cI_t hn9])).loose (Nat.zero_le _) (Nat.zero_le _)))
  obtain ⟨ht, -, p9⟩ := p9
  have p9 := Eq.symm (show _ = _ from p9)
  subst p9
  refine r_pop (pc := 12) dX0_judge_12 rfl ?_
  refine r_aload (pc := 13) dX0_judge_13 rfl ?_
  refine r_o1 (pc := 15) (bc' := 13) (bs' := 107) (ct_X4_row hx (vp_in_lt (vp_sh hy)) hS) k_X0_177_4 dX0_judge_15 (hx.1.2.2.2.2.2.2.2.2.2 (Int32.toNatClampNeg x2) (vp_in_lt (vp_sh hy))).2 (Nat.le_of_ble_eq_true rfl) ⟨Nat.le_of_ble_eq_true rfl, Nat.le_of_ble_eq_true rfl⟩ ⟨Nat.le_of_ble_eq_true rfl, Nat.le_of_ble_eq_true rfl⟩ (r_cr fun r15 M15 p15 => ?_) (fun q E M9 h9 => by rcases h9 with ⟨hn9, rfl, k9, w9, o9⟩ | ⟨hn9, rfl, k9, w9, o9⟩; exact t_catch [] _ _ _ rfl (fun z hz => absurd hz List.not_mem_nil) rfl (by decide) q305 q389 ((hC M9 q _ _ _ _ _ _ _ k9 w9 (by decide) o9 (by unfold judgeS; rw [cI_f (fun q => q ht), cI_t (by rw [w_2 hy hn9]; decide), w_2 hy hn9])).loose (Nat.zero_le _) (Nat.zero_le _)); exact t_catch [] _ _ _ rfl (fun z hz => absurd hz List.not_mem_nil) rfl (by decide) q305 q389 ((hC M9 q _ _ _ _ _ _ _ k9 w9 (by decide) o9 (by unfold judgeS; rw [cI_f (fun q => q ht), cI_t (by rw [w_3 hy hn9]; decide), w_3 hy hn9])).loose (Nat.zero_le _) (Nat.zero_le _)))
  obtain ⟨⟨n, hro⟩, p15⟩ := p15
  have p15 := Eq.symm (show _ = _ from p15)
  subst p15
  refine r_astore5 (pc := 18) dX0_judge_18 rfl ?_
  refine r_iload_n (pc := 20) dX0_judge_20 rfl ?_
  refine r_if_lt (pc := 21) 28 dX0_judge_21 rfl (fun h21 => ?_) (fun h21 => ?_)
  · refine r_iconst (pc := 28) (v := 0) dX0_judge_28 (by decide) ?_
    refine r_eqi (bI (¬ x3 < 0)) (by first | exact bI_t' h21 | exact bI_f' (fun h => h h21)) ?_
    refine r_bipush (pc := 29) (v := (-4)) dX0_judge_29 (by decide) ?_
    refine r_s2 (pc := 31) (bc' := 12) (bs' := 100) (ct_X0_need _ _) k_X0_115 dX0_judge_31 (Nat.le_of_ble_eq_true rfl) ⟨Nat.le_of_ble_eq_true rfl, Nat.le_of_ble_eq_true rfl⟩ ⟨Nat.le_of_ble_eq_true rfl, Nat.le_of_ble_eq_true rfl⟩ (r_cv fun M31 p31 => ?_) (fun q E M9 h8 => by have hn9 := bI_eq0.mp h8.1; have h9 := hx.rf h8.2; obtain ⟨rfl, k9, w9, o9⟩ := h9; exact t_catch [] _ _ _ rfl (fun z hz => absurd hz List.not_mem_nil) rfl (by decide) q305 q389 ((hC M9 q _ _ _ _ _ _ _ k9 w9 (by decide) o9 (by unfold judgeS; rw [cI_f (fun q => q ht), cI_f (fun q => q (w_0 hy hro.1)), cI_t (Classical.not_not.mp hn9)])).loose (Nat.zero_le _) (Nat.zero_le _)))
    obtain ⟨h1, p31⟩ := p31
    have p31 := Eq.symm (show _ = _ from p31)
    subst p31
    rw [bI_ne0] at h1
    refine r_iload_n (pc := 34) dX0_judge_34 rfl ?_
    refine r_aload (pc := 35) dX0_judge_35 rfl ?_
    refine r_X0_length (pc := 37) hro.2.2.2.1 ((hS.2.1 _ (vp_in_lt (vp_sh hy))).2.1 hro.1).1 dX0_judge_37 rfl (Nat.le_of_ble_eq_true rfl) (Nat.le_of_ble_eq_true rfl) (Nat.le_of_ble_eq_true rfl) ?_
    refine r_iconst (pc := 40) (v := 2) dX0_judge_40 (by decide) ?_
    refine r_idiv (pc := 41) dX0_judge_41 (by decide) ?_
    refine r_icmp_gt (pc := 42) 49 dX0_judge_42 rfl (fun h42 => ?_) (fun h42 => ?_)
    · refine r_iconst (pc := 49) (v := 0) dX0_judge_49 (by decide) ?_
      refine r_eqi (bI (¬ nI n / 2 < x3)) (by first | exact bI_t' h42 | exact bI_f' (fun h => h h42)) ?_
      refine r_bipush (pc := 50) (v := (-5)) dX0_judge_50 (by decide) ?_
      refine r_s2 (pc := 52) (bc' := 11) (bs' := 93) (ct_X0_need _ _) k_X0_115 dX0_judge_52 (Nat.le_of_ble_eq_true rfl) ⟨Nat.le_of_ble_eq_true rfl, Nat.le_of_ble_eq_true rfl⟩ ⟨Nat.le_of_ble_eq_true rfl, Nat.le_of_ble_eq_true rfl⟩ (r_cv fun M52 p52 => ?_) (fun q E M9 h8 => by have hn9 := bI_eq0.mp h8.1; have h9 := hx.rf h8.2; obtain ⟨rfl, k9, w9, o9⟩ := h9; exact t_catch [] _ _ _ rfl (fun z hz => absurd hz List.not_mem_nil) rfl (by decide) q305 q389 ((hC M9 q _ _ _ _ _ _ _ k9 w9 (by decide) o9 (by unfold judgeS; rw [cI_f (fun q => q ht), cI_f (fun q => q (w_0 hy hro.1)), cI_f h1, cI_t (by rw [hro.2.2.2.2.1]; exact Classical.not_not.mp hn9)])).loose (Nat.zero_le _) (Nat.zero_le _)))
      obtain ⟨h2, p52⟩ := p52
      have p52 := Eq.symm (show _ = _ from p52)
      subst p52
      rw [bI_ne0] at h2
      refine r_iload_n (pc := 55) dX0_judge_55 rfl ?_
      refine r_bipush (pc := 56) (v := 40) dX0_judge_56 (by decide) ?_
      refine r_icmp_gt (pc := 58) 65 dX0_judge_58 rfl (fun h58 => ?_) (fun h58 => ?_)
      · refine r_iconst (pc := 65) (v := 0) dX0_judge_65 (by decide) ?_
        refine r_eqi (bI (¬ 40 < x3)) (by first | exact bI_t' h58 | exact bI_f' (fun h => h h58)) ?_
        refine r_bipush (pc := 66) (v := (-6)) dX0_judge_66 (by decide) ?_
        refine r_s2 (pc := 68) (bc' := 10) (bs' := 86) (ct_X0_need _ _) k_X0_115 dX0_judge_68 (Nat.le_of_ble_eq_true rfl) ⟨Nat.le_of_ble_eq_true rfl, Nat.le_of_ble_eq_true rfl⟩ ⟨Nat.le_of_ble_eq_true rfl, Nat.le_of_ble_eq_true rfl⟩ (r_cv fun M68 p68 => ?_) (fun q E M9 h8 => by have hn9 := bI_eq0.mp h8.1; have h9 := hx.rf h8.2; obtain ⟨rfl, k9, w9, o9⟩ := h9; exact t_catch [] _ _ _ rfl (fun z hz => absurd hz List.not_mem_nil) rfl (by decide) q305 q389 ((hC M9 q _ _ _ _ _ _ _ k9 w9 (by decide) o9 (by unfold judgeS; rw [cI_f (fun q => q ht), cI_f (fun q => q (w_0 hy hro.1)), cI_f h1, cI_f (by rw [hro.2.2.2.2.1]; exact h2), cI_t (Classical.not_not.mp hn9)])).loose (Nat.zero_le _) (Nat.zero_le _)))
        obtain ⟨h3, p68⟩ := p68
        have p68 := Eq.symm (show _ = _ from p68)
        subst p68
        rw [bI_ne0] at h3
        refine r_aload_n (pc := 71) dX0_judge_71 rfl ?_
        refine r_getR (pc := 72) dX0_judge_72 fl_X0_90_0 hx.1.2.1 (fun _ _ => rfl) hx.2.2.1.1 ?_
        refine r_o1 (pc := 75) (bc' := 0) (bs' := 8) (ct_X3_again hx.2.2.1.2.2 hS.1) k_X0_284_3 dX0_judge_75 hx.2.2.1.2.2.k (Nat.le_of_ble_eq_true rfl) ⟨Nat.le_of_ble_eq_true rfl, Nat.le_of_ble_eq_true rfl⟩ ⟨Nat.le_of_ble_eq_true rfl, Nat.le_of_ble_eq_true rfl⟩ (r_cr fun r75 M75 p75 => ?_) nox
        obtain ⟨rfl, w1, n1, f1, g1⟩ := p75
        refine r_astore6 (pc := 78) dX0_judge_78 rfl ?_
        refine r_iconst (pc := 80) (v := 0) dX0_judge_80 (by decide) ?_
        refine r_istore7 (pc := 81) dX0_judge_81 rfl ?_
        have h160 := hro.2.2.2.1.2.2.2.2
        obtain ⟨b, eb, hbz⟩ := half_le h160 h1 h2
        exact (L _ n b ht hy eb hbz h160 hro b 0 _ S.1 _ _ _ (by omega) f1 w1 hS.1 (fun _ _ _ _ => rfl) (by unfold judgeS; rw [cI_f (fun q => q ht), cI_f (fun q => q (w_0 hy hro.1)), cI_f h1, cI_f (by rw [hro.2.2.2.2.1]; exact h2), cI_f h3, show Int32.toNatClampNeg x3 = b by rw [eb, ix_nI (by omega)]])).loose (by omega) (by omega)
      · refine r_iconst (pc := 61) (v := 1) dX0_judge_61 (by decide) ?_
        refine r_goto (pc := 62) 66 dX0_judge_62 rfl ?_
        refine r_eqi (bI (¬ 40 < x3)) (by first | exact bI_t' h58 | exact bI_f' (fun h => h h58)) ?_
        refine r_bipush (pc := 66) (v := (-6)) dX0_judge_66 (by decide) ?_
        refine r_s2 (pc := 68) (bc' := 10) (bs' := 86) (ct_X0_need _ _) k_X0_115 dX0_judge_68 (Nat.le_of_ble_eq_true rfl) ⟨Nat.le_of_ble_eq_true rfl, Nat.le_of_ble_eq_true rfl⟩ ⟨Nat.le_of_ble_eq_true rfl, Nat.le_of_ble_eq_true rfl⟩ (r_cv fun M68 p68 => ?_) (fun q E M9 h8 => by have hn9 := bI_eq0.mp h8.1; have h9 := hx.rf h8.2; obtain ⟨rfl, k9, w9, o9⟩ := h9; exact t_catch [] _ _ _ rfl (fun z hz => absurd hz List.not_mem_nil) rfl (by decide) q305 q389 ((hC M9 q _ _ _ _ _ _ _ k9 w9 (by decide) o9 (by unfold judgeS; rw [cI_f (fun q => q ht), cI_f (fun q => q (w_0 hy hro.1)), cI_f h1, cI_f (by rw [hro.2.2.2.2.1]; exact h2), cI_t (Classical.not_not.mp hn9)])).loose (Nat.zero_le _) (Nat.zero_le _)))
        obtain ⟨h3, p68⟩ := p68
        have p68 := Eq.symm (show _ = _ from p68)
        subst p68
        rw [bI_ne0] at h3
        refine r_aload_n (pc := 71) dX0_judge_71 rfl ?_
        refine r_getR (pc := 72) dX0_judge_72 fl_X0_90_0 hx.1.2.1 (fun _ _ => rfl) hx.2.2.1.1 ?_
        refine r_o1 (pc := 75) (bc' := 0) (bs' := 8) (ct_X3_again hx.2.2.1.2.2 hS.1) k_X0_284_3 dX0_judge_75 hx.2.2.1.2.2.k (Nat.le_of_ble_eq_true rfl) ⟨Nat.le_of_ble_eq_true rfl, Nat.le_of_ble_eq_true rfl⟩ ⟨Nat.le_of_ble_eq_true rfl, Nat.le_of_ble_eq_true rfl⟩ (r_cr fun r75 M75 p75 => ?_) nox
        obtain ⟨rfl, w1, n1, f1, g1⟩ := p75
        refine r_astore6 (pc := 78) dX0_judge_78 rfl ?_
        refine r_iconst (pc := 80) (v := 0) dX0_judge_80 (by decide) ?_
        refine r_istore7 (pc := 81) dX0_judge_81 rfl ?_
        have h160 := hro.2.2.2.1.2.2.2.2
        obtain ⟨b, eb, hbz⟩ := half_le h160 h1 h2
        exact (L _ n b ht hy eb hbz h160 hro b 0 _ S.1 _ _ _ (by omega) f1 w1 hS.1 (fun _ _ _ _ => rfl) (by unfold judgeS; rw [cI_f (fun q => q ht), cI_f (fun q => q (w_0 hy hro.1)), cI_f h1, cI_f (by rw [hro.2.2.2.2.1]; exact h2), cI_f h3, show Int32.toNatClampNeg x3 = b by rw [eb, ix_nI (by omega)]])).loose (by omega) (by omega)
    · refine r_iconst (pc := 45) (v := 1) dX0_judge_45 (by decide) ?_
      refine r_goto (pc := 46) 50 dX0_judge_46 rfl ?_
      refine r_eqi (bI (¬ nI n / 2 < x3)) (by first | exact bI_t' h42 | exact bI_f' (fun h => h h42)) ?_
      refine r_bipush (pc := 50) (v := (-5)) dX0_judge_50 (by decide) ?_
      refine r_s2 (pc := 52) (bc' := 11) (bs' := 93) (ct_X0_need _ _) k_X0_115 dX0_judge_52 (Nat.le_of_ble_eq_true rfl) ⟨Nat.le_of_ble_eq_true rfl, Nat.le_of_ble_eq_true rfl⟩ ⟨Nat.le_of_ble_eq_true rfl, Nat.le_of_ble_eq_true rfl⟩ (r_cv fun M52 p52 => ?_) (fun q E M9 h8 => by have hn9 := bI_eq0.mp h8.1; have h9 := hx.rf h8.2; obtain ⟨rfl, k9, w9, o9⟩ := h9; exact t_catch [] _ _ _ rfl (fun z hz => absurd hz List.not_mem_nil) rfl (by decide) q305 q389 ((hC M9 q _ _ _ _ _ _ _ k9 w9 (by decide) o9 (by unfold judgeS; rw [cI_f (fun q => q ht), cI_f (fun q => q (w_0 hy hro.1)), cI_f h1, cI_t (by rw [hro.2.2.2.2.1]; exact Classical.not_not.mp hn9)])).loose (Nat.zero_le _) (Nat.zero_le _)))
      obtain ⟨h2, p52⟩ := p52
      have p52 := Eq.symm (show _ = _ from p52)
      subst p52
      rw [bI_ne0] at h2
      refine r_iload_n (pc := 55) dX0_judge_55 rfl ?_
      refine r_bipush (pc := 56) (v := 40) dX0_judge_56 (by decide) ?_
      refine r_icmp_gt (pc := 58) 65 dX0_judge_58 rfl (fun h58 => ?_) (fun h58 => ?_)
      · refine r_iconst (pc := 65) (v := 0) dX0_judge_65 (by decide) ?_
        refine r_eqi (bI (¬ 40 < x3)) (by first | exact bI_t' h58 | exact bI_f' (fun h => h h58)) ?_
        refine r_bipush (pc := 66) (v := (-6)) dX0_judge_66 (by decide) ?_
        refine r_s2 (pc := 68) (bc' := 10) (bs' := 86) (ct_X0_need _ _) k_X0_115 dX0_judge_68 (Nat.le_of_ble_eq_true rfl) ⟨Nat.le_of_ble_eq_true rfl, Nat.le_of_ble_eq_true rfl⟩ ⟨Nat.le_of_ble_eq_true rfl, Nat.le_of_ble_eq_true rfl⟩ (r_cv fun M68 p68 => ?_) (fun q E M9 h8 => by have hn9 := bI_eq0.mp h8.1; have h9 := hx.rf h8.2; obtain ⟨rfl, k9, w9, o9⟩ := h9; exact t_catch [] _ _ _ rfl (fun z hz => absurd hz List.not_mem_nil) rfl (by decide) q305 q389 ((hC M9 q _ _ _ _ _ _ _ k9 w9 (by decide) o9 (by unfold judgeS; rw [cI_f (fun q => q ht), cI_f (fun q => q (w_0 hy hro.1)), cI_f h1, cI_f (by rw [hro.2.2.2.2.1]; exact h2), cI_t (Classical.not_not.mp hn9)])).loose (Nat.zero_le _) (Nat.zero_le _)))
        obtain ⟨h3, p68⟩ := p68
        have p68 := Eq.symm (show _ = _ from p68)
        subst p68
        rw [bI_ne0] at h3
        refine r_aload_n (pc := 71) dX0_judge_71 rfl ?_
        refine r_getR (pc := 72) dX0_judge_72 fl_X0_90_0 hx.1.2.1 (fun _ _ => rfl) hx.2.2.1.1 ?_
        refine r_o1 (pc := 75) (bc' := 0) (bs' := 8) (ct_X3_again hx.2.2.1.2.2 hS.1) k_X0_284_3 dX0_judge_75 hx.2.2.1.2.2.k (Nat.le_of_ble_eq_true rfl) ⟨Nat.le_of_ble_eq_true rfl, Nat.le_of_ble_eq_true rfl⟩ ⟨Nat.le_of_ble_eq_true rfl, Nat.le_of_ble_eq_true rfl⟩ (r_cr fun r75 M75 p75 => ?_) nox
        obtain ⟨rfl, w1, n1, f1, g1⟩ := p75
        refine r_astore6 (pc := 78) dX0_judge_78 rfl ?_
        refine r_iconst (pc := 80) (v := 0) dX0_judge_80 (by decide) ?_
        refine r_istore7 (pc := 81) dX0_judge_81 rfl ?_
        have h160 := hro.2.2.2.1.2.2.2.2
        obtain ⟨b, eb, hbz⟩ := half_le h160 h1 h2
        exact (L _ n b ht hy eb hbz h160 hro b 0 _ S.1 _ _ _ (by omega) f1 w1 hS.1 (fun _ _ _ _ => rfl) (by unfold judgeS; rw [cI_f (fun q => q ht), cI_f (fun q => q (w_0 hy hro.1)), cI_f h1, cI_f (by rw [hro.2.2.2.2.1]; exact h2), cI_f h3, show Int32.toNatClampNeg x3 = b by rw [eb, ix_nI (by omega)]])).loose (by omega) (by omega)
      · refine r_iconst (pc := 61) (v := 1) dX0_judge_61 (by decide) ?_
        refine r_goto (pc := 62) 66 dX0_judge_62 rfl ?_
        refine r_eqi (bI (¬ 40 < x3)) (by first | exact bI_t' h58 | exact bI_f' (fun h => h h58)) ?_
        refine r_bipush (pc := 66) (v := (-6)) dX0_judge_66 (by decide) ?_
        refine r_s2 (pc := 68) (bc' := 10) (bs' := 86) (ct_X0_need _ _) k_X0_115 dX0_judge_68 (Nat.le_of_ble_eq_true rfl) ⟨Nat.le_of_ble_eq_true rfl, Nat.le_of_ble_eq_true rfl⟩ ⟨Nat.le_of_ble_eq_true rfl, Nat.le_of_ble_eq_true rfl⟩ (r_cv fun M68 p68 => ?_) (fun q E M9 h8 => by have hn9 := bI_eq0.mp h8.1; have h9 := hx.rf h8.2; obtain ⟨rfl, k9, w9, o9⟩ := h9; exact t_catch [] _ _ _ rfl (fun z hz => absurd hz List.not_mem_nil) rfl (by decide) q305 q389 ((hC M9 q _ _ _ _ _ _ _ k9 w9 (by decide) o9 (by unfold judgeS; rw [cI_f (fun q => q ht), cI_f (fun q => q (w_0 hy hro.1)), cI_f h1, cI_f (by rw [hro.2.2.2.2.1]; exact h2), cI_t (Classical.not_not.mp hn9)])).loose (Nat.zero_le _) (Nat.zero_le _)))
        obtain ⟨h3, p68⟩ := p68
        have p68 := Eq.symm (show _ = _ from p68)
        subst p68
        rw [bI_ne0] at h3
        refine r_aload_n (pc := 71) dX0_judge_71 rfl ?_
        refine r_getR (pc := 72) dX0_judge_72 fl_X0_90_0 hx.1.2.1 (fun _ _ => rfl) hx.2.2.1.1 ?_
        refine r_o1 (pc := 75) (bc' := 0) (bs' := 8) (ct_X3_again hx.2.2.1.2.2 hS.1) k_X0_284_3 dX0_judge_75 hx.2.2.1.2.2.k (Nat.le_of_ble_eq_true rfl) ⟨Nat.le_of_ble_eq_true rfl, Nat.le_of_ble_eq_true rfl⟩ ⟨Nat.le_of_ble_eq_true rfl, Nat.le_of_ble_eq_true rfl⟩ (r_cr fun r75 M75 p75 => ?_) nox
        obtain ⟨rfl, w1, n1, f1, g1⟩ := p75
        refine r_astore6 (pc := 78) dX0_judge_78 rfl ?_
        refine r_iconst (pc := 80) (v := 0) dX0_judge_80 (by decide) ?_
        refine r_istore7 (pc := 81) dX0_judge_81 rfl ?_
        have h160 := hro.2.2.2.1.2.2.2.2
        obtain ⟨b, eb, hbz⟩ := half_le h160 h1 h2
        exact (L _ n b ht hy eb hbz h160 hro b 0 _ S.1 _ _ _ (by omega) f1 w1 hS.1 (fun _ _ _ _ => rfl) (by unfold judgeS; rw [cI_f (fun q => q ht), cI_f (fun q => q (w_0 hy hro.1)), cI_f h1, cI_f (by rw [hro.2.2.2.2.1]; exact h2), cI_f h3, show Int32.toNatClampNeg x3 = b by rw [eb, ix_nI (by omega)]])).loose (by omega) (by omega)
  · refine r_iconst (pc := 24) (v := 1) dX0_judge_24 (by decide) ?_
    refine r_goto (pc := 25) 29 dX0_judge_25 rfl ?_
    refine r_eqi (bI (¬ x3 < 0)) (by first | exact bI_t' h21 | exact bI_f' (fun h => h h21)) ?_
    refine r_bipush (pc := 29) (v := (-4)) dX0_judge_29 (by decide) ?_
    refine r_s2 (pc := 31) (bc' := 12) (bs' := 100) (ct_X0_need _ _) k_X0_115 dX0_judge_31 (Nat.le_of_ble_eq_true rfl) ⟨Nat.le_of_ble_eq_true rfl, Nat.le_of_ble_eq_true rfl⟩ ⟨Nat.le_of_ble_eq_true rfl, Nat.le_of_ble_eq_true rfl⟩ (r_cv fun M31 p31 => ?_) (fun q E M9 h8 => by have hn9 := bI_eq0.mp h8.1; have h9 := hx.rf h8.2; obtain ⟨rfl, k9, w9, o9⟩ := h9; exact t_catch [] _ _ _ rfl (fun z hz => absurd hz List.not_mem_nil) rfl (by decide) q305 q389 ((hC M9 q _ _ _ _ _ _ _ k9 w9 (by decide) o9 (by unfold judgeS; rw [cI_f (fun q => q ht), cI_f (fun q => q (w_0 hy hro.1)), cI_t (Classical.not_not.mp hn9)])).loose (Nat.zero_le _) (Nat.zero_le _)))
    obtain ⟨h1, p31⟩ := p31
    have p31 := Eq.symm (show _ = _ from p31)
    subst p31
    rw [bI_ne0] at h1
    refine r_iload_n (pc := 34) dX0_judge_34 rfl ?_
    refine r_aload (pc := 35) dX0_judge_35 rfl ?_
    refine r_X0_length (pc := 37) hro.2.2.2.1 ((hS.2.1 _ (vp_in_lt (vp_sh hy))).2.1 hro.1).1 dX0_judge_37 rfl (Nat.le_of_ble_eq_true rfl) (Nat.le_of_ble_eq_true rfl) (Nat.le_of_ble_eq_true rfl) ?_
    refine r_iconst (pc := 40) (v := 2) dX0_judge_40 (by decide) ?_
    refine r_idiv (pc := 41) dX0_judge_41 (by decide) ?_
    refine r_icmp_gt (pc := 42) 49 dX0_judge_42 rfl (fun h42 => ?_) (fun h42 => ?_)
    · refine r_iconst (pc := 49) (v := 0) dX0_judge_49 (by decide) ?_
      refine r_eqi (bI (¬ nI n / 2 < x3)) (by first | exact bI_t' h42 | exact bI_f' (fun h => h h42)) ?_
      refine r_bipush (pc := 50) (v := (-5)) dX0_judge_50 (by decide) ?_
      refine r_s2 (pc := 52) (bc' := 11) (bs' := 93) (ct_X0_need _ _) k_X0_115 dX0_judge_52 (Nat.le_of_ble_eq_true rfl) ⟨Nat.le_of_ble_eq_true rfl, Nat.le_of_ble_eq_true rfl⟩ ⟨Nat.le_of_ble_eq_true rfl, Nat.le_of_ble_eq_true rfl⟩ (r_cv fun M52 p52 => ?_) (fun q E M9 h8 => by have hn9 := bI_eq0.mp h8.1; have h9 := hx.rf h8.2; obtain ⟨rfl, k9, w9, o9⟩ := h9; exact t_catch [] _ _ _ rfl (fun z hz => absurd hz List.not_mem_nil) rfl (by decide) q305 q389 ((hC M9 q _ _ _ _ _ _ _ k9 w9 (by decide) o9 (by unfold judgeS; rw [cI_f (fun q => q ht), cI_f (fun q => q (w_0 hy hro.1)), cI_f h1, cI_t (by rw [hro.2.2.2.2.1]; exact Classical.not_not.mp hn9)])).loose (Nat.zero_le _) (Nat.zero_le _)))
      obtain ⟨h2, p52⟩ := p52
      have p52 := Eq.symm (show _ = _ from p52)
      subst p52
      rw [bI_ne0] at h2
      refine r_iload_n (pc := 55) dX0_judge_55 rfl ?_
      refine r_bipush (pc := 56) (v := 40) dX0_judge_56 (by decide) ?_
      refine r_icmp_gt (pc := 58) 65 dX0_judge_58 rfl (fun h58 => ?_) (fun h58 => ?_)
      · refine r_iconst (pc := 65) (v := 0) dX0_judge_65 (by decide) ?_
        refine r_eqi (bI (¬ 40 < x3)) (by first | exact bI_t' h58 | exact bI_f' (fun h => h h58)) ?_
        refine r_bipush (pc := 66) (v := (-6)) dX0_judge_66 (by decide) ?_
        refine r_s2 (pc := 68) (bc' := 10) (bs' := 86) (ct_X0_need _ _) k_X0_115 dX0_judge_68 (Nat.le_of_ble_eq_true rfl) ⟨Nat.le_of_ble_eq_true rfl, Nat.le_of_ble_eq_true rfl⟩ ⟨Nat.le_of_ble_eq_true rfl, Nat.le_of_ble_eq_true rfl⟩ (r_cv fun M68 p68 => ?_) (fun q E M9 h8 => by have hn9 := bI_eq0.mp h8.1; have h9 := hx.rf h8.2; obtain ⟨rfl, k9, w9, o9⟩ := h9; exact t_catch [] _ _ _ rfl (fun z hz => absurd hz List.not_mem_nil) rfl (by decide) q305 q389 ((hC M9 q _ _ _ _ _ _ _ k9 w9 (by decide) o9 (by unfold judgeS; rw [cI_f (fun q => q ht), cI_f (fun q => q (w_0 hy hro.1)), cI_f h1, cI_f (by rw [hro.2.2.2.2.1]; exact h2), cI_t (Classical.not_not.mp hn9)])).loose (Nat.zero_le _) (Nat.zero_le _)))
        obtain ⟨h3, p68⟩ := p68
        have p68 := Eq.symm (show _ = _ from p68)
        subst p68
        rw [bI_ne0] at h3
        refine r_aload_n (pc := 71) dX0_judge_71 rfl ?_
        refine r_getR (pc := 72) dX0_judge_72 fl_X0_90_0 hx.1.2.1 (fun _ _ => rfl) hx.2.2.1.1 ?_
        refine r_o1 (pc := 75) (bc' := 0) (bs' := 8) (ct_X3_again hx.2.2.1.2.2 hS.1) k_X0_284_3 dX0_judge_75 hx.2.2.1.2.2.k (Nat.le_of_ble_eq_true rfl) ⟨Nat.le_of_ble_eq_true rfl, Nat.le_of_ble_eq_true rfl⟩ ⟨Nat.le_of_ble_eq_true rfl, Nat.le_of_ble_eq_true rfl⟩ (r_cr fun r75 M75 p75 => ?_) nox
        obtain ⟨rfl, w1, n1, f1, g1⟩ := p75
        refine r_astore6 (pc := 78) dX0_judge_78 rfl ?_
        refine r_iconst (pc := 80) (v := 0) dX0_judge_80 (by decide) ?_
        refine r_istore7 (pc := 81) dX0_judge_81 rfl ?_
        have h160 := hro.2.2.2.1.2.2.2.2
        obtain ⟨b, eb, hbz⟩ := half_le h160 h1 h2
        exact (L _ n b ht hy eb hbz h160 hro b 0 _ S.1 _ _ _ (by omega) f1 w1 hS.1 (fun _ _ _ _ => rfl) (by unfold judgeS; rw [cI_f (fun q => q ht), cI_f (fun q => q (w_0 hy hro.1)), cI_f h1, cI_f (by rw [hro.2.2.2.2.1]; exact h2), cI_f h3, show Int32.toNatClampNeg x3 = b by rw [eb, ix_nI (by omega)]])).loose (by omega) (by omega)
      · refine r_iconst (pc := 61) (v := 1) dX0_judge_61 (by decide) ?_
        refine r_goto (pc := 62) 66 dX0_judge_62 rfl ?_
        refine r_eqi (bI (¬ 40 < x3)) (by first | exact bI_t' h58 | exact bI_f' (fun h => h h58)) ?_
        refine r_bipush (pc := 66) (v := (-6)) dX0_judge_66 (by decide) ?_
        refine r_s2 (pc := 68) (bc' := 10) (bs' := 86) (ct_X0_need _ _) k_X0_115 dX0_judge_68 (Nat.le_of_ble_eq_true rfl) ⟨Nat.le_of_ble_eq_true rfl, Nat.le_of_ble_eq_true rfl⟩ ⟨Nat.le_of_ble_eq_true rfl, Nat.le_of_ble_eq_true rfl⟩ (r_cv fun M68 p68 => ?_) (fun q E M9 h8 => by have hn9 := bI_eq0.mp h8.1; have h9 := hx.rf h8.2; obtain ⟨rfl, k9, w9, o9⟩ := h9; exact t_catch [] _ _ _ rfl (fun z hz => absurd hz List.not_mem_nil) rfl (by decide) q305 q389 ((hC M9 q _ _ _ _ _ _ _ k9 w9 (by decide) o9 (by unfold judgeS; rw [cI_f (fun q => q ht), cI_f (fun q => q (w_0 hy hro.1)), cI_f h1, cI_f (by rw [hro.2.2.2.2.1]; exact h2), cI_t (Classical.not_not.mp hn9)])).loose (Nat.zero_le _) (Nat.zero_le _)))
        obtain ⟨h3, p68⟩ := p68
        have p68 := Eq.symm (show _ = _ from p68)
        subst p68
        rw [bI_ne0] at h3
        refine r_aload_n (pc := 71) dX0_judge_71 rfl ?_
        refine r_getR (pc := 72) dX0_judge_72 fl_X0_90_0 hx.1.2.1 (fun _ _ => rfl) hx.2.2.1.1 ?_
        refine r_o1 (pc := 75) (bc' := 0) (bs' := 8) (ct_X3_again hx.2.2.1.2.2 hS.1) k_X0_284_3 dX0_judge_75 hx.2.2.1.2.2.k (Nat.le_of_ble_eq_true rfl) ⟨Nat.le_of_ble_eq_true rfl, Nat.le_of_ble_eq_true rfl⟩ ⟨Nat.le_of_ble_eq_true rfl, Nat.le_of_ble_eq_true rfl⟩ (r_cr fun r75 M75 p75 => ?_) nox
        obtain ⟨rfl, w1, n1, f1, g1⟩ := p75
        refine r_astore6 (pc := 78) dX0_judge_78 rfl ?_
        refine r_iconst (pc := 80) (v := 0) dX0_judge_80 (by decide) ?_
        refine r_istore7 (pc := 81) dX0_judge_81 rfl ?_
        have h160 := hro.2.2.2.1.2.2.2.2
        obtain ⟨b, eb, hbz⟩ := half_le h160 h1 h2
        exact (L _ n b ht hy eb hbz h160 hro b 0 _ S.1 _ _ _ (by omega) f1 w1 hS.1 (fun _ _ _ _ => rfl) (by unfold judgeS; rw [cI_f (fun q => q ht), cI_f (fun q => q (w_0 hy hro.1)), cI_f h1, cI_f (by rw [hro.2.2.2.2.1]; exact h2), cI_f h3, show Int32.toNatClampNeg x3 = b by rw [eb, ix_nI (by omega)]])).loose (by omega) (by omega)
    · refine r_iconst (pc := 45) (v := 1) dX0_judge_45 (by decide) ?_
      refine r_goto (pc := 46) 50 dX0_judge_46 rfl ?_
      refine r_eqi (bI (¬ nI n / 2 < x3)) (by first | exact bI_t' h42 | exact bI_f' (fun h => h h42)) ?_
      refine r_bipush (pc := 50) (v := (-5)) dX0_judge_50 (by decide) ?_
      refine r_s2 (pc := 52) (bc' := 11) (bs' := 93) (ct_X0_need _ _) k_X0_115 dX0_judge_52 (Nat.le_of_ble_eq_true rfl) ⟨Nat.le_of_ble_eq_true rfl, Nat.le_of_ble_eq_true rfl⟩ ⟨Nat.le_of_ble_eq_true rfl, Nat.le_of_ble_eq_true rfl⟩ (r_cv fun M52 p52 => ?_) (fun q E M9 h8 => by have hn9 := bI_eq0.mp h8.1; have h9 := hx.rf h8.2; obtain ⟨rfl, k9, w9, o9⟩ := h9; exact t_catch [] _ _ _ rfl (fun z hz => absurd hz List.not_mem_nil) rfl (by decide) q305 q389 ((hC M9 q _ _ _ _ _ _ _ k9 w9 (by decide) o9 (by unfold judgeS; rw [cI_f (fun q => q ht), cI_f (fun q => q (w_0 hy hro.1)), cI_f h1, cI_t (by rw [hro.2.2.2.2.1]; exact Classical.not_not.mp hn9)])).loose (Nat.zero_le _) (Nat.zero_le _)))
      obtain ⟨h2, p52⟩ := p52
      have p52 := Eq.symm (show _ = _ from p52)
      subst p52
      rw [bI_ne0] at h2
      refine r_iload_n (pc := 55) dX0_judge_55 rfl ?_
      refine r_bipush (pc := 56) (v := 40) dX0_judge_56 (by decide) ?_
      refine r_icmp_gt (pc := 58) 65 dX0_judge_58 rfl (fun h58 => ?_) (fun h58 => ?_)
      · refine r_iconst (pc := 65) (v := 0) dX0_judge_65 (by decide) ?_
        refine r_eqi (bI (¬ 40 < x3)) (by first | exact bI_t' h58 | exact bI_f' (fun h => h h58)) ?_
        refine r_bipush (pc := 66) (v := (-6)) dX0_judge_66 (by decide) ?_
        refine r_s2 (pc := 68) (bc' := 10) (bs' := 86) (ct_X0_need _ _) k_X0_115 dX0_judge_68 (Nat.le_of_ble_eq_true rfl) ⟨Nat.le_of_ble_eq_true rfl, Nat.le_of_ble_eq_true rfl⟩ ⟨Nat.le_of_ble_eq_true rfl, Nat.le_of_ble_eq_true rfl⟩ (r_cv fun M68 p68 => ?_) (fun q E M9 h8 => by have hn9 := bI_eq0.mp h8.1; have h9 := hx.rf h8.2; obtain ⟨rfl, k9, w9, o9⟩ := h9; exact t_catch [] _ _ _ rfl (fun z hz => absurd hz List.not_mem_nil) rfl (by decide) q305 q389 ((hC M9 q _ _ _ _ _ _ _ k9 w9 (by decide) o9 (by unfold judgeS; rw [cI_f (fun q => q ht), cI_f (fun q => q (w_0 hy hro.1)), cI_f h1, cI_f (by rw [hro.2.2.2.2.1]; exact h2), cI_t (Classical.not_not.mp hn9)])).loose (Nat.zero_le _) (Nat.zero_le _)))
        obtain ⟨h3, p68⟩ := p68
        have p68 := Eq.symm (show _ = _ from p68)
        subst p68
        rw [bI_ne0] at h3
        refine r_aload_n (pc := 71) dX0_judge_71 rfl ?_
        refine r_getR (pc := 72) dX0_judge_72 fl_X0_90_0 hx.1.2.1 (fun _ _ => rfl) hx.2.2.1.1 ?_
        refine r_o1 (pc := 75) (bc' := 0) (bs' := 8) (ct_X3_again hx.2.2.1.2.2 hS.1) k_X0_284_3 dX0_judge_75 hx.2.2.1.2.2.k (Nat.le_of_ble_eq_true rfl) ⟨Nat.le_of_ble_eq_true rfl, Nat.le_of_ble_eq_true rfl⟩ ⟨Nat.le_of_ble_eq_true rfl, Nat.le_of_ble_eq_true rfl⟩ (r_cr fun r75 M75 p75 => ?_) nox
        obtain ⟨rfl, w1, n1, f1, g1⟩ := p75
        refine r_astore6 (pc := 78) dX0_judge_78 rfl ?_
        refine r_iconst (pc := 80) (v := 0) dX0_judge_80 (by decide) ?_
        refine r_istore7 (pc := 81) dX0_judge_81 rfl ?_
        have h160 := hro.2.2.2.1.2.2.2.2
        obtain ⟨b, eb, hbz⟩ := half_le h160 h1 h2
        exact (L _ n b ht hy eb hbz h160 hro b 0 _ S.1 _ _ _ (by omega) f1 w1 hS.1 (fun _ _ _ _ => rfl) (by unfold judgeS; rw [cI_f (fun q => q ht), cI_f (fun q => q (w_0 hy hro.1)), cI_f h1, cI_f (by rw [hro.2.2.2.2.1]; exact h2), cI_f h3, show Int32.toNatClampNeg x3 = b by rw [eb, ix_nI (by omega)]])).loose (by omega) (by omega)
      · refine r_iconst (pc := 61) (v := 1) dX0_judge_61 (by decide) ?_
        refine r_goto (pc := 62) 66 dX0_judge_62 rfl ?_
        refine r_eqi (bI (¬ 40 < x3)) (by first | exact bI_t' h58 | exact bI_f' (fun h => h h58)) ?_
        refine r_bipush (pc := 66) (v := (-6)) dX0_judge_66 (by decide) ?_
        refine r_s2 (pc := 68) (bc' := 10) (bs' := 86) (ct_X0_need _ _) k_X0_115 dX0_judge_68 (Nat.le_of_ble_eq_true rfl) ⟨Nat.le_of_ble_eq_true rfl, Nat.le_of_ble_eq_true rfl⟩ ⟨Nat.le_of_ble_eq_true rfl, Nat.le_of_ble_eq_true rfl⟩ (r_cv fun M68 p68 => ?_) (fun q E M9 h8 => by have hn9 := bI_eq0.mp h8.1; have h9 := hx.rf h8.2; obtain ⟨rfl, k9, w9, o9⟩ := h9; exact t_catch [] _ _ _ rfl (fun z hz => absurd hz List.not_mem_nil) rfl (by decide) q305 q389 ((hC M9 q _ _ _ _ _ _ _ k9 w9 (by decide) o9 (by unfold judgeS; rw [cI_f (fun q => q ht), cI_f (fun q => q (w_0 hy hro.1)), cI_f h1, cI_f (by rw [hro.2.2.2.2.1]; exact h2), cI_t (Classical.not_not.mp hn9)])).loose (Nat.zero_le _) (Nat.zero_le _)))
        obtain ⟨h3, p68⟩ := p68
        have p68 := Eq.symm (show _ = _ from p68)
        subst p68
        rw [bI_ne0] at h3
        refine r_aload_n (pc := 71) dX0_judge_71 rfl ?_
        refine r_getR (pc := 72) dX0_judge_72 fl_X0_90_0 hx.1.2.1 (fun _ _ => rfl) hx.2.2.1.1 ?_
        refine r_o1 (pc := 75) (bc' := 0) (bs' := 8) (ct_X3_again hx.2.2.1.2.2 hS.1) k_X0_284_3 dX0_judge_75 hx.2.2.1.2.2.k (Nat.le_of_ble_eq_true rfl) ⟨Nat.le_of_ble_eq_true rfl, Nat.le_of_ble_eq_true rfl⟩ ⟨Nat.le_of_ble_eq_true rfl, Nat.le_of_ble_eq_true rfl⟩ (r_cr fun r75 M75 p75 => ?_) nox
        obtain ⟨rfl, w1, n1, f1, g1⟩ := p75
        refine r_astore6 (pc := 78) dX0_judge_78 rfl ?_
        refine r_iconst (pc := 80) (v := 0) dX0_judge_80 (by decide) ?_
        refine r_istore7 (pc := 81) dX0_judge_81 rfl ?_
        have h160 := hro.2.2.2.1.2.2.2.2
        obtain ⟨b, eb, hbz⟩ := half_le h160 h1 h2
        exact (L _ n b ht hy eb hbz h160 hro b 0 _ S.1 _ _ _ (by omega) f1 w1 hS.1 (fun _ _ _ _ => rfl) (by unfold judgeS; rw [cI_f (fun q => q ht), cI_f (fun q => q (w_0 hy hro.1)), cI_f h1, cI_f (by rw [hro.2.2.2.2.1]; exact h2), cI_f h3, show Int32.toNatClampNeg x3 = b by rw [eb, ix_nI (by omega)]])).loose (by omega) (by omega)
