/-! THE MODEL's calls: order, handovers, wants shared (printed by gen/model9.py) -/
set_option maxRecDepth 100000
theorem on_st {σ : cS} (hk : OkW σ) {t p : Int32} (h1 : thP σ t) (h2 : onP σ t p) : onD (σ 4 0) (σ 5 0) p (σ 14 (Int32.toNatClampNeg t)) ∧ p.toInt ≤ 99 ∧ ¬ wetP (σ 4 0) (σ 5 0) p := by
  have h14 := (hk.2.2.1 _ (ix_lt h1.1 h1.2)).2.2.2.1
  refine ⟨⟨?_, ?_, h14.2.2⟩, ?_, h2.1.2.2⟩
  · have g := Int32.not_lt.mp h14.1; rw [Int32.le_iff_toInt_le, c_0] at g; exact g
  · have := i_lt.mp h2.2; omega
  · have e := hk.2.1.1.2; have g := Int32.not_lt.mp h2.1.2.1; rw [Int32.le_iff_toInt_le] at g; omega
theorem ct_X5_order {M0 : PM} {mo : Nat} {I : Nat → Nat → Int32} {L : Nat → Nat → Int64} (hm : MR M0 mo) (x1 : Int32) (x2 : Int32) (x3 : Int32) (x4 : Int32) (hk : OkS (sM I mo)) : Ct (YX5_order, (4, 96, 0, 0), qi (fun r M' => oM M0 mo I L (orderS (sS I L mo) x1 x2 x3 x4) r M'), noX) [.ref mo, .int x1, .int x2, .int x3, .int x4] (wIL M0 I L) := by
  refine ct_of [some (.ref mo), some (.int x1), some (.int x2), some (.int x3), some (.int x4), none, none, none, none, none] rfl rfl rfl (Nat.le_of_ble_eq_true rfl) rfl rfl ?_
  obtain ⟨N, hN, eN⟩ := bd_nI (n := 8) hk.1.1.2.1
  have eN : I mo 1 = nI N := eN
  have h256 := pow8 hN
  have eP : ppN (sM I mo) = N := by show Int32.toNatClampNeg (I mo 1) = N; rw [eN, ix_nI (by omega)]
  have base : ∀ (I0 : Nat → Nat → Int32) (s0 i0 : Nat), s0 < 2 ^ N → x4 = nI i0 → i0 < cntN s0 → thP (sM I mo) x1 → onP (sM I mo) x1 x3 → endC (I mo 4) (I mo 5) x3 (fun m => farS (sM I mo) m (Int32.toNatClampNeg x1)) (I (mo + 5) (Int32.toNatClampNeg x1)) N s0 = x3 → (∀ x, x ≠ mo + 24 → x ≠ mo + 25 → I0 x = I x) → (∀ i, i < N → I0 (mo + 25) i = farS (sM I mo) i (Int32.toNatClampNeg x1)) → orderS (sS I L mo) x1 x2 x3 x4 = (ordL (I mo 4) (I mo 5) x3 (fun m => farS (sM I mo) m (Int32.toNatClampNeg x1)) N i0 (I (mo + 5) (Int32.toNatClampNeg x1)) s0, sS I L mo) → x2 = nI s0 → Wx (YX5_order, (4, 96, 0, 0), qi (fun r M' => oM M0 mo I L (orderS (sS I L mo) x1 x2 x3 x4) r M'), noX) 0 0 (wIL M0 I0 L) 76 [some (.ref mo), some (.int x1), some (.int x2), some (.int x3), some (.int x4), none, none, none, none, none] [] := by
    intro I0 s0 i0 hs0 ei hi0 t1 t3 he0 a0 a00 hw0 es0
    have ht := vp_b (n := 8) t1.1 t1.2 hk.1.1.1.2
    have hd := hk.1.far (ix_lt t1.1 t1.2)
    have hon := on_st hk.1 t1 t3
    have hfr : ∀ m, m < N → bd (farS (sM I mo) m (Int32.toNatClampNeg x1)) 0 60 := fun m hm => by
      have := hk.1.fars (m := m) (ix_lt t1.1 t1.2) (by rw [show Int32.toNatClampNeg (sM I mo 1 0) = N from eP]; exact hm)
      unfold bd at this ⊢
      omega
    have hc8 := cnt_le s0
    have L1 : ∀ (n : Nat) (k s : Nat) (q : Int32) (I1 : Nat → Nat → Int32) (o8 o9 : Option Value), k + n = i0 → s < 2 ^ N → n < cntN s → onD (I mo 4) (I mo 5) x3 q → endC (I mo 4) (I mo 5) x3 (fun m => farS (sM I mo) m (Int32.toNatClampNeg x1)) q N s = x3 → (∀ x, x ≠ mo + 24 → x ≠ mo + 25 → I1 x = I x) → (∀ i, i < N → I1 (mo + 25) i = farS (sM I mo) i (Int32.toNatClampNeg x1)) → orderS (sS I L mo) x1 x2 x3 x4 = (ordL (I mo 4) (I mo 5) x3 (fun m => farS (sM I mo) m (Int32.toNatClampNeg x1)) N n q s, sS I L mo) → Wx (YX5_order, (4, 96, 0, 0), qi (fun r M' => oM M0 mo I L (orderS (sS I L mo) x1 x2 x3 x4) r M'), noX) 0 0 (wIL M0 I1 L) 90 [some (.ref mo), some (.int x1), some (.int x2), some (.int x3), some (.int x4), some (.int q), some (.int (nI s)), some (.int (nI k)), o8, o9] [] := by
      intro n
      induction n with
      | zero =>
        intro k s q I1 o8 o9 hk2 hs hcn hq he a1 a2 hw
        have hs0' : s ≠ 0 := fun e => by subst e; have : cntN 0 = 0 := rfl; omega
        obtain ⟨m0, hm0, hb0, hle⟩ := end_first (rf := I mo 4) (rt := I mo 5) (to := x3) (fr := (fun m => farS (sM I mo) m (Int32.toNatClampNeg x1))) hN hq hon.2.1 hon.2.2 hfr s hs hs0'
        have gq : ∀ m, m < N → onD (I mo 4) (I mo 5) x3 (goesC (I mo 4) (I mo 5) q (farS (sM I mo) m (Int32.toNatClampNeg x1)) x3) := fun m hm => by
          have g := goes_ok (f := farS (sM I mo) m (Int32.toNatClampNeg x1)) hq.1 hq.2.1 hon.2.1 (hfr m hm) hq.2.2 hon.2.2
          exact ⟨by have := hq.1; omega, g.2.1, g.2.2⟩
        have hg0 : goodC (I mo 4) (I mo 5) x3 (fun m => farS (sM I mo) m (Int32.toNatClampNeg x1)) N q s m0 = true := by
          have e1 := (end_on (fr := (fun m => farS (sM I mo) m (Int32.toNatClampNeg x1))) (n := N) (gq m0 hm0) hon.2.1 hon.2.2 hfr (s - 2 ^ m0)).1.2.1
          rw [he] at hle
          have e2 : endC (I mo 4) (I mo 5) x3 (fun m => farS (sM I mo) m (Int32.toNatClampNeg x1)) (goesC (I mo 4) (I mo 5) q (farS (sM I mo) m0 (Int32.toNatClampNeg x1)) x3) N (s - 2 ^ m0) = x3 := i_eq.mpr (by omega)
          unfold goodC
          rw [hb0, Bool.true_and, decide_eq_true_eq]
          exact e2
        obtain ⟨n1, n2, n3, n4⟩ := nxt_ok (g := goodC (I mo 4) (I mo 5) x3 (fun m => farS (sM I mo) m (Int32.toNatClampNeg x1)) N q s) 8 0 ⟨m0, by omega, by omega, hg0⟩
        have hnx : nxtC (goodC (I mo 4) (I mo 5) x3 (fun m => farS (sM I mo) m (Int32.toNatClampNeg x1)) N q s) 8 0 < N := by
          have := n1
          unfold goodC at this
          rw [Bool.and_eq_true] at this
          exact bit_n hs this.1
        generalize hnxe : nxtC (goodC (I mo 4) (I mo 5) x3 (fun m => farS (sM I mo) m (Int32.toNatClampNeg x1)) N q s) 8 0 = mx at n1 n2 n3 n4 hnx
        rw [ordL, hnxe] at hw
        have L2 : ∀ (c m : Nat) (I2 : Nat → Nat → Int32) (o9 : Option Value), m + c = mx → (∀ x, x ≠ mo + 24 → x ≠ mo + 25 → I2 x = I x) → (∀ i, i < N → I2 (mo + 25) i = farS (sM I mo) i (Int32.toNatClampNeg x1)) → Wx (YX5_order, (4, 96, 0, 0), qi (fun r M' => oM M0 mo I L (orderS (sS I L mo) x1 x2 x3 x4) r M'), noX) 0 0 (wIL M0 I2 L) 100 [some (.ref mo), some (.int x1), some (.int x2), some (.int x3), some (.int x4), some (.int q), some (.int (nI s)), some (.int (nI k)), some (.int (nI m)), o9] [] := by
          intro c
          induction c with
          | zero =>
            intro m I2 o9 hmc b1 b2
            have hv : vp_in (nI m) 8 := vp_in_nI (by omega) (by decide)
            have em : Int32.toNatClampNeg (nI m) = m := ix_nI (by omega)
            have hmx : m = mx := by omega
            subst hmx
            unfold goodC at n1
            rw [Bool.and_eq_true, decide_eq_true_eq] at n1
            obtain ⟨hbit, hend⟩ := n1
            have hlt := bit_lt hbit
            refine r_iload (pc := 100) dX5_order_100 rfl ?_
            refine r_iload (pc := 102) dX5_order_102 rfl ?_
            refine r_ishr (pc := 104) dX5_order_104 ?_
            refine r_iconst (pc := 105) (v := 1) dX5_order_105 (by decide) ?_
            refine r_iand (pc := 106) dX5_order_106 ?_
            refine r_iconst (pc := 107) (v := 1) dX5_order_107 (by decide) ?_
            refine r_icmp_ne (pc := 108) 160 dX5_order_108 rfl (fun hno => False.elim (hno ((bt_1 s (by omega) m (by omega)).mpr hbit))) (fun _ => ?_)
            refine r_aload_n (pc := 111) dX5_order_111 rfl ?_
            refine r_iload (pc := 112) dX5_order_112 rfl ?_
            refine r_aload_n (pc := 114) dX5_order_114 rfl ?_
            refine r_getR (pc := 115) dX5_order_115 fl_X5_93_5 (MR_k hm) (fun _ _ => rfl) (MR_r39 hm) ?_
            refine r_iload (pc := 118) dX5_order_118 rfl ?_
            refine rm_iald (pc := 120) dX5_order_120 (MR_k39 hm) (MR_z39 hm) (by first | assumption | exact vp_in_lit rfl) ?_
            refine r_iload_n (pc := 121) dX5_order_121 rfl ?_
            refine r_o4 (pc := 122) (bc' := 0) (bs' := 0) (ct_X5_goes hm _ _ _) k_X5_253_5 dX5_order_122 (MR_k hm) (Nat.le_of_ble_eq_true rfl) ⟨Nat.le_of_ble_eq_true rfl, Nat.le_of_ble_eq_true rfl⟩ ⟨Nat.le_of_ble_eq_true rfl, Nat.le_of_ble_eq_true rfl⟩ (r_ci fun r122 M122 p122 => ?_) nox
            obtain ⟨rfl, rfl⟩ := p122
            refine r_eqi (goesC (I mo 4) (I mo 5) q (farS (sM I mo) m (Int32.toNatClampNeg x1)) x3) (by rw [b1 mo (by omega) (by omega), em, b2 m (by omega)]) ?_
            refine r_istore9 (pc := 125) dX5_order_125 rfl ?_
            refine r_aload_n (pc := 127) dX5_order_127 rfl ?_
            refine r_iload_n (pc := 128) dX5_order_128 rfl ?_
            refine r_iload (pc := 129) dX5_order_129 rfl ?_
            refine r_iload_n (pc := 131) dX5_order_131 rfl ?_
            refine r_o4 (pc := 132) (bc' := 0) (bs' := 0) (ct_X5_rows hm _ _ _ N hN (by rw [b1 mo (by omega) (by omega)]; exact eN)) k_X5_256_5 dX5_order_132 (MR_k hm) (Nat.le_of_ble_eq_true rfl) ⟨Nat.le_of_ble_eq_true rfl, Nat.le_of_ble_eq_true rfl⟩ ⟨Nat.le_of_ble_eq_true rfl, Nat.le_of_ble_eq_true rfl⟩ (r_cv fun M132 p132 => ?_) nox
            obtain ⟨I3, rfl, c1, c2⟩ := p132
            have c1' : ∀ x, x ≠ mo + 24 → x ≠ mo + 25 → I3 x = I x := fun x h1 h2 => (c1 x h1).trans (b1 x h1 h2)
            have c3 : ∀ i, i < N → I3 (mo + 25) i = farS (sM I mo) i (Int32.toNatClampNeg x1) := fun i hi => by rw [c1 _ (by omega)]; exact b2 i hi
            have c4 : ∀ j, j < 2 ^ N → I3 (mo + 24) j = endC (I mo 4) (I mo 5) x3 (fun m => farS (sM I mo) m (Int32.toNatClampNeg x1)) (goesC (I mo 4) (I mo 5) q (farS (sM I mo) m (Int32.toNatClampNeg x1)) x3) N j := fun j hj => by rw [c2 j hj, b1 mo (by omega) (by omega)]; exact end_f (fun i hi => b2 i hi) j
            refine r_aload_n (pc := 135) dX5_order_135 rfl ?_
            refine r_getR (pc := 136) dX5_order_136 fl_X5_90_5 (MR_k hm) (fun _ _ => rfl) (MR_r38 hm) ?_
            refine r_iload (pc := 139) dX5_order_139 rfl ?_
            refine r_iconst (pc := 141) (v := 1) dX5_order_141 (by decide) ?_
            refine r_iload (pc := 142) dX5_order_142 rfl ?_
            refine r_ishl (pc := 144) dX5_order_144 ?_
            refine r_iconst (pc := 145) (v := (-1)) dX5_order_145 (by decide) ?_
            refine r_ixor (pc := 146) dX5_order_146 ?_
            refine r_iand (pc := 147) dX5_order_147 ?_
            refine r_eqi (nI (s - 2 ^ m)) (by rw [bt_clr s (by omega) m (by omega), if_pos hbit]) ?_
            refine rm_iald (pc := 148) dX5_order_148 (MR_k38 hm) (MR_z38 hm) (vp_in_nI (by omega) (by decide)) ?_
            rw [ix_nI (by omega), c4 _ (by omega)]
            refine r_iload_n (pc := 149) dX5_order_149 rfl ?_
            refine r_icmp_ne (pc := 150) 160 dX5_order_150 rfl (fun hno => False.elim (hno hend)) (fun _ => ?_)
            refine r_iload (pc := 153) dX5_order_153 rfl ?_
            refine r_istore5 (pc := 155) dX5_order_155 rfl ?_
            refine r_goto (pc := 157) 166 dX5_order_157 rfl ?_
            refine r_iload (pc := 166) dX5_order_166 rfl ?_
            refine r_iconst (pc := 168) (v := 1) dX5_order_168 (by decide) ?_
            refine r_iload (pc := 169) dX5_order_169 rfl ?_
            refine r_ishl (pc := 171) dX5_order_171 ?_
            refine r_iconst (pc := 172) (v := (-1)) dX5_order_172 (by decide) ?_
            refine r_ixor (pc := 173) dX5_order_173 ?_
            refine r_iand (pc := 174) dX5_order_174 ?_
            refine r_eqi (nI (s - 2 ^ m)) (by rw [bt_clr s (by omega) m (by omega), if_pos hbit]) ?_
            refine r_istore6 (pc := 175) dX5_order_175 rfl ?_
            refine r_iload (pc := 177) dX5_order_177 rfl ?_
            refine r_iload (pc := 179) dX5_order_179 rfl ?_
            refine r_icmp_ne (pc := 181) 187 dX5_order_181 rfl (fun hno => False.elim (hno (by rw [ei, show k = i0 by omega]))) (fun _ => ?_)
            refine r_iload (pc := 184) dX5_order_184 rfl ?_
            refine r_ireturn (pc := 186) rfl dX5_order_186 ⟨_, rfl, ?_⟩
            rw [hw]
            refine oM_scr frM.rf (fun x h1 h2 => c1' x (by omega) (by omega)) (fun k hk => by rw [c1' mo (by omega) (by omega)]) ?_
            rfl
          | succ c ic =>
            intro m I2 o9 hmc b1 b2
            have hv : vp_in (nI m) 8 := vp_in_nI (by omega) (by decide)
            have em : Int32.toNatClampNeg (nI m) = m := ix_nI (by omega)
            have hbad := n4 m (by omega) (by omega)
            unfold goodC at hbad
            refine r_iload (pc := 100) dX5_order_100 rfl ?_
            refine r_iload (pc := 102) dX5_order_102 rfl ?_
            refine r_ishr (pc := 104) dX5_order_104 ?_
            refine r_iconst (pc := 105) (v := 1) dX5_order_105 (by decide) ?_
            refine r_iand (pc := 106) dX5_order_106 ?_
            refine r_iconst (pc := 107) (v := 1) dX5_order_107 (by decide) ?_
            refine r_icmp_ne (pc := 108) 160 dX5_order_108 rfl (fun h108 => ?_) (fun h108 => ?_)
            · refine r_iinc8 (pc := 160) dX5_order_160 (nI_1 _) rfl ?_
              refine r_goto (pc := 163) 100 dX5_order_163 rfl ?_
              first | exact ic (m + 1) _ _ (by omega) b1 b2 | exact ic (m + 1) _ _ (by omega) c1' c3
            · rw [bt_1 s (by omega) m (by omega)] at h108
              have hbit := h108
              have hlt := bit_lt hbit
              rw [hbit, Bool.true_and, decide_eq_false_iff_not] at hbad
              refine r_aload_n (pc := 111) dX5_order_111 rfl ?_
              refine r_iload (pc := 112) dX5_order_112 rfl ?_
              refine r_aload_n (pc := 114) dX5_order_114 rfl ?_
              refine r_getR (pc := 115) dX5_order_115 fl_X5_93_5 (MR_k hm) (fun _ _ => rfl) (MR_r39 hm) ?_
              refine r_iload (pc := 118) dX5_order_118 rfl ?_
              refine rm_iald (pc := 120) dX5_order_120 (MR_k39 hm) (MR_z39 hm) (by first | assumption | exact vp_in_lit rfl) ?_
              refine r_iload_n (pc := 121) dX5_order_121 rfl ?_
              refine r_o4 (pc := 122) (bc' := 0) (bs' := 0) (ct_X5_goes hm _ _ _) k_X5_253_5 dX5_order_122 (MR_k hm) (Nat.le_of_ble_eq_true rfl) ⟨Nat.le_of_ble_eq_true rfl, Nat.le_of_ble_eq_true rfl⟩ ⟨Nat.le_of_ble_eq_true rfl, Nat.le_of_ble_eq_true rfl⟩ (r_ci fun r122 M122 p122 => ?_) nox
              obtain ⟨rfl, rfl⟩ := p122
              refine r_eqi (goesC (I mo 4) (I mo 5) q (farS (sM I mo) m (Int32.toNatClampNeg x1)) x3) (by rw [b1 mo (by omega) (by omega), em, b2 m (by omega)]) ?_
              refine r_istore9 (pc := 125) dX5_order_125 rfl ?_
              refine r_aload_n (pc := 127) dX5_order_127 rfl ?_
              refine r_iload_n (pc := 128) dX5_order_128 rfl ?_
              refine r_iload (pc := 129) dX5_order_129 rfl ?_
              refine r_iload_n (pc := 131) dX5_order_131 rfl ?_
              refine r_o4 (pc := 132) (bc' := 0) (bs' := 0) (ct_X5_rows hm _ _ _ N hN (by rw [b1 mo (by omega) (by omega)]; exact eN)) k_X5_256_5 dX5_order_132 (MR_k hm) (Nat.le_of_ble_eq_true rfl) ⟨Nat.le_of_ble_eq_true rfl, Nat.le_of_ble_eq_true rfl⟩ ⟨Nat.le_of_ble_eq_true rfl, Nat.le_of_ble_eq_true rfl⟩ (r_cv fun M132 p132 => ?_) nox
              obtain ⟨I3, rfl, c1, c2⟩ := p132
              have c1' : ∀ x, x ≠ mo + 24 → x ≠ mo + 25 → I3 x = I x := fun x h1 h2 => (c1 x h1).trans (b1 x h1 h2)
              have c3 : ∀ i, i < N → I3 (mo + 25) i = farS (sM I mo) i (Int32.toNatClampNeg x1) := fun i hi => by rw [c1 _ (by omega)]; exact b2 i hi
              have c4 : ∀ j, j < 2 ^ N → I3 (mo + 24) j = endC (I mo 4) (I mo 5) x3 (fun m => farS (sM I mo) m (Int32.toNatClampNeg x1)) (goesC (I mo 4) (I mo 5) q (farS (sM I mo) m (Int32.toNatClampNeg x1)) x3) N j := fun j hj => by rw [c2 j hj, b1 mo (by omega) (by omega)]; exact end_f (fun i hi => b2 i hi) j
              refine r_aload_n (pc := 135) dX5_order_135 rfl ?_
              refine r_getR (pc := 136) dX5_order_136 fl_X5_90_5 (MR_k hm) (fun _ _ => rfl) (MR_r38 hm) ?_
              refine r_iload (pc := 139) dX5_order_139 rfl ?_
              refine r_iconst (pc := 141) (v := 1) dX5_order_141 (by decide) ?_
              refine r_iload (pc := 142) dX5_order_142 rfl ?_
              refine r_ishl (pc := 144) dX5_order_144 ?_
              refine r_iconst (pc := 145) (v := (-1)) dX5_order_145 (by decide) ?_
              refine r_ixor (pc := 146) dX5_order_146 ?_
              refine r_iand (pc := 147) dX5_order_147 ?_
              refine r_eqi (nI (s - 2 ^ m)) (by rw [bt_clr s (by omega) m (by omega), if_pos hbit]) ?_
              refine rm_iald (pc := 148) dX5_order_148 (MR_k38 hm) (MR_z38 hm) (vp_in_nI (by omega) (by decide)) ?_
              rw [ix_nI (by omega), c4 _ (by omega)]
              refine r_iload_n (pc := 149) dX5_order_149 rfl ?_
              refine r_icmp_ne (pc := 150) 160 dX5_order_150 rfl (fun _ => ?_) (fun hno => False.elim (hbad hno))
              refine r_iinc8 (pc := 160) dX5_order_160 (nI_1 _) rfl ?_
              refine r_goto (pc := 163) 100 dX5_order_163 rfl ?_
              first | exact ic (m + 1) _ _ (by omega) b1 b2 | exact ic (m + 1) _ _ (by omega) c1' c3
        refine r_iload (pc := 90) dX5_order_90 rfl ?_
        refine r_iload (pc := 92) dX5_order_92 rfl ?_
        refine r_icmp_gt (pc := 94) 193 dX5_order_94 rfl (fun hno => False.elim (by rw [ei, nI_ltI (by omega) (by omega)] at hno; omega)) (fun _ => ?_)
        refine r_iconst (pc := 97) (v := 0) dX5_order_97 (by decide) ?_
        refine r_istore8 (pc := 98) dX5_order_98 rfl ?_
        exact L2 mx 0 I1 _ (by omega) a1 a2
      | succ n ih =>
        intro k s q I1 o8 o9 hk2 hs hcn hq he a1 a2 hw
        have hs0' : s ≠ 0 := fun e => by subst e; have : cntN 0 = 0 := rfl; omega
        obtain ⟨m0, hm0, hb0, hle⟩ := end_first (rf := I mo 4) (rt := I mo 5) (to := x3) (fr := (fun m => farS (sM I mo) m (Int32.toNatClampNeg x1))) hN hq hon.2.1 hon.2.2 hfr s hs hs0'
        have gq : ∀ m, m < N → onD (I mo 4) (I mo 5) x3 (goesC (I mo 4) (I mo 5) q (farS (sM I mo) m (Int32.toNatClampNeg x1)) x3) := fun m hm => by
          have g := goes_ok (f := farS (sM I mo) m (Int32.toNatClampNeg x1)) hq.1 hq.2.1 hon.2.1 (hfr m hm) hq.2.2 hon.2.2
          exact ⟨by have := hq.1; omega, g.2.1, g.2.2⟩
        have hg0 : goodC (I mo 4) (I mo 5) x3 (fun m => farS (sM I mo) m (Int32.toNatClampNeg x1)) N q s m0 = true := by
          have e1 := (end_on (fr := (fun m => farS (sM I mo) m (Int32.toNatClampNeg x1))) (n := N) (gq m0 hm0) hon.2.1 hon.2.2 hfr (s - 2 ^ m0)).1.2.1
          rw [he] at hle
          have e2 : endC (I mo 4) (I mo 5) x3 (fun m => farS (sM I mo) m (Int32.toNatClampNeg x1)) (goesC (I mo 4) (I mo 5) q (farS (sM I mo) m0 (Int32.toNatClampNeg x1)) x3) N (s - 2 ^ m0) = x3 := i_eq.mpr (by omega)
          unfold goodC
          rw [hb0, Bool.true_and, decide_eq_true_eq]
          exact e2
        obtain ⟨n1, n2, n3, n4⟩ := nxt_ok (g := goodC (I mo 4) (I mo 5) x3 (fun m => farS (sM I mo) m (Int32.toNatClampNeg x1)) N q s) 8 0 ⟨m0, by omega, by omega, hg0⟩
        have hnx : nxtC (goodC (I mo 4) (I mo 5) x3 (fun m => farS (sM I mo) m (Int32.toNatClampNeg x1)) N q s) 8 0 < N := by
          have := n1
          unfold goodC at this
          rw [Bool.and_eq_true] at this
          exact bit_n hs this.1
        generalize hnxe : nxtC (goodC (I mo 4) (I mo 5) x3 (fun m => farS (sM I mo) m (Int32.toNatClampNeg x1)) N q s) 8 0 = mx at n1 n2 n3 n4 hnx
        rw [ordL, hnxe] at hw
        have L2 : ∀ (c m : Nat) (I2 : Nat → Nat → Int32) (o9 : Option Value), m + c = mx → (∀ x, x ≠ mo + 24 → x ≠ mo + 25 → I2 x = I x) → (∀ i, i < N → I2 (mo + 25) i = farS (sM I mo) i (Int32.toNatClampNeg x1)) → Wx (YX5_order, (4, 96, 0, 0), qi (fun r M' => oM M0 mo I L (orderS (sS I L mo) x1 x2 x3 x4) r M'), noX) 0 0 (wIL M0 I2 L) 100 [some (.ref mo), some (.int x1), some (.int x2), some (.int x3), some (.int x4), some (.int q), some (.int (nI s)), some (.int (nI k)), some (.int (nI m)), o9] [] := by
          intro c
          induction c with
          | zero =>
            intro m I2 o9 hmc b1 b2
            have hv : vp_in (nI m) 8 := vp_in_nI (by omega) (by decide)
            have em : Int32.toNatClampNeg (nI m) = m := ix_nI (by omega)
            have hmx : m = mx := by omega
            subst hmx
            unfold goodC at n1
            rw [Bool.and_eq_true, decide_eq_true_eq] at n1
            obtain ⟨hbit, hend⟩ := n1
            have hlt := bit_lt hbit
            refine r_iload (pc := 100) dX5_order_100 rfl ?_
            refine r_iload (pc := 102) dX5_order_102 rfl ?_
            refine r_ishr (pc := 104) dX5_order_104 ?_
            refine r_iconst (pc := 105) (v := 1) dX5_order_105 (by decide) ?_
            refine r_iand (pc := 106) dX5_order_106 ?_
            refine r_iconst (pc := 107) (v := 1) dX5_order_107 (by decide) ?_
            refine r_icmp_ne (pc := 108) 160 dX5_order_108 rfl (fun hno => False.elim (hno ((bt_1 s (by omega) m (by omega)).mpr hbit))) (fun _ => ?_)
            refine r_aload_n (pc := 111) dX5_order_111 rfl ?_
            refine r_iload (pc := 112) dX5_order_112 rfl ?_
            refine r_aload_n (pc := 114) dX5_order_114 rfl ?_
            refine r_getR (pc := 115) dX5_order_115 fl_X5_93_5 (MR_k hm) (fun _ _ => rfl) (MR_r39 hm) ?_
            refine r_iload (pc := 118) dX5_order_118 rfl ?_
            refine rm_iald (pc := 120) dX5_order_120 (MR_k39 hm) (MR_z39 hm) (by first | assumption | exact vp_in_lit rfl) ?_
            refine r_iload_n (pc := 121) dX5_order_121 rfl ?_
            refine r_o4 (pc := 122) (bc' := 0) (bs' := 0) (ct_X5_goes hm _ _ _) k_X5_253_5 dX5_order_122 (MR_k hm) (Nat.le_of_ble_eq_true rfl) ⟨Nat.le_of_ble_eq_true rfl, Nat.le_of_ble_eq_true rfl⟩ ⟨Nat.le_of_ble_eq_true rfl, Nat.le_of_ble_eq_true rfl⟩ (r_ci fun r122 M122 p122 => ?_) nox
            obtain ⟨rfl, rfl⟩ := p122
            refine r_eqi (goesC (I mo 4) (I mo 5) q (farS (sM I mo) m (Int32.toNatClampNeg x1)) x3) (by rw [b1 mo (by omega) (by omega), em, b2 m (by omega)]) ?_
            refine r_istore9 (pc := 125) dX5_order_125 rfl ?_
            refine r_aload_n (pc := 127) dX5_order_127 rfl ?_
            refine r_iload_n (pc := 128) dX5_order_128 rfl ?_
            refine r_iload (pc := 129) dX5_order_129 rfl ?_
            refine r_iload_n (pc := 131) dX5_order_131 rfl ?_
            refine r_o4 (pc := 132) (bc' := 0) (bs' := 0) (ct_X5_rows hm _ _ _ N hN (by rw [b1 mo (by omega) (by omega)]; exact eN)) k_X5_256_5 dX5_order_132 (MR_k hm) (Nat.le_of_ble_eq_true rfl) ⟨Nat.le_of_ble_eq_true rfl, Nat.le_of_ble_eq_true rfl⟩ ⟨Nat.le_of_ble_eq_true rfl, Nat.le_of_ble_eq_true rfl⟩ (r_cv fun M132 p132 => ?_) nox
            obtain ⟨I3, rfl, c1, c2⟩ := p132
            have c1' : ∀ x, x ≠ mo + 24 → x ≠ mo + 25 → I3 x = I x := fun x h1 h2 => (c1 x h1).trans (b1 x h1 h2)
            have c3 : ∀ i, i < N → I3 (mo + 25) i = farS (sM I mo) i (Int32.toNatClampNeg x1) := fun i hi => by rw [c1 _ (by omega)]; exact b2 i hi
            have c4 : ∀ j, j < 2 ^ N → I3 (mo + 24) j = endC (I mo 4) (I mo 5) x3 (fun m => farS (sM I mo) m (Int32.toNatClampNeg x1)) (goesC (I mo 4) (I mo 5) q (farS (sM I mo) m (Int32.toNatClampNeg x1)) x3) N j := fun j hj => by rw [c2 j hj, b1 mo (by omega) (by omega)]; exact end_f (fun i hi => b2 i hi) j
            refine r_aload_n (pc := 135) dX5_order_135 rfl ?_
            refine r_getR (pc := 136) dX5_order_136 fl_X5_90_5 (MR_k hm) (fun _ _ => rfl) (MR_r38 hm) ?_
            refine r_iload (pc := 139) dX5_order_139 rfl ?_
            refine r_iconst (pc := 141) (v := 1) dX5_order_141 (by decide) ?_
            refine r_iload (pc := 142) dX5_order_142 rfl ?_
            refine r_ishl (pc := 144) dX5_order_144 ?_
            refine r_iconst (pc := 145) (v := (-1)) dX5_order_145 (by decide) ?_
            refine r_ixor (pc := 146) dX5_order_146 ?_
            refine r_iand (pc := 147) dX5_order_147 ?_
            refine r_eqi (nI (s - 2 ^ m)) (by rw [bt_clr s (by omega) m (by omega), if_pos hbit]) ?_
            refine rm_iald (pc := 148) dX5_order_148 (MR_k38 hm) (MR_z38 hm) (vp_in_nI (by omega) (by decide)) ?_
            rw [ix_nI (by omega), c4 _ (by omega)]
            refine r_iload_n (pc := 149) dX5_order_149 rfl ?_
            refine r_icmp_ne (pc := 150) 160 dX5_order_150 rfl (fun hno => False.elim (hno hend)) (fun _ => ?_)
            refine r_iload (pc := 153) dX5_order_153 rfl ?_
            refine r_istore5 (pc := 155) dX5_order_155 rfl ?_
            refine r_goto (pc := 157) 166 dX5_order_157 rfl ?_
            refine r_iload (pc := 166) dX5_order_166 rfl ?_
            refine r_iconst (pc := 168) (v := 1) dX5_order_168 (by decide) ?_
            refine r_iload (pc := 169) dX5_order_169 rfl ?_
            refine r_ishl (pc := 171) dX5_order_171 ?_
            refine r_iconst (pc := 172) (v := (-1)) dX5_order_172 (by decide) ?_
            refine r_ixor (pc := 173) dX5_order_173 ?_
            refine r_iand (pc := 174) dX5_order_174 ?_
            refine r_eqi (nI (s - 2 ^ m)) (by rw [bt_clr s (by omega) m (by omega), if_pos hbit]) ?_
            refine r_istore6 (pc := 175) dX5_order_175 rfl ?_
            refine r_iload (pc := 177) dX5_order_177 rfl ?_
            refine r_iload (pc := 179) dX5_order_179 rfl ?_
            refine r_icmp_ne (pc := 181) 187 dX5_order_181 rfl (fun _ => ?_) (fun hno => False.elim ((by rw [ei, nI_eq (by omega) (by omega)] at hno; omega)))
            refine r_iinc7 (pc := 187) dX5_order_187 (nI_1 _) rfl ?_
            refine r_goto (pc := 190) 90 dX5_order_190 rfl ?_
            refine ih (k + 1) (s - 2 ^ m) _ I3 _ _ (by omega) (by omega) ?_ (gq m hnx) hend c1' c3 hw
            have := bt_c1 s (by omega) m (by omega) hbit
            omega
          | succ c ic =>
            intro m I2 o9 hmc b1 b2
            have hv : vp_in (nI m) 8 := vp_in_nI (by omega) (by decide)
            have em : Int32.toNatClampNeg (nI m) = m := ix_nI (by omega)
            have hbad := n4 m (by omega) (by omega)
            unfold goodC at hbad
            refine r_iload (pc := 100) dX5_order_100 rfl ?_
            refine r_iload (pc := 102) dX5_order_102 rfl ?_
            refine r_ishr (pc := 104) dX5_order_104 ?_
            refine r_iconst (pc := 105) (v := 1) dX5_order_105 (by decide) ?_
            refine r_iand (pc := 106) dX5_order_106 ?_
            refine r_iconst (pc := 107) (v := 1) dX5_order_107 (by decide) ?_
            refine r_icmp_ne (pc := 108) 160 dX5_order_108 rfl (fun h108 => ?_) (fun h108 => ?_)
            · refine r_iinc8 (pc := 160) dX5_order_160 (nI_1 _) rfl ?_
              refine r_goto (pc := 163) 100 dX5_order_163 rfl ?_
              first | exact ic (m + 1) _ _ (by omega) b1 b2 | exact ic (m + 1) _ _ (by omega) c1' c3
            · rw [bt_1 s (by omega) m (by omega)] at h108
              have hbit := h108
              have hlt := bit_lt hbit
              rw [hbit, Bool.true_and, decide_eq_false_iff_not] at hbad
              refine r_aload_n (pc := 111) dX5_order_111 rfl ?_
              refine r_iload (pc := 112) dX5_order_112 rfl ?_
              refine r_aload_n (pc := 114) dX5_order_114 rfl ?_
              refine r_getR (pc := 115) dX5_order_115 fl_X5_93_5 (MR_k hm) (fun _ _ => rfl) (MR_r39 hm) ?_
              refine r_iload (pc := 118) dX5_order_118 rfl ?_
              refine rm_iald (pc := 120) dX5_order_120 (MR_k39 hm) (MR_z39 hm) (by first | assumption | exact vp_in_lit rfl) ?_
              refine r_iload_n (pc := 121) dX5_order_121 rfl ?_
              refine r_o4 (pc := 122) (bc' := 0) (bs' := 0) (ct_X5_goes hm _ _ _) k_X5_253_5 dX5_order_122 (MR_k hm) (Nat.le_of_ble_eq_true rfl) ⟨Nat.le_of_ble_eq_true rfl, Nat.le_of_ble_eq_true rfl⟩ ⟨Nat.le_of_ble_eq_true rfl, Nat.le_of_ble_eq_true rfl⟩ (r_ci fun r122 M122 p122 => ?_) nox
              obtain ⟨rfl, rfl⟩ := p122
              refine r_eqi (goesC (I mo 4) (I mo 5) q (farS (sM I mo) m (Int32.toNatClampNeg x1)) x3) (by rw [b1 mo (by omega) (by omega), em, b2 m (by omega)]) ?_
              refine r_istore9 (pc := 125) dX5_order_125 rfl ?_
              refine r_aload_n (pc := 127) dX5_order_127 rfl ?_
              refine r_iload_n (pc := 128) dX5_order_128 rfl ?_
              refine r_iload (pc := 129) dX5_order_129 rfl ?_
              refine r_iload_n (pc := 131) dX5_order_131 rfl ?_
              refine r_o4 (pc := 132) (bc' := 0) (bs' := 0) (ct_X5_rows hm _ _ _ N hN (by rw [b1 mo (by omega) (by omega)]; exact eN)) k_X5_256_5 dX5_order_132 (MR_k hm) (Nat.le_of_ble_eq_true rfl) ⟨Nat.le_of_ble_eq_true rfl, Nat.le_of_ble_eq_true rfl⟩ ⟨Nat.le_of_ble_eq_true rfl, Nat.le_of_ble_eq_true rfl⟩ (r_cv fun M132 p132 => ?_) nox
              obtain ⟨I3, rfl, c1, c2⟩ := p132
              have c1' : ∀ x, x ≠ mo + 24 → x ≠ mo + 25 → I3 x = I x := fun x h1 h2 => (c1 x h1).trans (b1 x h1 h2)
              have c3 : ∀ i, i < N → I3 (mo + 25) i = farS (sM I mo) i (Int32.toNatClampNeg x1) := fun i hi => by rw [c1 _ (by omega)]; exact b2 i hi
              have c4 : ∀ j, j < 2 ^ N → I3 (mo + 24) j = endC (I mo 4) (I mo 5) x3 (fun m => farS (sM I mo) m (Int32.toNatClampNeg x1)) (goesC (I mo 4) (I mo 5) q (farS (sM I mo) m (Int32.toNatClampNeg x1)) x3) N j := fun j hj => by rw [c2 j hj, b1 mo (by omega) (by omega)]; exact end_f (fun i hi => b2 i hi) j
              refine r_aload_n (pc := 135) dX5_order_135 rfl ?_
              refine r_getR (pc := 136) dX5_order_136 fl_X5_90_5 (MR_k hm) (fun _ _ => rfl) (MR_r38 hm) ?_
              refine r_iload (pc := 139) dX5_order_139 rfl ?_
              refine r_iconst (pc := 141) (v := 1) dX5_order_141 (by decide) ?_
              refine r_iload (pc := 142) dX5_order_142 rfl ?_
              refine r_ishl (pc := 144) dX5_order_144 ?_
              refine r_iconst (pc := 145) (v := (-1)) dX5_order_145 (by decide) ?_
              refine r_ixor (pc := 146) dX5_order_146 ?_
              refine r_iand (pc := 147) dX5_order_147 ?_
              refine r_eqi (nI (s - 2 ^ m)) (by rw [bt_clr s (by omega) m (by omega), if_pos hbit]) ?_
              refine rm_iald (pc := 148) dX5_order_148 (MR_k38 hm) (MR_z38 hm) (vp_in_nI (by omega) (by decide)) ?_
              rw [ix_nI (by omega), c4 _ (by omega)]
              refine r_iload_n (pc := 149) dX5_order_149 rfl ?_
              refine r_icmp_ne (pc := 150) 160 dX5_order_150 rfl (fun _ => ?_) (fun hno => False.elim (hbad hno))
              refine r_iinc8 (pc := 160) dX5_order_160 (nI_1 _) rfl ?_
              refine r_goto (pc := 163) 100 dX5_order_163 rfl ?_
              first | exact ic (m + 1) _ _ (by omega) b1 b2 | exact ic (m + 1) _ _ (by omega) c1' c3
        refine r_iload (pc := 90) dX5_order_90 rfl ?_
        refine r_iload (pc := 92) dX5_order_92 rfl ?_
        refine r_icmp_gt (pc := 94) 193 dX5_order_94 rfl (fun hno => False.elim (by rw [ei, nI_ltI (by omega) (by omega)] at hno; omega)) (fun _ => ?_)
        refine r_iconst (pc := 97) (v := 0) dX5_order_97 (by decide) ?_
        refine r_istore8 (pc := 98) dX5_order_98 rfl ?_
        exact L2 mx 0 I1 _ (by omega) a1 a2
    refine r_aload_n (pc := 76) dX5_order_76 rfl ?_
    refine r_getR (pc := 77) dX5_order_77 fl_X5_32_5 (MR_k hm) (fun _ _ => rfl) (MR_r14 hm) ?_
    refine r_iload_n (pc := 80) dX5_order_80 rfl ?_
    refine rm_iald (pc := 81) dX5_order_81 (MR_k14 hm) (MR_z14 hm) (by first | assumption | exact vp_in_lit rfl) ?_
    refine r_eqi (I (mo + 5) (Int32.toNatClampNeg x1)) (by rw [a0 _ (by omega) (by omega)]) ?_
    refine r_istore5 (pc := 82) dX5_order_82 rfl ?_
    refine r_iload_n (pc := 84) dX5_order_84 rfl ?_
    refine r_eqi (nI s0) es0 ?_
    refine r_istore6 (pc := 85) dX5_order_85 rfl ?_
    refine r_iconst (pc := 87) (v := 0) dX5_order_87 (by decide) ?_
    refine r_istore7 (pc := 88) dX5_order_88 rfl ?_
    exact L1 i0 0 s0 _ I0 _ _ (by omega) hs0 hi0 hon.1 he0 a0 a00 hw0
  refine r_aload_n (pc := 0) dX5_order_0 rfl ?_
  refine r_iload_n (pc := 1) dX5_order_1 rfl ?_
  refine r_o2 (pc := 2) (bc' := 0) (bs' := 0) (ct_X5_isThing hm _) k_X5_140_5 dX5_order_2 (MR_k hm) (Nat.le_of_ble_eq_true rfl) ⟨Nat.le_of_ble_eq_true rfl, Nat.le_of_ble_eq_true rfl⟩ ⟨Nat.le_of_ble_eq_true rfl, Nat.le_of_ble_eq_true rfl⟩ (r_ci fun r2 M2 p2 => ?_) nox
  obtain ⟨rfl, rfl⟩ := p2
  refine r_if_eq (pc := 5) 16 dX5_order_5 rfl (fun h5 => ?_) (fun h5 => ?_)
  · rw [bI_eq0] at h5
    refine r_aload_n (pc := 16) dX5_order_16 rfl ?_
    refine r_iconst (pc := 17) (v := (-1)) dX5_order_17 (by decide) ?_
    refine r_o2 (pc := 18) (bc' := 0) (bs' := 0) (ct_X5_no hm _ (vp_in_lit rfl)) k_X5_136_5 dX5_order_18 (MR_k hm) (Nat.le_of_ble_eq_true rfl) ⟨Nat.le_of_ble_eq_true rfl, Nat.le_of_ble_eq_true rfl⟩ ⟨Nat.le_of_ble_eq_true rfl, Nat.le_of_ble_eq_true rfl⟩ (r_ci fun r18 M18 p18 => ?_) nox
    obtain ⟨rfl, rfl⟩ := p18
    refine r_ireturn (pc := 21) rfl dX5_order_21 ⟨_, rfl, ?_⟩
    first
      | contradiction
      | (refine oM.of ?_ (by repeat' (first | exact frM.rf | assumption | refine frM.up0 ?_ | refine frM.up ?_ (by decide) | refine frM.upL ?_ (by decide)))
         simp (decide := true) only [orderS, noS, noTenS, thP, mnP, shelfP, stepS, farP, setP, onP, eq_false h5, not_true_eq_false, not_false_eq_true, true_and, and_true, false_and, and_false, true_or, or_true, false_or, or_false, cI_True, cI_False, if_true, if_false, sm0, sm1, sm2, sm3, sm4, sm5, sm6, sm7, sm8, sm9, sm10, sm11, sm12, sm13, sm14, sm15, sm16, sm17, sm18, sm19, sm20, sm21, sm22, sm23, sm24, sm25, sm26, sm27, sm28, sm29, sm30, sm31, sm32, sm33, sm34, sm35, sm36, sm37, sm38, sm39, sm40, sm41, sm42, sm43, sm44, sm45, sm46, sm47, sm48, sm49, su0, su1, su2, su3, su4, su5, su6, su7, su8, su9, su10, su11, su12, su13, su14, su15, su16, su17, su18, su19, su20, su21, su22, su23, su24, su25, su26, su27, su28, su29, su30, su31, su32, su33, su34, su35, su36, su37, su38, su39, su40, su41, su42, su43, su44, su45, su46, su47, su48, su49])
  · rw [bI_ne0] at h5
    have ht := vp_b (n := 8) h5.1 h5.2 hk.1.1.1.2
    have hd := hk.1.far (ix_lt h5.1 h5.2)
    refine r_aload_n (pc := 8) dX5_order_8 rfl ?_
    refine r_iload_n (pc := 9) dX5_order_9 rfl ?_
    refine r_o2 (pc := 10) (bc' := 0) (bs' := 0) (ct_X5_isSet hm _) k_X5_259_5 dX5_order_10 (MR_k hm) (Nat.le_of_ble_eq_true rfl) ⟨Nat.le_of_ble_eq_true rfl, Nat.le_of_ble_eq_true rfl⟩ ⟨Nat.le_of_ble_eq_true rfl, Nat.le_of_ble_eq_true rfl⟩ (r_ci fun r10 M10 p10 => ?_) nox
    obtain ⟨rfl, rfl⟩ := p10
    refine r_if_ne (pc := 13) 22 dX5_order_13 rfl (fun h13 => ?_) (fun h13 => ?_)
    · rw [bI_ne0] at h13
      obtain ⟨s, es, hs⟩ := set_nI (σ := sM I mo) hN (show sM I mo 1 0 = nI N from eN) (show setP (sM I mo) x2 from h13)
      have is : Int32.toNatClampNeg x2 = s := by rw [es, ix_nI (by omega)]
      have hvs : vp_in x2 256 := by rw [es]; exact vp_in_nI (by omega) (by decide)
      refine r_aload_n (pc := 22) dX5_order_22 rfl ?_
      refine r_iload_n (pc := 23) dX5_order_23 rfl ?_
      refine r_iload_n (pc := 24) dX5_order_24 rfl ?_
      refine r_o3 (pc := 25) (bc' := 0) (bs' := 0) (ct_X5_isOnward hm _ _ ht) k_X5_265_5 dX5_order_25 (MR_k hm) (Nat.le_of_ble_eq_true rfl) ⟨Nat.le_of_ble_eq_true rfl, Nat.le_of_ble_eq_true rfl⟩ ⟨Nat.le_of_ble_eq_true rfl, Nat.le_of_ble_eq_true rfl⟩ (r_ci fun r25 M25 p25 => ?_) nox
      obtain ⟨rfl, rfl⟩ := p25
      refine r_if_ne (pc := 28) 38 dX5_order_28 rfl (fun h28 => ?_) (fun h28 => ?_)
      · rw [bI_ne0] at h28
        refine r_aload_n (pc := 38) dX5_order_38 rfl ?_
        refine r_iload_n (pc := 39) dX5_order_39 rfl ?_
        refine r_iload_n (pc := 40) dX5_order_40 rfl ?_
        refine r_o3 (pc := 41) (bc' := 0) (bs' := 0) (ct_X5_rowsFor hm _ _ N hN eN ht hd.1 hd.2) k_X5_262_5 dX5_order_41 (MR_k hm) (Nat.le_of_ble_eq_true rfl) ⟨Nat.le_of_ble_eq_true rfl, Nat.le_of_ble_eq_true rfl⟩ ⟨Nat.le_of_ble_eq_true rfl, Nat.le_of_ble_eq_true rfl⟩ (r_cv fun M41 p41 => ?_) nox
        obtain ⟨I1, rfl, a1, a2, a3⟩ := p41
        refine r_aload_n (pc := 44) dX5_order_44 rfl ?_
        refine r_getR (pc := 45) dX5_order_45 fl_X5_90_5 (MR_k hm) (fun _ _ => rfl) (MR_r38 hm) ?_
        refine r_iload_n (pc := 48) dX5_order_48 rfl ?_
        refine rm_iald (pc := 49) dX5_order_49 (MR_k38 hm) (MR_z38 hm) (by first | assumption | exact vp_in_lit rfl) ?_
        rw [is, a3 s hs]
        refine r_iload_n (pc := 50) dX5_order_50 rfl ?_
        refine r_icmp_ne (pc := 51) 69 dX5_order_51 rfl (fun h51 => ?_) (fun h51 => ?_)
        · refine r_aload_n (pc := 69) dX5_order_69 rfl ?_
          refine r_bipush (pc := 70) (v := (-5)) dX5_order_70 (by decide) ?_
          refine r_o2 (pc := 72) (bc' := 0) (bs' := 0) (ct_X5_no hm _ (vp_in_lit rfl)) k_X5_136_5 dX5_order_72 (MR_k hm) (Nat.le_of_ble_eq_true rfl) ⟨Nat.le_of_ble_eq_true rfl, Nat.le_of_ble_eq_true rfl⟩ ⟨Nat.le_of_ble_eq_true rfl, Nat.le_of_ble_eq_true rfl⟩ (r_ci fun r72 M72 p72 => ?_) nox
          obtain ⟨rfl, rfl⟩ := p72
          refine r_ireturn (pc := 75) rfl dX5_order_75 ⟨_, rfl, ?_⟩
          have hw9 : orderS (sS I L mo) x1 x2 x3 x4 = noS (sS I L mo) (-5) := by
            rw [orderS, cI_f (by intro q; exact q.elim (fun q => q h5) (fun q => q h13)), cI_f (by intro q; exact q h28), is]
            refine cI_t ?_
            first | exact Or.inl h51 | exact Or.inr (Or.inl h56) | exact Or.inr (Or.inr h66)
          rw [hw9, noS]
          refine oM_scr (I2 := up2 I (mo + 1) 5 (I (mo + 1) 5 + 1)) (frM.rf.up (by decide)) (fun x h1 h2 => ?_) (fun k hk => ?_) ?_
          · by_cases e : x = mo + 1
            · subst e; rw [show Int32.toNatClampNeg (- -5) = 5 from rfl, up2_self, up2_self, a1 _ (by omega) (by omega)]
            · rw [up2_ne e, up2_ne e]; exact a1 x (by omega) (by omega)
          · rw [up2_ne (by omega), up2_ne (by omega), a1 mo (by omega) (by omega)]
          · rw [← su10]; rfl
        · refine r_iload (pc := 54) dX5_order_54 rfl ?_
          refine r_if_lt (pc := 56) 69 dX5_order_56 rfl (fun h56 => ?_) (fun h56 => ?_)
          · refine r_aload_n (pc := 69) dX5_order_69 rfl ?_
            refine r_bipush (pc := 70) (v := (-5)) dX5_order_70 (by decide) ?_
            refine r_o2 (pc := 72) (bc' := 0) (bs' := 0) (ct_X5_no hm _ (vp_in_lit rfl)) k_X5_136_5 dX5_order_72 (MR_k hm) (Nat.le_of_ble_eq_true rfl) ⟨Nat.le_of_ble_eq_true rfl, Nat.le_of_ble_eq_true rfl⟩ ⟨Nat.le_of_ble_eq_true rfl, Nat.le_of_ble_eq_true rfl⟩ (r_ci fun r72 M72 p72 => ?_) nox
            obtain ⟨rfl, rfl⟩ := p72
            refine r_ireturn (pc := 75) rfl dX5_order_75 ⟨_, rfl, ?_⟩
            have hw9 : orderS (sS I L mo) x1 x2 x3 x4 = noS (sS I L mo) (-5) := by
              rw [orderS, cI_f (by intro q; exact q.elim (fun q => q h5) (fun q => q h13)), cI_f (by intro q; exact q h28), is]
              refine cI_t ?_
              first | exact Or.inl h51 | exact Or.inr (Or.inl h56) | exact Or.inr (Or.inr h66)
            rw [hw9, noS]
            refine oM_scr (I2 := up2 I (mo + 1) 5 (I (mo + 1) 5 + 1)) (frM.rf.up (by decide)) (fun x h1 h2 => ?_) (fun k hk => ?_) ?_
            · by_cases e : x = mo + 1
              · subst e; rw [show Int32.toNatClampNeg (- -5) = 5 from rfl, up2_self, up2_self, a1 _ (by omega) (by omega)]
              · rw [up2_ne e, up2_ne e]; exact a1 x (by omega) (by omega)
            · rw [up2_ne (by omega), up2_ne (by omega), a1 mo (by omega) (by omega)]
            · rw [← su10]; rfl
          · refine r_iload (pc := 59) dX5_order_59 rfl ?_
            refine r_aload_n (pc := 61) dX5_order_61 rfl ?_
            refine r_iload_n (pc := 62) dX5_order_62 rfl ?_
            refine r_eqi (nI s) es ?_
            refine r_o2 (pc := 63) (bc' := 0) (bs' := 0) (ct_X5_count hm s (by omega)) k_X5_268_5 dX5_order_63 (MR_k hm) (Nat.le_of_ble_eq_true rfl) ⟨Nat.le_of_ble_eq_true rfl, Nat.le_of_ble_eq_true rfl⟩ ⟨Nat.le_of_ble_eq_true rfl, Nat.le_of_ble_eq_true rfl⟩ (r_ci fun r63 M63 p63 => ?_) nox
            obtain ⟨rfl, rfl⟩ := p63
            refine r_icmp_lt (pc := 66) 76 dX5_order_66 rfl (fun h66 => ?_) (fun h66 => ?_)
            · obtain ⟨i0, hi9, ei0⟩ := nI_of h56
              have hc8 := cnt_le s
              rw [ei0, nI_ltI hi9 (by omega)] at h66
              refine base I1 s i0 hs ei0 h66 h5 h28 ?_ a1 a2 ?_ es
              · rw [← eP]; exact h51
              · rw [orderS, cI_f (by intro q; exact q.elim (fun q => q h5) (fun q => q h13)), cI_f (by intro q; exact q h28), is, cI_f (by intro q; rcases q with q | q | q; exact q h51; exact h56 q; exact q (by rw [ei0, nI_ltI hi9 (by omega)]; exact h66)), eP, ei0, ix_nI (by omega)]; rfl
            · refine r_aload_n (pc := 69) dX5_order_69 rfl ?_
              refine r_bipush (pc := 70) (v := (-5)) dX5_order_70 (by decide) ?_
              refine r_o2 (pc := 72) (bc' := 0) (bs' := 0) (ct_X5_no hm _ (vp_in_lit rfl)) k_X5_136_5 dX5_order_72 (MR_k hm) (Nat.le_of_ble_eq_true rfl) ⟨Nat.le_of_ble_eq_true rfl, Nat.le_of_ble_eq_true rfl⟩ ⟨Nat.le_of_ble_eq_true rfl, Nat.le_of_ble_eq_true rfl⟩ (r_ci fun r72 M72 p72 => ?_) nox
              obtain ⟨rfl, rfl⟩ := p72
              refine r_ireturn (pc := 75) rfl dX5_order_75 ⟨_, rfl, ?_⟩
              have hw9 : orderS (sS I L mo) x1 x2 x3 x4 = noS (sS I L mo) (-5) := by
                rw [orderS, cI_f (by intro q; exact q.elim (fun q => q h5) (fun q => q h13)), cI_f (by intro q; exact q h28), is]
                refine cI_t ?_
                first | exact Or.inl h51 | exact Or.inr (Or.inl h56) | exact Or.inr (Or.inr h66)
              rw [hw9, noS]
              refine oM_scr (I2 := up2 I (mo + 1) 5 (I (mo + 1) 5 + 1)) (frM.rf.up (by decide)) (fun x h1 h2 => ?_) (fun k hk => ?_) ?_
              · by_cases e : x = mo + 1
                · subst e; rw [show Int32.toNatClampNeg (- -5) = 5 from rfl, up2_self, up2_self, a1 _ (by omega) (by omega)]
                · rw [up2_ne e, up2_ne e]; exact a1 x (by omega) (by omega)
              · rw [up2_ne (by omega), up2_ne (by omega), a1 mo (by omega) (by omega)]
              · rw [← su10]; rfl
      · rw [bI_eq0] at h28
        refine r_aload_n (pc := 31) dX5_order_31 rfl ?_
        refine r_bipush (pc := 32) (v := (-6)) dX5_order_32 (by decide) ?_
        refine r_o2 (pc := 34) (bc' := 0) (bs' := 0) (ct_X5_no hm _ (vp_in_lit rfl)) k_X5_136_5 dX5_order_34 (MR_k hm) (Nat.le_of_ble_eq_true rfl) ⟨Nat.le_of_ble_eq_true rfl, Nat.le_of_ble_eq_true rfl⟩ ⟨Nat.le_of_ble_eq_true rfl, Nat.le_of_ble_eq_true rfl⟩ (r_ci fun r34 M34 p34 => ?_) nox
        obtain ⟨rfl, rfl⟩ := p34
        refine r_ireturn (pc := 37) rfl dX5_order_37 ⟨_, rfl, ?_⟩
        first
          | contradiction
          | (refine oM.of ?_ (by repeat' (first | exact frM.rf | assumption | refine frM.up0 ?_ | refine frM.up ?_ (by decide) | refine frM.upL ?_ (by decide)))
             simp (decide := true) only [orderS, noS, noTenS, thP, mnP, shelfP, stepS, farP, setP, onP, eq_true h5, eq_true h13, eq_false h28, not_true_eq_false, not_false_eq_true, true_and, and_true, false_and, and_false, true_or, or_true, false_or, or_false, cI_True, cI_False, if_true, if_false, sm0, sm1, sm2, sm3, sm4, sm5, sm6, sm7, sm8, sm9, sm10, sm11, sm12, sm13, sm14, sm15, sm16, sm17, sm18, sm19, sm20, sm21, sm22, sm23, sm24, sm25, sm26, sm27, sm28, sm29, sm30, sm31, sm32, sm33, sm34, sm35, sm36, sm37, sm38, sm39, sm40, sm41, sm42, sm43, sm44, sm45, sm46, sm47, sm48, sm49, su0, su1, su2, su3, su4, su5, su6, su7, su8, su9, su10, su11, su12, su13, su14, su15, su16, su17, su18, su19, su20, su21, su22, su23, su24, su25, su26, su27, su28, su29, su30, su31, su32, su33, su34, su35, su36, su37, su38, su39, su40, su41, su42, su43, su44, su45, su46, su47, su48, su49])
    · rw [bI_eq0] at h13
      refine r_aload_n (pc := 16) dX5_order_16 rfl ?_
      refine r_iconst (pc := 17) (v := (-1)) dX5_order_17 (by decide) ?_
      refine r_o2 (pc := 18) (bc' := 0) (bs' := 0) (ct_X5_no hm _ (vp_in_lit rfl)) k_X5_136_5 dX5_order_18 (MR_k hm) (Nat.le_of_ble_eq_true rfl) ⟨Nat.le_of_ble_eq_true rfl, Nat.le_of_ble_eq_true rfl⟩ ⟨Nat.le_of_ble_eq_true rfl, Nat.le_of_ble_eq_true rfl⟩ (r_ci fun r18 M18 p18 => ?_) nox
      obtain ⟨rfl, rfl⟩ := p18
      refine r_ireturn (pc := 21) rfl dX5_order_21 ⟨_, rfl, ?_⟩
      first
        | contradiction
        | (refine oM.of ?_ (by repeat' (first | exact frM.rf | assumption | refine frM.up0 ?_ | refine frM.up ?_ (by decide) | refine frM.upL ?_ (by decide)))
           simp (decide := true) only [orderS, noS, noTenS, thP, mnP, shelfP, stepS, farP, setP, onP, eq_true h5, eq_false h13, not_true_eq_false, not_false_eq_true, true_and, and_true, false_and, and_false, true_or, or_true, false_or, or_false, cI_True, cI_False, if_true, if_false, sm0, sm1, sm2, sm3, sm4, sm5, sm6, sm7, sm8, sm9, sm10, sm11, sm12, sm13, sm14, sm15, sm16, sm17, sm18, sm19, sm20, sm21, sm22, sm23, sm24, sm25, sm26, sm27, sm28, sm29, sm30, sm31, sm32, sm33, sm34, sm35, sm36, sm37, sm38, sm39, sm40, sm41, sm42, sm43, sm44, sm45, sm46, sm47, sm48, sm49, su0, su1, su2, su3, su4, su5, su6, su7, su8, su9, su10, su11, su12, su13, su14, su15, su16, su17, su18, su19, su20, su21, su22, su23, su24, su25, su26, su27, su28, su29, su30, su31, su32, su33, su34, su35, su36, su37, su38, su39, su40, su41, su42, su43, su44, su45, su46, su47, su48, su49])
