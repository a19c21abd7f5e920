/-! X: valley (printed by gen/mk_x90.py) -/
set_option maxRecDepth 100000
theorem OkW.f9 {σ : cS} (h : OkW σ) {v : Int32} : OkW (up2 σ 9 0 v) := h.c (fun k hk => by rw [up2_ne (by omega)]) (fun k a b i _ => by rw [up2_ne (by omega)])
theorem RD.mk {M M2 : PM} {P : Nat → Prop} {ta wn n : Nat} {o : Int32} {c : Nat → Int32} {σ : cS} (r1 : rwP M (8 + Int32.toNatClampNeg o) (rT o) ta (ta + 1) n) (ho : bd o 0 3) (el : ∀ i, i < n → (elM M o (ta + 1) i).toInt32 = c i) (ht : ta + 2 ≤ wn) (hm : M.1 = wn) (f : frP P M M2) (hp : ¬ P ta) (hp1 : ¬ P (ta + 1)) (w : WX M2 wn σ) (hk : OkW σ) (h2 : M2.1 = wn + 10) : RD (sR (sR (nw M2 (1, 19) 0) M2.1 0 (some ta)) M2.1 1 (some wn)) M2.1 ta wn o n c σ 0 := by
  have f3 : frP noP M2 (sR (sR (nw M2 (1, 19) 0) M2.1 0 (some ta)) M2.1 1 (some wn)) := (frP.rf.nw.sR fun h => absurd h (Nat.lt_irrefl _)).sR fun h => absurd h (Nat.lt_irrefl _)
  have fa : frP P M (sR (sR (nw M2 (1, 19) 0) M2.1 0 (some ta)) M2.1 1 (some wn)) := f.trans (f3.mono fun _ _ h => h.elim)
  have u := (fa.2 (ta + 1) (by omega)).2.2 hp1
  refine ⟨⟨nw_K M2 (1, 19) 0, ?_, ?_, congrFun (nw_I M2 (1, 19) 0) 2⟩, ⟨ht, by omega, Nat.lt_succ_self _⟩, ⟨r1.fr fa (by omega) (by omega) hp, ho, r1.2.2.2.2⟩, fun i hi => ?_, w.grown f3, hk, Nat.zero_le _⟩
  · show up2 (up2 (mR (nw M2 (1, 19) 0)) M2.1 0 (some ta)) M2.1 1 (some wn) M2.1 0 = _
    rw [up2_self, va_up_ne _ _ (by decide), up2_self, va_up_self]
  · show up2 (up2 (mR (nw M2 (1, 19) 0)) M2.1 0 (some ta)) M2.1 1 (some wn) M2.1 1 = _
    rw [up2_self, va_up_self]
  · rw [elM_c u.1 u.2.1]; exact el i hi
theorem XO.told {M1 M4 Z : PM} {xo wa mo : Nat} {S1 : ST} {σ' : cS} (h : XO M1 xo wa mo Z S1) (hH : OkH S1.1) (f : frP noP M1 M4) (w : WX M4 M1.1 σ') (hk : ∀ k, (k = 9 ∨ k = 10 ∨ 22 ≤ k) → σ' k = S1.1 k) (g : ∀ i, i < Int32.toNatClampNeg (S1.1 0 0) → mR M4 (M1.1 + 1) i = mR M1 (wa + 1) i) : XO (sR M4 xo 6 (some M1.1)) xo M1.1 mo Z (σ', S1.2) := by
  have h4 := h.grown f
  have x0 := h.1.1
  have m0 := h.2.1
  have w0 := h.2.2.1.2.2.1.1
  refine (XQ.wnew (Q' := shR (sR M4 xo 6 (some M1.1)) (σ', S1.2) M1.1 mo) h4.q (Or.inr m0.2) w (fun wi hw e => ?_) (fun k hk2 => hk k (by omega)) (fun s hs e => by rw [← hk 22 (by omega)]; exact e) (fun s o hs hq => ?_)).o
  · rw [((f.2 xo (by omega)).2.2 id).2.2] at hw
    rcases h.2.2.2.1 with ⟨-, a2⟩ | ⟨-, wj, a2, -, -, a5⟩
    · rw [a2] at hw; cases hw
    · cases a2.symm.trans hw
      have := a5.1.1
      omega
  · have e22 : σ' 22 s = S1.1 22 s := congrFun (hk 22 (by omega)) s
    have e23 : σ' 23 s = S1.1 23 s := congrFun (hk 23 (by omega)) s
    have e24 : σ' 24 s = S1.1 24 s := congrFun (hk 24 (by omega)) s
    have e25 : σ' 25 s = S1.1 25 s := congrFun (hk 25 (by omega)) s
    rcases hq with ⟨a1, a2⟩ | ⟨a1, ta, a2, a3⟩ | ⟨a1, ra, n, a2, a3, a4, a5, a6⟩
    · exact Or.inl ⟨e22.trans a1, a2⟩
    · refine Or.inr (Or.inl ⟨e22.trans a1, ta, a2, ?_⟩)
      show up2 (mR M4) xo 6 (some M1.1) (M1.1 + 1) (Int32.toNatClampNeg (σ' 25 s)) = _
      have hx := (hH s hs).2.2 a1
      have hlt : Int32.toNatClampNeg (S1.1 25 s) < Int32.toNatClampNeg (S1.1 0 0) := ix_lt (n_neg hx.1) (by rw [i_lt]; exact hx.2)
      rw [up2_ne (by omega), e25, g _ hlt, ← ((f.2 (wa + 1) (by omega)).2.2 id).2.2]
      exact a3
    · have fx : frP (fun a => a = xo) M4 (sR M4 xo 6 (some M1.1)) := frP.rf.sR fun _ => rfl
      refine Or.inr (Or.inr ⟨e22.trans a1, ra, n, a2, a3, ?_, e24.trans a5, ?_⟩)
      · show rwP _ (8 + Int32.toNatClampNeg (σ' 23 s)) (rT (σ' 23 s)) ra (ra + 1) n
        rw [e23]
        exact a4.fr fx (by omega) (by omega) (by omega)
      · show ∀ i, i < n → elM _ (σ' 23 s) (ra + 1) i = _
        rw [e23]
        exact a6
theorem val_w {S : ST} {x : Int32} (hs : shelfP x) (h1 : S.1 22 (Int32.toNatClampNeg x) = 1) : wantsC S x = 0 := by
  unfold wantsC
  rw [if_neg (fun h => h hs), if_neg (by rw [h1]; decide), if_neg (by rw [h1]; decide)]
theorem val_y {S : ST} {x : Int32} {n : Nat} (hs : shelfP x) (h1 : S.1 22 (Int32.toNatClampNeg x) = 1) (hn : S.1 24 (Int32.toNatClampNeg x) = nI n) (h160 : n ≤ 160) : valleyS S x = (if (valC (up2 S.1 9 0 (-1)) (fun i => (S.2 (160 * Int32.toNatClampNeg x + i)).toInt32) n).1 = true then (nI (valC (up2 S.1 9 0 (-1)) (fun i => (S.2 (160 * Int32.toNatClampNeg x + i)).toInt32) n).2.2, ((valC (up2 S.1 9 0 (-1)) (fun i => (S.2 (160 * Int32.toNatClampNeg x + i)).toInt32) n).2.1, S.2)) else noS (up2 S.1 9 0 (nI (valC (up2 S.1 9 0 (-1)) (fun i => (S.2 (160 * Int32.toNatClampNeg x + i)).toInt32) n).2.2), S.2) (-6)) := by
  unfold valleyS
  rw [cI_f (fun h => h (val_w hs h1))]
  unfold valV
  rw [hn, cl160 (by omega)]
theorem up9 {σ : cS} {v w : Int32} : up2 (up2 σ 9 0 v) 9 0 w = up2 σ 9 0 w := by
  funext q j
  rw [up2_ap, up2_ap, up2_ap]
  by_cases h1 : q = 9
  · by_cases h2 : j = 0
    · simp [h1, h2]
    · simp [h1, h2]
  · simp [h1]
theorem f_told {M1 M2 M3 M4 : PM} (f : frP noP M1 M3) (g : frP (rdP M1.1 M2.1) M3 M4) (n1 : M2.1 = M1.1 + 10) : frP noP M1 M4 := by
  have h : frP (gE M1.1) M1 M4 := (f.mono fun _ _ h => h.elim).trans (g.mono fun a _ h => by
    rcases h with h | h
    · exact h.1
    · show M1.1 ≤ a; omega)
  exact h.mono fun a ha hp => by
    have : M1.1 ≤ a := hp
    omega
theorem g_told {M1 M2 : PM} {ta i : Nat} (n1 : M2.1 = M1.1 + 10) : mR (sR (sR (nw M2 (1, 19) 0) M2.1 0 (some ta)) M2.1 1 (some M1.1)) (M1.1 + 1) i = mR M2 (M1.1 + 1) i := by
  show up2 (up2 (mR (nw M2 (1, 19) 0)) M2.1 0 (some ta)) M2.1 1 (some M1.1) (M1.1 + 1) i = _
  rw [up2_ne (by omega), up2_ne (by omega), nwR (by omega)]
theorem ct_X0_valley {M : PM} {xo wa mo : Nat} {Z : PM} {S : ST} (hx : XO M xo wa mo Z S) (x1 : Int32) (hS : OkS S.1) : Ct (YX0_valley, (11, 10400, 2773, 19897), qi (fun r M' => oX xo mo Z (valleyS S x1) r M'), noX) [.ref xo, .int x1] M := by
  refine ct_ofH [some (.ref xo), some (.int x1), none, none, none] rfl rfl (Nat.le_of_ble_eq_true rfl) rfl rfl ?_
  have hB := hS.1.t
  have hC : ∀ (M9 : PM) (q : Nat) (b : Int32) (o2 o3 o4 : Option Value) {S9 : ST}, mK M9 q = (1, 6) → mI M9 q 6 = b → bd b (-7) (-1) → XO M9 xo wa mo Z S9 → valleyS S x1 = noS S9 b → Wx (YX0_valley, (11, 10400, 2773, 19897), qi (fun r M' => oX xo mo Z (valleyS S x1) r M'), noX) 0 0 M9 65 [some (.ref xo), some (.int x1), o2, o3, o4] [.ref q] := by
    intro M9 q b o2 o3 o4 S9 h1 h2 h3 h4 h5
    refine r_astore2 (pc := 65) dX0_valley_65 rfl ?_
    refine r_aload_n (pc := 66) dX0_valley_66 rfl ?_
    refine r_aload_n (pc := 67) dX0_valley_67 rfl ?_
    refine r_o2 (pc := 68) (bc' := 0) (bs' := 0) (ct_X0_refused h4 h1 h2 h3) k_X0_173_0 dX0_valley_68 h4.1.2.1 (Nat.le_of_ble_eq_true rfl) ⟨Nat.le_of_ble_eq_true rfl, Nat.le_of_ble_eq_true rfl⟩ ⟨Nat.le_of_ble_eq_true rfl, Nat.le_of_ble_eq_true rfl⟩ (r_ci fun r68 M68 p68 => ?_) nox
    obtain ⟨rfl, h6⟩ := p68
    refine r_ireturn (pc := 71) rfl dX0_valley_71 ⟨_, rfl, ?_⟩
    exact (show oX xo mo Z (valleyS S x1) _ _ by rw [h5]; exact ⟨rfl, wa, h6⟩)
  have hF : ∀ (M9 : PM) (q pl w3 : Nat) (o2 o4 : Option Value), mK M9 q = (1, 20) → mI M9 q 6 = nI pl → XO M9 xo wa mo Z (up2 S.1 9 0 (-1), S.2) → valleyS S x1 = noS (up2 S.1 9 0 (nI pl), S.2) (-6) → Wx (YX0_valley, (11, 10400, 2773, 19897), qi (fun r M' => oX xo mo Z (valleyS S x1) r M'), noX) 1 7 M9 44 [some (.ref xo), some (.int x1), o2, some (.ref w3), o4] [.ref q] := by
    intro M9 q pl w3 o2 o4 h1 h2 h3 h5
    refine r_astore4 (pc := 44) dX0_valley_44 rfl ?_
    refine r_aload_n (pc := 46) dX0_valley_46 rfl ?_
    refine r_aload (pc := 47) dX0_valley_47 rfl ?_
    refine r_getIe (pc := 49) (v := nI pl) dX0_valley_49 fl_X0_297_20 h1 (fun _ _ => rfl) h2 ?_
    refine r_putI (pc := 52) dX0_valley_52 fl_X0_94_0 h3.1.2.1 rfl rfl ?_
    have h6 := h3.flt (v := nI pl)
    rw [up9] at h6
    refine r_new (c := 6) (pc := 55) (RX6, TX6, 7) dX0_valley_55 rfl q305 q388 q91 dv_6 (Nat.le_of_ble_eq_true rfl) rfl (Nat.le_of_ble_eq_true rfl) ?_
    refine r_dup (pc := 58) dX0_valley_58 rfl ?_
    refine r_bipush (pc := 59) (v := (-6)) dX0_valley_59 (by decide) ?_
    refine r_o2 (pc := 61) (bc' := 0) (bs' := 0) (ct_X6_init (-6) (nw_K _ _ _) (nw_R _ _ _)) k_X0_23_6 dX0_valley_61 (nw_K _ _ _) (Nat.le_of_ble_eq_true rfl) ⟨Nat.le_of_ble_eq_true rfl, Nat.le_of_ble_eq_true rfl⟩ ⟨Nat.le_of_ble_eq_true rfl, Nat.le_of_ble_eq_true rfl⟩ (r_cv fun M61 p61 => ?_) nox
    have p61 := Eq.symm (show _ = _ from p61)
    subst p61
    refine r_athrow (pc := 64) (c := 6) dX0_valley_64 (nw_K (sI M9 xo 8 (nI pl)) (1, 6) 0) rfl ?_
    have h7 := h6.rf (why := -6) (q := M9.1) (E := "NoFartherThanAThrow$Refused") ⟨rfl, rfl, rfl⟩
    obtain ⟨-, k9, w9, o9⟩ := h7
    exact t_catch [_, _] _ _ _ rfl (fun z hz => Or.inl (by simp only [List.mem_cons, List.not_mem_nil, or_false] at hz; rcases hz with e | e <;> rw [e] <;> rfl)) rfl (by decide) q305 q389 ((hC _ _ _ _ _ _ k9 w9 (by decide) o9 h5).loose (Nat.zero_le _) (Nat.zero_le _))
  refine r_aload_n (pc := 0) dX0_valley_0 rfl ?_
  refine r_iload_n (pc := 1) dX0_valley_1 rfl ?_
  refine r_o2 (pc := 2) (bc' := 2769) (bs' := 19668) (ct_X0_shelf hx x1) k_X0_163_0 dX0_valley_2 hx.1.2.1 (Nat.le_of_ble_eq_true rfl) ⟨Nat.le_of_ble_eq_true rfl, Nat.le_of_ble_eq_true rfl⟩ ⟨Nat.le_of_ble_eq_true rfl, Nat.le_of_ble_eq_true rfl⟩ (r_cr fun r2 M2 p2 => ?_) (fun q E M9 h9 => by obtain ⟨hn9, rfl, k9, w9, o9⟩ := h9; exact t_catch [_] _ _ _ rfl (fun z hz => Or.inl (by rw [List.mem_singleton.mp hz]; rfl)) rfl (by decide) q305 q389 ((hC M9 q _ _ _ _ k9 w9 (by decide) o9 (by unfold valleyS; rw [show wantsC S x1 = -1 from if_pos hn9, cI_t (by decide)])).loose (Nat.zero_le _) (Nat.zero_le _)))
  obtain ⟨hy, rfl, p2⟩ := p2
  have p2 := Eq.symm (show _ = _ from p2)
  subst p2
  refine r_o1 (pc := 5) (bc' := 2765) (bs' := 18711) (ct_X4_row hx (vp_in_lt (vp_sh hy)) hS) k_X0_177_4 dX0_valley_5 (hx.1.2.2.2.2.2.2.2.2.2 (Int32.toNatClampNeg x1) (vp_in_lt (vp_sh hy))).2 (Nat.le_of_ble_eq_true rfl) ⟨Nat.le_of_ble_eq_true rfl, Nat.le_of_ble_eq_true rfl⟩ ⟨Nat.le_of_ble_eq_true rfl, Nat.le_of_ble_eq_true rfl⟩ (r_cr fun ro M5 p5 => ?_) (fun q E M9 h9 => by rcases h9 with ⟨hn9, rfl, k9, w9, o9⟩ | ⟨hn9, rfl, k9, w9, o9⟩; exact t_catch [_] _ _ _ rfl (fun z hz => Or.inl (by rw [List.mem_singleton.mp hz]; rfl)) rfl (by decide) q305 q389 ((hC M9 q _ _ _ _ k9 w9 (by decide) o9 (by unfold valleyS; rw [show wantsC S x1 = -2 by unfold wantsC; rw [if_neg (fun h => h hy), if_pos hn9], cI_t (by decide)])).loose (Nat.zero_le _) (Nat.zero_le _)); exact t_catch [_] _ _ _ rfl (fun z hz => Or.inl (by rw [List.mem_singleton.mp hz]; rfl)) rfl (by decide) q305 q389 ((hC M9 q _ _ _ _ k9 w9 (by decide) o9 (by unfold valleyS; rw [show wantsC S x1 = -3 by unfold wantsC; rw [if_neg (fun h => h hy), if_neg (by rw [hn9]; decide), if_pos hn9], cI_t (by decide)])).loose (Nat.zero_le _) (Nat.zero_le _)))
  obtain ⟨⟨n, hro⟩, p5⟩ := p5
  have p5 := Eq.symm (show _ = _ from p5)
  subst p5
  have h160 := hro.2.2.2.1.2.2.2.2
  have hys := val_y hy hro.1 hro.2.2.2.2.1 h160
  refine r_astore2 (pc := 8) dX0_valley_8 rfl ?_
  refine r_aload_n (pc := 9) dX0_valley_9 rfl ?_
  refine r_iconst (pc := 10) (v := (-1)) dX0_valley_10 (by decide) ?_
  refine r_putI (pc := 11) dX0_valley_11 fl_X0_94_0 hx.1.2.1 rfl rfl ?_
  have hx1 := hx.flt (v := -1)
  refine r_aload_n (pc := 14) dX0_valley_14 rfl ?_
  refine r_getR (pc := 15) dX0_valley_15 fl_X0_90_0 hx1.1.2.1 (fun _ _ => rfl) hx1.2.2.1.1 ?_
  refine r_o1 (pc := 18) (bc' := 2755) (bs' := 18633) (ct_X3_again hx1.2.2.1.2.2 hS.1.f9) k_X0_284_3 dX0_valley_18 hx1.2.2.1.2.2.k (Nat.le_of_ble_eq_true rfl) ⟨Nat.le_of_ble_eq_true rfl, Nat.le_of_ble_eq_true rfl⟩ ⟨Nat.le_of_ble_eq_true rfl, Nat.le_of_ble_eq_true rfl⟩ (r_cr fun r18 M2 p18 => ?_) nox
  obtain ⟨rfl, w1, n1, f1, g1⟩ := p18
  refine r_astore3 (pc := 21) dX0_valley_21 rfl ?_
  refine r_new (c := 19) (pc := 22) (RX19, TX19, 3) dX0_valley_22 rfl q935 q936 q108 dv_19 (Nat.le_of_ble_eq_true rfl) rfl (Nat.le_of_ble_eq_true rfl) ?_
  have hd0 := RD.mk (c := (fun i => (S.2 (160 * Int32.toNatClampNeg x1 + i)).toInt32)) hro.2.2.2.1 ((hS.2.1 _ (vp_in_lt (vp_sh hy))).2.1 hro.1).1 (fun i hi => by rw [hro.2.2.2.2.2 i hi]) hro.2.2.1.2 rfl ((frP.rf.sI (P := fun a => a = xo) (a := xo) (k := 8) (v := -1) fun _ => rfl).trans (f1.mono fun _ _ h => h.elim)) (by have := hro.2.2.1.1; have := hx.2.1.1; omega) (by have := hro.2.2.1.1; have := hx.2.1.1; omega) w1 hS.1.f9 n1
  refine r_dup (pc := 25) dX0_valley_25 rfl ?_
  refine r_aload_n (pc := 26) dX0_valley_26 rfl ?_
  refine r_aload_n (pc := 27) dX0_valley_27 rfl ?_
  refine r_o3 (pc := 28) (bc' := 2754) (bs' := 18630) (ct_X19_init (nw_K _ _ _)) k_X0_289_19 dX0_valley_28 (nw_K _ _ _) (Nat.le_of_ble_eq_true rfl) ⟨Nat.le_of_ble_eq_true rfl, Nat.le_of_ble_eq_true rfl⟩ ⟨Nat.le_of_ble_eq_true rfl, Nat.le_of_ble_eq_true rfl⟩ (r_cv fun M28 p28 => ?_) nox
  have p28 := Eq.symm (show _ = _ from p28)
  subst p28
  have f13 : frP noP (sI M xo 8 (-1)) (sR (sR (nw M2 (1, 19) 0) M2.1 0 (some ro)) M2.1 1 (some (sI M xo 8 (-1)).1)) := f1.trans ((frP.rf.nw.sR fun h => absurd h (Nat.lt_irrefl _)).sR fun h => absurd h (Nat.lt_irrefl _))
  refine r_o1 (pc := 31) (bc' := 1) (bs' := 7) (ct_X19_items hd0) k_X0_292_19 dX0_valley_31 hd0.1.1 (Nat.le_of_ble_eq_true rfl) ⟨Nat.le_of_ble_eq_true rfl, Nat.le_of_ble_eq_true rfl⟩ ⟨Nat.le_of_ble_eq_true rfl, Nat.le_of_ble_eq_true rfl⟩ (r_ci fun r31 M31 p31 => ?_) (fun q E M9 h9 => by obtain ⟨hf9, rfl, k9, w9, f9⟩ := h9; exact t_catch [] _ _ _ rfl (fun z hz => absurd hz List.not_mem_nil) rfl (by decide) q927 q1028 ((hF M9 q _ _ _ _ k9 w9 (hx1.grown (f_told f13 f9 n1)) (by rw [hys, if_neg (by rw [hf9]; exact Bool.false_ne_true)])).loose (Nat.le_of_ble_eq_true rfl) (Nat.le_of_ble_eq_true rfl)))
  obtain ⟨ht, rfl, hv, fv, kv, -, gv⟩ := p31
  have f14 : frP noP (sI M xo 8 (-1)) M31 := f_told f13 fv n1
  have hx4 := hx1.told (σ' := (valC (up2 S.1 9 0 (-1)) (fun i => (S.2 (160 * Int32.toNatClampNeg x1 + i)).toInt32) n).2.1) hS.f9.2.1 f14 hv.2.2.2.2.1 kv (fun i hi => (gv i hi).trans ((g_told n1).trans (g1 i hi)))
  have hx5 := hx1.grown f14
  refine r_istore4 (pc := 34) dX0_valley_34 rfl ?_
  refine r_aload_n (pc := 36) dX0_valley_36 rfl ?_
  refine r_aload_n (pc := 37) dX0_valley_37 rfl ?_
  refine r_putR (pc := 38) dX0_valley_38 fl_X0_90_0 hx5.1.2.1 rfl rfl ?_
  refine r_iload (pc := 41) dX0_valley_41 rfl ?_
  refine r_ireturn (pc := 43) rfl dX0_valley_43 ⟨_, rfl, ?_⟩
  exact (show oX xo mo Z (valleyS S x1) _ _ by rw [hys, if_pos ht]; exact ⟨rfl, _, hx4⟩)
