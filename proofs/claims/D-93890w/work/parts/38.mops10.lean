/-! THE MODEL's calls: a valley told (printed by gen/model12.py) -/
set_option maxRecDepth 100000
/-- the text's place, its length, the words' table -/
def txM (J : Nat → Nat → Int32) (mo b en : Nat) : Prop := J mo 30 = nI b ∧ J mo 32 = nI en ∧ en ≤ 160 ∧ b + 160 ≤ 1280 ∧ ∀ i, i < 37 → J (mo + 19) i = wrdC i
/-- only the reader's own numbers have changed -/
def dX (J K : Nat → Nat → Int32) (mo : Nat) : Prop := (∀ x, x ≠ mo → x ≠ mo + 20 → K x = J x) ∧ ∀ k, k ≠ 31 → k ≠ 33 → k ≠ 34 → K mo k = J mo k
theorem dX.rf {J : Nat → Nat → Int32} {mo : Nat} : dX J J mo := ⟨fun _ _ _ => rfl, fun _ _ _ _ => rfl⟩
theorem dX.trans {I J K : Nat → Nat → Int32} {mo : Nat} (h : dX I J mo) (g : dX J K mo) : dX I K mo := ⟨fun x a b => (g.1 x a b).trans (h.1 x a b), fun k a b c => (g.2 k a b c).trans (h.2 k a b c)⟩
theorem dX.up {J K : Nat → Nat → Int32} {mo k : Nat} {v : Int32} (h : dX J K mo) (hk : k = 31 ∨ k = 33 ∨ k = 34) : dX J (up2 K mo k v) mo := ⟨fun x a b => (up2_ne a).trans (h.1 x a b), fun i a b c => by rw [up2_self, va_up_ne _ _ (by omega)]; exact h.2 i a b c⟩
theorem dX.tx {J K : Nat → Nat → Int32} {mo b en : Nat} (h : dX J K mo) (g : txM J mo b en) : txM K mo b en := ⟨(h.2 30 (by decide) (by decide) (by decide)).trans g.1, (h.2 32 (by decide) (by decide) (by decide)).trans g.2.1, g.2.2.1, g.2.2.2.1, fun i hi => by rw [h.1 _ (by omega) (by omega)]; exact g.2.2.2.2 i hi⟩
def eqX (a b : cS) : Prop := ∀ k, k ≠ 29 → (k < 30 ∨ 35 < k) → a k = b k
theorem dX.eq {J K : Nat → Nat → Int32} {mo : Nat} (h : dX J K mo) : eqX (sM K mo) (sM J mo) := fun k h1 h2 => sM_eq (h.2 k (by omega) (by omega) (by omega)) (fun o ho => h.1 _ (by rcases ho with ⟨g1, g2, g3⟩ | ⟨g1, g2, g3⟩ | ⟨g1, g3⟩ <;> omega) (by rcases ho with ⟨g1, g2, g3⟩ | ⟨g1, g2, g3⟩ | ⟨g1, g3⟩ <;> omega))
theorem eqX.trans {a b c : cS} (h : eqX a b) (g : eqX b c) : eqX a c := fun k h1 h2 => (h k h1 h2).trans (g k h1 h2)
theorem eqX.ok {a b : cS} (h : eqX a b) (g : OkW b) : OkW a := g.c (fun k hk => by rw [h k (by omega) (by omega)]) (fun k h1 h2 i _ => by rw [h k (by omega) (by omega)])
theorem eqX.up {a b : cS} (h : eqX a b) {k i : Nat} {v : Int32} : eqX (up2 a k i v) (up2 b k i v) := fun j h1 h2 => up2_c (h j h1 h2)
theorem eqX.things {a b : cS} (h : eqX a b) {k w e q : Int32} : eqX (thingsS a k w e q) (thingsS b k w e q) := by
  unfold thingsS
  rw [h 0 (by omega) (by omega)]
  exact h.up.up.up.up.up.up.up
theorem eqX.men {a b : cS} (h : eqX a b) {s : Int32} : eqX (menS a s) (menS b s) := by
  unfold menS
  rw [h 1 (by omega) (by omega)]
  exact h.up.up.up
theorem eqX.wanted {a b : cS} (h : eqX a b) {t q v : Int32} : eqX (wantedS a t q v) (wantedS b t q v) := by
  unfold wantedS
  rw [h 2 (by omega) (by omega)]
  exact h.up.up.up.up
theorem eqX.ful {a b : cS} (h : eqX a b) {w : Int32} : fulP a w = fulP b w := by unfold fulP; rw [h 0 (by omega) (by omega), h 1 (by omega) (by omega), h 2 (by omega) (by omega)]
theorem eqX.long {a b : cS} (h : eqX a b) {v : Int32} : longP a v = longP b v := by unfold longP; rw [h 0 (by omega) (by omega), h 2 (by omega) (by omega), h 5 (by omega) (by omega), h 14 (by omega) (by omega), h 20 (by omega) (by omega)]
theorem eqX.river {a b : cS} (h : eqX a b) {f t : Int32} : riverP a f t = riverP b f t := by unfold riverP; rw [h 0 (by omega) (by omega), h 2 (by omega) (by omega), h 3 (by omega) (by omega), h 14 (by omega) (by omega), h 20 (by omega) (by omega)]
theorem eqX.step {a b : cS} (h : eqX a b) {v : Int32} : stepS a v = stepS b v := by unfold stepS; rw [h 3 (by omega) (by omega), h 4 (by omega) (by omega), h 5 (by omega) (by omega)]
theorem eqX.fit {a b : cS} (h : eqX a b) {w i t v : Int32} : fitP a w i t v = fitP b w i t v := by unfold fitP; rw [h.long, h.river, h.step, h 0 (by omega) (by omega)]
theorem bI_nar (P : Prop) : narrow .boolean (.int (bI P)) = .int (bI P) := by
  by_cases h : P
  · rw [bI_t h]; rfl
  · rw [bI_f h]; rfl
theorem ct_X5_isDigit {M0 : PM} {mo : Nat} {L : Nat → Nat → Int64} (hm : MR M0 mo) (J : Nat → Nat → Int32) (b en a : Nat) (hx : txM J mo b en) (ha : a ≤ en) (ea : J mo 31 = nI a) : Ct (YX5_isDigit, (0, 0, 0, 0), qi (fun r M' => r = bI (dgP (fun i => (L (mo + 17) (b + i)).toInt32) en a) ∧ M' = wIL M0 J L), noX) [.ref mo] (wIL M0 J L) := by
  refine ct_of [some (.ref mo)] rfl rfl rfl (Nat.le_of_ble_eq_true rfl) rfl rfl ?_
  have e30 := hx.1
  have e32 := hx.2.1
  have h160 := hx.2.2.1
  have h1280 := hx.2.2.2.1
  refine r_aload_n (pc := 0) dX5_isDigit_0 rfl ?_
  refine rm_getI (pc := 1) dX5_isDigit_1 fl_X5_184_5 (MR_k hm) (fun _ _ => rfl) ?_
  rw [ea]
  refine r_aload_n (pc := 4) dX5_isDigit_4 rfl ?_
  refine rm_getI (pc := 5) dX5_isDigit_5 fl_X5_187_5 (MR_k hm) (fun _ _ => rfl) ?_
  rw [e32]
  refine r_icmp_ge (pc := 8) 55 dX5_isDigit_8 rfl (fun h8 => ?_) (fun h8 => ?_)
  · rw [nI_ltI (by omega) (by omega)] at h8
    refine r_iconst (pc := 55) (v := 0) dX5_isDigit_55 (by decide) ?_
    refine r_zreturn (pc := 56) rfl rfl dX5_isDigit_56 ⟨_, rfl, ?_⟩
    refine ⟨bI_f' ?_, rfl⟩
    first | exact fun q => h8 q.1 | exact fun q => q.2.1 h28 | exact fun q => q.2.2 h48
  · rw [nI_ltI (by omega) (by omega)] at h8
    refine r_aload_n (pc := 11) dX5_isDigit_11 rfl ?_
    refine r_getR (pc := 12) dX5_isDigit_12 fl_X5_68_5 (MR_k hm) (fun _ _ => rfl) (MR_r26 hm) ?_
    refine r_aload_n (pc := 15) dX5_isDigit_15 rfl ?_
    refine rm_getI (pc := 16) dX5_isDigit_16 fl_X5_190_5 (MR_k hm) (fun _ _ => rfl) ?_
    rw [e30]
    refine r_aload_n (pc := 19) dX5_isDigit_19 rfl ?_
    refine rm_getI (pc := 20) dX5_isDigit_20 fl_X5_184_5 (MR_k hm) (fun _ _ => rfl) ?_
    rw [ea]
    refine r_iadd (pc := 23) dX5_isDigit_23 ?_
    refine r_eqi (nI (b + a)) (by rw [nI_add]) ?_
    refine rm_lald (pc := 24) dX5_isDigit_24 (MR_k26 hm) (MR_z26 hm) (vp_in_nI (by omega) (by decide)) ?_
    rw [ix_nI (by omega)]
    refine r_l2i (pc := 25) dX5_isDigit_25 ?_
    refine r_bipush (pc := 26) (v := 48) dX5_isDigit_26 (by decide) ?_
    refine r_icmp_lt (pc := 28) 55 dX5_isDigit_28 rfl (fun h28 => ?_) (fun h28 => ?_)
    · refine r_iconst (pc := 55) (v := 0) dX5_isDigit_55 (by decide) ?_
      refine r_zreturn (pc := 56) rfl rfl dX5_isDigit_56 ⟨_, rfl, ?_⟩
      refine ⟨bI_f' ?_, rfl⟩
      first | exact fun q => h8 q.1 | exact fun q => q.2.1 h28 | exact fun q => q.2.2 h48
    · refine r_aload_n (pc := 31) dX5_isDigit_31 rfl ?_
      refine r_getR (pc := 32) dX5_isDigit_32 fl_X5_68_5 (MR_k hm) (fun _ _ => rfl) (MR_r26 hm) ?_
      refine r_aload_n (pc := 35) dX5_isDigit_35 rfl ?_
      refine rm_getI (pc := 36) dX5_isDigit_36 fl_X5_190_5 (MR_k hm) (fun _ _ => rfl) ?_
      rw [e30]
      refine r_aload_n (pc := 39) dX5_isDigit_39 rfl ?_
      refine rm_getI (pc := 40) dX5_isDigit_40 fl_X5_184_5 (MR_k hm) (fun _ _ => rfl) ?_
      rw [ea]
      refine r_iadd (pc := 43) dX5_isDigit_43 ?_
      refine r_eqi (nI (b + a)) (by rw [nI_add]) ?_
      refine rm_lald (pc := 44) dX5_isDigit_44 (MR_k26 hm) (MR_z26 hm) (vp_in_nI (by omega) (by decide)) ?_
      rw [ix_nI (by omega)]
      refine r_l2i (pc := 45) dX5_isDigit_45 ?_
      refine r_bipush (pc := 46) (v := 57) dX5_isDigit_46 (by decide) ?_
      refine r_icmp_gt (pc := 48) 55 dX5_isDigit_48 rfl (fun h48 => ?_) (fun h48 => ?_)
      · refine r_iconst (pc := 55) (v := 0) dX5_isDigit_55 (by decide) ?_
        refine r_zreturn (pc := 56) rfl rfl dX5_isDigit_56 ⟨_, rfl, ?_⟩
        refine ⟨bI_f' ?_, rfl⟩
        first | exact fun q => h8 q.1 | exact fun q => q.2.1 h28 | exact fun q => q.2.2 h48
      · refine r_iconst (pc := 51) (v := 1) dX5_isDigit_51 (by decide) ?_
        refine r_goto (pc := 52) 56 dX5_isDigit_52 rfl ?_
        refine r_zreturn (pc := 56) rfl rfl dX5_isDigit_56 ⟨_, rfl, ?_⟩
        exact ⟨bI_t' ⟨h8, h28, h48⟩, rfl⟩
theorem ct_X5_number0 {M0 : PM} {mo : Nat} {L : Nat → Nat → Int64} (hm : MR M0 mo) (J : Nat → Nat → Int32) (b en a : Nat) (hx : txM J mo b en) (ha : a ≤ en) (ea : J mo 31 = nI a) (hd : ¬ dgP (fun i => (L (mo + 17) (b + i)).toInt32) en a) : Ct (YX5_number, (1, 21, 0, 0), qi (fun r M' => r = 0 ∧ M' = wIL M0 (up2 J mo 34 (nI a)) L), noX) [.ref mo, .int 0, .int 99] (wIL M0 J L) := by
  refine ct_of [some (.ref mo), some (.int 0), some (.int 99), none] rfl rfl rfl (Nat.le_of_ble_eq_true rfl) rfl rfl ?_
  have e30 := hx.1
  have e32 := hx.2.1
  have h160 := hx.2.2.1
  have h1280 := hx.2.2.2.1
  refine r_aload_n (pc := 0) dX5_number_0 rfl ?_
  refine rm_getI (pc := 1) dX5_number_1 fl_X5_184_5 (MR_k hm) (fun _ _ => rfl) ?_
  refine r_istore3 (pc := 4) dX5_number_4 rfl ?_
  refine r_aload_n (pc := 5) dX5_number_5 rfl ?_
  refine r_o1 (pc := 6) (bc' := 0) (bs' := 0) (ct_X5_isDigit hm J b en a hx ha ea) k_X5_193_5 dX5_number_6 (MR_k hm) (Nat.le_of_ble_eq_true rfl) ⟨Nat.le_of_ble_eq_true rfl, Nat.le_of_ble_eq_true rfl⟩ ⟨Nat.le_of_ble_eq_true rfl, Nat.le_of_ble_eq_true rfl⟩ (r_ci fun r6 M6 p6 => ?_) nox
  obtain ⟨rfl, rfl⟩ := p6
  refine r_if_ne (pc := 9) 21 dX5_number_9 rfl (fun hno => False.elim (hno (bI_f hd))) (fun _ => ?_)
  refine r_aload_n (pc := 12) dX5_number_12 rfl ?_
  refine r_aload_n (pc := 13) dX5_number_13 rfl ?_
  refine rm_getI (pc := 14) dX5_number_14 fl_X5_184_5 (MR_k hm) (fun _ _ => rfl) ?_
  rw [ea]
  refine r_o2 (pc := 17) (bc' := 0) (bs' := 0) (ct_X5_wrong hm _) k_X5_197_5 dX5_number_17 (MR_k hm) (Nat.le_of_ble_eq_true rfl) ⟨Nat.le_of_ble_eq_true rfl, Nat.le_of_ble_eq_true rfl⟩ ⟨Nat.le_of_ble_eq_true rfl, Nat.le_of_ble_eq_true rfl⟩ (r_ci fun r17 M17 p17 => ?_) nox
  obtain ⟨rfl, rfl⟩ := p17
  refine r_zreturn (pc := 20) rfl rfl dX5_number_20 ⟨_, rfl, ?_⟩
  exact ⟨rfl, rfl⟩
theorem ct_X5_number1 {M0 : PM} {mo : Nat} {L : Nat → Nat → Int64} (hm : MR M0 mo) (J : Nat → Nat → Int32) (b en a : Nat) (hx : txM J mo b en) (ha : a ≤ en) (ea : J mo 31 = nI a) (hd : dgP (fun i => (L (mo + 17) (b + i)).toInt32) en a) : Ct (YX5_number, (1, 21, 0, 0), qi (fun r M' => r = 1 ∧ ∃ K, M' = wIL M0 K L ∧ dX J K mo ∧ K (mo + 20) = J (mo + 20) ∧ K mo 33 = (numC (fun i => (L (mo + 17) (b + i)).toInt32) en a).1 ∧ K mo 31 = nI (numC (fun i => (L (mo + 17) (b + i)).toInt32) en a).2), noX) [.ref mo, .int 0, .int 99] (wIL M0 J L) := by
  refine ct_of [some (.ref mo), some (.int 0), some (.int 99), none] rfl rfl rfl (Nat.le_of_ble_eq_true rfl) rfl rfl ?_
  have e30 := hx.1
  have e32 := hx.2.1
  have h160 := hx.2.2.1
  have h1280 := hx.2.2.2.1
  have hlt := hd.1
  have hok := num_ok hd
  have d1 : dX J (up2 (up2 J mo 33 ((fun i => (L (mo + 17) (b + i)).toInt32) a - 48)) mo 31 (nI (a + 1))) mo := (dX.rf.up (Or.inr (Or.inl rfl))).up (Or.inl rfl)
  have x1 := d1.tx hx
  have f31 : (up2 (up2 J mo 33 ((fun i => (L (mo + 17) (b + i)).toInt32) a - 48)) mo 31 (nI (a + 1))) mo 31 = nI (a + 1) := by rw [up2_self, va_up_self]
  have f33 : (up2 (up2 J mo 33 ((fun i => (L (mo + 17) (b + i)).toInt32) a - 48)) mo 31 (nI (a + 1))) mo 33 = (fun i => (L (mo + 17) (b + i)).toInt32) a - 48 := by rw [up2_self, va_up_ne _ _ (by decide), up2_self, va_up_self]
  have f30 : (up2 (up2 J mo 33 ((fun i => (L (mo + 17) (b + i)).toInt32) a - 48)) mo 31 (nI (a + 1))) mo 30 = nI b := x1.1
  refine r_aload_n (pc := 0) dX5_number_0 rfl ?_
  refine rm_getI (pc := 1) dX5_number_1 fl_X5_184_5 (MR_k hm) (fun _ _ => rfl) ?_
  refine r_istore3 (pc := 4) dX5_number_4 rfl ?_
  refine r_aload_n (pc := 5) dX5_number_5 rfl ?_
  refine r_o1 (pc := 6) (bc' := 0) (bs' := 0) (ct_X5_isDigit hm J b en a hx ha ea) k_X5_193_5 dX5_number_6 (MR_k hm) (Nat.le_of_ble_eq_true rfl) ⟨Nat.le_of_ble_eq_true rfl, Nat.le_of_ble_eq_true rfl⟩ ⟨Nat.le_of_ble_eq_true rfl, Nat.le_of_ble_eq_true rfl⟩ (r_ci fun r6 M6 p6 => ?_) nox
  obtain ⟨rfl, rfl⟩ := p6
  refine r_if_ne (pc := 9) 21 dX5_number_9 rfl (fun _ => ?_) (fun hno => False.elim (absurd hno (by rw [bI_t hd]; decide)))
  refine r_aload_n (pc := 21) dX5_number_21 rfl ?_
  refine r_aload_n (pc := 22) dX5_number_22 rfl ?_
  refine r_getR (pc := 23) dX5_number_23 fl_X5_68_5 (MR_k hm) (fun _ _ => rfl) (MR_r26 hm) ?_
  refine r_aload_n (pc := 26) dX5_number_26 rfl ?_
  refine rm_getI (pc := 27) dX5_number_27 fl_X5_190_5 (MR_k hm) (fun _ _ => rfl) ?_
  rw [e30]
  refine r_aload_n (pc := 30) dX5_number_30 rfl ?_
  refine rm_getI (pc := 31) dX5_number_31 fl_X5_184_5 (MR_k hm) (fun _ _ => rfl) ?_
  rw [ea]
  refine r_iadd (pc := 34) dX5_number_34 ?_
  refine r_eqi (nI (b + a)) (by rw [nI_add]) ?_
  refine rm_lald (pc := 35) dX5_number_35 (MR_k26 hm) (MR_z26 hm) (vp_in_nI (by omega) (by decide)) ?_
  rw [ix_nI (by omega)]
  refine r_l2i (pc := 36) dX5_number_36 ?_
  refine r_bipush (pc := 37) (v := 48) dX5_number_37 (by decide) ?_
  refine r_isub (pc := 39) dX5_number_39 ?_
  refine rm_putI (pc := 40) dX5_number_40 fl_X5_200_5 (MR_k hm) rfl rfl ?_
  refine r_aload_n (pc := 43) dX5_number_43 rfl ?_
  refine r_dup (pc := 44) dX5_number_44 rfl ?_
  refine rm_getIe (pc := 45) (v := J mo 31) dX5_number_45 fl_X5_184_5 (MR_k hm) (fun _ _ => rfl) (by simp [up2_ne, up2_self, va_up]) ?_
  rw [ea]
  refine r_iconst (pc := 48) (v := 1) dX5_number_48 (by decide) ?_
  refine r_iadd (pc := 49) dX5_number_49 ?_
  rw [nI_1]
  refine rm_putI (pc := 50) dX5_number_50 fl_X5_184_5 (MR_k hm) rfl rfl ?_
  refine r_mem (wIL M0 (up2 (up2 J mo 33 ((fun i => (L (mo + 17) (b + i)).toInt32) a - 48)) mo 31 (nI (a + 1))) L) rfl ?_
  refine r_aload_n (pc := 53) dX5_number_53 rfl ?_
  refine r_o1 (pc := 54) (bc' := 0) (bs' := 0) (ct_X5_isDigit hm (up2 (up2 J mo 33 ((fun i => (L (mo + 17) (b + i)).toInt32) a - 48)) mo 31 (nI (a + 1))) b en (a + 1) x1 (by omega) f31) k_X5_193_5 dX5_number_54 (MR_k hm) (Nat.le_of_ble_eq_true rfl) ⟨Nat.le_of_ble_eq_true rfl, Nat.le_of_ble_eq_true rfl⟩ ⟨Nat.le_of_ble_eq_true rfl, Nat.le_of_ble_eq_true rfl⟩ (r_ci fun r54 M54 p54 => ?_) nox
  obtain ⟨rfl, rfl⟩ := p54
  refine r_if_eq (pc := 57) 100 dX5_number_57 rfl (fun h57 => ?_) (fun h57 => ?_)
  · rw [bI_eq0] at h57
    have hn : numC (fun i => (L (mo + 17) (b + i)).toInt32) en a = ((fun i => (L (mo + 17) (b + i)).toInt32) a - 48, a + 1) := by rw [numC, cI_f h57]
    rw [hn] at hok
    have hok1 : bd ((fun i => (L (mo + 17) (b + i)).toInt32) a - 48) 0 99 := hok.1
    have dd := d1
    have e20 : (up2 (up2 J mo 33 ((fun i => (L (mo + 17) (b + i)).toInt32) a - 48)) mo 31 (nI (a + 1))) (mo + 20) = J (mo + 20) := (up2_ne (by omega)).trans (up2_ne (by omega))
    have q33 := f33
    have q31 := f31
    refine r_aload_n (pc := 100) dX5_number_100 rfl ?_
    refine rm_getI (pc := 101) dX5_number_101 fl_X5_200_5 (MR_k hm) (fun _ _ => rfl) ?_
    refine r_eqi _ q33 ?_
    refine r_iload_n (pc := 104) dX5_number_104 rfl ?_
    refine r_icmp_lt (pc := 105) 116 dX5_number_105 rfl (fun hno => False.elim (absurd hno (n_neg hok1.1))) (fun _ => ?_)
    refine r_aload_n (pc := 108) dX5_number_108 rfl ?_
    refine rm_getI (pc := 109) dX5_number_109 fl_X5_200_5 (MR_k hm) (fun _ _ => rfl) ?_
    refine r_eqi _ q33 ?_
    refine r_iload_n (pc := 112) dX5_number_112 rfl ?_
    refine r_icmp_le (pc := 113) 124 dX5_number_113 rfl (fun _ => ?_) (fun hno => False.elim ((by rw [i_lt, c_99] at hno; have := hok1.2; omega)))
    refine r_iconst (pc := 124) (v := 1) dX5_number_124 (by decide) ?_
    refine r_goto (pc := 125) 129 dX5_number_125 rfl ?_
    refine r_zreturn (pc := 129) rfl rfl dX5_number_129 ⟨_, rfl, ?_⟩
    refine ⟨rfl, _, rfl, dd, e20, ?_, ?_⟩
    · rw [hn]; exact q33
    · rw [hn]; exact q31
  · rw [bI_ne0] at h57
    have hn : numC (fun i => (L (mo + 17) (b + i)).toInt32) en a = (10 * ((fun i => (L (mo + 17) (b + i)).toInt32) a - 48) + (fun i => (L (mo + 17) (b + i)).toInt32) (a + 1) - 48, a + 2) := by rw [numC, cI_t h57]
    rw [hn] at hok
    have hok1 : bd (10 * ((fun i => (L (mo + 17) (b + i)).toInt32) a - 48) + (fun i => (L (mo + 17) (b + i)).toInt32) (a + 1) - 48) 0 99 := hok.1
    have hlt2 := h57.1
    have dd : dX J (up2 (up2 (up2 (up2 J mo 33 ((fun i => (L (mo + 17) (b + i)).toInt32) a - 48)) mo 31 (nI (a + 1))) mo 33 (10 * ((fun i => (L (mo + 17) (b + i)).toInt32) a - 48) + (fun i => (L (mo + 17) (b + i)).toInt32) (a + 1) - 48)) mo 31 (nI (a + 2))) mo := (d1.up (Or.inr (Or.inl rfl))).up (Or.inl rfl)
    have e20 : (up2 (up2 (up2 (up2 J mo 33 ((fun i => (L (mo + 17) (b + i)).toInt32) a - 48)) mo 31 (nI (a + 1))) mo 33 (10 * ((fun i => (L (mo + 17) (b + i)).toInt32) a - 48) + (fun i => (L (mo + 17) (b + i)).toInt32) (a + 1) - 48)) mo 31 (nI (a + 2))) (mo + 20) = J (mo + 20) := (up2_ne (by omega)).trans ((up2_ne (by omega)).trans ((up2_ne (by omega)).trans (up2_ne (by omega))))
    have q33 : (up2 (up2 (up2 (up2 J mo 33 ((fun i => (L (mo + 17) (b + i)).toInt32) a - 48)) mo 31 (nI (a + 1))) mo 33 (10 * ((fun i => (L (mo + 17) (b + i)).toInt32) a - 48) + (fun i => (L (mo + 17) (b + i)).toInt32) (a + 1) - 48)) mo 31 (nI (a + 2))) mo 33 = (10 * ((fun i => (L (mo + 17) (b + i)).toInt32) a - 48) + (fun i => (L (mo + 17) (b + i)).toInt32) (a + 1) - 48) := by rw [up2_self, va_up_ne _ _ (by decide), up2_self, va_up_self]
    have q31 : (up2 (up2 (up2 (up2 J mo 33 ((fun i => (L (mo + 17) (b + i)).toInt32) a - 48)) mo 31 (nI (a + 1))) mo 33 (10 * ((fun i => (L (mo + 17) (b + i)).toInt32) a - 48) + (fun i => (L (mo + 17) (b + i)).toInt32) (a + 1) - 48)) mo 31 (nI (a + 2))) mo 31 = nI (a + 2) := by rw [up2_self, va_up_self]
    refine r_aload_n (pc := 60) dX5_number_60 rfl ?_
    refine r_bipush (pc := 61) (v := 10) dX5_number_61 (by decide) ?_
    refine r_aload_n (pc := 63) dX5_number_63 rfl ?_
    refine rm_getI (pc := 64) dX5_number_64 fl_X5_200_5 (MR_k hm) (fun _ _ => rfl) ?_
    rw [f33]
    refine r_imul (pc := 67) dX5_number_67 ?_
    refine r_aload_n (pc := 68) dX5_number_68 rfl ?_
    refine r_getR (pc := 69) dX5_number_69 fl_X5_68_5 (MR_k hm) (fun _ _ => rfl) (MR_r26 hm) ?_
    refine r_aload_n (pc := 72) dX5_number_72 rfl ?_
    refine rm_getIe (pc := 73) (v := J mo 30) dX5_number_73 fl_X5_190_5 (MR_k hm) (fun _ _ => rfl) (by simp [up2_ne, up2_self, va_up]) ?_
    rw [e30]
    refine r_aload_n (pc := 76) dX5_number_76 rfl ?_
    refine rm_getI (pc := 77) dX5_number_77 fl_X5_184_5 (MR_k hm) (fun _ _ => rfl) ?_
    rw [f31]
    refine r_iadd (pc := 80) dX5_number_80 ?_
    refine r_eqi (nI (b + (a + 1))) (by rw [nI_add]) ?_
    refine rm_lald (pc := 81) dX5_number_81 (MR_k26 hm) (MR_z26 hm) (vp_in_nI (by omega) (by decide)) ?_
    rw [ix_nI (by omega)]
    refine r_l2i (pc := 82) dX5_number_82 ?_
    refine r_iadd (pc := 83) dX5_number_83 ?_
    refine r_bipush (pc := 84) (v := 48) dX5_number_84 (by decide) ?_
    refine r_isub (pc := 86) dX5_number_86 ?_
    refine rm_putI (pc := 87) dX5_number_87 fl_X5_200_5 (MR_k hm) rfl rfl ?_
    refine r_aload_n (pc := 90) dX5_number_90 rfl ?_
    refine r_dup (pc := 91) dX5_number_91 rfl ?_
    refine rm_getI (pc := 92) dX5_number_92 fl_X5_184_5 (MR_k hm) (fun _ _ => rfl) ?_
    refine r_eqi (nI (a + 1)) (by rw [up2_self, va_up_ne _ _ (by decide)]; exact f31) ?_
    refine r_iconst (pc := 95) (v := 1) dX5_number_95 (by decide) ?_
    refine r_iadd (pc := 96) dX5_number_96 ?_
    rw [nI_1]
    refine rm_putI (pc := 97) dX5_number_97 fl_X5_184_5 (MR_k hm) rfl rfl ?_
    refine r_aload_n (pc := 100) dX5_number_100 rfl ?_
    refine rm_getI (pc := 101) dX5_number_101 fl_X5_200_5 (MR_k hm) (fun _ _ => rfl) ?_
    refine r_eqi _ q33 ?_
    refine r_iload_n (pc := 104) dX5_number_104 rfl ?_
    refine r_icmp_lt (pc := 105) 116 dX5_number_105 rfl (fun hno => False.elim (absurd hno (n_neg hok1.1))) (fun _ => ?_)
    refine r_aload_n (pc := 108) dX5_number_108 rfl ?_
    refine rm_getI (pc := 109) dX5_number_109 fl_X5_200_5 (MR_k hm) (fun _ _ => rfl) ?_
    refine r_eqi _ q33 ?_
    refine r_iload_n (pc := 112) dX5_number_112 rfl ?_
    refine r_icmp_le (pc := 113) 124 dX5_number_113 rfl (fun _ => ?_) (fun hno => False.elim ((by rw [i_lt, c_99] at hno; have := hok1.2; omega)))
    refine r_iconst (pc := 124) (v := 1) dX5_number_124 (by decide) ?_
    refine r_goto (pc := 125) 129 dX5_number_125 rfl ?_
    refine r_zreturn (pc := 129) rfl rfl dX5_number_129 ⟨_, rfl, ?_⟩
    refine ⟨rfl, _, rfl, dd, e20, ?_, ?_⟩
    · rw [hn]; exact q33
    · rw [hn]; exact q31
theorem ct_X5_isFit {M0 : PM} {mo : Nat} {I : Nat → Nat → Int32} {L : Nat → Nat → Int64} (hm : MR M0 mo) (x1 : Int32) (x2 : Int32) (hk : OkW (sM I mo)) : Ct (YX5_isFit, (2, 42, 0, 0), qi (fun r M' => r = bI (fitP (sM I mo) x1 x2 (I (mo + 20) 0) (I mo 33)) ∧ M' = wIL M0 I L), noX) [.ref mo, .int x1, .int x2] (wIL M0 I L) := by
  refine ct_of [some (.ref mo), some (.int x1), some (.int x2)] rfl rfl rfl (Nat.le_of_ble_eq_true rfl) rfl rfl ?_
  refine r_iload_n (pc := 0) dX5_isFit_0 rfl ?_
  refine r_sp_0_4 (fun hsw => ?_) (fun hsw => ?_) (fun hsw => ?_) (fun hsw => ?_) (fun hsw => ?_) (fun hsw => ?_)
  · refine r_swIn (pc := 1) 36 dX5_isFit_1 (by decide) (by decide) rfl rfl ?_
    refine r_iload_n (pc := 36) dX5_isFit_36 rfl ?_
    refine r_if_ne (pc := 37) 57 dX5_isFit_37 rfl (fun h37 => ?_) (fun h37 => ?_)
    · refine r_iload_n (pc := 57) dX5_isFit_57 rfl ?_
      refine r_iconst (pc := 58) (v := 1) dX5_isFit_58 (by decide) ?_
      refine r_icmp_ne (pc := 59) 77 dX5_isFit_59 rfl (fun h59 => ?_) (fun h59 => ?_)
      · refine r_iload_n (pc := 77) dX5_isFit_77 rfl ?_
        refine r_iconst (pc := 78) (v := 2) dX5_isFit_78 (by decide) ?_
        refine r_icmp_ne (pc := 79) 106 dX5_isFit_79 rfl (fun h79 => ?_) (fun h79 => ?_)
        · refine r_aload_n (pc := 106) dX5_isFit_106 rfl ?_
          refine r_aload_n (pc := 107) dX5_isFit_107 rfl ?_
          refine rm_getI (pc := 108) dX5_isFit_108 fl_X5_200_5 (MR_k hm) (fun _ _ => rfl) ?_
          refine r_o2 (pc := 111) (bc' := 0) (bs' := 0) (ct_X5_isStep hm _) k_X5_147_5 dX5_isFit_111 (MR_k hm) (Nat.le_of_ble_eq_true rfl) ⟨Nat.le_of_ble_eq_true rfl, Nat.le_of_ble_eq_true rfl⟩ ⟨Nat.le_of_ble_eq_true rfl, Nat.le_of_ble_eq_true rfl⟩ (r_ci fun r111 M111 p111 => ?_) nox
          obtain ⟨rfl, rfl⟩ := p111
          refine r_zreturn (pc := 114) rfl (by first | rfl | exact bI_nar _) dX5_isFit_114 ⟨_, rfl, ?_⟩
          refine ⟨?_, rfl⟩
          first
            | (simp (decide := true) only [fitP, stepS, hsw, h37, h59, h79, if_true, if_false, bI_t, bI_f, sm0, sm3, sm4, sm5, and_true, true_and, and_false, false_and, not_true_eq_false, not_false_eq_true]; done)
            | (obtain ⟨g0, g1, g2, g3, g4⟩ := sn_0_4 hsw; simp (decide := true) only [fitP, stepS, hsw, h37, h59, h79, g0, g1, g2, g3, g4, if_true, if_false, bI_t, bI_f, sm0, sm3, sm4, sm5, and_true, true_and, and_false, false_and, not_true_eq_false, not_false_eq_true]; done)
        · refine r_aload_n (pc := 82) dX5_isFit_82 rfl ?_
          refine rm_getI (pc := 83) dX5_isFit_83 fl_X5_200_5 (MR_k hm) (fun _ _ => rfl) ?_
          refine r_if_le (pc := 86) 102 dX5_isFit_86 rfl (fun h86 => ?_) (fun h86 => ?_)
          · refine r_iconst (pc := 102) (v := 0) dX5_isFit_102 (by decide) ?_
            refine r_goto (pc := 103) 114 dX5_isFit_103 rfl ?_
            refine r_zreturn (pc := 114) rfl (by first | rfl | exact bI_nar _) dX5_isFit_114 ⟨_, rfl, ?_⟩
            refine ⟨?_, rfl⟩
            first
              | (simp (decide := true) only [fitP, stepS, hsw, h37, h59, h79, h86, if_true, if_false, bI_t, bI_f, sm0, sm3, sm4, sm5, and_true, true_and, and_false, false_and, not_true_eq_false, not_false_eq_true]; done)
              | (obtain ⟨g0, g1, g2, g3, g4⟩ := sn_0_4 hsw; simp (decide := true) only [fitP, stepS, hsw, h37, h59, h79, h86, g0, g1, g2, g3, g4, if_true, if_false, bI_t, bI_f, sm0, sm3, sm4, sm5, and_true, true_and, and_false, false_and, not_true_eq_false, not_false_eq_true]; done)
          · refine r_aload_n (pc := 89) dX5_isFit_89 rfl ?_
            refine rm_getI (pc := 90) dX5_isFit_90 fl_X5_200_5 (MR_k hm) (fun _ _ => rfl) ?_
            refine r_bipush (pc := 93) (v := 10) dX5_isFit_93 (by decide) ?_
            refine r_icmp_ge (pc := 95) 102 dX5_isFit_95 rfl (fun h95 => ?_) (fun h95 => ?_)
            · refine r_iconst (pc := 102) (v := 0) dX5_isFit_102 (by decide) ?_
              refine r_goto (pc := 103) 114 dX5_isFit_103 rfl ?_
              refine r_zreturn (pc := 114) rfl (by first | rfl | exact bI_nar _) dX5_isFit_114 ⟨_, rfl, ?_⟩
              refine ⟨?_, rfl⟩
              first
                | (simp (decide := true) only [fitP, stepS, hsw, h37, h59, h79, h86, h95, if_true, if_false, bI_t, bI_f, sm0, sm3, sm4, sm5, and_true, true_and, and_false, false_and, not_true_eq_false, not_false_eq_true]; done)
                | (obtain ⟨g0, g1, g2, g3, g4⟩ := sn_0_4 hsw; simp (decide := true) only [fitP, stepS, hsw, h37, h59, h79, h86, h95, g0, g1, g2, g3, g4, if_true, if_false, bI_t, bI_f, sm0, sm3, sm4, sm5, and_true, true_and, and_false, false_and, not_true_eq_false, not_false_eq_true]; done)
            · refine r_iconst (pc := 98) (v := 1) dX5_isFit_98 (by decide) ?_
              refine r_goto (pc := 99) 114 dX5_isFit_99 rfl ?_
              refine r_zreturn (pc := 114) rfl (by first | rfl | exact bI_nar _) dX5_isFit_114 ⟨_, rfl, ?_⟩
              refine ⟨?_, rfl⟩
              first
                | (simp (decide := true) only [fitP, stepS, hsw, h37, h59, h79, h86, h95, if_true, if_false, bI_t, bI_f, sm0, sm3, sm4, sm5, and_true, true_and, and_false, false_and, not_true_eq_false, not_false_eq_true]; done)
                | (obtain ⟨g0, g1, g2, g3, g4⟩ := sn_0_4 hsw; simp (decide := true) only [fitP, stepS, hsw, h37, h59, h79, h86, h95, g0, g1, g2, g3, g4, if_true, if_false, bI_t, bI_f, sm0, sm3, sm4, sm5, and_true, true_and, and_false, false_and, not_true_eq_false, not_false_eq_true]; done)
      · refine r_aload_n (pc := 62) dX5_isFit_62 rfl ?_
        refine rm_getI (pc := 63) dX5_isFit_63 fl_X5_200_5 (MR_k hm) (fun _ _ => rfl) ?_
        refine r_if_le (pc := 66) 73 dX5_isFit_66 rfl (fun h66 => ?_) (fun h66 => ?_)
        · refine r_iconst (pc := 73) (v := 0) dX5_isFit_73 (by decide) ?_
          refine r_goto (pc := 74) 114 dX5_isFit_74 rfl ?_
          refine r_zreturn (pc := 114) rfl (by first | rfl | exact bI_nar _) dX5_isFit_114 ⟨_, rfl, ?_⟩
          refine ⟨?_, rfl⟩
          first
            | (simp (decide := true) only [fitP, stepS, hsw, h37, h59, h66, if_true, if_false, bI_t, bI_f, sm0, sm3, sm4, sm5, and_true, true_and, and_false, false_and, not_true_eq_false, not_false_eq_true]; done)
            | (obtain ⟨g0, g1, g2, g3, g4⟩ := sn_0_4 hsw; simp (decide := true) only [fitP, stepS, hsw, h37, h59, h66, g0, g1, g2, g3, g4, if_true, if_false, bI_t, bI_f, sm0, sm3, sm4, sm5, and_true, true_and, and_false, false_and, not_true_eq_false, not_false_eq_true]; done)
        · refine r_iconst (pc := 69) (v := 1) dX5_isFit_69 (by decide) ?_
          refine r_goto (pc := 70) 114 dX5_isFit_70 rfl ?_
          refine r_zreturn (pc := 114) rfl (by first | rfl | exact bI_nar _) dX5_isFit_114 ⟨_, rfl, ?_⟩
          refine ⟨?_, rfl⟩
          first
            | (simp (decide := true) only [fitP, stepS, hsw, h37, h59, h66, if_true, if_false, bI_t, bI_f, sm0, sm3, sm4, sm5, and_true, true_and, and_false, false_and, not_true_eq_false, not_false_eq_true]; done)
            | (obtain ⟨g0, g1, g2, g3, g4⟩ := sn_0_4 hsw; simp (decide := true) only [fitP, stepS, hsw, h37, h59, h66, g0, g1, g2, g3, g4, if_true, if_false, bI_t, bI_f, sm0, sm3, sm4, sm5, and_true, true_and, and_false, false_and, not_true_eq_false, not_false_eq_true]; done)
    · refine r_aload_n (pc := 40) dX5_isFit_40 rfl ?_
      refine rm_getI (pc := 41) dX5_isFit_41 fl_X5_200_5 (MR_k hm) (fun _ _ => rfl) ?_
      refine r_bipush (pc := 44) (v := 6) dX5_isFit_44 (by decide) ?_
      refine r_icmp_gt (pc := 46) 53 dX5_isFit_46 rfl (fun h46 => ?_) (fun h46 => ?_)
      · refine r_iconst (pc := 53) (v := 0) dX5_isFit_53 (by decide) ?_
        refine r_goto (pc := 54) 114 dX5_isFit_54 rfl ?_
        refine r_zreturn (pc := 114) rfl (by first | rfl | exact bI_nar _) dX5_isFit_114 ⟨_, rfl, ?_⟩
        refine ⟨?_, rfl⟩
        first
          | (simp (decide := true) only [fitP, stepS, hsw, h37, h46, if_true, if_false, bI_t, bI_f, sm0, sm3, sm4, sm5, and_true, true_and, and_false, false_and, not_true_eq_false, not_false_eq_true]; done)
          | (obtain ⟨g0, g1, g2, g3, g4⟩ := sn_0_4 hsw; simp (decide := true) only [fitP, stepS, hsw, h37, h46, g0, g1, g2, g3, g4, if_true, if_false, bI_t, bI_f, sm0, sm3, sm4, sm5, and_true, true_and, and_false, false_and, not_true_eq_false, not_false_eq_true]; done)
      · refine r_iconst (pc := 49) (v := 1) dX5_isFit_49 (by decide) ?_
        refine r_goto (pc := 50) 114 dX5_isFit_50 rfl ?_
        refine r_zreturn (pc := 114) rfl (by first | rfl | exact bI_nar _) dX5_isFit_114 ⟨_, rfl, ?_⟩
        refine ⟨?_, rfl⟩
        first
          | (simp (decide := true) only [fitP, stepS, hsw, h37, h46, if_true, if_false, bI_t, bI_f, sm0, sm3, sm4, sm5, and_true, true_and, and_false, false_and, not_true_eq_false, not_false_eq_true]; done)
          | (obtain ⟨g0, g1, g2, g3, g4⟩ := sn_0_4 hsw; simp (decide := true) only [fitP, stepS, hsw, h37, h46, g0, g1, g2, g3, g4, if_true, if_false, bI_t, bI_f, sm0, sm3, sm4, sm5, and_true, true_and, and_false, false_and, not_true_eq_false, not_false_eq_true]; done)
  · refine r_swIn (pc := 1) 115 dX5_isFit_1 (by decide) (by decide) rfl rfl ?_
    refine r_aload_n (pc := 115) dX5_isFit_115 rfl ?_
    refine rm_getI (pc := 116) dX5_isFit_116 fl_X5_200_5 (MR_k hm) (fun _ _ => rfl) ?_
    refine r_if_le (pc := 119) 126 dX5_isFit_119 rfl (fun h119 => ?_) (fun h119 => ?_)
    · refine r_iconst (pc := 126) (v := 0) dX5_isFit_126 (by decide) ?_
      refine r_zreturn (pc := 127) rfl rfl dX5_isFit_127 ⟨_, rfl, ?_⟩
      refine ⟨?_, rfl⟩
      first
        | (simp (decide := true) only [fitP, stepS, hsw, h119, if_true, if_false, bI_t, bI_f, sm0, sm3, sm4, sm5, and_true, true_and, and_false, false_and, not_true_eq_false, not_false_eq_true]; done)
        | (obtain ⟨g0, g1, g2, g3, g4⟩ := sn_0_4 hsw; simp (decide := true) only [fitP, stepS, hsw, h119, g0, g1, g2, g3, g4, if_true, if_false, bI_t, bI_f, sm0, sm3, sm4, sm5, and_true, true_and, and_false, false_and, not_true_eq_false, not_false_eq_true]; done)
    · refine r_iconst (pc := 122) (v := 1) dX5_isFit_122 (by decide) ?_
      refine r_goto (pc := 123) 127 dX5_isFit_123 rfl ?_
      refine r_zreturn (pc := 127) rfl rfl dX5_isFit_127 ⟨_, rfl, ?_⟩
      refine ⟨?_, rfl⟩
      first
        | (simp (decide := true) only [fitP, stepS, hsw, h119, if_true, if_false, bI_t, bI_f, sm0, sm3, sm4, sm5, and_true, true_and, and_false, false_and, not_true_eq_false, not_false_eq_true]; done)
        | (obtain ⟨g0, g1, g2, g3, g4⟩ := sn_0_4 hsw; simp (decide := true) only [fitP, stepS, hsw, h119, g0, g1, g2, g3, g4, if_true, if_false, bI_t, bI_f, sm0, sm3, sm4, sm5, and_true, true_and, and_false, false_and, not_true_eq_false, not_false_eq_true]; done)
  · refine r_swIn (pc := 1) 128 dX5_isFit_1 (by decide) (by decide) rfl rfl ?_
    refine r_iload_n (pc := 128) dX5_isFit_128 rfl ?_
    refine r_if_ne (pc := 129) 151 dX5_isFit_129 rfl (fun h129 => ?_) (fun h129 => ?_)
    · refine r_iload_n (pc := 151) dX5_isFit_151 rfl ?_
      refine r_iconst (pc := 152) (v := 2) dX5_isFit_152 (by decide) ?_
      refine r_icmp_eq (pc := 153) 167 dX5_isFit_153 rfl (fun h153 => ?_) (fun h153 => ?_)
      · refine r_iconst (pc := 167) (v := 1) dX5_isFit_167 (by decide) ?_
        refine r_goto (pc := 168) 172 dX5_isFit_168 rfl ?_
        refine r_zreturn (pc := 172) rfl rfl dX5_isFit_172 ⟨_, rfl, ?_⟩
        refine ⟨?_, rfl⟩
        first
          | (simp (decide := true) only [fitP, stepS, hsw, h129, h153, if_true, if_false, bI_t, bI_f, sm0, sm3, sm4, sm5, and_true, true_and, and_false, false_and, not_true_eq_false, not_false_eq_true]; done)
          | (obtain ⟨g0, g1, g2, g3, g4⟩ := sn_0_4 hsw; simp (decide := true) only [fitP, stepS, hsw, h129, h153, g0, g1, g2, g3, g4, if_true, if_false, bI_t, bI_f, sm0, sm3, sm4, sm5, and_true, true_and, and_false, false_and, not_true_eq_false, not_false_eq_true]; done)
      · refine r_aload_n (pc := 156) dX5_isFit_156 rfl ?_
        refine r_aload_n (pc := 157) dX5_isFit_157 rfl ?_
        refine rm_getI (pc := 158) dX5_isFit_158 fl_X5_200_5 (MR_k hm) (fun _ _ => rfl) ?_
        refine r_o2 (pc := 161) (bc' := 0) (bs' := 0) (ct_X5_isStep hm _) k_X5_147_5 dX5_isFit_161 (MR_k hm) (Nat.le_of_ble_eq_true rfl) ⟨Nat.le_of_ble_eq_true rfl, Nat.le_of_ble_eq_true rfl⟩ ⟨Nat.le_of_ble_eq_true rfl, Nat.le_of_ble_eq_true rfl⟩ (r_ci fun r161 M161 p161 => ?_) nox
        obtain ⟨rfl, rfl⟩ := p161
        refine r_if_eq (pc := 164) 171 dX5_isFit_164 rfl (fun h164 => ?_) (fun h164 => ?_)
        · rw [bI_eq0] at h164
          refine r_iconst (pc := 171) (v := 0) dX5_isFit_171 (by decide) ?_
          refine r_zreturn (pc := 172) rfl rfl dX5_isFit_172 ⟨_, rfl, ?_⟩
          refine ⟨?_, rfl⟩
          first
            | (simp (decide := true) only [fitP, stepS, hsw, h129, h153, eq_false h164, if_true, if_false, bI_t, bI_f, sm0, sm3, sm4, sm5, and_true, true_and, and_false, false_and, not_true_eq_false, not_false_eq_true]; done)
            | (obtain ⟨g0, g1, g2, g3, g4⟩ := sn_0_4 hsw; simp (decide := true) only [fitP, stepS, hsw, h129, h153, eq_false h164, g0, g1, g2, g3, g4, if_true, if_false, bI_t, bI_f, sm0, sm3, sm4, sm5, and_true, true_and, and_false, false_and, not_true_eq_false, not_false_eq_true]; done)
        · rw [bI_ne0] at h164
          refine r_iconst (pc := 167) (v := 1) dX5_isFit_167 (by decide) ?_
          refine r_goto (pc := 168) 172 dX5_isFit_168 rfl ?_
          refine r_zreturn (pc := 172) rfl rfl dX5_isFit_172 ⟨_, rfl, ?_⟩
          refine ⟨?_, rfl⟩
          first
            | (simp (decide := true) only [fitP, stepS, hsw, h129, h153, eq_true h164, if_true, if_false, bI_t, bI_f, sm0, sm3, sm4, sm5, and_true, true_and, and_false, false_and, not_true_eq_false, not_false_eq_true]; done)
            | (obtain ⟨g0, g1, g2, g3, g4⟩ := sn_0_4 hsw; simp (decide := true) only [fitP, stepS, hsw, h129, h153, eq_true h164, g0, g1, g2, g3, g4, if_true, if_false, bI_t, bI_f, sm0, sm3, sm4, sm5, and_true, true_and, and_false, false_and, not_true_eq_false, not_false_eq_true]; done)
    · refine r_aload_n (pc := 132) dX5_isFit_132 rfl ?_
      refine rm_getI (pc := 133) dX5_isFit_133 fl_X5_200_5 (MR_k hm) (fun _ _ => rfl) ?_
      refine r_aload_n (pc := 136) dX5_isFit_136 rfl ?_
      refine rm_getI (pc := 137) dX5_isFit_137 fl_X5_117_5 (MR_k hm) (fun _ _ => rfl) ?_
      refine r_icmp_ge (pc := 140) 147 dX5_isFit_140 rfl (fun h140 => ?_) (fun h140 => ?_)
      · refine r_iconst (pc := 147) (v := 0) dX5_isFit_147 (by decide) ?_
        refine r_goto (pc := 148) 172 dX5_isFit_148 rfl ?_
        refine r_zreturn (pc := 172) rfl rfl dX5_isFit_172 ⟨_, rfl, ?_⟩
        refine ⟨?_, rfl⟩
        first
          | (simp (decide := true) only [fitP, stepS, hsw, h129, h140, if_true, if_false, bI_t, bI_f, sm0, sm3, sm4, sm5, and_true, true_and, and_false, false_and, not_true_eq_false, not_false_eq_true]; done)
          | (obtain ⟨g0, g1, g2, g3, g4⟩ := sn_0_4 hsw; simp (decide := true) only [fitP, stepS, hsw, h129, h140, g0, g1, g2, g3, g4, if_true, if_false, bI_t, bI_f, sm0, sm3, sm4, sm5, and_true, true_and, and_false, false_and, not_true_eq_false, not_false_eq_true]; done)
      · refine r_iconst (pc := 143) (v := 1) dX5_isFit_143 (by decide) ?_
        refine r_goto (pc := 144) 172 dX5_isFit_144 rfl ?_
        refine r_zreturn (pc := 172) rfl rfl dX5_isFit_172 ⟨_, rfl, ?_⟩
        refine ⟨?_, rfl⟩
        first
          | (simp (decide := true) only [fitP, stepS, hsw, h129, h140, if_true, if_false, bI_t, bI_f, sm0, sm3, sm4, sm5, and_true, true_and, and_false, false_and, not_true_eq_false, not_false_eq_true]; done)
          | (obtain ⟨g0, g1, g2, g3, g4⟩ := sn_0_4 hsw; simp (decide := true) only [fitP, stepS, hsw, h129, h140, g0, g1, g2, g3, g4, if_true, if_false, bI_t, bI_f, sm0, sm3, sm4, sm5, and_true, true_and, and_false, false_and, not_true_eq_false, not_false_eq_true]; done)
  · refine r_swIn (pc := 1) 173 dX5_isFit_1 (by decide) (by decide) rfl rfl ?_
    refine r_aload_n (pc := 173) dX5_isFit_173 rfl ?_
    refine r_aload_n (pc := 174) dX5_isFit_174 rfl ?_
    refine rm_getI (pc := 175) dX5_isFit_175 fl_X5_200_5 (MR_k hm) (fun _ _ => rfl) ?_
    refine r_o2 (pc := 178) (bc' := 0) (bs' := 0) (ct_X5_isLong hm _ hk) k_X5_168_5 dX5_isFit_178 (MR_k hm) (Nat.le_of_ble_eq_true rfl) ⟨Nat.le_of_ble_eq_true rfl, Nat.le_of_ble_eq_true rfl⟩ ⟨Nat.le_of_ble_eq_true rfl, Nat.le_of_ble_eq_true rfl⟩ (r_ci fun r178 M178 p178 => ?_) nox
    obtain ⟨rfl, rfl⟩ := p178
    refine r_zreturn (pc := 181) rfl (bI_nar _) dX5_isFit_181 ⟨_, rfl, ?_⟩
    refine ⟨?_, rfl⟩
    first
      | (simp (decide := true) only [fitP, stepS, hsw, if_true, if_false, bI_t, bI_f, sm0, sm3, sm4, sm5, and_true, true_and, and_false, false_and, not_true_eq_false, not_false_eq_true]; done)
      | (obtain ⟨g0, g1, g2, g3, g4⟩ := sn_0_4 hsw; simp (decide := true) only [fitP, stepS, hsw, g0, g1, g2, g3, g4, if_true, if_false, bI_t, bI_f, sm0, sm3, sm4, sm5, and_true, true_and, and_false, false_and, not_true_eq_false, not_false_eq_true]; done)
  · refine r_swIn (pc := 1) 182 dX5_isFit_1 (by decide) (by decide) rfl rfl ?_
    refine r_iload_n (pc := 182) dX5_isFit_182 rfl ?_
    refine r_if_eq (pc := 183) 203 dX5_isFit_183 rfl (fun h183 => ?_) (fun h183 => ?_)
    · refine r_iconst (pc := 203) (v := 1) dX5_isFit_203 (by decide) ?_
      refine r_goto (pc := 204) 208 dX5_isFit_204 rfl ?_
      refine r_zreturn (pc := 208) rfl rfl dX5_isFit_208 ⟨_, rfl, ?_⟩
      refine ⟨?_, rfl⟩
      first
        | (simp (decide := true) only [fitP, stepS, hsw, h183, if_true, if_false, bI_t, bI_f, sm0, sm3, sm4, sm5, and_true, true_and, and_false, false_and, not_true_eq_false, not_false_eq_true]; done)
        | (obtain ⟨g0, g1, g2, g3, g4⟩ := sn_0_4 hsw; simp (decide := true) only [fitP, stepS, hsw, h183, g0, g1, g2, g3, g4, if_true, if_false, bI_t, bI_f, sm0, sm3, sm4, sm5, and_true, true_and, and_false, false_and, not_true_eq_false, not_false_eq_true]; done)
    · refine r_aload_n (pc := 186) dX5_isFit_186 rfl ?_
      refine r_aload_n (pc := 187) dX5_isFit_187 rfl ?_
      refine r_getR (pc := 188) dX5_isFit_188 fl_X5_78_5 (MR_k hm) (fun _ _ => rfl) (MR_r29 hm) ?_
      refine r_iconst (pc := 191) (v := 0) dX5_isFit_191 (by decide) ?_
      refine rm_iald (pc := 192) dX5_isFit_192 (MR_k29 hm) (MR_z29 hm) (by first | assumption | exact vp_in_lit rfl) ?_
      rw [show Int32.toNatClampNeg (0 : Int32) = 0 from rfl]
      refine r_aload_n (pc := 193) dX5_isFit_193 rfl ?_
      refine rm_getI (pc := 194) dX5_isFit_194 fl_X5_200_5 (MR_k hm) (fun _ _ => rfl) ?_
      refine r_o3 (pc := 197) (bc' := 0) (bs' := 0) (ct_X5_isRiver hm _ _ hk) k_X5_174_5 dX5_isFit_197 (MR_k hm) (Nat.le_of_ble_eq_true rfl) ⟨Nat.le_of_ble_eq_true rfl, Nat.le_of_ble_eq_true rfl⟩ ⟨Nat.le_of_ble_eq_true rfl, Nat.le_of_ble_eq_true rfl⟩ (r_ci fun r197 M197 p197 => ?_) nox
      obtain ⟨rfl, rfl⟩ := p197
      refine r_if_eq (pc := 200) 207 dX5_isFit_200 rfl (fun h200 => ?_) (fun h200 => ?_)
      · rw [bI_eq0] at h200
        refine r_iconst (pc := 207) (v := 0) dX5_isFit_207 (by decide) ?_
        refine r_zreturn (pc := 208) rfl rfl dX5_isFit_208 ⟨_, rfl, ?_⟩
        refine ⟨?_, rfl⟩
        first
          | (simp (decide := true) only [fitP, stepS, hsw, h183, eq_false h200, if_true, if_false, bI_t, bI_f, sm0, sm3, sm4, sm5, and_true, true_and, and_false, false_and, not_true_eq_false, not_false_eq_true]; done)
          | (obtain ⟨g0, g1, g2, g3, g4⟩ := sn_0_4 hsw; simp (decide := true) only [fitP, stepS, hsw, h183, eq_false h200, g0, g1, g2, g3, g4, if_true, if_false, bI_t, bI_f, sm0, sm3, sm4, sm5, and_true, true_and, and_false, false_and, not_true_eq_false, not_false_eq_true]; done)
      · rw [bI_ne0] at h200
        refine r_iconst (pc := 203) (v := 1) dX5_isFit_203 (by decide) ?_
        refine r_goto (pc := 204) 208 dX5_isFit_204 rfl ?_
        refine r_zreturn (pc := 208) rfl rfl dX5_isFit_208 ⟨_, rfl, ?_⟩
        refine ⟨?_, rfl⟩
        first
          | (simp (decide := true) only [fitP, stepS, hsw, h183, eq_true h200, if_true, if_false, bI_t, bI_f, sm0, sm3, sm4, sm5, and_true, true_and, and_false, false_and, not_true_eq_false, not_false_eq_true]; done)
          | (obtain ⟨g0, g1, g2, g3, g4⟩ := sn_0_4 hsw; simp (decide := true) only [fitP, stepS, hsw, h183, eq_true h200, g0, g1, g2, g3, g4, if_true, if_false, bI_t, bI_f, sm0, sm3, sm4, sm5, and_true, true_and, and_false, false_and, not_true_eq_false, not_false_eq_true]; done)
  · refine r_swOut (pc := 1) 209 dX5_isFit_1 hsw rfl ?_
    refine r_aload_n (pc := 209) dX5_isFit_209 rfl ?_
    refine rm_getI (pc := 210) dX5_isFit_210 fl_X5_200_5 (MR_k hm) (fun _ _ => rfl) ?_
    refine r_bipush (pc := 213) (v := 10) dX5_isFit_213 (by decide) ?_
    refine r_icmp_ge (pc := 215) 222 dX5_isFit_215 rfl (fun h215 => ?_) (fun h215 => ?_)
    · refine r_iconst (pc := 222) (v := 0) dX5_isFit_222 (by decide) ?_
      refine r_zreturn (pc := 223) rfl rfl dX5_isFit_223 ⟨_, rfl, ?_⟩
      refine ⟨?_, rfl⟩
      first
        | (simp (decide := true) only [fitP, stepS, hsw, h215, if_true, if_false, bI_t, bI_f, sm0, sm3, sm4, sm5, and_true, true_and, and_false, false_and, not_true_eq_false, not_false_eq_true]; done)
        | (obtain ⟨g0, g1, g2, g3, g4⟩ := sn_0_4 hsw; simp (decide := true) only [fitP, stepS, hsw, h215, g0, g1, g2, g3, g4, if_true, if_false, bI_t, bI_f, sm0, sm3, sm4, sm5, and_true, true_and, and_false, false_and, not_true_eq_false, not_false_eq_true]; done)
    · refine r_iconst (pc := 218) (v := 1) dX5_isFit_218 (by decide) ?_
      refine r_goto (pc := 219) 223 dX5_isFit_219 rfl ?_
      refine r_zreturn (pc := 223) rfl rfl dX5_isFit_223 ⟨_, rfl, ?_⟩
      refine ⟨?_, rfl⟩
      first
        | (simp (decide := true) only [fitP, stepS, hsw, h215, if_true, if_false, bI_t, bI_f, sm0, sm3, sm4, sm5, and_true, true_and, and_false, false_and, not_true_eq_false, not_false_eq_true]; done)
        | (obtain ⟨g0, g1, g2, g3, g4⟩ := sn_0_4 hsw; simp (decide := true) only [fitP, stepS, hsw, h215, g0, g1, g2, g3, g4, if_true, if_false, bI_t, bI_f, sm0, sm3, sm4, sm5, and_true, true_and, and_false, false_and, not_true_eq_false, not_false_eq_true]; done)
theorem offW_mono : ∀ a b, a ≤ b → b < 7 → offW a ≤ offW b := by
  have h : ∀ b, b < 7 → ∀ a, a < 7 → a ≤ b → offW a ≤ offW b := by decide +kernel
  exact fun a b h1 h2 => h b h2 a (by omega) h1
theorem ct_X5_isWordAt {M0 : PM} {mo : Nat} {L : Nat → Nat → Int64} (hm : MR M0 mo) (J : Nat → Nat → Int32) (b en a : Nat) (hx : txM J mo b en) (ha : a ≤ en) (ea : J mo 31 = nI a) (w : Nat) (hw : w < 6) : Ct (YX5_isWordAt, (0, 0, 0, 0), qi (fun r M' => r = bI (isWP (fun i => (L (mo + 17) (b + i)).toInt32) en a w) ∧ M' = wIL M0 J L), noX) [.ref mo, .int (nI w)] (wIL M0 J L) := by
  refine ct_of [some (.ref mo), some (.int (nI w)), none, none] rfl rfl rfl (Nat.le_of_ble_eq_true rfl) rfl rfl ?_
  have e30 := hx.1
  have e32 := hx.2.1
  have h160 := hx.2.2.1
  have h1280 := hx.2.2.2.1
  have hwd := hx.2.2.2.2
  obtain ⟨z1, z2, z3, z4⟩ := wr_z w hw
  have fin : Wx (YX5_isWordAt, (0, 0, 0, 0), qi (fun r M' => r = bI (isWP (fun i => (L (mo + 17) (b + i)).toInt32) en a w) ∧ M' = wIL M0 J L), noX) 0 0 (wIL M0 J L) 86 [some (.ref mo), some (.int (nI w)), some (.int (nI (offW w + mtC (fun i => (L (mo + 17) (b + i)).toInt32) en 32 7 (offW w) a))), some (.int (nI (a + mtC (fun i => (L (mo + 17) (b + i)).toInt32) en 32 7 (offW w) a)))] [] → True := fun _ => trivial
  have L2 : ∀ (f q x : Nat), q < 37 → x ≤ en → (∃ z, z ≤ f ∧ ¬ 32 < wrdC (q + z)) → q + mtC (fun i => (L (mo + 17) (b + i)).toInt32) en 32 f q x = offW w + mtC (fun i => (L (mo + 17) (b + i)).toInt32) en 32 7 (offW w) a → Wx (YX5_isWordAt, (0, 0, 0, 0), qi (fun r M' => r = bI (isWP (fun i => (L (mo + 17) (b + i)).toInt32) en a w) ∧ M' = wIL M0 J L), noX) 0 0 (wIL M0 J L) 37 [some (.ref mo), some (.int (nI w)), some (.int (nI q)), some (.int (nI x))] [] := by
    intro f
    induction f with
    | zero =>
      intro q x hq hxe hz e1
      obtain ⟨z, hz1, hz2⟩ := hz
      have : z = 0 := by omega
      subst this
      have e1 : q = offW w + mtC (fun i => (L (mo + 17) (b + i)).toInt32) en 32 7 (offW w) a := e1
      have hv : vp_in (nI q) 37 := vp_in_nI hq (by decide)
      have eq : Int32.toNatClampNeg (nI q) = q := ix_nI (by omega)
      refine r_aload_n (pc := 37) dX5_isWordAt_37 rfl ?_
      refine r_getR (pc := 38) dX5_isWordAt_38 fl_X5_75_5 (MR_k hm) (fun _ _ => rfl) (MR_r28 hm) ?_
      refine r_iload_n (pc := 41) dX5_isWordAt_41 rfl ?_
      refine rm_iald (pc := 42) dX5_isWordAt_42 (MR_k28 hm) (MR_z28 hm) (by first | assumption | exact vp_in_lit rfl) ?_
      rw [eq, hwd q hq]
      refine r_bipush (pc := 43) (v := 32) dX5_isWordAt_43 (by decide) ?_
      refine r_icmp_le (pc := 45) 86 dX5_isWordAt_45 rfl (fun _ => ?_) (fun hno => False.elim (hz2 hno))
      refine r_aload_n (pc := 86) dX5_isWordAt_86 rfl ?_
      refine r_getR (pc := 87) dX5_isWordAt_87 fl_X5_75_5 (MR_k hm) (fun _ _ => rfl) (MR_r28 hm) ?_
      refine r_iload_n (pc := 90) dX5_isWordAt_90 rfl ?_
      refine rm_iald (pc := 91) dX5_isWordAt_91 (MR_k28 hm) (MR_z28 hm) (by first | assumption | exact vp_in_lit rfl) ?_
      rw [eq, hwd q hq]
      refine r_bipush (pc := 92) (v := 32) dX5_isWordAt_92 (by decide) ?_
      refine r_icmp_gt (pc := 94) 101 dX5_isWordAt_94 rfl (fun h94 => ?_) (fun h94 => ?_)
      · refine r_iconst (pc := 101) (v := 0) dX5_isWordAt_101 (by decide) ?_
        refine r_zreturn (pc := 102) rfl rfl dX5_isWordAt_102 ⟨_, rfl, ?_⟩
        exact ⟨bI_f' (by unfold isWP; rw [← e1]; exact fun z => z h94), rfl⟩
      · refine r_iconst (pc := 97) (v := 1) dX5_isWordAt_97 (by decide) ?_
        refine r_goto (pc := 98) 102 dX5_isWordAt_98 rfl ?_
        refine r_zreturn (pc := 102) rfl rfl dX5_isWordAt_102 ⟨_, rfl, ?_⟩
        exact ⟨bI_t' (by unfold isWP; rw [← e1]; exact h94), rfl⟩
    | succ f ih =>
      intro q x hq hxe hz e1
      have hv : vp_in (nI q) 37 := vp_in_nI hq (by decide)
      have eq : Int32.toNatClampNeg (nI q) = q := ix_nI (by omega)
      rw [mtC] at e1
      refine r_aload_n (pc := 37) dX5_isWordAt_37 rfl ?_
      refine r_getR (pc := 38) dX5_isWordAt_38 fl_X5_75_5 (MR_k hm) (fun _ _ => rfl) (MR_r28 hm) ?_
      refine r_iload_n (pc := 41) dX5_isWordAt_41 rfl ?_
      refine rm_iald (pc := 42) dX5_isWordAt_42 (MR_k28 hm) (MR_z28 hm) (by first | assumption | exact vp_in_lit rfl) ?_
      rw [eq, hwd q hq]
      refine r_bipush (pc := 43) (v := 32) dX5_isWordAt_43 (by decide) ?_
      refine r_icmp_le (pc := 45) 86 dX5_isWordAt_45 rfl (fun h45 => ?_) (fun h45 => ?_)
      · rw [if_neg (fun z => h45 z.1)] at e1
        have e1 : q = offW w + mtC (fun i => (L (mo + 17) (b + i)).toInt32) en 32 7 (offW w) a := e1
        refine r_aload_n (pc := 86) dX5_isWordAt_86 rfl ?_
        refine r_getR (pc := 87) dX5_isWordAt_87 fl_X5_75_5 (MR_k hm) (fun _ _ => rfl) (MR_r28 hm) ?_
        refine r_iload_n (pc := 90) dX5_isWordAt_90 rfl ?_
        refine rm_iald (pc := 91) dX5_isWordAt_91 (MR_k28 hm) (MR_z28 hm) (by first | assumption | exact vp_in_lit rfl) ?_
        rw [eq, hwd q hq]
        refine r_bipush (pc := 92) (v := 32) dX5_isWordAt_92 (by decide) ?_
        refine r_icmp_gt (pc := 94) 101 dX5_isWordAt_94 rfl (fun h94 => ?_) (fun h94 => ?_)
        · refine r_iconst (pc := 101) (v := 0) dX5_isWordAt_101 (by decide) ?_
          refine r_zreturn (pc := 102) rfl rfl dX5_isWordAt_102 ⟨_, rfl, ?_⟩
          exact ⟨bI_f' (by unfold isWP; rw [← e1]; exact fun z => z h94), rfl⟩
        · refine r_iconst (pc := 97) (v := 1) dX5_isWordAt_97 (by decide) ?_
          refine r_goto (pc := 98) 102 dX5_isWordAt_98 rfl ?_
          refine r_zreturn (pc := 102) rfl rfl dX5_isWordAt_102 ⟨_, rfl, ?_⟩
          exact ⟨bI_t' (by unfold isWP; rw [← e1]; exact h94), rfl⟩
      · refine r_iload_n (pc := 48) dX5_isWordAt_48 rfl ?_
        refine r_aload_n (pc := 49) dX5_isWordAt_49 rfl ?_
        refine rm_getI (pc := 50) dX5_isWordAt_50 fl_X5_187_5 (MR_k hm) (fun _ _ => rfl) ?_
        rw [e32]
        refine r_icmp_ge (pc := 53) 86 dX5_isWordAt_53 rfl (fun h53 => ?_) (fun h53 => ?_)
        · rw [nI_ltI (by omega) (by omega)] at h53
          rw [if_neg (fun z => h53 z.2.1)] at e1
          have e1 : q = offW w + mtC (fun i => (L (mo + 17) (b + i)).toInt32) en 32 7 (offW w) a := e1
          refine r_aload_n (pc := 86) dX5_isWordAt_86 rfl ?_
          refine r_getR (pc := 87) dX5_isWordAt_87 fl_X5_75_5 (MR_k hm) (fun _ _ => rfl) (MR_r28 hm) ?_
          refine r_iload_n (pc := 90) dX5_isWordAt_90 rfl ?_
          refine rm_iald (pc := 91) dX5_isWordAt_91 (MR_k28 hm) (MR_z28 hm) (by first | assumption | exact vp_in_lit rfl) ?_
          rw [eq, hwd q hq]
          refine r_bipush (pc := 92) (v := 32) dX5_isWordAt_92 (by decide) ?_
          refine r_icmp_gt (pc := 94) 101 dX5_isWordAt_94 rfl (fun h94 => ?_) (fun h94 => ?_)
          · refine r_iconst (pc := 101) (v := 0) dX5_isWordAt_101 (by decide) ?_
            refine r_zreturn (pc := 102) rfl rfl dX5_isWordAt_102 ⟨_, rfl, ?_⟩
            exact ⟨bI_f' (by unfold isWP; rw [← e1]; exact fun z => z h94), rfl⟩
          · refine r_iconst (pc := 97) (v := 1) dX5_isWordAt_97 (by decide) ?_
            refine r_goto (pc := 98) 102 dX5_isWordAt_98 rfl ?_
            refine r_zreturn (pc := 102) rfl rfl dX5_isWordAt_102 ⟨_, rfl, ?_⟩
            exact ⟨bI_t' (by unfold isWP; rw [← e1]; exact h94), rfl⟩
        · rw [nI_ltI (by omega) (by omega)] at h53
          refine r_aload_n (pc := 56) dX5_isWordAt_56 rfl ?_
          refine r_getR (pc := 57) dX5_isWordAt_57 fl_X5_68_5 (MR_k hm) (fun _ _ => rfl) (MR_r26 hm) ?_
          refine r_aload_n (pc := 60) dX5_isWordAt_60 rfl ?_
          refine rm_getI (pc := 61) dX5_isWordAt_61 fl_X5_190_5 (MR_k hm) (fun _ _ => rfl) ?_
          rw [e30]
          refine r_iload_n (pc := 64) dX5_isWordAt_64 rfl ?_
          refine r_iadd (pc := 65) dX5_isWordAt_65 ?_
          refine r_eqi (nI (b + x)) (by rw [nI_add]) ?_
          refine rm_lald (pc := 66) dX5_isWordAt_66 (MR_k26 hm) (MR_z26 hm) (vp_in_nI (by omega) (by decide)) ?_
          rw [ix_nI (by omega)]
          refine r_l2i (pc := 67) dX5_isWordAt_67 ?_
          refine r_aload_n (pc := 68) dX5_isWordAt_68 rfl ?_
          refine r_getR (pc := 69) dX5_isWordAt_69 fl_X5_75_5 (MR_k hm) (fun _ _ => rfl) (MR_r28 hm) ?_
          refine r_iload_n (pc := 72) dX5_isWordAt_72 rfl ?_
          refine rm_iald (pc := 73) dX5_isWordAt_73 (MR_k28 hm) (MR_z28 hm) (by first | assumption | exact vp_in_lit rfl) ?_
          rw [eq, hwd q hq]
          refine r_icmp_ne (pc := 74) 86 dX5_isWordAt_74 rfl (fun h74 => ?_) (fun h74 => ?_)
          · rw [if_neg (fun z => h74 z.2.2)] at e1
            have e1 : q = offW w + mtC (fun i => (L (mo + 17) (b + i)).toInt32) en 32 7 (offW w) a := e1
            refine r_aload_n (pc := 86) dX5_isWordAt_86 rfl ?_
            refine r_getR (pc := 87) dX5_isWordAt_87 fl_X5_75_5 (MR_k hm) (fun _ _ => rfl) (MR_r28 hm) ?_
            refine r_iload_n (pc := 90) dX5_isWordAt_90 rfl ?_
            refine rm_iald (pc := 91) dX5_isWordAt_91 (MR_k28 hm) (MR_z28 hm) (by first | assumption | exact vp_in_lit rfl) ?_
            rw [eq, hwd q hq]
            refine r_bipush (pc := 92) (v := 32) dX5_isWordAt_92 (by decide) ?_
            refine r_icmp_gt (pc := 94) 101 dX5_isWordAt_94 rfl (fun h94 => ?_) (fun h94 => ?_)
            · refine r_iconst (pc := 101) (v := 0) dX5_isWordAt_101 (by decide) ?_
              refine r_zreturn (pc := 102) rfl rfl dX5_isWordAt_102 ⟨_, rfl, ?_⟩
              exact ⟨bI_f' (by unfold isWP; rw [← e1]; exact fun z => z h94), rfl⟩
            · refine r_iconst (pc := 97) (v := 1) dX5_isWordAt_97 (by decide) ?_
              refine r_goto (pc := 98) 102 dX5_isWordAt_98 rfl ?_
              refine r_zreturn (pc := 102) rfl rfl dX5_isWordAt_102 ⟨_, rfl, ?_⟩
              exact ⟨bI_t' (by unfold isWP; rw [← e1]; exact h94), rfl⟩
          · rw [if_pos ⟨h45, h53, h74⟩] at e1
            refine r_iinc3 (pc := 77) dX5_isWordAt_77 (nI_1 _) rfl ?_
            refine r_iinc2 (pc := 80) dX5_isWordAt_80 (nI_1 _) rfl ?_
            refine r_goto (pc := 83) 37 dX5_isWordAt_83 rfl ?_
            obtain ⟨z, hz1, hz2⟩ := hz
            have hz0 : z ≠ 0 := fun e => by subst e; exact hz2 h45
            exact ih (q + 1) (x + 1) (wr_in q hq (fun e => by rw [e] at h45; exact absurd h45 (by decide))) (by omega) ⟨z - 1, by omega, by rw [show q + 1 + (z - 1) = q + z by omega]; exact hz2⟩ (by omega)
  have L1 : ∀ (d q k : Nat), q + d = offW w → k ≤ w → offW k ≤ q → (k < w → q < offW (k + 1)) → Wx (YX5_isWordAt, (0, 0, 0, 0), qi (fun r M' => r = bI (isWP (fun i => (L (mo + 17) (b + i)).toInt32) en a w) ∧ M' = wIL M0 J L), noX) 0 0 (wIL M0 J L) 4 [some (.ref mo), some (.int (nI w)), some (.int (nI q)), some (.int (nI k))] [] := by
    intro d
    induction d with
    | zero =>
      intro q k hq hk ho hlt
      have hkw : k = w := by
        apply Classical.byContradiction
        intro hne
        have h1 := hlt (by omega)
        have := offW_mono (k + 1) w (by omega) (by omega)
        omega
      refine r_iload_n (pc := 4) dX5_isWordAt_4 rfl ?_
      refine r_iload_n (pc := 5) dX5_isWordAt_5 rfl ?_
      refine r_icmp_ge (pc := 6) 32 dX5_isWordAt_6 rfl (fun _ => ?_) (fun hno => False.elim (by rw [nI_ltI (by omega) (by omega)] at hno; omega))
      refine r_aload_n (pc := 32) dX5_isWordAt_32 rfl ?_
      refine rm_getI (pc := 33) dX5_isWordAt_33 fl_X5_184_5 (MR_k hm) (fun _ _ => rfl) ?_
      rw [ea]
      refine r_istore3 (pc := 36) dX5_isWordAt_36 rfl ?_
      refine L2 7 q a (by omega) ha ⟨offW (w + 1) - 1 - q, by omega, ?_⟩ (by rw [show q = offW w by omega])
      rw [show q + (offW (w + 1) - 1 - q) = offW (w + 1) - 1 by omega, i_lt]
      have := z1; rw [i_lt, c_0] at this
      rw [show (32 : Int32).toInt = 32 from rfl]; omega
    | succ d ih =>
      intro q k hq hk ho hlt
      have hkw : k < w := by
        apply Classical.byContradiction
        intro hne
        have : k = w := by omega
        subst this
        omega
      have hq37 : q < 37 := by omega
      have hv : vp_in (nI q) 37 := vp_in_nI hq37 (by decide)
      have eq : Int32.toNatClampNeg (nI q) = q := ix_nI (by omega)
      have hend := wr_end k (by omega) q hq37 ho (hlt hkw)
      refine r_iload_n (pc := 4) dX5_isWordAt_4 rfl ?_
      refine r_iload_n (pc := 5) dX5_isWordAt_5 rfl ?_
      refine r_icmp_ge (pc := 6) 32 dX5_isWordAt_6 rfl (fun hno => False.elim (by rw [nI_ltI (by omega) (by omega)] at hno; omega)) (fun _ => ?_)
      refine r_iload_n (pc := 9) dX5_isWordAt_9 rfl ?_
      refine r_aload_n (pc := 10) dX5_isWordAt_10 rfl ?_
      refine r_getR (pc := 11) dX5_isWordAt_11 fl_X5_75_5 (MR_k hm) (fun _ _ => rfl) (MR_r28 hm) ?_
      refine r_iload_n (pc := 14) dX5_isWordAt_14 rfl ?_
      refine rm_iald (pc := 15) dX5_isWordAt_15 (MR_k28 hm) (MR_z28 hm) (by first | assumption | exact vp_in_lit rfl) ?_
      rw [eq, hwd q hq37]
      refine r_if_ne (pc := 16) 23 dX5_isWordAt_16 rfl (fun h16 => ?_) (fun h16 => ?_)
      · have hq1 : ¬ q + 1 = offW (k + 1) := fun e => h16 (hend.mpr e)
        have hk1 : nI k + 0 = nI k := by rw [show (0 : Int32) = nI 0 from rfl, nI_add, Nat.add_zero]
        refine r_iconst (pc := 23) (v := 0) dX5_isWordAt_23 (by decide) ?_
        refine r_iadd (pc := 24) dX5_isWordAt_24 ?_
        rw [hk1]
        refine r_istore3 (pc := 25) dX5_isWordAt_25 rfl ?_
        refine r_iinc2 (pc := 26) dX5_isWordAt_26 (nI_1 _) rfl ?_
        refine r_goto (pc := 29) 4 dX5_isWordAt_29 rfl ?_
        first
          | exact ih (q + 1) (k + 1) (by omega) (by omega) (by omega) (fun h => by have := (wr_z (k + 1) (by omega)).2.1; omega)
          | exact ih (q + 1) k (by omega) (by omega) (by omega) (fun _ => by have := hlt hkw; omega)
      · have hq1 := hend.mp h16
        have hk1 : nI k + 1 = nI (k + 1) := nI_1 k
        refine r_iconst (pc := 19) (v := 1) dX5_isWordAt_19 (by decide) ?_
        refine r_goto (pc := 20) 24 dX5_isWordAt_20 rfl ?_
        refine r_iadd (pc := 24) dX5_isWordAt_24 ?_
        rw [hk1]
        refine r_istore3 (pc := 25) dX5_isWordAt_25 rfl ?_
        refine r_iinc2 (pc := 26) dX5_isWordAt_26 (nI_1 _) rfl ?_
        refine r_goto (pc := 29) 4 dX5_isWordAt_29 rfl ?_
        first
          | exact ih (q + 1) (k + 1) (by omega) (by omega) (by omega) (fun h => by have := (wr_z (k + 1) (by omega)).2.1; omega)
          | exact ih (q + 1) k (by omega) (by omega) (by omega) (fun _ => by have := hlt hkw; omega)
  refine r_iconst (pc := 0) (v := 0) dX5_isWordAt_0 (by decide) ?_
  refine r_istore2 (pc := 1) dX5_isWordAt_1 rfl ?_
  refine r_iconst (pc := 2) (v := 0) dX5_isWordAt_2 (by decide) ?_
  refine r_istore3 (pc := 3) dX5_isWordAt_3 rfl ?_
  exact L1 (offW w) 0 0 (by omega) (by omega) (by decide) (fun _ => by decide)
theorem ct_X5_word {M0 : PM} {mo : Nat} {L : Nat → Nat → Int64} (hm : MR M0 mo) (J : Nat → Nat → Int32) (b en a : Nat) (hx : txM J mo b en) (ha : a ≤ en) (ea : J mo 31 = nI a) : Ct (YX5_word, (0, 0, 0, 0), qi (fun r M' => r = (wdC (fun i => (L (mo + 17) (b + i)).toInt32) en a).1 ∧ M' = wIL M0 (if (wdC (fun i => (L (mo + 17) (b + i)).toInt32) en a).1 = -1 then up2 J mo 34 (nI (wdC (fun i => (L (mo + 17) (b + i)).toInt32) en a).2) else up2 J mo 31 (nI (wdC (fun i => (L (mo + 17) (b + i)).toInt32) en a).2)) L), noX) [.ref mo] (wIL M0 J L) := by
  refine ct_of [some (.ref mo), none, none, none, none, none] rfl rfl rfl (Nat.le_of_ble_eq_true rfl) rfl rfl ?_
  have e30 := hx.1
  have e32 := hx.2.1
  have h160 := hx.2.2.1
  have h1280 := hx.2.2.2.1
  have hwd := hx.2.2.2.2
  have L1 : ∀ (f w far : Nat) (o4 o5 : Option Value), w + f = 6 → far ≤ en → wdC (fun i => (L (mo + 17) (b + i)).toInt32) en a = wdL (fun i => (L (mo + 17) (b + i)).toInt32) en a f w far → Wx (YX5_word, (0, 0, 0, 0), qi (fun r M' => r = (wdC (fun i => (L (mo + 17) (b + i)).toInt32) en a).1 ∧ M' = wIL M0 (if (wdC (fun i => (L (mo + 17) (b + i)).toInt32) en a).1 = -1 then up2 J mo 34 (nI (wdC (fun i => (L (mo + 17) (b + i)).toInt32) en a).2) else up2 J mo 31 (nI (wdC (fun i => (L (mo + 17) (b + i)).toInt32) en a).2)) L), noX) 0 0 (wIL M0 J L) 9 [some (.ref mo), some (.int (nI (offW w))), some (.int (nI far)), some (.int (nI w)), o4, o5] [] := by
    intro f
    induction f with
    | zero =>
      intro w far o4 o5 hwf hfar hw
      refine r_iload_n (pc := 9) dX5_word_9 rfl ?_
      refine r_bipush (pc := 10) (v := 6) dX5_word_10 (by decide) ?_
      refine r_icmp_ge (pc := 12) 130 dX5_word_12 rfl (fun _ => ?_) (fun hno => False.elim (by rw [show (6 : Int32) = nI 6 from rfl, nI_ltI (by omega) (by omega)] at hno; omega))
      refine r_aload_n (pc := 130) dX5_word_130 rfl ?_
      refine r_iload_n (pc := 131) dX5_word_131 rfl ?_
      refine rm_putI (pc := 132) dX5_word_132 fl_X5_181_5 (MR_k hm) rfl rfl ?_
      refine r_iconst (pc := 135) (v := (-1)) dX5_word_135 (by decide) ?_
      refine r_ireturn (pc := 136) rfl dX5_word_136 ⟨_, rfl, ?_⟩
      refine ⟨by rw [hw]; rfl, ?_⟩
      rw [hw, wdL, if_pos rfl]
    | succ f ih =>
      intro w far o4 o5 hwf hfar hw
      obtain ⟨z1, z2, z3, z4⟩ := wr_z w (by omega)
      rw [wdL] at hw
      have hmle := mt_le (c := (fun i => (L (mo + 17) (b + i)).toInt32)) (en := en) (lo := 0) 7 (offW w) a ha
      generalize hm7 : mtC (fun i => (L (mo + 17) (b + i)).toInt32) en 0 7 (offW w) a = m at hw hmle
      have L3 : ∀ (fr : Nat), fr ≤ en → wdC (fun i => (L (mo + 17) (b + i)).toInt32) en a = wdL (fun i => (L (mo + 17) (b + i)).toInt32) en a f (w + 1) fr → ∀ (d q : Nat) (v4 v5 : Int32), q + d + 1 = offW (w + 1) → offW w ≤ q → Wx (YX5_word, (0, 0, 0, 0), qi (fun r M' => r = (wdC (fun i => (L (mo + 17) (b + i)).toInt32) en a).1 ∧ M' = wIL M0 (if (wdC (fun i => (L (mo + 17) (b + i)).toInt32) en a).1 = -1 then up2 J mo 34 (nI (wdC (fun i => (L (mo + 17) (b + i)).toInt32) en a).2) else up2 J mo 31 (nI (wdC (fun i => (L (mo + 17) (b + i)).toInt32) en a).2)) L), noX) 0 0 (wIL M0 J L) 106 [some (.ref mo), some (.int (nI q)), some (.int (nI fr)), some (.int (nI w)), some (.int v4), some (.int v5)] [] := by
        intro fr hfr hw2 d
        induction d with
        | zero =>
          intro q v4 v5 hq ho
          have hv : vp_in (nI q) 37 := vp_in_nI (by omega) (by decide)
          have eq : Int32.toNatClampNeg (nI q) = q := ix_nI (by omega)
          refine r_aload_n (pc := 106) dX5_word_106 rfl ?_
          refine r_getR (pc := 107) dX5_word_107 fl_X5_75_5 (MR_k hm) (fun _ _ => rfl) (MR_r28 hm) ?_
          refine r_iload_n (pc := 110) dX5_word_110 rfl ?_
          refine rm_iald (pc := 111) dX5_word_111 (MR_k28 hm) (MR_z28 hm) (by first | assumption | exact vp_in_lit rfl) ?_
          rw [eq, hwd q (by omega)]
          refine r_if_eq (pc := 112) 121 dX5_word_112 rfl (fun _ => ?_) (fun hno => False.elim (hno ((wr_end w (by omega) q (by omega) ho (by omega)).mpr (by omega))))
          refine r_iinc1 (pc := 121) dX5_word_121 (nI_1 _) rfl ?_
          refine r_iinc3 (pc := 124) dX5_word_124 (nI_1 _) rfl ?_
          refine r_goto (pc := 127) 9 dX5_word_127 rfl ?_
          rw [show q + 1 = offW (w + 1) by omega]
          exact ih (w + 1) fr _ _ (by omega) hfr hw2
        | succ d ic =>
          intro q v4 v5 hq ho
          have hv : vp_in (nI q) 37 := vp_in_nI (by omega) (by decide)
          have eq : Int32.toNatClampNeg (nI q) = q := ix_nI (by omega)
          refine r_aload_n (pc := 106) dX5_word_106 rfl ?_
          refine r_getR (pc := 107) dX5_word_107 fl_X5_75_5 (MR_k hm) (fun _ _ => rfl) (MR_r28 hm) ?_
          refine r_iload_n (pc := 110) dX5_word_110 rfl ?_
          refine rm_iald (pc := 111) dX5_word_111 (MR_k28 hm) (MR_z28 hm) (by first | assumption | exact vp_in_lit rfl) ?_
          rw [eq, hwd q (by omega)]
          refine r_if_eq (pc := 112) 121 dX5_word_112 rfl (fun hno => False.elim (absurd ((wr_end w (by omega) q (by omega) ho (by omega)).mp hno) (by omega))) (fun _ => ?_)
          refine r_iinc1 (pc := 115) dX5_word_115 (nI_1 _) rfl ?_
          refine r_goto (pc := 118) 106 dX5_word_118 rfl ?_
          exact ic (q + 1) _ _ (by omega) (by omega)
      have K75 : offW w + m < 37 → Wx (YX5_word, (0, 0, 0, 0), qi (fun r M' => r = (wdC (fun i => (L (mo + 17) (b + i)).toInt32) en a).1 ∧ M' = wIL M0 (if (wdC (fun i => (L (mo + 17) (b + i)).toInt32) en a).1 = -1 then up2 J mo 34 (nI (wdC (fun i => (L (mo + 17) (b + i)).toInt32) en a).2) else up2 J mo 31 (nI (wdC (fun i => (L (mo + 17) (b + i)).toInt32) en a).2)) L), noX) 0 0 (wIL M0 J L) 75 [some (.ref mo), some (.int (nI (offW w))), some (.int (nI far)), some (.int (nI w)), some (.int (nI (a + m))), some (.int (nI (offW w + m)))] [] := by
        intro hlt
        have hv : vp_in (nI (offW w + m)) 37 := vp_in_nI hlt (by decide)
        have eq : Int32.toNatClampNeg (nI (offW w + m)) = offW w + m := ix_nI (by omega)
        refine r_aload_n (pc := 75) dX5_word_75 rfl ?_
        refine r_getR (pc := 76) dX5_word_76 fl_X5_75_5 (MR_k hm) (fun _ _ => rfl) (MR_r28 hm) ?_
        refine r_iload (pc := 79) dX5_word_79 rfl ?_
        refine rm_iald (pc := 81) dX5_word_81 (MR_k28 hm) (MR_z28 hm) (by first | assumption | exact vp_in_lit rfl) ?_
        rw [eq, hwd _ hlt]
        refine r_if_ne (pc := 82) 93 dX5_word_82 rfl (fun h82 => ?_) (fun h82 => ?_)
        · rw [if_neg h82] at hw
          refine r_iload (pc := 93) dX5_word_93 rfl ?_
          refine r_iload_n (pc := 95) dX5_word_95 rfl ?_
          refine r_icmp_le (pc := 96) 104 dX5_word_96 rfl (fun h96 => ?_) (fun h96 => ?_)
          · rw [nI_ltI (by omega) (by omega)] at h96
            rw [if_neg h96] at hw
            refine r_iload_n (pc := 104) dX5_word_104 rfl ?_
            refine r_istore2 (pc := 105) dX5_word_105 rfl ?_
            first
              | exact L3 _ (by omega) hw (offW (w + 1) - 1 - offW w) (offW w) _ _ (by omega) (Nat.le_refl _)
          · rw [nI_ltI (by omega) (by omega)] at h96
            rw [if_pos h96] at hw
            refine r_iload (pc := 99) dX5_word_99 rfl ?_
            refine r_goto (pc := 101) 105 dX5_word_101 rfl ?_
            refine r_istore2 (pc := 105) dX5_word_105 rfl ?_
            first
              | exact L3 _ (by omega) hw (offW (w + 1) - 1 - offW w) (offW w) _ _ (by omega) (Nat.le_refl _)
        · rw [if_pos (by simpa using h82)] at hw
          refine r_aload_n (pc := 85) dX5_word_85 rfl ?_
          refine r_iload (pc := 86) dX5_word_86 rfl ?_
          refine rm_putI (pc := 88) dX5_word_88 fl_X5_184_5 (MR_k hm) rfl rfl ?_
          refine r_iload_n (pc := 91) dX5_word_91 rfl ?_
          refine r_ireturn (pc := 92) rfl dX5_word_92 ⟨_, rfl, ?_⟩
          refine ⟨by rw [hw], ?_⟩
          rw [hw, if_neg (fun h => absurd (congrArg Int32.toInt h) (by rw [nI_toInt (by omega), c_m1]; omega))]
      have L2 : ∀ (g q x : Nat), q < 37 → x ≤ en → (∃ z, z ≤ g ∧ ¬ 0 < wrdC (q + z)) → q + mtC (fun i => (L (mo + 17) (b + i)).toInt32) en 0 g q x = offW w + m → x + mtC (fun i => (L (mo + 17) (b + i)).toInt32) en 0 g q x = a + m → Wx (YX5_word, (0, 0, 0, 0), qi (fun r M' => r = (wdC (fun i => (L (mo + 17) (b + i)).toInt32) en a).1 ∧ M' = wIL M0 (if (wdC (fun i => (L (mo + 17) (b + i)).toInt32) en a).1 = -1 then up2 J mo 34 (nI (wdC (fun i => (L (mo + 17) (b + i)).toInt32) en a).2) else up2 J mo 31 (nI (wdC (fun i => (L (mo + 17) (b + i)).toInt32) en a).2)) L), noX) 0 0 (wIL M0 J L) 24 [some (.ref mo), some (.int (nI (offW w))), some (.int (nI far)), some (.int (nI w)), some (.int (nI x)), some (.int (nI q))] [] := by
        intro g
        induction g with
        | zero =>
          intro q x hq hxe hz e1 e2
          obtain ⟨z, hz1, hz2⟩ := hz
          have : z = 0 := by omega
          subst this
          have e1 : q = offW w + m := e1
          have e2 : x = a + m := e2
          have hv : vp_in (nI q) 37 := vp_in_nI hq (by decide)
          have eq : Int32.toNatClampNeg (nI q) = q := ix_nI (by omega)
          refine r_aload_n (pc := 24) dX5_word_24 rfl ?_
          refine r_getR (pc := 25) dX5_word_25 fl_X5_75_5 (MR_k hm) (fun _ _ => rfl) (MR_r28 hm) ?_
          refine r_iload (pc := 28) dX5_word_28 rfl ?_
          refine rm_iald (pc := 30) dX5_word_30 (MR_k28 hm) (MR_z28 hm) (by first | assumption | exact vp_in_lit rfl) ?_
          rw [eq, hwd q hq]
          refine r_if_eq (pc := 31) 75 dX5_word_31 rfl (fun _ => ?_) (fun hno => False.elim (hz2 ((wr_pos q hq).resolve_left hno)))
          rw [e1, e2]
          exact K75 (by omega)
        | succ g ig =>
          intro q x hq hxe hz e1 e2
          have hv : vp_in (nI q) 37 := vp_in_nI hq (by decide)
          have eq : Int32.toNatClampNeg (nI q) = q := ix_nI (by omega)
          rw [mtC] at e1 e2
          refine r_aload_n (pc := 24) dX5_word_24 rfl ?_
          refine r_getR (pc := 25) dX5_word_25 fl_X5_75_5 (MR_k hm) (fun _ _ => rfl) (MR_r28 hm) ?_
          refine r_iload (pc := 28) dX5_word_28 rfl ?_
          refine rm_iald (pc := 30) dX5_word_30 (MR_k28 hm) (MR_z28 hm) (by first | assumption | exact vp_in_lit rfl) ?_
          rw [eq, hwd q hq]
          refine r_if_eq (pc := 31) 75 dX5_word_31 rfl (fun h31 => ?_) (fun h31 => ?_)
          · rw [if_neg (fun z => by rw [h31] at z; exact absurd z.1 (by decide))] at e1 e2
            have e1 : q = offW w + m := e1
            have e2 : x = a + m := e2
            rw [e1, e2]
            exact K75 (by omega)
          · refine r_iload (pc := 34) dX5_word_34 rfl ?_
            refine r_aload_n (pc := 36) dX5_word_36 rfl ?_
            refine rm_getI (pc := 37) dX5_word_37 fl_X5_187_5 (MR_k hm) (fun _ _ => rfl) ?_
            rw [e32]
            refine r_icmp_ge (pc := 40) 75 dX5_word_40 rfl (fun h40 => ?_) (fun h40 => ?_)
            · rw [nI_ltI (by omega) (by omega)] at h40
              rw [if_neg (fun z => h40 z.2.1)] at e1 e2
              have e1 : q = offW w + m := e1
              have e2 : x = a + m := e2
              rw [e1, e2]
              exact K75 (by omega)
            · rw [nI_ltI (by omega) (by omega)] at h40
              refine r_aload_n (pc := 43) dX5_word_43 rfl ?_
              refine r_getR (pc := 44) dX5_word_44 fl_X5_68_5 (MR_k hm) (fun _ _ => rfl) (MR_r26 hm) ?_
              refine r_aload_n (pc := 47) dX5_word_47 rfl ?_
              refine rm_getI (pc := 48) dX5_word_48 fl_X5_190_5 (MR_k hm) (fun _ _ => rfl) ?_
              rw [e30]
              refine r_iload (pc := 51) dX5_word_51 rfl ?_
              refine r_iadd (pc := 53) dX5_word_53 ?_
              refine r_eqi (nI (b + x)) (by rw [nI_add]) ?_
              refine rm_lald (pc := 54) dX5_word_54 (MR_k26 hm) (MR_z26 hm) (vp_in_nI (by omega) (by decide)) ?_
              rw [ix_nI (by omega)]
              refine r_l2i (pc := 55) dX5_word_55 ?_
              refine r_aload_n (pc := 56) dX5_word_56 rfl ?_
              refine r_getR (pc := 57) dX5_word_57 fl_X5_75_5 (MR_k hm) (fun _ _ => rfl) (MR_r28 hm) ?_
              refine r_iload (pc := 60) dX5_word_60 rfl ?_
              refine rm_iald (pc := 62) dX5_word_62 (MR_k28 hm) (MR_z28 hm) (by first | assumption | exact vp_in_lit rfl) ?_
              rw [eq, hwd q hq]
              refine r_icmp_ne (pc := 63) 75 dX5_word_63 rfl (fun h63 => ?_) (fun h63 => ?_)
              · rw [if_neg (fun z => h63 z.2.2)] at e1 e2
                have e1 : q = offW w + m := e1
                have e2 : x = a + m := e2
                rw [e1, e2]
                exact K75 (by omega)
              · have h31' := (wr_pos q hq).resolve_left h31
                rw [if_pos ⟨h31', h40, h63⟩] at e1 e2
                refine r_iinc4 (pc := 66) dX5_word_66 (nI_1 _) rfl ?_
                refine r_iinc5 (pc := 69) dX5_word_69 (nI_1 _) rfl ?_
                refine r_goto (pc := 72) 24 dX5_word_72 rfl ?_
                obtain ⟨z, hz1, hz2⟩ := hz
                have hz0 : z ≠ 0 := fun e => by subst e; exact hz2 h31'
                exact ig (q + 1) (x + 1) (wr_in q hq h31) (by omega) ⟨z - 1, by omega, by rw [show q + 1 + (z - 1) = q + z by omega]; exact hz2⟩ (by omega) (by omega)
      refine r_iload_n (pc := 9) dX5_word_9 rfl ?_
      refine r_bipush (pc := 10) (v := 6) dX5_word_10 (by decide) ?_
      refine r_icmp_ge (pc := 12) 130 dX5_word_12 rfl (fun hno => False.elim (by rw [show (6 : Int32) = nI 6 from rfl, nI_ltI (by omega) (by omega)] at hno; omega)) (fun _ => ?_)
      refine r_aload_n (pc := 15) dX5_word_15 rfl ?_
      refine rm_getI (pc := 16) dX5_word_16 fl_X5_184_5 (MR_k hm) (fun _ _ => rfl) ?_
      rw [ea]
      refine r_istore4 (pc := 19) dX5_word_19 rfl ?_
      refine r_iload_n (pc := 21) dX5_word_21 rfl ?_
      refine r_istore5 (pc := 22) dX5_word_22 rfl ?_
      exact L2 7 (offW w) a (by omega) ha ⟨offW (w + 1) - 1 - offW w, by omega, by rw [show offW w + (offW (w + 1) - 1 - offW w) = offW (w + 1) - 1 by omega]; exact z1⟩ (by rw [hm7]) (by rw [hm7])
  refine r_iconst (pc := 0) (v := 0) dX5_word_0 (by decide) ?_
  refine r_istore1 (pc := 1) dX5_word_1 rfl ?_
  refine r_aload_n (pc := 2) dX5_word_2 rfl ?_
  refine rm_getI (pc := 3) dX5_word_3 fl_X5_184_5 (MR_k hm) (fun _ _ => rfl) ?_
  rw [ea]
  refine r_istore2 (pc := 6) dX5_word_6 rfl ?_
  refine r_iconst (pc := 7) (v := 0) dX5_word_7 (by decide) ?_
  refine r_istore3 (pc := 8) dX5_word_8 rfl ?_
  exact L1 6 0 a _ _ rfl ha rfl
