/-! THE MODEL's calls: an item, the valley (printed by gen/model13.py) -/
set_option maxRecDepth 100000
theorem dX.fr {J K : Nat → Nat → Int32} {L : Nat → Nat → Int64} {mo : Nat} (h : dX J K mo) : frM mo J K L L := fun x hx => ⟨h.1 x (by omega) (by omega), rfl⟩
theorem tx_of {J K : Nat → Nat → Int32} {mo b en : Nat} (h28 : sM K mo 28 = sM J mo 28) (h30 : sM K mo 30 = sM J mo 30) (h32 : sM K mo 32 = sM J mo 32) (g : txM J mo b en) : txM K mo b en := by
  have e30 : K mo 30 = J mo 30 := congrFun h30 0
  have e32 : K mo 32 = J mo 32 := congrFun h32 0
  have e28 : K (mo + 19) = J (mo + 19) := h28
  exact ⟨e30.trans g.1, e32.trans g.2.1, g.2.2.1, g.2.2.2.1, fun i hi => by rw [e28]; exact g.2.2.2.2 i hi⟩
theorem thS_k {σ : cS} {a w e q : Int32} {k : Nat} (h : k ≠ 0) (h2 : k < 11 ∨ 16 < k) : thingsS σ a w e q k = σ k := by
  unfold thingsS
  rw [up2_ne h, up2_ne (by omega), up2_ne (by omega), up2_ne (by omega), up2_ne (by omega), up2_ne (by omega), up2_ne (by omega)]
theorem mnS_k {σ : cS} {a : Int32} {k : Nat} (h : k ≠ 1) (h2 : k < 17 ∨ 18 < k) : menS σ a k = σ k := by
  unfold menS
  rw [up2_ne h, up2_ne (by omega), up2_ne (by omega)]
theorem waS_k {σ : cS} {a w e : Int32} {k : Nat} (h : k ≠ 2) (h2 : k < 19 ∨ 21 < k) : wantedS σ a w e k = σ k := by
  unfold wantedS
  rw [up2_ne h, up2_ne (by omega), up2_ne (by omega), up2_ne (by omega)]
theorem app_k {σ : cS} {w : Int32} {tl : Nat → Int32} {k : Nat} (h : ¬ (k < 9 ∨ (11 ≤ k ∧ k ≤ 21))) : appC σ w tl k = σ k := by
  unfold appC
  split
  · exact thS_k (by omega) (by omega)
  · split
    · exact mnS_k (by omega) (by omega)
    · split
      · exact waS_k (by omega) (by omega)
      · split
        · exact up2_ne (by omega)
        · split
          · rw [up2_ne (by omega), up2_ne (by omega)]
          · exact up2_ne (by omega)
theorem item_k {σ : cS} {c : Nat → Int32} {en a k : Nat} (h : ¬ (k < 9 ∨ (11 ≤ k ∧ k ≤ 21))) : (itemC σ c en a).2.1 k = σ k := by
  unfold itemC
  by_cases c1 : ∃ f, f < 6 ∧ isWP c en a f ∧ fulP σ (nI f)
  · rw [cI_t c1]
  · rw [cI_f c1]
    by_cases c2 : (wdC c en a).1 = -1
    · rw [if_pos c2]
    · rw [if_neg c2]
      by_cases c3 : fulP σ (wdC c en a).1
      · rw [cI_t c3]
      · rw [cI_f c3]
        unfold itmC
        split
        · exact app_k h
        · rfl
theorem arg_c {σ τ : cS} (h : eqX σ τ) {c : Nat → Int32} {en : Nat} {w : Int32} : ∀ (n i : Nat) (tl : Nat → Int32) (a : Nat), argC σ c en w n i tl a = argC τ c en w n i tl a
  | 0, _, _, _ => rfl
  | n + 1, i, tl, a => by rw [argC, argC, h.fit, arg_c h n]
theorem app_c {σ τ : cS} (h : eqX σ τ) {w : Int32} {tl : Nat → Int32} : eqX (appC σ w tl) (appC τ w tl) := by
  unfold appC
  split
  · exact h.things
  · split
    · exact h.men
    · split
      · exact h.wanted
      · split
        · exact h.up
        · split
          · exact h.up.up
          · exact h.up
theorem item_c {σ τ : cS} (h : eqX σ τ) {c : Nat → Int32} {en a : Nat} : (itemC σ c en a).1 = (itemC τ c en a).1 ∧ (itemC σ c en a).2.2 = (itemC τ c en a).2.2 ∧ eqX (itemC σ c en a).2.1 (itemC τ c en a).2.1 := by
  have e : (∃ f, f < 6 ∧ isWP c en a f ∧ fulP σ (nI f)) = (∃ f, f < 6 ∧ isWP c en a f ∧ fulP τ (nI f)) := by
    congr 1; funext f; rw [h.ful]
  unfold itemC itmC
  rw [e, h.ful]
  simp only [arg_c h]
  by_cases c1 : ∃ f, f < 6 ∧ isWP c en a f ∧ fulP τ (nI f)
  · rw [cI_t c1, cI_t c1]; exact ⟨rfl, rfl, h⟩
  · rw [cI_f c1, cI_f c1]
    by_cases c2 : (wdC c en a).1 = -1
    · rw [if_pos c2, if_pos c2]; exact ⟨rfl, rfl, h⟩
    · rw [if_neg c2, if_neg c2]
      by_cases c3 : fulP τ (wdC c en a).1
      · rw [cI_t c3, cI_t c3]; exact ⟨rfl, rfl, h⟩
      · rw [cI_f c3, cI_f c3]
        split
        · exact ⟨rfl, rfl, app_c h⟩
        · exact ⟨rfl, rfl, h⟩
theorem fit_0 {σ : cS} {w t t' v : Int32} : fitP σ w 0 t v = fitP σ w 0 t' v := by unfold fitP; simp only [if_true]
theorem ct_X5_item {M0 : PM} {mo : Nat} {L : Nat → Nat → Int64} (hm : MR M0 mo) (J : Nat → Nat → Int32) (b en a : Nat) (hx : txM J mo b en) (ha : a ≤ en) (ea : J mo 31 = nI a) (hk : OkW (sM J mo)) : Ct (YX5_item, (3, 72, 0, 0), qi (fun r M' => ∃ K, M' = wIL M0 K L ∧ frM mo J K L L ∧ txM K mo b en ∧ K (mo + 21) = J (mo + 21) ∧ eqX (sM K mo) (itemC (sM J mo) (fun i => (L (mo + 17) (b + i)).toInt32) en a).2.1 ∧ ((itemC (sM J mo) (fun i => (L (mo + 17) (b + i)).toInt32) en a).1 = true → r = 1 ∧ K mo 31 = nI (itemC (sM J mo) (fun i => (L (mo + 17) (b + i)).toInt32) en a).2.2) ∧ (¬ (itemC (sM J mo) (fun i => (L (mo + 17) (b + i)).toInt32) en a).1 = true → r = 0 ∧ K mo 34 = nI (itemC (sM J mo) (fun i => (L (mo + 17) (b + i)).toInt32) en a).2.2)), noX) [.ref mo] (wIL M0 J L) := by
  refine ct_of [some (.ref mo), none, none, none, none, none] rfl rfl rfl (Nat.le_of_ble_eq_true rfl) rfl rfl ?_
  have e30 := hx.1
  have e32 := hx.2.1
  have h160 := hx.2.2.1
  have h1280 := hx.2.2.2.1
  have flt : ∀ (K : Nat → Nat → Int32) (q : Nat), dX J K mo → itemC (sM J mo) (fun i => (L (mo + 17) (b + i)).toInt32) en a = (false, sM J mo, q) → K mo 34 = nI q → ∃ K', wIL M0 K L = wIL M0 K' L ∧ frM mo J K' L L ∧ txM K' mo b en ∧ K' (mo + 21) = J (mo + 21) ∧ eqX (sM K' mo) (itemC (sM J mo) (fun i => (L (mo + 17) (b + i)).toInt32) en a).2.1 ∧ ((itemC (sM J mo) (fun i => (L (mo + 17) (b + i)).toInt32) en a).1 = true → (0 : Int32) = 1 ∧ K' mo 31 = nI (itemC (sM J mo) (fun i => (L (mo + 17) (b + i)).toInt32) en a).2.2) ∧ (¬ (itemC (sM J mo) (fun i => (L (mo + 17) (b + i)).toInt32) en a).1 = true → (0 : Int32) = 0 ∧ K' mo 34 = nI (itemC (sM J mo) (fun i => (L (mo + 17) (b + i)).toInt32) en a).2.2) := by
    intro K q d1 hi hq
    refine ⟨K, rfl, d1.fr, d1.tx hx, d1.1 _ (by omega) (by omega), by rw [hi]; exact d1.eq, fun h => ?_, fun _ => ⟨rfl, by rw [hi]; exact hq⟩⟩
    rw [hi] at h
    exact (Bool.false_ne_true h).elim
  have Larg : ∀ (wv : Int32) (N b2 : Nat), N ≤ 4 → numW wv = N → itemC (sM J mo) (fun i => (L (mo + 17) (b + i)).toInt32) en a = itmC (sM J mo) (fun i => (L (mo + 17) (b + i)).toInt32) en a wv b2 → (∀ (J2 : Nat → Nat → Int32) (tl : Nat → Int32) (x : Nat) (o : Option Value), dX J J2 mo → J2 mo 31 = nI x → x ≤ en → (∀ j, j < N → J2 (mo + 20) j = tl j) → argC (sM J mo) (fun i => (L (mo + 17) (b + i)).toInt32) en wv N 0 (fun _ => 0) b2 = (true, tl, x) → Wx (YX5_item, (3, 72, 0, 0), qi (fun r M' => ∃ K, M' = wIL M0 K L ∧ frM mo J K L L ∧ txM K mo b en ∧ K (mo + 21) = J (mo + 21) ∧ eqX (sM K mo) (itemC (sM J mo) (fun i => (L (mo + 17) (b + i)).toInt32) en a).2.1 ∧ ((itemC (sM J mo) (fun i => (L (mo + 17) (b + i)).toInt32) en a).1 = true → r = 1 ∧ K mo 31 = nI (itemC (sM J mo) (fun i => (L (mo + 17) (b + i)).toInt32) en a).2.2) ∧ (¬ (itemC (sM J mo) (fun i => (L (mo + 17) (b + i)).toInt32) en a).1 = true → r = 0 ∧ K mo 34 = nI (itemC (sM J mo) (fun i => (L (mo + 17) (b + i)).toInt32) en a).2.2)), noX) 0 0 (wIL M0 J2 L) 246 [some (.ref mo), some (.int (nI a)), some (.int wv), some (.int (nI N)), some (.int (nI N)), o] []) → ∀ (n i : Nat) (J2 : Nat → Nat → Int32) (tl : Nat → Int32) (x : Nat) (o : Option Value), i + n = N → dX J J2 mo → J2 mo 31 = nI x → x ≤ en → (∀ j, j < i → J2 (mo + 20) j = tl j) → argC (sM J mo) (fun i => (L (mo + 17) (b + i)).toInt32) en wv N 0 (fun _ => 0) b2 = argC (sM J mo) (fun i => (L (mo + 17) (b + i)).toInt32) en wv n i tl x → Wx (YX5_item, (3, 72, 0, 0), qi (fun r M' => ∃ K, M' = wIL M0 K L ∧ frM mo J K L L ∧ txM K mo b en ∧ K (mo + 21) = J (mo + 21) ∧ eqX (sM K mo) (itemC (sM J mo) (fun i => (L (mo + 17) (b + i)).toInt32) en a).2.1 ∧ ((itemC (sM J mo) (fun i => (L (mo + 17) (b + i)).toInt32) en a).1 = true → r = 1 ∧ K mo 31 = nI (itemC (sM J mo) (fun i => (L (mo + 17) (b + i)).toInt32) en a).2.2) ∧ (¬ (itemC (sM J mo) (fun i => (L (mo + 17) (b + i)).toInt32) en a).1 = true → r = 0 ∧ K mo 34 = nI (itemC (sM J mo) (fun i => (L (mo + 17) (b + i)).toInt32) en a).2.2)), noX) 0 0 (wIL M0 J2 L) 133 [some (.ref mo), some (.int (nI a)), some (.int wv), some (.int (nI N)), some (.int (nI i)), o] [] := by
    intro wv N b2 hN4 hNw hIt K246 n
    have fl2 : ∀ (tl : Nat → Int32) (q : Nat), argC (sM J mo) (fun i => (L (mo + 17) (b + i)).toInt32) en wv N 0 (fun _ => 0) b2 = (false, tl, q) → itemC (sM J mo) (fun i => (L (mo + 17) (b + i)).toInt32) en a = (false, sM J mo, q) := by
      intro tl q h
      rw [hIt, itmC, hNw, h, if_neg Bool.false_ne_true]
    induction n with
    | zero =>
      intro i J2 tl x o hi d2 e31 hxe ht hw
      refine r_iload (pc := 133) dX5_item_133 rfl ?_
      refine r_iload_n (pc := 135) dX5_item_135 rfl ?_
      refine r_icmp_ge (pc := 136) 246 dX5_item_136 rfl (fun _ => ?_) (fun hno => False.elim (by rw [nI_ltI (by omega) (by omega)] at hno; omega))
      have hiN : i = N := by omega
      subst hiN
      exact K246 J2 tl x _ d2 e31 hxe ht hw
    | succ n ih =>
      intro i J2 tl x o hi d2 e31 hxe ht hw
      have x2 := d2.tx hx
      have hv : vp_in (nI i) 4 := vp_in_nI (by omega) (by decide)
      have ei : Int32.toNatClampNeg (nI i) = i := ix_nI (by omega)
      rw [argC] at hw
      have Lnum : ∀ (J3 : Nat → Nat → Int32) (y : Nat), dX J J3 mo → J3 mo 31 = nI y → y ≤ en → (∀ j, j < i → J3 (mo + 20) j = tl j) → argC (sM J mo) (fun i => (L (mo + 17) (b + i)).toInt32) en wv N 0 (fun _ => 0) b2 = cI (dgP (fun i => (L (mo + 17) (b + i)).toInt32) en y) (cI (fitP (sM J mo) wv (nI i) (tl 0) (numC (fun i => (L (mo + 17) (b + i)).toInt32) en y).1) (argC (sM J mo) (fun i => (L (mo + 17) (b + i)).toInt32) en wv n (i + 1) (va_up tl i (numC (fun i => (L (mo + 17) (b + i)).toInt32) en y).1) (numC (fun i => (L (mo + 17) (b + i)).toInt32) en y).2) (false, tl, y)) (false, tl, y) → Wx (YX5_item, (3, 72, 0, 0), qi (fun r M' => ∃ K, M' = wIL M0 K L ∧ frM mo J K L L ∧ txM K mo b en ∧ K (mo + 21) = J (mo + 21) ∧ eqX (sM K mo) (itemC (sM J mo) (fun i => (L (mo + 17) (b + i)).toInt32) en a).2.1 ∧ ((itemC (sM J mo) (fun i => (L (mo + 17) (b + i)).toInt32) en a).1 = true → r = 1 ∧ K mo 31 = nI (itemC (sM J mo) (fun i => (L (mo + 17) (b + i)).toInt32) en a).2.2) ∧ (¬ (itemC (sM J mo) (fun i => (L (mo + 17) (b + i)).toInt32) en a).1 = true → r = 0 ∧ K mo 34 = nI (itemC (sM J mo) (fun i => (L (mo + 17) (b + i)).toInt32) en a).2.2)), noX) 0 0 (wIL M0 J3 L) 194 [some (.ref mo), some (.int (nI a)), some (.int wv), some (.int (nI N)), some (.int (nI i)), o] [] := by
        intro J3 y d3 f31 hy ht3 hw3
        have x3 := d3.tx hx
        by_cases hd : dgP (fun i => (L (mo + 17) (b + i)).toInt32) en y
        · rw [cI_t hd] at hw3
          have hok := num_ok hd
          refine r_aload_n (pc := 194) dX5_item_194 rfl ?_
          refine rm_getI (pc := 195) dX5_item_195 fl_X5_184_5 (MR_k hm) (fun _ _ => rfl) ?_
          rw [f31]
          refine r_istore5 (pc := 198) dX5_item_198 rfl ?_
          refine r_aload_n (pc := 200) dX5_item_200 rfl ?_
          refine r_iconst (pc := 201) (v := 0) dX5_item_201 (by decide) ?_
          refine r_bipush (pc := 202) (v := 99) dX5_item_202 (by decide) ?_
          refine r_o3 (pc := 204) (bc' := 0) (bs' := 0) (ct_X5_number1 hm J3 b en y x3 hy f31 hd) k_X5_213_5 dX5_item_204 (MR_k hm) (Nat.le_of_ble_eq_true rfl) ⟨Nat.le_of_ble_eq_true rfl, Nat.le_of_ble_eq_true rfl⟩ ⟨Nat.le_of_ble_eq_true rfl, Nat.le_of_ble_eq_true rfl⟩ (r_ci fun r204 M204 p204 => ?_) nox
          obtain ⟨rfl, J4, rfl, d4, e20, g33, g31⟩ := p204
          have d5 := d3.trans d4
          have k5 : OkW (sM J4 mo) := d5.eq.ok hk
          refine r_if_ne (pc := 207) 212 dX5_item_207 rfl (fun _ => ?_) (fun hno => False.elim (absurd hno (by decide)))
          refine r_aload_n (pc := 212) dX5_item_212 rfl ?_
          refine r_iload_n (pc := 213) dX5_item_213 rfl ?_
          refine r_iload (pc := 214) dX5_item_214 rfl ?_
          refine r_o3 (pc := 216) (bc' := 0) (bs' := 0) (ct_X5_isFit hm _ _ k5) k_X5_216_5 dX5_item_216 (MR_k hm) (Nat.le_of_ble_eq_true rfl) ⟨Nat.le_of_ble_eq_true rfl, Nat.le_of_ble_eq_true rfl⟩ ⟨Nat.le_of_ble_eq_true rfl, Nat.le_of_ble_eq_true rfl⟩ (r_ci fun r216 M216 p216 => ?_) nox
          obtain ⟨rfl, rfl⟩ := p216
          have hfit : fitP (sM J4 mo) wv (nI i) (J4 (mo + 20) 0) (J4 mo 33) = fitP (sM J mo) wv (nI i) (tl 0) (numC (fun i => (L (mo + 17) (b + i)).toInt32) en y).1 := by
            rw [d5.eq.fit, g33]
            by_cases i0 : i = 0
            · subst i0; exact fit_0
            · rw [e20, ht3 0 (by omega)]
          rw [hfit]
          refine r_if_ne (pc := 219) 229 dX5_item_219 rfl (fun h219 => ?_) (fun h219 => ?_)
          · rw [bI_ne0] at h219
            rw [cI_t h219] at hw3
            refine r_aload_n (pc := 229) dX5_item_229 rfl ?_
            refine r_getR (pc := 230) dX5_item_230 fl_X5_78_5 (MR_k hm) (fun _ _ => rfl) (MR_r29 hm) ?_
            refine r_iload (pc := 233) dX5_item_233 rfl ?_
            refine r_aload_n (pc := 235) dX5_item_235 rfl ?_
            refine rm_getI (pc := 236) dX5_item_236 fl_X5_200_5 (MR_k hm) (fun _ _ => rfl) ?_
            rw [g33]
            refine rm_iast (pc := 239) dX5_item_239 (MR_k29 hm) (MR_z29 hm) (by first | assumption | exact vp_in_lit rfl) ?_
            rw [ei]
            refine r_iinc4 (pc := 240) dX5_item_240 (nI_1 _) rfl ?_
            refine r_goto (pc := 243) 133 dX5_item_243 rfl ?_
            refine ih (i + 1) _ _ _ _ (by omega) ⟨fun z h1 h2 => (up2_ne h2).trans (d5.1 z h1 h2), fun k h1 h2 h3 => by rw [up2_ne (by omega)]; exact d5.2 k h1 h2 h3⟩ (by rw [up2_ne (by omega)]; exact g31) hok.2.2 (fun j hj => ?_) hw3
            rw [up2_self]
            by_cases e : j = i
            · subst e; rw [va_up_self, va_up_self]
            · rw [va_up_ne _ _ e, va_up_ne _ _ e, e20]; exact ht3 j (by omega)
          · rw [bI_eq0] at h219
            rw [cI_f h219] at hw3
            refine r_aload_n (pc := 222) dX5_item_222 rfl ?_
            refine r_iload (pc := 223) dX5_item_223 rfl ?_
            refine r_o2 (pc := 225) (bc' := 0) (bs' := 0) (ct_X5_wrong hm _) k_X5_197_5 dX5_item_225 (MR_k hm) (Nat.le_of_ble_eq_true rfl) ⟨Nat.le_of_ble_eq_true rfl, Nat.le_of_ble_eq_true rfl⟩ ⟨Nat.le_of_ble_eq_true rfl, Nat.le_of_ble_eq_true rfl⟩ (r_ci fun r225 M225 p225 => ?_) nox
            obtain ⟨rfl, rfl⟩ := p225
            refine r_zreturn (pc := 228) rfl rfl dX5_item_228 ⟨_, rfl, ?_⟩
            exact flt _ y (d5.up (Or.inr (Or.inr rfl))) (fl2 tl y hw3) (by rw [up2_self, va_up_self])
        · rw [cI_f hd] at hw3
          refine r_aload_n (pc := 194) dX5_item_194 rfl ?_
          refine rm_getI (pc := 195) dX5_item_195 fl_X5_184_5 (MR_k hm) (fun _ _ => rfl) ?_
          rw [f31]
          refine r_istore5 (pc := 198) dX5_item_198 rfl ?_
          refine r_aload_n (pc := 200) dX5_item_200 rfl ?_
          refine r_iconst (pc := 201) (v := 0) dX5_item_201 (by decide) ?_
          refine r_bipush (pc := 202) (v := 99) dX5_item_202 (by decide) ?_
          refine r_o3 (pc := 204) (bc' := 0) (bs' := 0) (ct_X5_number0 hm J3 b en y x3 hy f31 hd) k_X5_213_5 dX5_item_204 (MR_k hm) (Nat.le_of_ble_eq_true rfl) ⟨Nat.le_of_ble_eq_true rfl, Nat.le_of_ble_eq_true rfl⟩ ⟨Nat.le_of_ble_eq_true rfl, Nat.le_of_ble_eq_true rfl⟩ (r_ci fun r204 M204 p204 => ?_) nox
          obtain ⟨rfl, rfl⟩ := p204
          refine r_if_ne (pc := 207) 212 dX5_item_207 rfl (fun hno => False.elim (hno rfl)) (fun _ => ?_)
          refine r_iconst (pc := 210) (v := 0) dX5_item_210 (by decide) ?_
          refine r_zreturn (pc := 211) rfl rfl dX5_item_211 ⟨_, rfl, ?_⟩
          exact flt _ y (d3.up (Or.inr (Or.inr rfl))) (fl2 tl y hw3) (by rw [up2_self, va_up_self])
      refine r_iload (pc := 133) dX5_item_133 rfl ?_
      refine r_iload_n (pc := 135) dX5_item_135 rfl ?_
      refine r_icmp_ge (pc := 136) 246 dX5_item_136 rfl (fun hno => False.elim (by rw [nI_ltI (by omega) (by omega)] at hno; omega)) (fun _ => ?_)
      refine r_iload (pc := 139) dX5_item_139 rfl ?_
      refine r_if_le (pc := 141) 194 dX5_item_141 rfl (fun h141 => ?_) (fun h141 => ?_)
      · have h141' : ¬ 0 < i := by rw [show (0 : Int32) = nI 0 from rfl, nI_ltI (by omega) (by omega)] at h141; exact h141
        rw [cI_f (fun z => h141' z.1), if_neg h141'] at hw
        first
          | exact Lnum J2 x d2 e31 hxe ht hw
          | exact Lnum _ (x + 1) (d2.up (Or.inl rfl)) (by rw [up2_self, va_up_self]) (by omega) (fun j hj => by rw [up2_ne (by omega)]; exact ht j hj) hw
      · have h141' : 0 < i := by rw [show (0 : Int32) = nI 0 from rfl, nI_ltI (by omega) (by omega)] at h141; exact h141
        refine r_aload_n (pc := 144) dX5_item_144 rfl ?_
        refine rm_getI (pc := 145) dX5_item_145 fl_X5_184_5 (MR_k hm) (fun _ _ => rfl) ?_
        rw [e31]
        refine r_aload_n (pc := 148) dX5_item_148 rfl ?_
        refine rm_getI (pc := 149) dX5_item_149 fl_X5_187_5 (MR_k hm) (fun _ _ => rfl) ?_
        rw [x2.2.1]
        refine r_icmp_ge (pc := 152) 175 dX5_item_152 rfl (fun h152 => ?_) (fun h152 => ?_)
        · rw [nI_ltI (by omega) (by omega)] at h152
          rw [cI_t ⟨h141', fun z => h152 z.1⟩] at hw
          refine r_aload_n (pc := 175) dX5_item_175 rfl ?_
          refine r_aload_n (pc := 176) dX5_item_176 rfl ?_
          refine rm_getI (pc := 177) dX5_item_177 fl_X5_184_5 (MR_k hm) (fun _ _ => rfl) ?_
          rw [e31]
          refine r_o2 (pc := 180) (bc' := 0) (bs' := 0) (ct_X5_wrong hm _) k_X5_197_5 dX5_item_180 (MR_k hm) (Nat.le_of_ble_eq_true rfl) ⟨Nat.le_of_ble_eq_true rfl, Nat.le_of_ble_eq_true rfl⟩ ⟨Nat.le_of_ble_eq_true rfl, Nat.le_of_ble_eq_true rfl⟩ (r_ci fun r180 M180 p180 => ?_) nox
          obtain ⟨rfl, rfl⟩ := p180
          refine r_zreturn (pc := 183) rfl rfl dX5_item_183 ⟨_, rfl, ?_⟩
          exact flt _ x (d2.up (Or.inr (Or.inr rfl))) (fl2 tl x hw) (by rw [up2_self, va_up_self])
        · rw [nI_ltI (by omega) (by omega)] at h152
          refine r_aload_n (pc := 155) dX5_item_155 rfl ?_
          refine r_getR (pc := 156) dX5_item_156 fl_X5_68_5 (MR_k hm) (fun _ _ => rfl) (MR_r26 hm) ?_
          refine r_aload_n (pc := 159) dX5_item_159 rfl ?_
          refine rm_getI (pc := 160) dX5_item_160 fl_X5_190_5 (MR_k hm) (fun _ _ => rfl) ?_
          rw [x2.1]
          refine r_aload_n (pc := 163) dX5_item_163 rfl ?_
          refine rm_getI (pc := 164) dX5_item_164 fl_X5_184_5 (MR_k hm) (fun _ _ => rfl) ?_
          rw [e31]
          refine r_iadd (pc := 167) dX5_item_167 ?_
          refine r_eqi (nI (b + x)) (by rw [nI_add]) ?_
          refine rm_lald (pc := 168) dX5_item_168 (MR_k26 hm) (MR_z26 hm) (vp_in_nI (by omega) (by decide)) ?_
          rw [ix_nI (by omega)]
          refine r_l2i (pc := 169) dX5_item_169 ?_
          refine r_bipush (pc := 170) (v := 32) dX5_item_170 (by decide) ?_
          refine r_icmp_eq (pc := 172) 184 dX5_item_172 rfl (fun h172 => ?_) (fun h172 => ?_)
          · rw [cI_f (fun z => z.2 ⟨h152, h172⟩), if_pos h141'] at hw
            refine r_aload_n (pc := 184) dX5_item_184 rfl ?_
            refine r_dup (pc := 185) dX5_item_185 rfl ?_
            refine rm_getI (pc := 186) dX5_item_186 fl_X5_184_5 (MR_k hm) (fun _ _ => rfl) ?_
            rw [e31]
            refine r_iconst (pc := 189) (v := 1) dX5_item_189 (by decide) ?_
            refine r_iadd (pc := 190) dX5_item_190 ?_
            rw [nI_1]
            refine rm_putI (pc := 191) dX5_item_191 fl_X5_184_5 (MR_k hm) rfl rfl ?_
            first
              | exact Lnum J2 x d2 e31 hxe ht hw
              | exact Lnum _ (x + 1) (d2.up (Or.inl rfl)) (by rw [up2_self, va_up_self]) (by omega) (fun j hj => by rw [up2_ne (by omega)]; exact ht j hj) hw
          · rw [cI_t ⟨h141', fun z => h172 z.2⟩] at hw
            refine r_aload_n (pc := 175) dX5_item_175 rfl ?_
            refine r_aload_n (pc := 176) dX5_item_176 rfl ?_
            refine rm_getI (pc := 177) dX5_item_177 fl_X5_184_5 (MR_k hm) (fun _ _ => rfl) ?_
            rw [e31]
            refine r_o2 (pc := 180) (bc' := 0) (bs' := 0) (ct_X5_wrong hm _) k_X5_197_5 dX5_item_180 (MR_k hm) (Nat.le_of_ble_eq_true rfl) ⟨Nat.le_of_ble_eq_true rfl, Nat.le_of_ble_eq_true rfl⟩ ⟨Nat.le_of_ble_eq_true rfl, Nat.le_of_ble_eq_true rfl⟩ (r_ci fun r180 M180 p180 => ?_) nox
            obtain ⟨rfl, rfl⟩ := p180
            refine r_zreturn (pc := 183) rfl rfl dX5_item_183 ⟨_, rfl, ?_⟩
            exact flt _ x (d2.up (Or.inr (Or.inr rfl))) (fl2 tl x hw) (by rw [up2_self, va_up_self])
  have word0 : ∀ (b2 : Nat), b2 ≤ en → itemC (sM J mo) (fun i => (L (mo + 17) (b + i)).toInt32) en a = cI (fulP (sM J mo) 0) (false, sM J mo, a) (itmC (sM J mo) (fun i => (L (mo + 17) (b + i)).toInt32) en a 0 b2) → Wx (YX5_item, (3, 72, 0, 0), qi (fun r M' => ∃ K, M' = wIL M0 K L ∧ frM mo J K L L ∧ txM K mo b en ∧ K (mo + 21) = J (mo + 21) ∧ eqX (sM K mo) (itemC (sM J mo) (fun i => (L (mo + 17) (b + i)).toInt32) en a).2.1 ∧ ((itemC (sM J mo) (fun i => (L (mo + 17) (b + i)).toInt32) en a).1 = true → r = 1 ∧ K mo 31 = nI (itemC (sM J mo) (fun i => (L (mo + 17) (b + i)).toInt32) en a).2.2) ∧ (¬ (itemC (sM J mo) (fun i => (L (mo + 17) (b + i)).toInt32) en a).1 = true → r = 0 ∧ K mo 34 = nI (itemC (sM J mo) (fun i => (L (mo + 17) (b + i)).toInt32) en a).2.2)), noX) 0 0 (wIL M0 (up2 J mo 31 (nI b2)) L) 56 [some (.ref mo), some (.int (nI a)), some (.int 0), none, none, none] [] := by
    intro b2 hb2 hIt
    have d1 : dX J (up2 J mo 31 (nI b2)) mo := dX.rf.up (Or.inl rfl)
    have K246 : ¬ fulP (sM J mo) 0 → itemC (sM J mo) (fun i => (L (mo + 17) (b + i)).toInt32) en a = itmC (sM J mo) (fun i => (L (mo + 17) (b + i)).toInt32) en a 0 b2 → ∀ (J2 : Nat → Nat → Int32) (tl : Nat → Int32) (x : Nat) (o : Option Value), dX J J2 mo → J2 mo 31 = nI x → x ≤ en → (∀ j, j < 4 → J2 (mo + 20) j = tl j) → argC (sM J mo) (fun i => (L (mo + 17) (b + i)).toInt32) en 0 4 0 (fun _ => 0) b2 = (true, tl, x) → Wx (YX5_item, (3, 72, 0, 0), qi (fun r M' => ∃ K, M' = wIL M0 K L ∧ frM mo J K L L ∧ txM K mo b en ∧ K (mo + 21) = J (mo + 21) ∧ eqX (sM K mo) (itemC (sM J mo) (fun i => (L (mo + 17) (b + i)).toInt32) en a).2.1 ∧ ((itemC (sM J mo) (fun i => (L (mo + 17) (b + i)).toInt32) en a).1 = true → r = 1 ∧ K mo 31 = nI (itemC (sM J mo) (fun i => (L (mo + 17) (b + i)).toInt32) en a).2.2) ∧ (¬ (itemC (sM J mo) (fun i => (L (mo + 17) (b + i)).toInt32) en a).1 = true → r = 0 ∧ K mo 34 = nI (itemC (sM J mo) (fun i => (L (mo + 17) (b + i)).toInt32) en a).2.2)), noX) 0 0 (wIL M0 J2 L) 246 [some (.ref mo), some (.int (nI a)), some (.int 0), some (.int (nI 4)), some (.int (nI 4)), o] [] := by
      intro hnf hIt J2 tl x o d2 e31 hxe ht hw
      have hi : itemC (sM J mo) (fun i => (L (mo + 17) (b + i)).toInt32) en a = (true, appC (sM J mo) 0 tl, x) := by rw [hIt, itmC, show numW 0 = 4 from rfl, hw, if_pos rfl]
      have x2 := d2.tx hx
      have q0 : J2 mo 0 = J mo 0 := d2.2 0 (by decide) (by decide) (by decide)
      have hy : vp_in (J2 mo 0) 8 := by
        obtain ⟨q, hq, eq⟩ := bd_nI (n := 8) hk.1.1
        have eq : J mo 0 = nI q := eq
        rw [q0, eq]
        refine vp_in_nI ?_ (by decide)
        have : ¬ q = 8 := fun e2 => by
          have e : J mo 0 = 8 := by rw [eq, e2]; rfl
          exact hnf (Or.inl ⟨rfl, e⟩)
        omega
      refine r_iload_n (pc := 246) dX5_item_246 rfl ?_
      refine r_eqi 0 rfl ?_
      refine r_swIn (pc := 247) 280 dX5_item_247 (by decide) (by decide) rfl rfl ?_
      refine r_aload_n (pc := 280) dX5_item_280 rfl ?_
      refine r_aload_n (pc := 281) dX5_item_281 rfl ?_
      refine r_getR (pc := 282) dX5_item_282 fl_X5_78_5 (MR_k hm) (fun _ _ => rfl) (MR_r29 hm) ?_
      refine r_iconst (pc := 285) (v := 0) dX5_item_285 (by decide) ?_
      refine rm_iald (pc := 286) dX5_item_286 (MR_k29 hm) (MR_z29 hm) (by first | assumption | exact vp_in_lit rfl) ?_
      rw [show Int32.toNatClampNeg (0 : Int32) = 0 from rfl, ht 0 (by decide)]
      refine r_aload_n (pc := 287) dX5_item_287 rfl ?_
      refine r_getR (pc := 288) dX5_item_288 fl_X5_78_5 (MR_k hm) (fun _ _ => rfl) (MR_r29 hm) ?_
      refine r_iconst (pc := 291) (v := 1) dX5_item_291 (by decide) ?_
      refine rm_iald (pc := 292) dX5_item_292 (MR_k29 hm) (MR_z29 hm) (by first | assumption | exact vp_in_lit rfl) ?_
      rw [show Int32.toNatClampNeg (1 : Int32) = 1 from rfl, ht 1 (by decide)]
      refine r_aload_n (pc := 293) dX5_item_293 rfl ?_
      refine r_getR (pc := 294) dX5_item_294 fl_X5_78_5 (MR_k hm) (fun _ _ => rfl) (MR_r29 hm) ?_
      refine r_iconst (pc := 297) (v := 2) dX5_item_297 (by decide) ?_
      refine rm_iald (pc := 298) dX5_item_298 (MR_k29 hm) (MR_z29 hm) (by first | assumption | exact vp_in_lit rfl) ?_
      rw [show Int32.toNatClampNeg (2 : Int32) = 2 from rfl, ht 2 (by decide)]
      refine r_aload_n (pc := 299) dX5_item_299 rfl ?_
      refine r_getR (pc := 300) dX5_item_300 fl_X5_78_5 (MR_k hm) (fun _ _ => rfl) (MR_r29 hm) ?_
      refine r_iconst (pc := 303) (v := 3) dX5_item_303 (by decide) ?_
      refine rm_iald (pc := 304) dX5_item_304 (MR_k29 hm) (MR_z29 hm) (by first | assumption | exact vp_in_lit rfl) ?_
      rw [show Int32.toNatClampNeg (3 : Int32) = 3 from rfl, ht 3 (by decide)]
      refine r_o5 (pc := 305) (bc' := 0) (bs' := 0) (ct_X5_things hm _ _ _ _ hy) k_X5_150_5 dX5_item_305 (MR_k hm) (Nat.le_of_ble_eq_true rfl) ⟨Nat.le_of_ble_eq_true rfl, Nat.le_of_ble_eq_true rfl⟩ ⟨Nat.le_of_ble_eq_true rfl, Nat.le_of_ble_eq_true rfl⟩ (r_ci fun r305 M305 p305 => ?_) nox
      obtain ⟨-, K, rfl, eK, fK⟩ := p305
      refine r_pop (pc := 308) dX5_item_308 rfl ?_
      refine r_goto (pc := 309) 398 dX5_item_309 rfl ?_
      refine r_iconst (pc := 398) (v := 1) dX5_item_398 (by decide) ?_
      refine r_zreturn (pc := 399) rfl rfl dX5_item_399 ⟨_, rfl, ?_⟩
      refine ⟨_, rfl, ?_, ?_, ?_, ?_, fun _ => ⟨rfl, ?_⟩, fun h => absurd (show (itemC (sM J mo) (fun i => (L (mo + 17) (b + i)).toInt32) en a).1 = true by rw [hi]) h⟩
      · exact d2.fr.trans fK
      · exact tx_of (by rw [eK]; exact thS_k (by decide) (by decide)) (by rw [eK]; exact thS_k (by decide) (by decide)) (by rw [eK]; exact thS_k (by decide) (by decide)) x2
      · exact (show sM K mo 35 = sM J2 mo 35 by rw [eK]; exact thS_k (by decide) (by decide)).trans (d2.1 _ (by omega) (by omega))
      · rw [hi]; exact by rw [eK]; exact d2.eq.things
      · rw [hi]; exact (congrFun (show sM K mo 31 = sM J2 mo 31 by rw [eK]; exact thS_k (by decide) (by decide)) 0).trans e31
    refine r_iload_n (pc := 56) dX5_item_56 rfl ?_
    refine r_if_ne (pc := 57) 69 dX5_item_57 rfl (fun hno => absurd hno (by decide)) (fun _ => ?_)
    refine r_aload_n (pc := 60) dX5_item_60 rfl ?_
    refine rm_getI (pc := 61) dX5_item_61 fl_X5_117_5 (MR_k hm) (fun _ _ => rfl) ?_
    rw [show (up2 J mo 31 (nI b2)) mo 0 = J mo 0 from d1.2 0 (by decide) (by decide) (by decide)]
    refine r_bipush (pc := 64) (v := 8) dX5_item_64 (by decide) ?_
    refine r_icmp_eq (pc := 66) 96 dX5_item_66 rfl (fun h66 => ?_) (fun h66 => ?_)
    · rw [cI_t (show fulP (sM J mo) 0 from Or.inl ⟨rfl, h66⟩)] at hIt
      refine r_aload_n (pc := 96) dX5_item_96 rfl ?_
      refine r_iload_n (pc := 97) dX5_item_97 rfl ?_
      refine r_o2 (pc := 98) (bc' := 0) (bs' := 0) (ct_X5_wrong hm _) k_X5_197_5 dX5_item_98 (MR_k hm) (Nat.le_of_ble_eq_true rfl) ⟨Nat.le_of_ble_eq_true rfl, Nat.le_of_ble_eq_true rfl⟩ ⟨Nat.le_of_ble_eq_true rfl, Nat.le_of_ble_eq_true rfl⟩ (r_ci fun r98 M98 p98 => ?_) nox
      obtain ⟨rfl, rfl⟩ := p98
      refine r_zreturn (pc := 101) rfl rfl dX5_item_101 ⟨_, rfl, ?_⟩
      exact flt _ a (d1.up (Or.inr (Or.inr rfl))) hIt (by rw [up2_self, va_up_self])
    · have hnf : ¬ fulP (sM J mo) 0 := fun z => by rcases z with ⟨-, z⟩ | ⟨z, -⟩ | ⟨z, -⟩; exact h66 z; exact absurd z (by decide); exact absurd z (by decide)
      rw [cI_f hnf] at hIt
      refine r_iload_n (pc := 69) dX5_item_69 rfl ?_
      refine r_iconst (pc := 70) (v := 1) dX5_item_70 (by decide) ?_
      refine r_icmp_ne (pc := 71) 83 dX5_item_71 rfl (fun _ => ?_) (fun hno => absurd hno (by decide))
      refine r_iload_n (pc := 83) dX5_item_83 rfl ?_
      refine r_iconst (pc := 84) (v := 2) dX5_item_84 (by decide) ?_
      refine r_icmp_ne (pc := 85) 102 dX5_item_85 rfl (fun _ => ?_) (fun hno => absurd hno (by decide))
      refine r_iload_n (pc := 102) dX5_item_102 rfl ?_
      refine r_if_ne (pc := 103) 110 dX5_item_103 rfl (fun hno => absurd hno (by decide)) (fun _ => ?_)
      refine r_iconst (pc := 106) (v := 4) dX5_item_106 (by decide) ?_
      refine r_goto (pc := 107) 129 dX5_item_107 rfl ?_
      refine r_istore3 (pc := 129) dX5_item_129 rfl ?_
      refine r_iconst (pc := 130) (v := 0) dX5_item_130 (by decide) ?_
      refine r_istore4 (pc := 131) dX5_item_131 rfl ?_
      exact Larg 0 4 b2 (by decide) rfl hIt (K246 hnf hIt) 4 0 _ (fun _ => 0) b2 _ rfl d1 (by rw [up2_self, va_up_self]) hb2 (fun j hj => absurd hj (by omega)) rfl
  have word1 : ∀ (b2 : Nat), b2 ≤ en → itemC (sM J mo) (fun i => (L (mo + 17) (b + i)).toInt32) en a = cI (fulP (sM J mo) 1) (false, sM J mo, a) (itmC (sM J mo) (fun i => (L (mo + 17) (b + i)).toInt32) en a 1 b2) → Wx (YX5_item, (3, 72, 0, 0), qi (fun r M' => ∃ K, M' = wIL M0 K L ∧ frM mo J K L L ∧ txM K mo b en ∧ K (mo + 21) = J (mo + 21) ∧ eqX (sM K mo) (itemC (sM J mo) (fun i => (L (mo + 17) (b + i)).toInt32) en a).2.1 ∧ ((itemC (sM J mo) (fun i => (L (mo + 17) (b + i)).toInt32) en a).1 = true → r = 1 ∧ K mo 31 = nI (itemC (sM J mo) (fun i => (L (mo + 17) (b + i)).toInt32) en a).2.2) ∧ (¬ (itemC (sM J mo) (fun i => (L (mo + 17) (b + i)).toInt32) en a).1 = true → r = 0 ∧ K mo 34 = nI (itemC (sM J mo) (fun i => (L (mo + 17) (b + i)).toInt32) en a).2.2)), noX) 0 0 (wIL M0 (up2 J mo 31 (nI b2)) L) 56 [some (.ref mo), some (.int (nI a)), some (.int 1), none, none, none] [] := by
    intro b2 hb2 hIt
    have d1 : dX J (up2 J mo 31 (nI b2)) mo := dX.rf.up (Or.inl rfl)
    have K246 : ¬ fulP (sM J mo) 1 → itemC (sM J mo) (fun i => (L (mo + 17) (b + i)).toInt32) en a = itmC (sM J mo) (fun i => (L (mo + 17) (b + i)).toInt32) en a 1 b2 → ∀ (J2 : Nat → Nat → Int32) (tl : Nat → Int32) (x : Nat) (o : Option Value), dX J J2 mo → J2 mo 31 = nI x → x ≤ en → (∀ j, j < 1 → J2 (mo + 20) j = tl j) → argC (sM J mo) (fun i => (L (mo + 17) (b + i)).toInt32) en 1 1 0 (fun _ => 0) b2 = (true, tl, x) → Wx (YX5_item, (3, 72, 0, 0), qi (fun r M' => ∃ K, M' = wIL M0 K L ∧ frM mo J K L L ∧ txM K mo b en ∧ K (mo + 21) = J (mo + 21) ∧ eqX (sM K mo) (itemC (sM J mo) (fun i => (L (mo + 17) (b + i)).toInt32) en a).2.1 ∧ ((itemC (sM J mo) (fun i => (L (mo + 17) (b + i)).toInt32) en a).1 = true → r = 1 ∧ K mo 31 = nI (itemC (sM J mo) (fun i => (L (mo + 17) (b + i)).toInt32) en a).2.2) ∧ (¬ (itemC (sM J mo) (fun i => (L (mo + 17) (b + i)).toInt32) en a).1 = true → r = 0 ∧ K mo 34 = nI (itemC (sM J mo) (fun i => (L (mo + 17) (b + i)).toInt32) en a).2.2)), noX) 0 0 (wIL M0 J2 L) 246 [some (.ref mo), some (.int (nI a)), some (.int 1), some (.int (nI 1)), some (.int (nI 1)), o] [] := by
      intro hnf hIt J2 tl x o d2 e31 hxe ht hw
      have hi : itemC (sM J mo) (fun i => (L (mo + 17) (b + i)).toInt32) en a = (true, appC (sM J mo) 1 tl, x) := by rw [hIt, itmC, show numW 1 = 1 from rfl, hw, if_pos rfl]
      have x2 := d2.tx hx
      have q1 : J2 mo 1 = J mo 1 := d2.2 1 (by decide) (by decide) (by decide)
      have hy : vp_in (J2 mo 1) 8 := by
        obtain ⟨q, hq, eq⟩ := bd_nI (n := 8) hk.1.2.1
        have eq : J mo 1 = nI q := eq
        rw [q1, eq]
        refine vp_in_nI ?_ (by decide)
        have : ¬ q = 8 := fun e2 => by
          have e : J mo 1 = 8 := by rw [eq, e2]; rfl
          exact hnf (Or.inr (Or.inl ⟨rfl, e⟩))
        omega
      refine r_iload_n (pc := 246) dX5_item_246 rfl ?_
      refine r_eqi 1 rfl ?_
      refine r_swIn (pc := 247) 312 dX5_item_247 (by decide) (by decide) rfl rfl ?_
      refine r_aload_n (pc := 312) dX5_item_312 rfl ?_
      refine r_aload_n (pc := 313) dX5_item_313 rfl ?_
      refine r_getR (pc := 314) dX5_item_314 fl_X5_78_5 (MR_k hm) (fun _ _ => rfl) (MR_r29 hm) ?_
      refine r_iconst (pc := 317) (v := 0) dX5_item_317 (by decide) ?_
      refine rm_iald (pc := 318) dX5_item_318 (MR_k29 hm) (MR_z29 hm) (by first | assumption | exact vp_in_lit rfl) ?_
      rw [show Int32.toNatClampNeg (0 : Int32) = 0 from rfl, ht 0 (by decide)]
      refine r_o2 (pc := 319) (bc' := 0) (bs' := 0) (ct_X5_men hm _ hy) k_X5_153_5 dX5_item_319 (MR_k hm) (Nat.le_of_ble_eq_true rfl) ⟨Nat.le_of_ble_eq_true rfl, Nat.le_of_ble_eq_true rfl⟩ ⟨Nat.le_of_ble_eq_true rfl, Nat.le_of_ble_eq_true rfl⟩ (r_ci fun r319 M319 p319 => ?_) nox
      obtain ⟨-, K, rfl, eK, fK⟩ := p319
      refine r_pop (pc := 322) dX5_item_322 rfl ?_
      refine r_goto (pc := 323) 398 dX5_item_323 rfl ?_
      refine r_iconst (pc := 398) (v := 1) dX5_item_398 (by decide) ?_
      refine r_zreturn (pc := 399) rfl rfl dX5_item_399 ⟨_, rfl, ?_⟩
      refine ⟨_, rfl, ?_, ?_, ?_, ?_, fun _ => ⟨rfl, ?_⟩, fun h => absurd (show (itemC (sM J mo) (fun i => (L (mo + 17) (b + i)).toInt32) en a).1 = true by rw [hi]) h⟩
      · exact d2.fr.trans fK
      · exact tx_of (by rw [eK]; exact mnS_k (by decide) (by decide)) (by rw [eK]; exact mnS_k (by decide) (by decide)) (by rw [eK]; exact mnS_k (by decide) (by decide)) x2
      · exact (show sM K mo 35 = sM J2 mo 35 by rw [eK]; exact mnS_k (by decide) (by decide)).trans (d2.1 _ (by omega) (by omega))
      · rw [hi]; exact by rw [eK]; exact d2.eq.men
      · rw [hi]; exact (congrFun (show sM K mo 31 = sM J2 mo 31 by rw [eK]; exact mnS_k (by decide) (by decide)) 0).trans e31
    refine r_iload_n (pc := 56) dX5_item_56 rfl ?_
    refine r_if_ne (pc := 57) 69 dX5_item_57 rfl (fun _ => ?_) (fun hno => absurd hno (by decide))
    refine r_iload_n (pc := 69) dX5_item_69 rfl ?_
    refine r_iconst (pc := 70) (v := 1) dX5_item_70 (by decide) ?_
    refine r_icmp_ne (pc := 71) 83 dX5_item_71 rfl (fun hno => absurd hno (by decide)) (fun _ => ?_)
    refine r_aload_n (pc := 74) dX5_item_74 rfl ?_
    refine rm_getI (pc := 75) dX5_item_75 fl_X5_120_5 (MR_k hm) (fun _ _ => rfl) ?_
    rw [show (up2 J mo 31 (nI b2)) mo 1 = J mo 1 from d1.2 1 (by decide) (by decide) (by decide)]
    refine r_bipush (pc := 78) (v := 8) dX5_item_78 (by decide) ?_
    refine r_icmp_eq (pc := 80) 96 dX5_item_80 rfl (fun h80 => ?_) (fun h80 => ?_)
    · rw [cI_t (show fulP (sM J mo) 1 from Or.inr (Or.inl ⟨rfl, h80⟩))] at hIt
      refine r_aload_n (pc := 96) dX5_item_96 rfl ?_
      refine r_iload_n (pc := 97) dX5_item_97 rfl ?_
      refine r_o2 (pc := 98) (bc' := 0) (bs' := 0) (ct_X5_wrong hm _) k_X5_197_5 dX5_item_98 (MR_k hm) (Nat.le_of_ble_eq_true rfl) ⟨Nat.le_of_ble_eq_true rfl, Nat.le_of_ble_eq_true rfl⟩ ⟨Nat.le_of_ble_eq_true rfl, Nat.le_of_ble_eq_true rfl⟩ (r_ci fun r98 M98 p98 => ?_) nox
      obtain ⟨rfl, rfl⟩ := p98
      refine r_zreturn (pc := 101) rfl rfl dX5_item_101 ⟨_, rfl, ?_⟩
      exact flt _ a (d1.up (Or.inr (Or.inr rfl))) hIt (by rw [up2_self, va_up_self])
    · have hnf : ¬ fulP (sM J mo) 1 := fun z => by rcases z with ⟨z, -⟩ | ⟨-, z⟩ | ⟨z, -⟩; exact absurd z (by decide); exact h80 z; exact absurd z (by decide)
      rw [cI_f hnf] at hIt
      refine r_iload_n (pc := 83) dX5_item_83 rfl ?_
      refine r_iconst (pc := 84) (v := 2) dX5_item_84 (by decide) ?_
      refine r_icmp_ne (pc := 85) 102 dX5_item_85 rfl (fun _ => ?_) (fun hno => absurd hno (by decide))
      refine r_iload_n (pc := 102) dX5_item_102 rfl ?_
      refine r_if_ne (pc := 103) 110 dX5_item_103 rfl (fun _ => ?_) (fun hno => absurd hno (by decide))
      refine r_iload_n (pc := 110) dX5_item_110 rfl ?_
      refine r_iconst (pc := 111) (v := 2) dX5_item_111 (by decide) ?_
      refine r_icmp_ne (pc := 112) 119 dX5_item_112 rfl (fun _ => ?_) (fun hno => absurd hno (by decide))
      refine r_iload_n (pc := 119) dX5_item_119 rfl ?_
      refine r_iconst (pc := 120) (v := 4) dX5_item_120 (by decide) ?_
      refine r_icmp_ne (pc := 121) 128 dX5_item_121 rfl (fun _ => ?_) (fun hno => absurd hno (by decide))
      refine r_iconst (pc := 128) (v := 1) dX5_item_128 (by decide) ?_
      refine r_istore3 (pc := 129) dX5_item_129 rfl ?_
      refine r_iconst (pc := 130) (v := 0) dX5_item_130 (by decide) ?_
      refine r_istore4 (pc := 131) dX5_item_131 rfl ?_
      exact Larg 1 1 b2 (by decide) rfl hIt (K246 hnf hIt) 1 0 _ (fun _ => 0) b2 _ rfl d1 (by rw [up2_self, va_up_self]) hb2 (fun j hj => absurd hj (by omega)) rfl
  have word2 : ∀ (b2 : Nat), b2 ≤ en → itemC (sM J mo) (fun i => (L (mo + 17) (b + i)).toInt32) en a = cI (fulP (sM J mo) 2) (false, sM J mo, a) (itmC (sM J mo) (fun i => (L (mo + 17) (b + i)).toInt32) en a 2 b2) → Wx (YX5_item, (3, 72, 0, 0), qi (fun r M' => ∃ K, M' = wIL M0 K L ∧ frM mo J K L L ∧ txM K mo b en ∧ K (mo + 21) = J (mo + 21) ∧ eqX (sM K mo) (itemC (sM J mo) (fun i => (L (mo + 17) (b + i)).toInt32) en a).2.1 ∧ ((itemC (sM J mo) (fun i => (L (mo + 17) (b + i)).toInt32) en a).1 = true → r = 1 ∧ K mo 31 = nI (itemC (sM J mo) (fun i => (L (mo + 17) (b + i)).toInt32) en a).2.2) ∧ (¬ (itemC (sM J mo) (fun i => (L (mo + 17) (b + i)).toInt32) en a).1 = true → r = 0 ∧ K mo 34 = nI (itemC (sM J mo) (fun i => (L (mo + 17) (b + i)).toInt32) en a).2.2)), noX) 0 0 (wIL M0 (up2 J mo 31 (nI b2)) L) 56 [some (.ref mo), some (.int (nI a)), some (.int 2), none, none, none] [] := by
    intro b2 hb2 hIt
    have d1 : dX J (up2 J mo 31 (nI b2)) mo := dX.rf.up (Or.inl rfl)
    have K246 : ¬ fulP (sM J mo) 2 → itemC (sM J mo) (fun i => (L (mo + 17) (b + i)).toInt32) en a = itmC (sM J mo) (fun i => (L (mo + 17) (b + i)).toInt32) en a 2 b2 → ∀ (J2 : Nat → Nat → Int32) (tl : Nat → Int32) (x : Nat) (o : Option Value), dX J J2 mo → J2 mo 31 = nI x → x ≤ en → (∀ j, j < 3 → J2 (mo + 20) j = tl j) → argC (sM J mo) (fun i => (L (mo + 17) (b + i)).toInt32) en 2 3 0 (fun _ => 0) b2 = (true, tl, x) → Wx (YX5_item, (3, 72, 0, 0), qi (fun r M' => ∃ K, M' = wIL M0 K L ∧ frM mo J K L L ∧ txM K mo b en ∧ K (mo + 21) = J (mo + 21) ∧ eqX (sM K mo) (itemC (sM J mo) (fun i => (L (mo + 17) (b + i)).toInt32) en a).2.1 ∧ ((itemC (sM J mo) (fun i => (L (mo + 17) (b + i)).toInt32) en a).1 = true → r = 1 ∧ K mo 31 = nI (itemC (sM J mo) (fun i => (L (mo + 17) (b + i)).toInt32) en a).2.2) ∧ (¬ (itemC (sM J mo) (fun i => (L (mo + 17) (b + i)).toInt32) en a).1 = true → r = 0 ∧ K mo 34 = nI (itemC (sM J mo) (fun i => (L (mo + 17) (b + i)).toInt32) en a).2.2)), noX) 0 0 (wIL M0 J2 L) 246 [some (.ref mo), some (.int (nI a)), some (.int 2), some (.int (nI 3)), some (.int (nI 3)), o] [] := by
      intro hnf hIt J2 tl x o d2 e31 hxe ht hw
      have hi : itemC (sM J mo) (fun i => (L (mo + 17) (b + i)).toInt32) en a = (true, appC (sM J mo) 2 tl, x) := by rw [hIt, itmC, show numW 2 = 3 from rfl, hw, if_pos rfl]
      have x2 := d2.tx hx
      have q2 : J2 mo 2 = J mo 2 := d2.2 2 (by decide) (by decide) (by decide)
      have hy : vp_in (J2 mo 2) 4 := by
        obtain ⟨q, hq, eq⟩ := bd_nI (n := 4) hk.1.2.2
        have eq : J mo 2 = nI q := eq
        rw [q2, eq]
        refine vp_in_nI ?_ (by decide)
        have : ¬ q = 4 := fun e2 => by
          have e : J mo 2 = 4 := by rw [eq, e2]; rfl
          exact hnf (Or.inr (Or.inr ⟨rfl, e⟩))
        omega
      refine r_iload_n (pc := 246) dX5_item_246 rfl ?_
      refine r_eqi 2 rfl ?_
      refine r_swIn (pc := 247) 326 dX5_item_247 (by decide) (by decide) rfl rfl ?_
      refine r_aload_n (pc := 326) dX5_item_326 rfl ?_
      refine r_aload_n (pc := 327) dX5_item_327 rfl ?_
      refine r_getR (pc := 328) dX5_item_328 fl_X5_78_5 (MR_k hm) (fun _ _ => rfl) (MR_r29 hm) ?_
      refine r_iconst (pc := 331) (v := 0) dX5_item_331 (by decide) ?_
      refine rm_iald (pc := 332) dX5_item_332 (MR_k29 hm) (MR_z29 hm) (by first | assumption | exact vp_in_lit rfl) ?_
      rw [show Int32.toNatClampNeg (0 : Int32) = 0 from rfl, ht 0 (by decide)]
      refine r_aload_n (pc := 333) dX5_item_333 rfl ?_
      refine r_getR (pc := 334) dX5_item_334 fl_X5_78_5 (MR_k hm) (fun _ _ => rfl) (MR_r29 hm) ?_
      refine r_iconst (pc := 337) (v := 1) dX5_item_337 (by decide) ?_
      refine rm_iald (pc := 338) dX5_item_338 (MR_k29 hm) (MR_z29 hm) (by first | assumption | exact vp_in_lit rfl) ?_
      rw [show Int32.toNatClampNeg (1 : Int32) = 1 from rfl, ht 1 (by decide)]
      refine r_aload_n (pc := 339) dX5_item_339 rfl ?_
      refine r_getR (pc := 340) dX5_item_340 fl_X5_78_5 (MR_k hm) (fun _ _ => rfl) (MR_r29 hm) ?_
      refine r_iconst (pc := 343) (v := 2) dX5_item_343 (by decide) ?_
      refine rm_iald (pc := 344) dX5_item_344 (MR_k29 hm) (MR_z29 hm) (by first | assumption | exact vp_in_lit rfl) ?_
      rw [show Int32.toNatClampNeg (2 : Int32) = 2 from rfl, ht 2 (by decide)]
      refine r_o4 (pc := 345) (bc' := 0) (bs' := 0) (ct_X5_wanted hm _ _ _ hy) k_X5_164_5 dX5_item_345 (MR_k hm) (Nat.le_of_ble_eq_true rfl) ⟨Nat.le_of_ble_eq_true rfl, Nat.le_of_ble_eq_true rfl⟩ ⟨Nat.le_of_ble_eq_true rfl, Nat.le_of_ble_eq_true rfl⟩ (r_ci fun r345 M345 p345 => ?_) nox
      obtain ⟨-, K, rfl, eK, fK⟩ := p345
      refine r_pop (pc := 348) dX5_item_348 rfl ?_
      refine r_goto (pc := 349) 398 dX5_item_349 rfl ?_
      refine r_iconst (pc := 398) (v := 1) dX5_item_398 (by decide) ?_
      refine r_zreturn (pc := 399) rfl rfl dX5_item_399 ⟨_, rfl, ?_⟩
      refine ⟨_, rfl, ?_, ?_, ?_, ?_, fun _ => ⟨rfl, ?_⟩, fun h => absurd (show (itemC (sM J mo) (fun i => (L (mo + 17) (b + i)).toInt32) en a).1 = true by rw [hi]) h⟩
      · exact d2.fr.trans fK
      · exact tx_of (by rw [eK]; exact waS_k (by decide) (by decide)) (by rw [eK]; exact waS_k (by decide) (by decide)) (by rw [eK]; exact waS_k (by decide) (by decide)) x2
      · exact (show sM K mo 35 = sM J2 mo 35 by rw [eK]; exact waS_k (by decide) (by decide)).trans (d2.1 _ (by omega) (by omega))
      · rw [hi]; exact by rw [eK]; exact d2.eq.wanted
      · rw [hi]; exact (congrFun (show sM K mo 31 = sM J2 mo 31 by rw [eK]; exact waS_k (by decide) (by decide)) 0).trans e31
    refine r_iload_n (pc := 56) dX5_item_56 rfl ?_
    refine r_if_ne (pc := 57) 69 dX5_item_57 rfl (fun _ => ?_) (fun hno => absurd hno (by decide))
    refine r_iload_n (pc := 69) dX5_item_69 rfl ?_
    refine r_iconst (pc := 70) (v := 1) dX5_item_70 (by decide) ?_
    refine r_icmp_ne (pc := 71) 83 dX5_item_71 rfl (fun _ => ?_) (fun hno => absurd hno (by decide))
    refine r_iload_n (pc := 83) dX5_item_83 rfl ?_
    refine r_iconst (pc := 84) (v := 2) dX5_item_84 (by decide) ?_
    refine r_icmp_ne (pc := 85) 102 dX5_item_85 rfl (fun hno => absurd hno (by decide)) (fun _ => ?_)
    refine r_aload_n (pc := 88) dX5_item_88 rfl ?_
    refine rm_getI (pc := 89) dX5_item_89 fl_X5_162_5 (MR_k hm) (fun _ _ => rfl) ?_
    rw [show (up2 J mo 31 (nI b2)) mo 2 = J mo 2 from d1.2 2 (by decide) (by decide) (by decide)]
    refine r_iconst (pc := 92) (v := 4) dX5_item_92 (by decide) ?_
    refine r_icmp_ne (pc := 93) 102 dX5_item_93 rfl (fun h93 => ?_) (fun h93 => ?_)
    · have hnf : ¬ fulP (sM J mo) 2 := fun z => by rcases z with ⟨z, -⟩ | ⟨z, -⟩ | ⟨-, z⟩; exact absurd z (by decide); exact absurd z (by decide); exact h93 z
      rw [cI_f hnf] at hIt
      refine r_iload_n (pc := 102) dX5_item_102 rfl ?_
      refine r_if_ne (pc := 103) 110 dX5_item_103 rfl (fun _ => ?_) (fun hno => absurd hno (by decide))
      refine r_iload_n (pc := 110) dX5_item_110 rfl ?_
      refine r_iconst (pc := 111) (v := 2) dX5_item_111 (by decide) ?_
      refine r_icmp_ne (pc := 112) 119 dX5_item_112 rfl (fun hno => absurd hno (by decide)) (fun _ => ?_)
      refine r_iconst (pc := 115) (v := 3) dX5_item_115 (by decide) ?_
      refine r_goto (pc := 116) 129 dX5_item_116 rfl ?_
      refine r_istore3 (pc := 129) dX5_item_129 rfl ?_
      refine r_iconst (pc := 130) (v := 0) dX5_item_130 (by decide) ?_
      refine r_istore4 (pc := 131) dX5_item_131 rfl ?_
      exact Larg 2 3 b2 (by decide) rfl hIt (K246 hnf hIt) 3 0 _ (fun _ => 0) b2 _ rfl d1 (by rw [up2_self, va_up_self]) hb2 (fun j hj => absurd hj (by omega)) rfl
    · rw [cI_t (show fulP (sM J mo) 2 from Or.inr (Or.inr ⟨rfl, h93⟩))] at hIt
      refine r_aload_n (pc := 96) dX5_item_96 rfl ?_
      refine r_iload_n (pc := 97) dX5_item_97 rfl ?_
      refine r_o2 (pc := 98) (bc' := 0) (bs' := 0) (ct_X5_wrong hm _) k_X5_197_5 dX5_item_98 (MR_k hm) (Nat.le_of_ble_eq_true rfl) ⟨Nat.le_of_ble_eq_true rfl, Nat.le_of_ble_eq_true rfl⟩ ⟨Nat.le_of_ble_eq_true rfl, Nat.le_of_ble_eq_true rfl⟩ (r_ci fun r98 M98 p98 => ?_) nox
      obtain ⟨rfl, rfl⟩ := p98
      refine r_zreturn (pc := 101) rfl rfl dX5_item_101 ⟨_, rfl, ?_⟩
      exact flt _ a (d1.up (Or.inr (Or.inr rfl))) hIt (by rw [up2_self, va_up_self])
  have word3 : ∀ (b2 : Nat), b2 ≤ en → itemC (sM J mo) (fun i => (L (mo + 17) (b + i)).toInt32) en a = cI (fulP (sM J mo) 3) (false, sM J mo, a) (itmC (sM J mo) (fun i => (L (mo + 17) (b + i)).toInt32) en a 3 b2) → Wx (YX5_item, (3, 72, 0, 0), qi (fun r M' => ∃ K, M' = wIL M0 K L ∧ frM mo J K L L ∧ txM K mo b en ∧ K (mo + 21) = J (mo + 21) ∧ eqX (sM K mo) (itemC (sM J mo) (fun i => (L (mo + 17) (b + i)).toInt32) en a).2.1 ∧ ((itemC (sM J mo) (fun i => (L (mo + 17) (b + i)).toInt32) en a).1 = true → r = 1 ∧ K mo 31 = nI (itemC (sM J mo) (fun i => (L (mo + 17) (b + i)).toInt32) en a).2.2) ∧ (¬ (itemC (sM J mo) (fun i => (L (mo + 17) (b + i)).toInt32) en a).1 = true → r = 0 ∧ K mo 34 = nI (itemC (sM J mo) (fun i => (L (mo + 17) (b + i)).toInt32) en a).2.2)), noX) 0 0 (wIL M0 (up2 J mo 31 (nI b2)) L) 56 [some (.ref mo), some (.int (nI a)), some (.int 3), none, none, none] [] := by
    intro b2 hb2 hIt
    have d1 : dX J (up2 J mo 31 (nI b2)) mo := dX.rf.up (Or.inl rfl)
    have K246 : ¬ fulP (sM J mo) 3 → itemC (sM J mo) (fun i => (L (mo + 17) (b + i)).toInt32) en a = itmC (sM J mo) (fun i => (L (mo + 17) (b + i)).toInt32) en a 3 b2 → ∀ (J2 : Nat → Nat → Int32) (tl : Nat → Int32) (x : Nat) (o : Option Value), dX J J2 mo → J2 mo 31 = nI x → x ≤ en → (∀ j, j < 1 → J2 (mo + 20) j = tl j) → argC (sM J mo) (fun i => (L (mo + 17) (b + i)).toInt32) en 3 1 0 (fun _ => 0) b2 = (true, tl, x) → Wx (YX5_item, (3, 72, 0, 0), qi (fun r M' => ∃ K, M' = wIL M0 K L ∧ frM mo J K L L ∧ txM K mo b en ∧ K (mo + 21) = J (mo + 21) ∧ eqX (sM K mo) (itemC (sM J mo) (fun i => (L (mo + 17) (b + i)).toInt32) en a).2.1 ∧ ((itemC (sM J mo) (fun i => (L (mo + 17) (b + i)).toInt32) en a).1 = true → r = 1 ∧ K mo 31 = nI (itemC (sM J mo) (fun i => (L (mo + 17) (b + i)).toInt32) en a).2.2) ∧ (¬ (itemC (sM J mo) (fun i => (L (mo + 17) (b + i)).toInt32) en a).1 = true → r = 0 ∧ K mo 34 = nI (itemC (sM J mo) (fun i => (L (mo + 17) (b + i)).toInt32) en a).2.2)), noX) 0 0 (wIL M0 J2 L) 246 [some (.ref mo), some (.int (nI a)), some (.int 3), some (.int (nI 1)), some (.int (nI 1)), o] [] := by
      intro hnf hIt J2 tl x o d2 e31 hxe ht hw
      have hi : itemC (sM J mo) (fun i => (L (mo + 17) (b + i)).toInt32) en a = (true, appC (sM J mo) 3 tl, x) := by rw [hIt, itmC, show numW 3 = 1 from rfl, hw, if_pos rfl]
      have x2 := d2.tx hx
      refine r_iload_n (pc := 246) dX5_item_246 rfl ?_
      refine r_eqi 3 rfl ?_
      refine r_swIn (pc := 247) 352 dX5_item_247 (by decide) (by decide) rfl rfl ?_
      refine r_aload_n (pc := 352) dX5_item_352 rfl ?_
      refine r_aload_n (pc := 353) dX5_item_353 rfl ?_
      refine r_getR (pc := 354) dX5_item_354 fl_X5_78_5 (MR_k hm) (fun _ _ => rfl) (MR_r29 hm) ?_
      refine r_iconst (pc := 357) (v := 0) dX5_item_357 (by decide) ?_
      refine rm_ialde (pc := 358) (f := J2 (mo + 20)) dX5_item_358 (MR_k29 hm) (MR_z29 hm) (by first | assumption | exact vp_in_lit rfl) (by first | rfl | exact up2_ne (by omega)) ?_
      rw [show Int32.toNatClampNeg (0 : Int32) = 0 from rfl, ht 0 (by decide)]
      refine rm_putI (pc := 359) dX5_item_359 fl_X5_7_5 (MR_k hm) rfl rfl ?_
      refine r_goto (pc := 362) 398 dX5_item_362 rfl ?_
      refine r_iconst (pc := 398) (v := 1) dX5_item_398 (by decide) ?_
      refine r_zreturn (pc := 399) rfl rfl dX5_item_399 ⟨_, rfl, ?_⟩
      refine ⟨_, rfl, ?_, ?_, ?_, ?_, fun _ => ⟨rfl, ?_⟩, fun h => absurd (show (itemC (sM J mo) (fun i => (L (mo + 17) (b + i)).toInt32) en a).1 = true by rw [hi]) h⟩
      · exact d2.fr.up0
      · exact tx_of (by rw [← su3]; exact up2_ne (by decide)) (by rw [← su3]; exact up2_ne (by decide)) (by rw [← su3]; exact up2_ne (by decide)) x2
      · exact (show sM (up2 J2 mo 3 (tl 0)) mo 35 = sM J2 mo 35 by rw [← su3]; exact up2_ne (by decide)).trans (d2.1 _ (by omega) (by omega))
      · rw [hi]; exact by rw [← su3]; exact d2.eq.up
      · rw [hi]; exact (congrFun (show sM (up2 J2 mo 3 (tl 0)) mo 31 = sM J2 mo 31 by rw [← su3]; exact up2_ne (by decide)) 0).trans e31
    have hnf : ¬ fulP (sM J mo) 3 := fun z => by rcases z with ⟨z, -⟩ | ⟨z, -⟩ | ⟨z, -⟩ <;> exact absurd z (by decide)
    rw [cI_f hnf] at hIt
    refine r_iload_n (pc := 56) dX5_item_56 rfl ?_
    refine r_if_ne (pc := 57) 69 dX5_item_57 rfl (fun _ => ?_) (fun hno => absurd hno (by decide))
    refine r_iload_n (pc := 69) dX5_item_69 rfl ?_
    refine r_iconst (pc := 70) (v := 1) dX5_item_70 (by decide) ?_
    refine r_icmp_ne (pc := 71) 83 dX5_item_71 rfl (fun _ => ?_) (fun hno => absurd hno (by decide))
    refine r_iload_n (pc := 83) dX5_item_83 rfl ?_
    refine r_iconst (pc := 84) (v := 2) dX5_item_84 (by decide) ?_
    refine r_icmp_ne (pc := 85) 102 dX5_item_85 rfl (fun _ => ?_) (fun hno => absurd hno (by decide))
    refine r_iload_n (pc := 102) dX5_item_102 rfl ?_
    refine r_if_ne (pc := 103) 110 dX5_item_103 rfl (fun _ => ?_) (fun hno => absurd hno (by decide))
    refine r_iload_n (pc := 110) dX5_item_110 rfl ?_
    refine r_iconst (pc := 111) (v := 2) dX5_item_111 (by decide) ?_
    refine r_icmp_ne (pc := 112) 119 dX5_item_112 rfl (fun _ => ?_) (fun hno => absurd hno (by decide))
    refine r_iload_n (pc := 119) dX5_item_119 rfl ?_
    refine r_iconst (pc := 120) (v := 4) dX5_item_120 (by decide) ?_
    refine r_icmp_ne (pc := 121) 128 dX5_item_121 rfl (fun _ => ?_) (fun hno => absurd hno (by decide))
    refine r_iconst (pc := 128) (v := 1) dX5_item_128 (by decide) ?_
    refine r_istore3 (pc := 129) dX5_item_129 rfl ?_
    refine r_iconst (pc := 130) (v := 0) dX5_item_130 (by decide) ?_
    refine r_istore4 (pc := 131) dX5_item_131 rfl ?_
    exact Larg 3 1 b2 (by decide) rfl hIt (K246 hnf hIt) 1 0 _ (fun _ => 0) b2 _ rfl d1 (by rw [up2_self, va_up_self]) hb2 (fun j hj => absurd hj (by omega)) rfl
  have word4 : ∀ (b2 : Nat), b2 ≤ en → itemC (sM J mo) (fun i => (L (mo + 17) (b + i)).toInt32) en a = cI (fulP (sM J mo) 4) (false, sM J mo, a) (itmC (sM J mo) (fun i => (L (mo + 17) (b + i)).toInt32) en a 4 b2) → Wx (YX5_item, (3, 72, 0, 0), qi (fun r M' => ∃ K, M' = wIL M0 K L ∧ frM mo J K L L ∧ txM K mo b en ∧ K (mo + 21) = J (mo + 21) ∧ eqX (sM K mo) (itemC (sM J mo) (fun i => (L (mo + 17) (b + i)).toInt32) en a).2.1 ∧ ((itemC (sM J mo) (fun i => (L (mo + 17) (b + i)).toInt32) en a).1 = true → r = 1 ∧ K mo 31 = nI (itemC (sM J mo) (fun i => (L (mo + 17) (b + i)).toInt32) en a).2.2) ∧ (¬ (itemC (sM J mo) (fun i => (L (mo + 17) (b + i)).toInt32) en a).1 = true → r = 0 ∧ K mo 34 = nI (itemC (sM J mo) (fun i => (L (mo + 17) (b + i)).toInt32) en a).2.2)), noX) 0 0 (wIL M0 (up2 J mo 31 (nI b2)) L) 56 [some (.ref mo), some (.int (nI a)), some (.int 4), none, none, none] [] := by
    intro b2 hb2 hIt
    have d1 : dX J (up2 J mo 31 (nI b2)) mo := dX.rf.up (Or.inl rfl)
    have K246 : ¬ fulP (sM J mo) 4 → itemC (sM J mo) (fun i => (L (mo + 17) (b + i)).toInt32) en a = itmC (sM J mo) (fun i => (L (mo + 17) (b + i)).toInt32) en a 4 b2 → ∀ (J2 : Nat → Nat → Int32) (tl : Nat → Int32) (x : Nat) (o : Option Value), dX J J2 mo → J2 mo 31 = nI x → x ≤ en → (∀ j, j < 2 → J2 (mo + 20) j = tl j) → argC (sM J mo) (fun i => (L (mo + 17) (b + i)).toInt32) en 4 2 0 (fun _ => 0) b2 = (true, tl, x) → Wx (YX5_item, (3, 72, 0, 0), qi (fun r M' => ∃ K, M' = wIL M0 K L ∧ frM mo J K L L ∧ txM K mo b en ∧ K (mo + 21) = J (mo + 21) ∧ eqX (sM K mo) (itemC (sM J mo) (fun i => (L (mo + 17) (b + i)).toInt32) en a).2.1 ∧ ((itemC (sM J mo) (fun i => (L (mo + 17) (b + i)).toInt32) en a).1 = true → r = 1 ∧ K mo 31 = nI (itemC (sM J mo) (fun i => (L (mo + 17) (b + i)).toInt32) en a).2.2) ∧ (¬ (itemC (sM J mo) (fun i => (L (mo + 17) (b + i)).toInt32) en a).1 = true → r = 0 ∧ K mo 34 = nI (itemC (sM J mo) (fun i => (L (mo + 17) (b + i)).toInt32) en a).2.2)), noX) 0 0 (wIL M0 J2 L) 246 [some (.ref mo), some (.int (nI a)), some (.int 4), some (.int (nI 2)), some (.int (nI 2)), o] [] := by
      intro hnf hIt J2 tl x o d2 e31 hxe ht hw
      have hi : itemC (sM J mo) (fun i => (L (mo + 17) (b + i)).toInt32) en a = (true, appC (sM J mo) 4 tl, x) := by rw [hIt, itmC, show numW 4 = 2 from rfl, hw, if_pos rfl]
      have x2 := d2.tx hx
      refine r_iload_n (pc := 246) dX5_item_246 rfl ?_
      refine r_eqi 4 rfl ?_
      refine r_swIn (pc := 247) 365 dX5_item_247 (by decide) (by decide) rfl rfl ?_
      refine r_aload_n (pc := 365) dX5_item_365 rfl ?_
      refine r_aload_n (pc := 366) dX5_item_366 rfl ?_
      refine r_getR (pc := 367) dX5_item_367 fl_X5_78_5 (MR_k hm) (fun _ _ => rfl) (MR_r29 hm) ?_
      refine r_iconst (pc := 370) (v := 0) dX5_item_370 (by decide) ?_
      refine rm_ialde (pc := 371) (f := J2 (mo + 20)) dX5_item_371 (MR_k29 hm) (MR_z29 hm) (by first | assumption | exact vp_in_lit rfl) (by first | rfl | exact up2_ne (by omega)) ?_
      rw [show Int32.toNatClampNeg (0 : Int32) = 0 from rfl, ht 0 (by decide)]
      refine rm_putI (pc := 372) dX5_item_372 fl_X5_123_5 (MR_k hm) rfl rfl ?_
      refine r_aload_n (pc := 375) dX5_item_375 rfl ?_
      refine r_aload_n (pc := 376) dX5_item_376 rfl ?_
      refine r_getR (pc := 377) dX5_item_377 fl_X5_78_5 (MR_k hm) (fun _ _ => rfl) (MR_r29 hm) ?_
      refine r_iconst (pc := 380) (v := 1) dX5_item_380 (by decide) ?_
      refine rm_ialde (pc := 381) (f := J2 (mo + 20)) dX5_item_381 (MR_k29 hm) (MR_z29 hm) (by first | assumption | exact vp_in_lit rfl) (by first | rfl | exact up2_ne (by omega)) ?_
      rw [show Int32.toNatClampNeg (1 : Int32) = 1 from rfl, ht 1 (by decide)]
      refine rm_putI (pc := 382) dX5_item_382 fl_X5_126_5 (MR_k hm) rfl rfl ?_
      refine r_goto (pc := 385) 398 dX5_item_385 rfl ?_
      refine r_iconst (pc := 398) (v := 1) dX5_item_398 (by decide) ?_
      refine r_zreturn (pc := 399) rfl rfl dX5_item_399 ⟨_, rfl, ?_⟩
      refine ⟨_, rfl, ?_, ?_, ?_, ?_, fun _ => ⟨rfl, ?_⟩, fun h => absurd (show (itemC (sM J mo) (fun i => (L (mo + 17) (b + i)).toInt32) en a).1 = true by rw [hi]) h⟩
      · exact d2.fr.up0.up0
      · exact tx_of (by rw [← su5, ← su4]; rw [up2_ne (by decide), up2_ne (by decide)]) (by rw [← su5, ← su4]; rw [up2_ne (by decide), up2_ne (by decide)]) (by rw [← su5, ← su4]; rw [up2_ne (by decide), up2_ne (by decide)]) x2
      · exact (show sM (up2 (up2 J2 mo 4 (tl 0)) mo 5 (tl 1)) mo 35 = sM J2 mo 35 by rw [← su5, ← su4]; rw [up2_ne (by decide), up2_ne (by decide)]).trans (d2.1 _ (by omega) (by omega))
      · rw [hi]; exact by rw [← su5, ← su4]; exact d2.eq.up.up
      · rw [hi]; exact (congrFun (show sM (up2 (up2 J2 mo 4 (tl 0)) mo 5 (tl 1)) mo 31 = sM J2 mo 31 by rw [← su5, ← su4]; rw [up2_ne (by decide), up2_ne (by decide)]) 0).trans e31
    have hnf : ¬ fulP (sM J mo) 4 := fun z => by rcases z with ⟨z, -⟩ | ⟨z, -⟩ | ⟨z, -⟩ <;> exact absurd z (by decide)
    rw [cI_f hnf] at hIt
    refine r_iload_n (pc := 56) dX5_item_56 rfl ?_
    refine r_if_ne (pc := 57) 69 dX5_item_57 rfl (fun _ => ?_) (fun hno => absurd hno (by decide))
    refine r_iload_n (pc := 69) dX5_item_69 rfl ?_
    refine r_iconst (pc := 70) (v := 1) dX5_item_70 (by decide) ?_
    refine r_icmp_ne (pc := 71) 83 dX5_item_71 rfl (fun _ => ?_) (fun hno => absurd hno (by decide))
    refine r_iload_n (pc := 83) dX5_item_83 rfl ?_
    refine r_iconst (pc := 84) (v := 2) dX5_item_84 (by decide) ?_
    refine r_icmp_ne (pc := 85) 102 dX5_item_85 rfl (fun _ => ?_) (fun hno => absurd hno (by decide))
    refine r_iload_n (pc := 102) dX5_item_102 rfl ?_
    refine r_if_ne (pc := 103) 110 dX5_item_103 rfl (fun _ => ?_) (fun hno => absurd hno (by decide))
    refine r_iload_n (pc := 110) dX5_item_110 rfl ?_
    refine r_iconst (pc := 111) (v := 2) dX5_item_111 (by decide) ?_
    refine r_icmp_ne (pc := 112) 119 dX5_item_112 rfl (fun _ => ?_) (fun hno => absurd hno (by decide))
    refine r_iload_n (pc := 119) dX5_item_119 rfl ?_
    refine r_iconst (pc := 120) (v := 4) dX5_item_120 (by decide) ?_
    refine r_icmp_ne (pc := 121) 128 dX5_item_121 rfl (fun hno => absurd hno (by decide)) (fun _ => ?_)
    refine r_iconst (pc := 124) (v := 2) dX5_item_124 (by decide) ?_
    refine r_goto (pc := 125) 129 dX5_item_125 rfl ?_
    refine r_istore3 (pc := 129) dX5_item_129 rfl ?_
    refine r_iconst (pc := 130) (v := 0) dX5_item_130 (by decide) ?_
    refine r_istore4 (pc := 131) dX5_item_131 rfl ?_
    exact Larg 4 2 b2 (by decide) rfl hIt (K246 hnf hIt) 2 0 _ (fun _ => 0) b2 _ rfl d1 (by rw [up2_self, va_up_self]) hb2 (fun j hj => absurd hj (by omega)) rfl
  have word5 : ∀ (b2 : Nat), b2 ≤ en → itemC (sM J mo) (fun i => (L (mo + 17) (b + i)).toInt32) en a = cI (fulP (sM J mo) 5) (false, sM J mo, a) (itmC (sM J mo) (fun i => (L (mo + 17) (b + i)).toInt32) en a 5 b2) → Wx (YX5_item, (3, 72, 0, 0), qi (fun r M' => ∃ K, M' = wIL M0 K L ∧ frM mo J K L L ∧ txM K mo b en ∧ K (mo + 21) = J (mo + 21) ∧ eqX (sM K mo) (itemC (sM J mo) (fun i => (L (mo + 17) (b + i)).toInt32) en a).2.1 ∧ ((itemC (sM J mo) (fun i => (L (mo + 17) (b + i)).toInt32) en a).1 = true → r = 1 ∧ K mo 31 = nI (itemC (sM J mo) (fun i => (L (mo + 17) (b + i)).toInt32) en a).2.2) ∧ (¬ (itemC (sM J mo) (fun i => (L (mo + 17) (b + i)).toInt32) en a).1 = true → r = 0 ∧ K mo 34 = nI (itemC (sM J mo) (fun i => (L (mo + 17) (b + i)).toInt32) en a).2.2)), noX) 0 0 (wIL M0 (up2 J mo 31 (nI b2)) L) 56 [some (.ref mo), some (.int (nI a)), some (.int 5), none, none, none] [] := by
    intro b2 hb2 hIt
    have d1 : dX J (up2 J mo 31 (nI b2)) mo := dX.rf.up (Or.inl rfl)
    have K246 : ¬ fulP (sM J mo) 5 → itemC (sM J mo) (fun i => (L (mo + 17) (b + i)).toInt32) en a = itmC (sM J mo) (fun i => (L (mo + 17) (b + i)).toInt32) en a 5 b2 → ∀ (J2 : Nat → Nat → Int32) (tl : Nat → Int32) (x : Nat) (o : Option Value), dX J J2 mo → J2 mo 31 = nI x → x ≤ en → (∀ j, j < 1 → J2 (mo + 20) j = tl j) → argC (sM J mo) (fun i => (L (mo + 17) (b + i)).toInt32) en 5 1 0 (fun _ => 0) b2 = (true, tl, x) → Wx (YX5_item, (3, 72, 0, 0), qi (fun r M' => ∃ K, M' = wIL M0 K L ∧ frM mo J K L L ∧ txM K mo b en ∧ K (mo + 21) = J (mo + 21) ∧ eqX (sM K mo) (itemC (sM J mo) (fun i => (L (mo + 17) (b + i)).toInt32) en a).2.1 ∧ ((itemC (sM J mo) (fun i => (L (mo + 17) (b + i)).toInt32) en a).1 = true → r = 1 ∧ K mo 31 = nI (itemC (sM J mo) (fun i => (L (mo + 17) (b + i)).toInt32) en a).2.2) ∧ (¬ (itemC (sM J mo) (fun i => (L (mo + 17) (b + i)).toInt32) en a).1 = true → r = 0 ∧ K mo 34 = nI (itemC (sM J mo) (fun i => (L (mo + 17) (b + i)).toInt32) en a).2.2)), noX) 0 0 (wIL M0 J2 L) 246 [some (.ref mo), some (.int (nI a)), some (.int 5), some (.int (nI 1)), some (.int (nI 1)), o] [] := by
      intro hnf hIt J2 tl x o d2 e31 hxe ht hw
      have hi : itemC (sM J mo) (fun i => (L (mo + 17) (b + i)).toInt32) en a = (true, appC (sM J mo) 5 tl, x) := by rw [hIt, itmC, show numW 5 = 1 from rfl, hw, if_pos rfl]
      have x2 := d2.tx hx
      refine r_iload_n (pc := 246) dX5_item_246 rfl ?_
      refine r_swOut (pc := 247) 388 dX5_item_247 (by decide) rfl ?_
      refine r_aload_n (pc := 388) dX5_item_388 rfl ?_
      refine r_aload_n (pc := 389) dX5_item_389 rfl ?_
      refine r_getR (pc := 390) dX5_item_390 fl_X5_78_5 (MR_k hm) (fun _ _ => rfl) (MR_r29 hm) ?_
      refine r_iconst (pc := 393) (v := 0) dX5_item_393 (by decide) ?_
      refine rm_ialde (pc := 394) (f := J2 (mo + 20)) dX5_item_394 (MR_k29 hm) (MR_z29 hm) (by first | assumption | exact vp_in_lit rfl) (by first | rfl | exact up2_ne (by omega)) ?_
      rw [show Int32.toNatClampNeg (0 : Int32) = 0 from rfl, ht 0 (by decide)]
      refine rm_putI (pc := 395) dX5_item_395 fl_X5_171_5 (MR_k hm) rfl rfl ?_
      refine r_iconst (pc := 398) (v := 1) dX5_item_398 (by decide) ?_
      refine r_zreturn (pc := 399) rfl rfl dX5_item_399 ⟨_, rfl, ?_⟩
      refine ⟨_, rfl, ?_, ?_, ?_, ?_, fun _ => ⟨rfl, ?_⟩, fun h => absurd (show (itemC (sM J mo) (fun i => (L (mo + 17) (b + i)).toInt32) en a).1 = true by rw [hi]) h⟩
      · exact d2.fr.up0
      · exact tx_of (by rw [← su6]; exact up2_ne (by decide)) (by rw [← su6]; exact up2_ne (by decide)) (by rw [← su6]; exact up2_ne (by decide)) x2
      · exact (show sM (up2 J2 mo 6 (tl 0)) mo 35 = sM J2 mo 35 by rw [← su6]; exact up2_ne (by decide)).trans (d2.1 _ (by omega) (by omega))
      · rw [hi]; exact by rw [← su6]; exact d2.eq.up
      · rw [hi]; exact (congrFun (show sM (up2 J2 mo 6 (tl 0)) mo 31 = sM J2 mo 31 by rw [← su6]; exact up2_ne (by decide)) 0).trans e31
    have hnf : ¬ fulP (sM J mo) 5 := fun z => by rcases z with ⟨z, -⟩ | ⟨z, -⟩ | ⟨z, -⟩ <;> exact absurd z (by decide)
    rw [cI_f hnf] at hIt
    refine r_iload_n (pc := 56) dX5_item_56 rfl ?_
    refine r_if_ne (pc := 57) 69 dX5_item_57 rfl (fun _ => ?_) (fun hno => absurd hno (by decide))
    refine r_iload_n (pc := 69) dX5_item_69 rfl ?_
    refine r_iconst (pc := 70) (v := 1) dX5_item_70 (by decide) ?_
    refine r_icmp_ne (pc := 71) 83 dX5_item_71 rfl (fun _ => ?_) (fun hno => absurd hno (by decide))
    refine r_iload_n (pc := 83) dX5_item_83 rfl ?_
    refine r_iconst (pc := 84) (v := 2) dX5_item_84 (by decide) ?_
    refine r_icmp_ne (pc := 85) 102 dX5_item_85 rfl (fun _ => ?_) (fun hno => absurd hno (by decide))
    refine r_iload_n (pc := 102) dX5_item_102 rfl ?_
    refine r_if_ne (pc := 103) 110 dX5_item_103 rfl (fun _ => ?_) (fun hno => absurd hno (by decide))
    refine r_iload_n (pc := 110) dX5_item_110 rfl ?_
    refine r_iconst (pc := 111) (v := 2) dX5_item_111 (by decide) ?_
    refine r_icmp_ne (pc := 112) 119 dX5_item_112 rfl (fun _ => ?_) (fun hno => absurd hno (by decide))
    refine r_iload_n (pc := 119) dX5_item_119 rfl ?_
    refine r_iconst (pc := 120) (v := 4) dX5_item_120 (by decide) ?_
    refine r_icmp_ne (pc := 121) 128 dX5_item_121 rfl (fun _ => ?_) (fun hno => absurd hno (by decide))
    refine r_iconst (pc := 128) (v := 1) dX5_item_128 (by decide) ?_
    refine r_istore3 (pc := 129) dX5_item_129 rfl ?_
    refine r_iconst (pc := 130) (v := 0) dX5_item_130 (by decide) ?_
    refine r_istore4 (pc := 131) dX5_item_131 rfl ?_
    exact Larg 5 1 b2 (by decide) rfl hIt (K246 hnf hIt) 1 0 _ (fun _ => 0) b2 _ rfl d1 (by rw [up2_self, va_up_self]) hb2 (fun j hj => absurd hj (by omega)) rfl
  have mid : (¬ ∃ f, f < 6 ∧ isWP (fun i => (L (mo + 17) (b + i)).toInt32) en a f ∧ fulP (sM J mo) (nI f)) → ∀ o1 : Option Value, Wx (YX5_item, (3, 72, 0, 0), qi (fun r M' => ∃ K, M' = wIL M0 K L ∧ frM mo J K L L ∧ txM K mo b en ∧ K (mo + 21) = J (mo + 21) ∧ eqX (sM K mo) (itemC (sM J mo) (fun i => (L (mo + 17) (b + i)).toInt32) en a).2.1 ∧ ((itemC (sM J mo) (fun i => (L (mo + 17) (b + i)).toInt32) en a).1 = true → r = 1 ∧ K mo 31 = nI (itemC (sM J mo) (fun i => (L (mo + 17) (b + i)).toInt32) en a).2.2) ∧ (¬ (itemC (sM J mo) (fun i => (L (mo + 17) (b + i)).toInt32) en a).1 = true → r = 0 ∧ K mo 34 = nI (itemC (sM J mo) (fun i => (L (mo + 17) (b + i)).toInt32) en a).2.2)), noX) 0 0 (wIL M0 J L) 39 [some (.ref mo), o1, none, none, none, none] [] := by
    intro hne o1
    have hle := wdL_le (c := (fun i => (L (mo + 17) (b + i)).toInt32)) ha 6 0 a ha (Nat.le_refl _)
    have hIt : itemC (sM J mo) (fun i => (L (mo + 17) (b + i)).toInt32) en a = (if (wdC (fun i => (L (mo + 17) (b + i)).toInt32) en a).1 = -1 then (false, sM J mo, (wdC (fun i => (L (mo + 17) (b + i)).toInt32) en a).2) else cI (fulP (sM J mo) (wdC (fun i => (L (mo + 17) (b + i)).toInt32) en a).1) (false, sM J mo, a) (itmC (sM J mo) (fun i => (L (mo + 17) (b + i)).toInt32) en a (wdC (fun i => (L (mo + 17) (b + i)).toInt32) en a).1 (wdC (fun i => (L (mo + 17) (b + i)).toInt32) en a).2)) := by rw [itemC, cI_f hne]
    refine r_aload_n (pc := 39) dX5_item_39 rfl ?_
    refine rm_getI (pc := 40) dX5_item_40 fl_X5_184_5 (MR_k hm) (fun _ _ => rfl) ?_
    rw [ea]
    refine r_istore1 (pc := 43) dX5_item_43 rfl ?_
    refine r_aload_n (pc := 44) dX5_item_44 rfl ?_
    refine r_o1 (pc := 45) (bc' := 0) (bs' := 0) (ct_X5_word hm J b en a hx ha ea) k_X5_209_5 dX5_item_45 (MR_k hm) (Nat.le_of_ble_eq_true rfl) ⟨Nat.le_of_ble_eq_true rfl, Nat.le_of_ble_eq_true rfl⟩ ⟨Nat.le_of_ble_eq_true rfl, Nat.le_of_ble_eq_true rfl⟩ (r_ci fun r45 M45 p45 => ?_) nox
    obtain ⟨rfl, rfl⟩ := p45
    refine r_istore2 (pc := 48) dX5_item_48 rfl ?_
    refine r_iload_n (pc := 49) dX5_item_49 rfl ?_
    refine r_iconst (pc := 50) (v := (-1)) dX5_item_50 (by decide) ?_
    refine r_icmp_ne (pc := 51) 56 dX5_item_51 rfl (fun h51 => ?_) (fun h51 => ?_)
    · rw [if_neg h51] at hIt ⊢
      rcases wdL_w (c := (fun i => (L (mo + 17) (b + i)).toInt32)) (en := en) (a := a) 6 0 a with h | ⟨k, h1, h2, h3⟩
      · exact absurd h h51
      · have h3 : (wdC (fun i => (L (mo + 17) (b + i)).toInt32) en a).1 = nI k := h3
        rw [h3] at hIt ⊢
        have hc : k = 0 ∨ k = 1 ∨ k = 2 ∨ k = 3 ∨ k = 4 ∨ k = 5 := by omega
        rcases hc with rfl | rfl | rfl | rfl | rfl | rfl
        · exact word0 _ hle.1 hIt
        · exact word1 _ hle.1 hIt
        · exact word2 _ hle.1 hIt
        · exact word3 _ hle.1 hIt
        · exact word4 _ hle.1 hIt
        · exact word5 _ hle.1 hIt
    · rw [if_pos h51] at hIt ⊢
      refine r_iconst (pc := 54) (v := 0) dX5_item_54 (by decide) ?_
      refine r_zreturn (pc := 55) rfl rfl dX5_item_55 ⟨_, rfl, ?_⟩
      exact flt _ _ (dX.rf.up (Or.inr (Or.inr rfl))) hIt (by rw [up2_self, va_up_self])
  have L0 : ∀ (n f : Nat), f + n = 6 → (∀ g, g < f → ¬ (isWP (fun i => (L (mo + 17) (b + i)).toInt32) en a g ∧ fulP (sM J mo) (nI g))) → Wx (YX5_item, (3, 72, 0, 0), qi (fun r M' => ∃ K, M' = wIL M0 K L ∧ frM mo J K L L ∧ txM K mo b en ∧ K (mo + 21) = J (mo + 21) ∧ eqX (sM K mo) (itemC (sM J mo) (fun i => (L (mo + 17) (b + i)).toInt32) en a).2.1 ∧ ((itemC (sM J mo) (fun i => (L (mo + 17) (b + i)).toInt32) en a).1 = true → r = 1 ∧ K mo 31 = nI (itemC (sM J mo) (fun i => (L (mo + 17) (b + i)).toInt32) en a).2.2) ∧ (¬ (itemC (sM J mo) (fun i => (L (mo + 17) (b + i)).toInt32) en a).1 = true → r = 0 ∧ K mo 34 = nI (itemC (sM J mo) (fun i => (L (mo + 17) (b + i)).toInt32) en a).2.2)), noX) 0 0 (wIL M0 J L) 2 [some (.ref mo), some (.int (nI f)), none, none, none, none] [] := by
    intro n
    induction n with
    | zero =>
      intro f hf hg
      refine r_iload_n (pc := 2) dX5_item_2 rfl ?_
      refine r_bipush (pc := 3) (v := 6) dX5_item_3 (by decide) ?_
      refine r_icmp_ge (pc := 5) 39 dX5_item_5 rfl (fun _ => ?_) (fun hno => False.elim (by rw [show (6 : Int32) = nI 6 from rfl, nI_ltI (by omega) (by omega)] at hno; omega))
      exact mid (fun z => by obtain ⟨g, z1, z2⟩ := z; exact hg g (by omega) z2) _
    | succ n ih =>
      intro f hf hg
      refine r_iload_n (pc := 2) dX5_item_2 rfl ?_
      refine r_bipush (pc := 3) (v := 6) dX5_item_3 (by decide) ?_
      refine r_icmp_ge (pc := 5) 39 dX5_item_5 rfl (fun hno => False.elim (by rw [show (6 : Int32) = nI 6 from rfl, nI_ltI (by omega) (by omega)] at hno; omega)) (fun _ => ?_)
      refine r_aload_n (pc := 8) dX5_item_8 rfl ?_
      refine r_iload_n (pc := 9) dX5_item_9 rfl ?_
      refine r_o2 (pc := 10) (bc' := 0) (bs' := 0) (ct_X5_isWordAt hm J b en a hx ha ea f (by omega)) k_X5_203_5 dX5_item_10 (MR_k hm) (Nat.le_of_ble_eq_true rfl) ⟨Nat.le_of_ble_eq_true rfl, Nat.le_of_ble_eq_true rfl⟩ ⟨Nat.le_of_ble_eq_true rfl, Nat.le_of_ble_eq_true rfl⟩ (r_ci fun r10 M10 p10 => ?_) nox
      obtain ⟨rfl, rfl⟩ := p10
      refine r_if_eq (pc := 13) 33 dX5_item_13 rfl (fun h13 => ?_) (fun h13 => ?_)
      · rw [bI_eq0] at h13
        refine r_iinc1 (pc := 33) dX5_item_33 (nI_1 _) rfl ?_
        refine r_goto (pc := 36) 2 dX5_item_36 rfl ?_
        refine ih (f + 1) (by omega) (fun g hgf => ?_)
        by_cases e : g = f
        · subst e; first | exact fun z => h13 z.1 | exact fun z => h21 z.2
        · exact hg g (by omega)
      · rw [bI_ne0] at h13
        refine r_aload_n (pc := 16) dX5_item_16 rfl ?_
        refine r_iload_n (pc := 17) dX5_item_17 rfl ?_
        refine r_o2 (pc := 18) (bc' := 0) (bs' := 0) (ct_X5_isFull hm _) k_X5_206_5 dX5_item_18 (MR_k hm) (Nat.le_of_ble_eq_true rfl) ⟨Nat.le_of_ble_eq_true rfl, Nat.le_of_ble_eq_true rfl⟩ ⟨Nat.le_of_ble_eq_true rfl, Nat.le_of_ble_eq_true rfl⟩ (r_ci fun r18 M18 p18 => ?_) nox
        obtain ⟨rfl, rfl⟩ := p18
        refine r_if_eq (pc := 21) 33 dX5_item_21 rfl (fun h21 => ?_) (fun h21 => ?_)
        · rw [bI_eq0] at h21
          refine r_iinc1 (pc := 33) dX5_item_33 (nI_1 _) rfl ?_
          refine r_goto (pc := 36) 2 dX5_item_36 rfl ?_
          refine ih (f + 1) (by omega) (fun g hgf => ?_)
          by_cases e : g = f
          · subst e; first | exact fun z => h13 z.1 | exact fun z => h21 z.2
          · exact hg g (by omega)
        · rw [bI_ne0] at h21
          refine r_aload_n (pc := 24) dX5_item_24 rfl ?_
          refine r_aload_n (pc := 25) dX5_item_25 rfl ?_
          refine rm_getI (pc := 26) dX5_item_26 fl_X5_184_5 (MR_k hm) (fun _ _ => rfl) ?_
          rw [ea]
          refine r_o2 (pc := 29) (bc' := 0) (bs' := 0) (ct_X5_wrong hm _) k_X5_197_5 dX5_item_29 (MR_k hm) (Nat.le_of_ble_eq_true rfl) ⟨Nat.le_of_ble_eq_true rfl, Nat.le_of_ble_eq_true rfl⟩ ⟨Nat.le_of_ble_eq_true rfl, Nat.le_of_ble_eq_true rfl⟩ (r_ci fun r29 M29 p29 => ?_) nox
          obtain ⟨rfl, rfl⟩ := p29
          refine r_zreturn (pc := 32) rfl rfl dX5_item_32 ⟨_, rfl, ?_⟩
          refine flt _ a (dX.rf.up (Or.inr (Or.inr rfl))) ?_ (by rw [up2_self, va_up_self])
          rw [itemC, cI_t ⟨f, by omega, h13, h21⟩]
  refine r_iconst (pc := 0) (v := 0) dX5_item_0 (by decide) ?_
  refine r_istore1 (pc := 1) dX5_item_1 rfl ?_
  exact L0 6 0 rfl (fun g hg => absurd hg (by omega))
theorem ct_X5_valley {M0 : PM} {mo : Nat} {I : Nat → Nat → Int32} {L : Nat → Nat → Int64} (hm : MR M0 mo) (x1 : Int32) (hk : OkS (sM I mo)) : Ct (YX5_valley, (4, 97, 0, 0), qi (fun r M' => oM M0 mo I L (valleyS (sS I L mo) x1) r M'), noX) [.ref mo, .int x1] (wIL M0 I L) := by
  refine ct_of [some (.ref mo), some (.int x1), none, none, none] rfl rfl rfl (Nat.le_of_ble_eq_true rfl) rfl rfl ?_
  have base : ∀ (I1 : Nat → Nat → Int32) (en : Nat), shelfP x1 → I (mo + 13) (Int32.toNatClampNeg x1) = 1 → I (mo + 15) (Int32.toNatClampNeg x1) = nI en → en ≤ 160 → valleyS (sS I L mo) x1 = (if (valV (sS I L mo) (Int32.toNatClampNeg x1)).1 = true then (nI (valV (sS I L mo) (Int32.toNatClampNeg x1)).2.2, ((valV (sS I L mo) (Int32.toNatClampNeg x1)).2.1, L (mo + 17))) else noS (up2 (sM I mo) 9 0 (nI (valV (sS I L mo) (Int32.toNatClampNeg x1)).2.2), L (mo + 17)) (-6)) → (∀ x, x ≠ mo + 21 → I1 x = I x) → (∀ j, j < 85 → I1 (mo + 21) j = pkC (sM I mo) j) → Wx (YX5_valley, (4, 97, 0, 0), qi (fun r M' => oM M0 mo I L (valleyS (sS I L mo) x1) r M'), noX) 0 0 (wIL M0 I1 L) 25 [some (.ref mo), some (.int x1), some (.int 0), none, none] [] := by
    intro I1 en t1 t2 t3 h160 hw0 e1 g1
    have hx := vp_sh t1
    have hlt := vp_in_lt hx
    have hb8 : 160 * (Int32.toNatClampNeg x1) + 160 ≤ 1280 := by omega
    have eV : valV (sS I L mo) (Int32.toNatClampNeg x1) = valC (up2 (sM I mo) 9 0 (-1)) (fun i => (L (mo + 17) (160 * (Int32.toNatClampNeg x1) + i)).toInt32) en := by
      unfold valV
      rw [show (sS I L mo).1 24 (Int32.toNatClampNeg x1) = nI en from t3, ix_nI (by omega)]
    have bad : ∀ (K : Nat → Nat → Int32) (n : Int32) (q : Nat), frM mo I K L L → (∀ j, j < 85 → K (mo + 21) j = pkC (sM I mo) j) → (∀ k, ¬ (k < 9 ∨ (11 ≤ k ∧ k ≤ 21)) → k ≠ 29 → (k < 30 ∨ 35 < k) → sM K mo k = (up2 (sM I mo) 9 0 (-1)) k) → K mo 34 = nI q → (valV (sS I L mo) (Int32.toNatClampNeg x1)).1 = false → (valV (sS I L mo) (Int32.toNatClampNeg x1)).2.2 = q → Wx (YX5_valley, (4, 97, 0, 0), qi (fun r M' => oM M0 mo I L (valleyS (sS I L mo) x1) r M'), noX) 0 0 (wIL M0 K L) 62 [some (.ref mo), some (.int x1), some (.int 0), some (.int n), some (.int 0)] [] := by
      intro K n q f1 w1 k1 e34 hv1 hv2
      rw [hv1, if_neg Bool.false_ne_true, hv2] at hw0
      refine r_iload (pc := 62) dX5_valley_62 rfl ?_
      refine r_if_eq (pc := 64) 133 dX5_valley_64 rfl (fun _ => ?_) (fun hno => absurd hno (by decide))
      refine r_iload (pc := 133) dX5_valley_133 rfl ?_
      refine r_if_eq (pc := 135) 140 dX5_valley_135 rfl (fun _ => ?_) (fun hno => absurd hno (by decide))
      refine r_aload_n (pc := 140) dX5_valley_140 rfl ?_
      refine r_aload_n (pc := 141) dX5_valley_141 rfl ?_
      refine r_getR (pc := 142) dX5_valley_142 fl_X5_81_5 (MR_k hm) (fun _ _ => rfl) (MR_r35 hm) ?_
      refine r_iconst (pc := 145) (v := 1) dX5_valley_145 (by decide) ?_
      refine r_o3 (pc := 146) (bc' := 0) (bs' := 0) (ct_X5_all1 hm (mo + 21) (MR_k35 hm) (MR_z35 hm) (by omega)) k_X5_226_5 dX5_valley_146 (MR_k hm) (Nat.le_of_ble_eq_true rfl) ⟨Nat.le_of_ble_eq_true rfl, Nat.le_of_ble_eq_true rfl⟩ ⟨Nat.le_of_ble_eq_true rfl, Nat.le_of_ble_eq_true rfl⟩ (r_cv fun M146 p146 => ?_) nox
      obtain ⟨K3, rfl, b1, b2, b3, b4, b5⟩ := p146
      refine r_aload_n (pc := 149) dX5_valley_149 rfl ?_
      refine r_aload_n (pc := 150) dX5_valley_150 rfl ?_
      refine rm_getI (pc := 151) dX5_valley_151 fl_X5_181_5 (MR_k hm) (fun _ _ => rfl) ?_
      rw [b4 34 (by decide), e34]
      refine rm_putI (pc := 154) dX5_valley_154 fl_X5_16_5 (MR_k hm) rfl rfl ?_
      refine r_aload_n (pc := 157) dX5_valley_157 rfl ?_
      refine r_bipush (pc := 158) (v := (-6)) dX5_valley_158 (by decide) ?_
      refine r_o2 (pc := 160) (bc' := 0) (bs' := 0) (ct_X5_no hm _ (vp_in_lit rfl)) k_X5_136_5 dX5_valley_160 (MR_k hm) (Nat.le_of_ble_eq_true rfl) ⟨Nat.le_of_ble_eq_true rfl, Nat.le_of_ble_eq_true rfl⟩ ⟨Nat.le_of_ble_eq_true rfl, Nat.le_of_ble_eq_true rfl⟩ (r_ci fun r160 M160 p160 => ?_) nox
      obtain ⟨rfl, rfl⟩ := p160
      refine r_ireturn (pc := 163) rfl dX5_valley_163 ⟨_, rfl, ?_⟩
      rw [hw0, noS]
      refine ⟨rfl, _, L, rfl, ⟨fun k hk2 i hi => ?_, fun _ _ => rfl⟩, ?_⟩
      · obtain ⟨u1, u2⟩ := back_S (τ := sM I mo) b1 b2 b3 b4 b5
        show sM _ mo k i = up2 (up2 (sM I mo) 9 0 (nI q)) 10 6 _ k i
        have hp : k ≤ 26 ∨ k = 28 ∨ k = 36 ∨ k = 47 ∨ k = 48 ∨ k = 49 := of_decide_eq_true hk2
        have e10 : K3 (mo + 1) = I (mo + 1) := by rw [b5 _ (by omega) (by omega)]; have := k1 10 (by omega) (by omega) (by omega); rw [up2_ne (by decide)] at this; exact this
        rw [← su10, ← su9, show Int32.toNatClampNeg (- -6) = 6 from rfl, up2_ne (show mo + 1 ≠ mo by omega), e10]
        by_cases k10 : k = 10
        · subst k10; rw [up2_self, up2_self, up2_ne (by decide), up2_ne (by decide), show sM K3 mo 10 = K3 (mo + 1) from rfl, e10]; rfl
        · rw [up2_ne k10, up2_ne k10]
          by_cases k9 : k = 9
          · subst k9; rw [up2_self, up2_self]; have hi : i < 1 := hi; have : i = 0 := by omega
            subst this; rw [va_up_self, va_up_self]
          · rw [up2_ne k9, up2_ne k9]
            by_cases hr : k < 9 ∨ (11 ≤ k ∧ k ≤ 21)
            · rw [u1 k hr i hi, ← un_pk (σ := sM I mo) (τ := sM I mo) hr hi]; exact un_c hr hi w1
            · rw [u2 k hr, k1 k hr (by omega) (by omega), up2_ne k9]
      · intro x hx2
        refine ⟨?_, rfl⟩
        rw [up2_ne (by omega), up2_ne (by omega), b5 x (by omega) (by omega)]
        exact (f1 x hx2).1
    have good : ∀ (K : Nat → Nat → Int32) (n : Nat), frM mo I K L L → eqX (sM K mo) (valV (sS I L mo) (Int32.toNatClampNeg x1)).2.1 → (valV (sS I L mo) (Int32.toNatClampNeg x1)).1 = true → (valV (sS I L mo) (Int32.toNatClampNeg x1)).2.2 = n → Wx (YX5_valley, (4, 97, 0, 0), qi (fun r M' => oM M0 mo I L (valleyS (sS I L mo) x1) r M'), noX) 0 0 (wIL M0 K L) 133 [some (.ref mo), some (.int x1), some (.int 0), some (.int (nI n)), some (.int 1)] [] := by
      intro K n f1 k1 hv1 hv2
      rw [hv1, if_pos rfl, hv2] at hw0
      refine r_iload (pc := 133) dX5_valley_133 rfl ?_
      refine r_if_eq (pc := 135) 140 dX5_valley_135 rfl (fun hno => absurd hno (by decide)) (fun _ => ?_)
      refine r_iload_n (pc := 138) dX5_valley_138 rfl ?_
      refine r_ireturn (pc := 139) rfl dX5_valley_139 ⟨_, rfl, ?_⟩
      rw [hw0]
      refine ⟨rfl, K, L, rfl, ⟨fun k hk2 i hi => ?_, fun _ _ => rfl⟩, f1⟩
      have hp : k ≤ 26 ∨ k = 28 ∨ k = 36 ∨ k = 47 ∨ k = 48 ∨ k = 49 := of_decide_eq_true hk2
      exact congrFun (k1 k (by omega) (by omega)) i
    have L1 : ∀ (f n x : Nat) (K : Nat → Nat → Int32) (σ : cS), frM mo I K L L → (∀ j, j < 85 → K (mo + 21) j = pkC (sM I mo) j) → txM K mo (160 * (Int32.toNatClampNeg x1)) en → eqX (sM K mo) σ → (∀ k, ¬ (k < 9 ∨ (11 ≤ k ∧ k ≤ 21)) → σ k = (up2 (sM I mo) 9 0 (-1)) k) → OkW σ → K mo 31 = nI x → x ≤ en → en < x + f → valV (sS I L mo) (Int32.toNatClampNeg x1) = valL (fun i => (L (mo + 17) (160 * (Int32.toNatClampNeg x1) + i)).toInt32) en f σ x n → Wx (YX5_valley, (4, 97, 0, 0), qi (fun r M' => oM M0 mo I L (valleyS (sS I L mo) x1) r M'), noX) 0 0 (wIL M0 K L) 62 [some (.ref mo), some (.int x1), some (.int 0), some (.int (nI n)), some (.int 1)] [] := by
      intro f
      induction f with
      | zero => intro n x K σ a1 a2 a3 a4 a5 a6 a7 a8 a9; omega
      | succ f ih =>
        intro n x K σ a1 a2 a3 a4 a5 a6 a7 a8 a9 hw
        rw [valL] at hw
        have hsf : ∀ (K2 : Nat → Nat → Int32) (τ : cS), eqX (sM K2 mo) τ → (∀ k, ¬ (k < 9 ∨ (11 ≤ k ∧ k ≤ 21)) → τ k = (up2 (sM I mo) 9 0 (-1)) k) → ∀ k, ¬ (k < 9 ∨ (11 ≤ k ∧ k ≤ 21)) → k ≠ 29 → (k < 30 ∨ 35 < k) → sM K2 mo k = (up2 (sM I mo) 9 0 (-1)) k := fun K2 τ h1 h2 k h3 h4 h5 => (h1 k h4 (by omega)).trans (h2 k h3)
        have d1 : dX K (up2 K mo 31 (nI (x + 1))) mo := dX.rf.up (Or.inl rfl)
        have x1' := d1.tx a3
        have q1 := d1.eq.trans a4
        have o1 : OkW (sM (up2 K mo 31 (nI (x + 1))) mo) := q1.ok a6
        have aft : x < en → (if (itemC σ (fun i => (L (mo + 17) (160 * (Int32.toNatClampNeg x1) + i)).toInt32) en (x + 1)).1 = true then valL (fun i => (L (mo + 17) (160 * (Int32.toNatClampNeg x1) + i)).toInt32) en f (itemC σ (fun i => (L (mo + 17) (160 * (Int32.toNatClampNeg x1) + i)).toInt32) en (x + 1)).2.1 (itemC σ (fun i => (L (mo + 17) (160 * (Int32.toNatClampNeg x1) + i)).toInt32) en (x + 1)).2.2 (n + 1) else (false, σ, (itemC σ (fun i => (L (mo + 17) (160 * (Int32.toNatClampNeg x1) + i)).toInt32) en (x + 1)).2.2)) = valV (sS I L mo) (Int32.toNatClampNeg x1) → ∀ (r : Int32) (K2 : Nat → Nat → Int32), frM mo (up2 K mo 31 (nI (x + 1))) K2 L L → txM K2 mo (160 * (Int32.toNatClampNeg x1)) en → K2 (mo + 21) = (up2 K mo 31 (nI (x + 1))) (mo + 21) → eqX (sM K2 mo) (itemC (sM (up2 K mo 31 (nI (x + 1))) mo) (fun i => (L (mo + 17) (160 * (Int32.toNatClampNeg x1) + i)).toInt32) en (x + 1)).2.1 → ((itemC (sM (up2 K mo 31 (nI (x + 1))) mo) (fun i => (L (mo + 17) (160 * (Int32.toNatClampNeg x1) + i)).toInt32) en (x + 1)).1 = true → r = 1 ∧ K2 mo 31 = nI (itemC (sM (up2 K mo 31 (nI (x + 1))) mo) (fun i => (L (mo + 17) (160 * (Int32.toNatClampNeg x1) + i)).toInt32) en (x + 1)).2.2) → (¬ (itemC (sM (up2 K mo 31 (nI (x + 1))) mo) (fun i => (L (mo + 17) (160 * (Int32.toNatClampNeg x1) + i)).toInt32) en (x + 1)).1 = true → r = 0 ∧ K2 mo 34 = nI (itemC (sM (up2 K mo 31 (nI (x + 1))) mo) (fun i => (L (mo + 17) (160 * (Int32.toNatClampNeg x1) + i)).toInt32) en (x + 1)).2.2) → Wx (YX5_valley, (4, 97, 0, 0), qi (fun r M' => oM M0 mo I L (valleyS (sS I L mo) x1) r M'), noX) 0 0 (wIL M0 K2 L) 62 [some (.ref mo), some (.int x1), some (.int 0), some (.int (nI (n + 1))), some (.int r)] [] := by
          intro hlx hw2 r K2 f2 x2 e21 q2 s2 s3
          obtain ⟨i1, i2, i3⟩ := item_c q1 (c := (fun i => (L (mo + 17) (160 * (Int32.toNatClampNeg x1) + i)).toInt32)) (en := en) (a := x + 1)
          rw [i1, i2] at s2 s3
          have hok := item_ok a6 (c := (fun i => (L (mo + 17) (160 * (Int32.toNatClampNeg x1) + i)).toInt32)) (en := en) (a := x + 1) (by omega)
          have f3 : frM mo I K2 L L := (a1.trans d1.fr).trans f2
          have w2 : ∀ j, j < 85 → K2 (mo + 21) j = pkC (sM I mo) j := fun j hj => by rw [e21, up2_ne (by omega)]; exact a2 j hj
          have q3 := q2.trans i3
          have k3 : ∀ k, ¬ (k < 9 ∨ (11 ≤ k ∧ k ≤ 21)) → (itemC σ (fun i => (L (mo + 17) (160 * (Int32.toNatClampNeg x1) + i)).toInt32) en (x + 1)).2.1 k = (up2 (sM I mo) 9 0 (-1)) k := fun k hk2 => (item_k hk2).trans (a5 k hk2)
          by_cases h : (itemC σ (fun i => (L (mo + 17) (160 * (Int32.toNatClampNeg x1) + i)).toInt32) en (x + 1)).1 = true
          · obtain ⟨rfl, e31⟩ := s2 h
            rw [if_pos h] at hw2
            obtain ⟨o2, o3⟩ := hok.1 h
            exact ih (n + 1) _ K2 _ f3 w2 x2 q3 k3 o2 e31 hok.2 (by omega) hw2.symm
          · obtain ⟨rfl, e34⟩ := s3 h
            rw [if_neg h] at hw2
            exact bad K2 _ _ f3 w2 (hsf K2 _ q3 k3) e34 (by rw [← hw2]) (by rw [← hw2])
        refine r_iload (pc := 62) dX5_valley_62 rfl ?_
        refine r_if_eq (pc := 64) 133 dX5_valley_64 rfl (fun hno => absurd hno (by decide)) (fun _ => ?_)
        refine r_aload_n (pc := 67) dX5_valley_67 rfl ?_
        refine rm_getI (pc := 68) dX5_valley_68 fl_X5_184_5 (MR_k hm) (fun _ _ => rfl) ?_
        rw [a7]
        refine r_aload_n (pc := 71) dX5_valley_71 rfl ?_
        refine rm_getI (pc := 72) dX5_valley_72 fl_X5_187_5 (MR_k hm) (fun _ _ => rfl) ?_
        rw [a3.2.1]
        refine r_icmp_ge (pc := 75) 133 dX5_valley_75 rfl (fun h75 => ?_) (fun h75 => ?_)
        · rw [nI_ltI (by omega) (by omega)] at h75
          rw [if_neg h75] at hw
          exact good K n a1 (by rw [hw]; exact a4) (by rw [hw]) (by rw [hw])
        · rw [nI_ltI (by omega) (by omega)] at h75
          rw [if_pos h75] at hw
          refine r_aload_n (pc := 78) dX5_valley_78 rfl ?_
          refine r_getR (pc := 79) dX5_valley_79 fl_X5_68_5 (MR_k hm) (fun _ _ => rfl) (MR_r26 hm) ?_
          refine r_aload_n (pc := 82) dX5_valley_82 rfl ?_
          refine rm_getI (pc := 83) dX5_valley_83 fl_X5_190_5 (MR_k hm) (fun _ _ => rfl) ?_
          rw [a3.1]
          refine r_aload_n (pc := 86) dX5_valley_86 rfl ?_
          refine rm_getI (pc := 87) dX5_valley_87 fl_X5_184_5 (MR_k hm) (fun _ _ => rfl) ?_
          rw [a7]
          refine r_iadd (pc := 90) dX5_valley_90 ?_
          refine r_eqi (nI (160 * (Int32.toNatClampNeg x1) + x)) (by rw [nI_add]) ?_
          refine rm_lald (pc := 91) dX5_valley_91 (MR_k26 hm) (MR_z26 hm) (vp_in_nI (by omega) (by decide)) ?_
          rw [ix_nI (by omega)]
          refine r_l2i (pc := 92) dX5_valley_92 ?_
          refine r_bipush (pc := 93) (v := 59) dX5_valley_93 (by decide) ?_
          refine r_icmp_eq (pc := 95) 111 dX5_valley_95 rfl (fun h95 => ?_) (fun h95 => ?_)
          · rw [if_pos h95] at hw
            refine r_aload_n (pc := 111) dX5_valley_111 rfl ?_
            refine r_dup (pc := 112) dX5_valley_112 rfl ?_
            refine rm_getI (pc := 113) dX5_valley_113 fl_X5_184_5 (MR_k hm) (fun _ _ => rfl) ?_
            rw [a7]
            refine r_iconst (pc := 116) (v := 1) dX5_valley_116 (by decide) ?_
            refine r_iadd (pc := 117) dX5_valley_117 ?_
            rw [nI_1]
            refine rm_putI (pc := 118) dX5_valley_118 fl_X5_184_5 (MR_k hm) rfl rfl ?_
            refine r_iinc3 (pc := 121) dX5_valley_121 (nI_1 _) rfl ?_
            refine r_aload_n (pc := 124) dX5_valley_124 rfl ?_
            refine r_o1 (pc := 125) (bc' := 0) (bs' := 0) (ct_X5_item hm (up2 K mo 31 (nI (x + 1))) (160 * (Int32.toNatClampNeg x1)) en (x + 1) x1' (by omega) (by rw [up2_self, va_up_self]) o1) k_X5_230_5 dX5_valley_125 (MR_k hm) (Nat.le_of_ble_eq_true rfl) ⟨Nat.le_of_ble_eq_true rfl, Nat.le_of_ble_eq_true rfl⟩ ⟨Nat.le_of_ble_eq_true rfl, Nat.le_of_ble_eq_true rfl⟩ (r_ci fun r125 M125 p125 => ?_) nox
            obtain ⟨K2, rfl, f2, x2, e21, q2, s2, s3⟩ := p125
            refine r_istore4 (pc := 128) dX5_valley_128 rfl ?_
            refine r_goto (pc := 130) 62 dX5_valley_130 rfl ?_
            first
              | exact aft h75 hw.symm r125 K2 f2 x2 e21 q2 s2 s3
              | exact bad _ _ x (a1.trans (dX.rf.up (Or.inr (Or.inr rfl))).fr) (fun j hj => by rw [up2_ne (by omega)]; exact a2 j hj) (hsf _ _ ((dX.rf.up (Or.inr (Or.inr rfl))).eq.trans a4) a5) (by rw [up2_self, va_up_self]) (by rw [hw]) (by rw [hw])
          · rw [if_neg h95] at hw
            refine r_aload_n (pc := 98) dX5_valley_98 rfl ?_
            refine r_aload_n (pc := 99) dX5_valley_99 rfl ?_
            refine rm_getI (pc := 100) dX5_valley_100 fl_X5_184_5 (MR_k hm) (fun _ _ => rfl) ?_
            rw [a7]
            refine r_o2 (pc := 103) (bc' := 0) (bs' := 0) (ct_X5_wrong hm _) k_X5_197_5 dX5_valley_103 (MR_k hm) (Nat.le_of_ble_eq_true rfl) ⟨Nat.le_of_ble_eq_true rfl, Nat.le_of_ble_eq_true rfl⟩ ⟨Nat.le_of_ble_eq_true rfl, Nat.le_of_ble_eq_true rfl⟩ (r_ci fun r103 M103 p103 => ?_) nox
            obtain ⟨rfl, rfl⟩ := p103
            refine r_istore4 (pc := 106) dX5_valley_106 rfl ?_
            refine r_goto (pc := 108) 62 dX5_valley_108 rfl ?_
            first
              | exact aft h75 hw.symm r125 K2 f2 x2 e21 q2 s2 s3
              | exact bad _ _ x (a1.trans (dX.rf.up (Or.inr (Or.inr rfl))).fr) (fun j hj => by rw [up2_ne (by omega)]; exact a2 j hj) (hsf _ _ ((dX.rf.up (Or.inr (Or.inr rfl))).eq.trans a4) a5) (by rw [up2_self, va_up_self]) (by rw [hw]) (by rw [hw])
    obtain ⟨y1, y2⟩ := cix hx (show vp_in 0 160 from vp_in_lit rfl)
    have e160 : (160 : Int32) * x1 = nI (160 * (Int32.toNatClampNeg x1)) := by
      obtain ⟨s, hs, es⟩ := vp_in_of hx (by decide)
      rw [es, show (160 : Int32) = nI 160 from rfl, pk_mul, ix_nI (by omega)]
    have k0 : eqX (sM (up2 (up2 (up2 (up2 I1 mo 30 (160 * x1)) mo 31 0) mo 32 (nI en)) mo 9 (-1)) mo) (up2 (sM I mo) 9 0 (-1)) := by
      intro k h1 h2
      by_cases k9 : k = 9
      · subst k9; rw [← su9, up2_self, up2_self, ← su32, ← su31, ← su30, up2_ne (by decide), up2_ne (by decide), up2_ne (by decide)]
        rw [show sM I1 mo 9 = sM I mo 9 from sM_eq (by rw [e1 mo (by omega)]) (fun o ho => absurd ho (by rintro (⟨g1, g2, g3⟩ | ⟨g1, g2, g3⟩ | ⟨g1, g3⟩) <;> omega))]
      · rw [up2_ne k9, ← su9, up2_ne k9, ← su32, ← su31, ← su30, up2_ne (by omega), up2_ne (by omega), up2_ne (by omega)]
        exact sM_eq (by rw [e1 mo (by omega)]) (fun o ho => e1 _ (by rcases ho with ⟨g1, g2, g3⟩ | ⟨g1, g2, g3⟩ | ⟨g1, g3⟩ <;> omega))
    have o0 : OkW (up2 (sM I mo) 9 0 (-1)) := hk.1.c (fun k hk2 => by rw [up2_ne (by omega)]) (fun k h1 h2 i _ => by rw [up2_ne (by omega)])
    have t0 : txM (up2 (up2 (up2 (up2 I1 mo 30 (160 * x1)) mo 31 0) mo 32 (nI en)) mo 9 (-1)) mo (160 * (Int32.toNatClampNeg x1)) en := by
      refine ⟨?_, ?_, h160, hb8, fun i hi => ?_⟩
      · simp (decide := true) only [up2_self, va_up, if_true, if_false]; exact e160
      · simp (decide := true) only [up2_self, va_up, if_true, if_false]
      · rw [up2_ne (by omega), up2_ne (by omega), up2_ne (by omega), up2_ne (by omega), e1 _ (by omega)]; exact hk.2.2.2.2 i hi
    have e31 : (up2 (up2 (up2 (up2 I1 mo 30 (160 * x1)) mo 31 0) mo 32 (nI en)) mo 9 (-1)) mo 31 = nI 0 := by simp (decide := true) only [up2_self, va_up, if_true, if_false]; try rfl
    have f0 : frM mo I (up2 (up2 (up2 (up2 I1 mo 30 (160 * x1)) mo 31 0) mo 32 (nI en)) mo 9 (-1)) L L := by
      intro x hx2
      refine ⟨?_, rfl⟩
      rw [up2_ne (by omega), up2_ne (by omega), up2_ne (by omega), up2_ne (by omega), e1 _ (by omega)]
    have w0 : (up2 (up2 (up2 (up2 I1 mo 30 (160 * x1)) mo 31 0) mo 32 (nI en)) mo 9 (-1)) (mo + 21) = I1 (mo + 21) := by rw [up2_ne (by omega), up2_ne (by omega), up2_ne (by omega), up2_ne (by omega)]
    have eV2 : valV (sS I L mo) (Int32.toNatClampNeg x1) = (if (itemC (up2 (sM I mo) 9 0 (-1)) (fun i => (L (mo + 17) (160 * (Int32.toNatClampNeg x1) + i)).toInt32) en 0).1 = true then valL (fun i => (L (mo + 17) (160 * (Int32.toNatClampNeg x1) + i)).toInt32) en (en + 1) (itemC (up2 (sM I mo) 9 0 (-1)) (fun i => (L (mo + 17) (160 * (Int32.toNatClampNeg x1) + i)).toInt32) en 0).2.1 (itemC (up2 (sM I mo) 9 0 (-1)) (fun i => (L (mo + 17) (160 * (Int32.toNatClampNeg x1) + i)).toInt32) en 0).2.2 1 else (false, (up2 (sM I mo) 9 0 (-1)), (itemC (up2 (sM I mo) 9 0 (-1)) (fun i => (L (mo + 17) (160 * (Int32.toNatClampNeg x1) + i)).toInt32) en 0).2.2)) := by rw [eV, valC]
    have first : ∀ (r : Int32) (K2 : Nat → Nat → Int32), frM mo (up2 (up2 (up2 (up2 I1 mo 30 (160 * x1)) mo 31 0) mo 32 (nI en)) mo 9 (-1)) K2 L L → txM K2 mo (160 * (Int32.toNatClampNeg x1)) en → K2 (mo + 21) = (up2 (up2 (up2 (up2 I1 mo 30 (160 * x1)) mo 31 0) mo 32 (nI en)) mo 9 (-1)) (mo + 21) → eqX (sM K2 mo) (itemC (sM (up2 (up2 (up2 (up2 I1 mo 30 (160 * x1)) mo 31 0) mo 32 (nI en)) mo 9 (-1)) mo) (fun i => (L (mo + 17) (160 * (Int32.toNatClampNeg x1) + i)).toInt32) en 0).2.1 → ((itemC (sM (up2 (up2 (up2 (up2 I1 mo 30 (160 * x1)) mo 31 0) mo 32 (nI en)) mo 9 (-1)) mo) (fun i => (L (mo + 17) (160 * (Int32.toNatClampNeg x1) + i)).toInt32) en 0).1 = true → r = 1 ∧ K2 mo 31 = nI (itemC (sM (up2 (up2 (up2 (up2 I1 mo 30 (160 * x1)) mo 31 0) mo 32 (nI en)) mo 9 (-1)) mo) (fun i => (L (mo + 17) (160 * (Int32.toNatClampNeg x1) + i)).toInt32) en 0).2.2) → (¬ (itemC (sM (up2 (up2 (up2 (up2 I1 mo 30 (160 * x1)) mo 31 0) mo 32 (nI en)) mo 9 (-1)) mo) (fun i => (L (mo + 17) (160 * (Int32.toNatClampNeg x1) + i)).toInt32) en 0).1 = true → r = 0 ∧ K2 mo 34 = nI (itemC (sM (up2 (up2 (up2 (up2 I1 mo 30 (160 * x1)) mo 31 0) mo 32 (nI en)) mo 9 (-1)) mo) (fun i => (L (mo + 17) (160 * (Int32.toNatClampNeg x1) + i)).toInt32) en 0).2.2) → Wx (YX5_valley, (4, 97, 0, 0), qi (fun r M' => oM M0 mo I L (valleyS (sS I L mo) x1) r M'), noX) 0 0 (wIL M0 K2 L) 62 [some (.ref mo), some (.int x1), some (.int 0), some (.int (nI 1)), some (.int r)] [] := by
      intro r K2 f2 x2 e21 q2 s2 s3
      obtain ⟨i1, i2, i3⟩ := item_c k0 (c := (fun i => (L (mo + 17) (160 * (Int32.toNatClampNeg x1) + i)).toInt32)) (en := en) (a := 0)
      rw [i1, i2] at s2 s3
      have hok := item_ok o0 (c := (fun i => (L (mo + 17) (160 * (Int32.toNatClampNeg x1) + i)).toInt32)) (en := en) (a := 0) (by omega)
      have f3 : frM mo I K2 L L := f0.trans f2
      have w2 : ∀ j, j < 85 → K2 (mo + 21) j = pkC (sM I mo) j := fun j hj => by rw [e21, w0]; exact g1 j hj
      have q3 := q2.trans i3
      have k3 : ∀ k, ¬ (k < 9 ∨ (11 ≤ k ∧ k ≤ 21)) → (itemC (up2 (sM I mo) 9 0 (-1)) (fun i => (L (mo + 17) (160 * (Int32.toNatClampNeg x1) + i)).toInt32) en 0).2.1 k = (up2 (sM I mo) 9 0 (-1)) k := fun k hk2 => item_k hk2
      by_cases h : (itemC (up2 (sM I mo) 9 0 (-1)) (fun i => (L (mo + 17) (160 * (Int32.toNatClampNeg x1) + i)).toInt32) en 0).1 = true
      · obtain ⟨rfl, e31'⟩ := s2 h
        rw [if_pos h] at eV2
        obtain ⟨o2, o3⟩ := hok.1 h
        exact L1 (en + 1) 1 _ K2 _ f3 w2 x2 q3 k3 o2 e31' hok.2 (by omega) eV2
      · obtain ⟨rfl, e34⟩ := s3 h
        rw [if_neg h] at eV2
        exact bad K2 _ _ f3 w2 (fun k h3 h4 h5 => (q3 k h4 (by omega)).trans (k3 k h3)) e34 (by rw [eV2]) (by rw [eV2])
    refine r_aload_n (pc := 25) dX5_valley_25 rfl ?_
    refine r_sipush (pc := 26) (v := 160) dX5_valley_26 (by decide) ?_
    refine r_iload_n (pc := 29) dX5_valley_29 rfl ?_
    refine r_imul (pc := 30) dX5_valley_30 ?_
    refine rm_putI (pc := 31) dX5_valley_31 fl_X5_190_5 (MR_k hm) rfl rfl ?_
    refine r_aload_n (pc := 34) dX5_valley_34 rfl ?_
    refine r_iconst (pc := 35) (v := 0) dX5_valley_35 (by decide) ?_
    refine rm_putI (pc := 36) dX5_valley_36 fl_X5_184_5 (MR_k hm) rfl rfl ?_
    refine r_aload_n (pc := 39) dX5_valley_39 rfl ?_
    refine r_aload_n (pc := 40) dX5_valley_40 rfl ?_
    refine r_getR (pc := 41) dX5_valley_41 fl_X5_62_5 (MR_k hm) (fun _ _ => rfl) (MR_r24 hm) ?_
    refine r_iload_n (pc := 44) dX5_valley_44 rfl ?_
    refine rm_ialde (pc := 45) (f := I1 (mo + 15)) dX5_valley_45 (MR_k24 hm) (MR_z24 hm) (by first | assumption | exact vp_in_lit rfl) (by simp [up2_ne]) ?_
    refine r_eqi (nI en) (by rw [e1 _ (by omega)]; exact t3) ?_
    refine rm_putI (pc := 46) dX5_valley_46 fl_X5_187_5 (MR_k hm) rfl rfl ?_
    refine r_aload_n (pc := 49) dX5_valley_49 rfl ?_
    refine r_iconst (pc := 50) (v := (-1)) dX5_valley_50 (by decide) ?_
    refine rm_putI (pc := 51) dX5_valley_51 fl_X5_16_5 (MR_k hm) rfl rfl ?_
    refine r_iconst (pc := 54) (v := 1) dX5_valley_54 (by decide) ?_
    refine r_istore3 (pc := 55) dX5_valley_55 rfl ?_
    refine r_aload_n (pc := 56) dX5_valley_56 rfl ?_
    refine r_mem (wIL M0 (up2 (up2 (up2 (up2 I1 mo 30 (160 * x1)) mo 31 0) mo 32 (nI en)) mo 9 (-1)) L) rfl ?_
    refine r_o1 (pc := 57) (bc' := 0) (bs' := 0) (ct_X5_item hm (up2 (up2 (up2 (up2 I1 mo 30 (160 * x1)) mo 31 0) mo 32 (nI en)) mo 9 (-1)) (160 * (Int32.toNatClampNeg x1)) en 0 t0 (by omega) e31 (k0.ok o0)) k_X5_230_5 dX5_valley_57 (MR_k hm) (Nat.le_of_ble_eq_true rfl) ⟨Nat.le_of_ble_eq_true rfl, Nat.le_of_ble_eq_true rfl⟩ ⟨Nat.le_of_ble_eq_true rfl, Nat.le_of_ble_eq_true rfl⟩ (r_ci fun r57 M57 p57 => ?_) nox
    obtain ⟨K2, rfl, f2, x2, e21, q2, s2, s3⟩ := p57
    refine r_istore4 (pc := 60) dX5_valley_60 rfl ?_
    exact first r57 K2 f2 x2 e21 q2 s2 s3
  refine r_aload_n (pc := 0) dX5_valley_0 rfl ?_
  refine r_iload_n (pc := 1) dX5_valley_1 rfl ?_
  refine r_o2 (pc := 2) (bc' := 0) (bs' := 0) (ct_X5_wants hm _) k_X5_156_5 dX5_valley_2 (MR_k hm) (Nat.le_of_ble_eq_true rfl) ⟨Nat.le_of_ble_eq_true rfl, Nat.le_of_ble_eq_true rfl⟩ ⟨Nat.le_of_ble_eq_true rfl, Nat.le_of_ble_eq_true rfl⟩ (r_ci fun r2 M2 p2 => ?_) nox
  obtain ⟨er, rfl⟩ := p2
  have ew : wantsC (sS I L mo) x1 = r2 := er.symm
  refine r_istore2 (pc := 5) dX5_valley_5 rfl ?_
  refine r_iload_n (pc := 6) dX5_valley_6 rfl ?_
  refine r_if_eq (pc := 7) 16 dX5_valley_7 rfl (fun h7 => ?_) (fun h7 => ?_)
  · have hsh : shelfP x1 := wz_1 (ew.trans h7)
    have hx := vp_sh hsh
    have hz : I (mo + 13) (Int32.toNatClampNeg x1) = 1 := wz_2 hk (ew.trans h7)
    subst h7
    refine r_aload_n (pc := 16) dX5_valley_16 rfl ?_
    refine r_aload_n (pc := 17) dX5_valley_17 rfl ?_
    refine r_getR (pc := 18) dX5_valley_18 fl_X5_81_5 (MR_k hm) (fun _ _ => rfl) (MR_r35 hm) ?_
    refine r_iconst (pc := 21) (v := 0) dX5_valley_21 (by decide) ?_
    refine r_o3 (pc := 22) (bc' := 0) (bs' := 0) (ct_X5_all0 hm (mo + 21) (MR_k35 hm) (MR_z35 hm) (by omega)) k_X5_226_5 dX5_valley_22 (MR_k hm) (Nat.le_of_ble_eq_true rfl) ⟨Nat.le_of_ble_eq_true rfl, Nat.le_of_ble_eq_true rfl⟩ ⟨Nat.le_of_ble_eq_true rfl, Nat.le_of_ble_eq_true rfl⟩ (r_cv fun M22 p22 => ?_) nox
    obtain ⟨I1, rfl, e1, g1⟩ := p22
    obtain ⟨en, hen, een⟩ := bd_nI (n := 160) ((hk.2.1 (Int32.toNatClampNeg x1) (vp_in_lt hx)).2.1 hz).2
    refine base I1 en hsh hz een hen ?_ e1 g1
    rw [valleyS, cI_f (by intro q; exact q ew)]
  · refine r_aload_n (pc := 10) dX5_valley_10 rfl ?_
    refine r_iload_n (pc := 11) dX5_valley_11 rfl ?_
    refine r_o2 (pc := 12) (bc' := 0) (bs' := 0) (ct_X5_no hm _ (wz_3 h7 ew)) k_X5_136_5 dX5_valley_12 (MR_k hm) (Nat.le_of_ble_eq_true rfl) ⟨Nat.le_of_ble_eq_true rfl, Nat.le_of_ble_eq_true rfl⟩ ⟨Nat.le_of_ble_eq_true rfl, Nat.le_of_ble_eq_true rfl⟩ (r_ci fun r12 M12 p12 => ?_) nox
    obtain ⟨rfl, rfl⟩ := p12
    refine r_ireturn (pc := 15) rfl dX5_valley_15 ⟨_, rfl, ?_⟩
    first
      | contradiction
      | (refine oM.of ?_ (by repeat' (first | exact frM.rf | assumption | refine frM.up0 ?_ | refine frM.up ?_ (by decide) | refine frM.upL ?_ (by decide)))
         simp (decide := true) only [valleyS, noS, noTenS, thP, mnP, shelfP, stepS, farP, ew, h7, not_true_eq_false, not_false_eq_true, true_and, and_true, false_and, and_false, true_or, or_true, false_or, or_false, cI_True, cI_False, if_true, if_false, sm0, sm1, sm2, sm3, sm4, sm5, sm6, sm7, sm8, sm9, sm10, sm11, sm12, sm13, sm14, sm15, sm16, sm17, sm18, sm19, sm20, sm21, sm22, sm23, sm24, sm25, sm26, sm27, sm28, sm29, sm30, sm31, sm32, sm33, sm34, sm35, sm36, sm37, sm38, sm39, sm40, sm41, sm42, sm43, sm44, sm45, sm46, sm47, sm48, sm49, su0, su1, su2, su3, su4, su5, su6, su7, su8, su9, su10, su11, su12, su13, su14, su15, su16, su17, su18, su19, su20, su21, su22, su23, su24, su25, su26, su27, su28, su29, su30, su31, su32, su33, su34, su35, su36, su37, su38, su39, su40, su41, su42, su43, su44, su45, su46, su47, su48, su49])
