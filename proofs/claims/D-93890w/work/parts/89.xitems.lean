/-! THE READER: making it, items (printed by gen/mk_x89.py) -/
set_option maxRecDepth 100000
/-- the items read so far: state σ1, at a1, n of them -/
def vsP (M0 : PM) (ra ta wn : Nat) (o : Int32) (en : Nat) (c : Nat → Int32) (σ σ1 : cS) (a1 : Nat) (M : PM) : Prop := RD M ra ta wn o en c σ1 a1 ∧ frP (rdP wn ra) M0 M ∧ (∀ k, (k = 9 ∨ k = 10 ∨ 22 ≤ k) → σ1 k = σ k) ∧ (σ 0 0).toInt ≤ (σ1 0 0).toInt ∧ ∀ i, i < Int32.toNatClampNeg (σ 0 0) → mR M (wn + 1) i = mR M0 (wn + 1) i
theorem clm {x y : Int32} (h : x.toInt ≤ y.toInt) {i : Nat} (hi : i < Int32.toNatClampNeg x) : i < Int32.toNatClampNeg y := by
  have a : Int32.toNatClampNeg x = x.toInt.toNat := rfl
  have b : Int32.toNatClampNeg y = y.toInt.toNat := rfl
  omega
theorem vsP.item {M0 M M' : PM} {ra ta wn : Nat} {o : Int32} {en : Nat} {c : Nat → Int32} {σ σ1 : cS} {a1 : Nat} (h : vsP M0 ra ta wn o en c σ σ1 a1 M) (hq : itQ M ra ta wn o en c σ1 a1 M') : (itemC σ1 c en a1).1 = true ∧ vsP M0 ra ta wn o en c σ (itemC σ1 c en a1).2.1 (itemC σ1 c en a1).2.2 M' := by
  obtain ⟨σ', a', e, hd, f, g⟩ := hq
  obtain ⟨h1, h2, h3, h4, h5⟩ := h
  obtain ⟨k1, k2⟩ := item_k2 h1.2.2.2.2.2.1 (c := c) (en := en) (a := a1)
  rw [e] at k1 k2 ⊢
  exact ⟨rfl, hd, h2.trans f, fun k hk => (k1 k (by omega)).trans (h3 k hk), Int.le_trans h4 k2, fun i hi => (g i (clm h4 hi)).trans (h5 i hi)⟩
theorem vsP.at {M0 M : PM} {ra ta wn : Nat} {o : Int32} {en : Nat} {c : Nat → Int32} {σ σ1 : cS} {a1 b : Nat} (h : vsP M0 ra ta wn o en c σ σ1 a1 M) (hb : b ≤ en) : vsP M0 ra ta wn o en c σ σ1 b (sI M ra 2 (nI b)) := ⟨h.1.at hb, h.2.1.sI fun _ => Or.inr rfl, h.2.2⟩
theorem ct_X19_init {M : PM} {ra ta wn : Nat} (hK : mK M ra = (1, 19)) : Ct (YX19_init, (1, 24, 0, 0), qv (fun M' => M' = sR (sR M ra 0 (some ta)) ra 1 (some wn)), noX) [.ref ra, .ref ta, .ref wn] M := by
  refine ct_of [some (.ref ra), some (.ref ta), some (.ref wn)] rfl rfl rfl (Nat.le_of_ble_eq_true rfl) rfl rfl ?_
  refine r_aload_n (pc := 0) dX19_init_0 rfl ?_
  refine r_objInit (pc := 1) dX19_init_1 q940 q120 q121 (Nat.le_of_ble_eq_true rfl) (Nat.le_of_ble_eq_true rfl) ?_
  refine r_aload_n (pc := 4) dX19_init_4 rfl ?_
  refine r_aload_n (pc := 5) dX19_init_5 rfl ?_
  refine r_putFR (pc := 6) dX19_init_6 fl_X19_9_19 hK rfl rfl rfl ?_
  refine r_aload_n (pc := 9) dX19_init_9 rfl ?_
  refine r_aload_n (pc := 10) dX19_init_10 rfl ?_
  refine r_putFR (pc := 11) dX19_init_11 fl_X19_15_19 hK rfl rfl rfl ?_
  refine r_return (pc := 14) rfl dX19_init_14 ⟨rfl, ?_⟩
  rfl
theorem ct_X19_items {M : PM} {ra ta wn en : Nat} {o : Int32} {c : Nat → Int32} {σ : cS} (hd : RD M ra ta wn o en c σ 0) : Ct (YX19_items, (10, 300, 2753, 18623), qi (fun r M' => (valC σ c en).1 = true ∧ r = nI (valC σ c en).2.2 ∧ vsP M ra ta wn o en c σ (valC σ c en).2.1 en M'), fun q E M' => (valC σ c en).1 = false ∧ faO (rdP wn ra) M (valC σ c en).2.2 q E M') [.ref ra] M := by
  refine ct_of [some (.ref ra), none] rfl rfl rfl (Nat.le_of_ble_eq_true rfl) rfl rfl ?_
  have h160 := hd.2.2.1.2.2
  have hK0 : vsP M ra ta wn o en c σ σ 0 M := ⟨hd, frP.rf, fun _ _ => rfl, Int.le_refl _, fun _ _ => rfl⟩
  have L9 : ∀ (f a1 n : Nat) (σ1 : cS) (M1 : PM), vsP M ra ta wn o en c σ σ1 a1 M1 → valC σ c en = valL c en f σ1 a1 n → en < a1 + f → n + f ≤ 1000 → Wx (YX19_items, (10, 300, 2753, 18623), qi (fun r M' => (valC σ c en).1 = true ∧ r = nI (valC σ c en).2.2 ∧ vsP M ra ta wn o en c σ (valC σ c en).2.1 en M'), fun q E M' => (valC σ c en).1 = false ∧ faO (rdP wn ra) M (valC σ c en).2.2 q E M') (17 * f) (115 * f) M1 6 [some (.ref ra), some (.int (nI n))] [] := by
    intro f
    induction f with
    | zero => intro a1 n σ1 M1 hv he hf hn; have := hv.1.2.2.2.2.2.2; omega
    | succ f ih =>
      intro a1 n σ1 M1 hv he hf hn
      have hd1 := hv.1
      have ha1 := hd1.2.2.2.2.2.2
      rw [valL] at he
      refine r_aload_n (pc := 6) dX19_items_6 rfl ?_
      refine r_o1 (pc := 7) (bc' := 17 * (f + 1)) (bs' := 115 * (f + 1)) (ct_X19_ends hd1) k_X19_29_19 dX19_items_7 hd1.1.1 (Nat.le_of_ble_eq_true rfl) ⟨Nat.le_of_ble_eq_true rfl, Nat.le_of_ble_eq_true rfl⟩ ⟨Nat.le_refl _, Nat.le_refl _⟩ (r_ci fun r7 M7 p7 => ?_) nox
      obtain ⟨rfl, p7⟩ := p7
      have p7 := Eq.symm (show _ = _ from p7)
      subst p7
      refine r_if_ne (pc := 10) 29 dX19_items_10 rfl (fun h10 => ?_) (fun h10 => ?_)
      · rw [bI_ne0] at h10
        rw [if_neg (by omega)] at he
        subst h10
        refine r_iload_n (pc := 29) dX19_items_29 rfl ?_
        refine r_ireturn (pc := 30) rfl dX19_items_30 ⟨_, rfl, ?_⟩
        rw [he]
        exact ⟨rfl, rfl, hv⟩
      · rw [bI_eq0] at h10
        have hlt : a1 < en := by omega
        rw [if_pos hlt] at he
        refine r_aload_n (pc := 13) dX19_items_13 rfl ?_
        refine r_bipush (pc := 14) (v := 59) dX19_items_14 (by decide) ?_
        refine r_o2 (pc := 16) (bc' := 17 * f + 16) (bs' := 115 * f + 108) (ct_X19_must hd1 59) k_X19_53_19 dX19_items_16 hd1.1.1 (Nat.le_of_ble_eq_true rfl) ⟨Nat.le_of_ble_eq_true rfl, Nat.le_of_ble_eq_true rfl⟩ ⟨by show 17 * f + 16 + 1 ≤ 17 * (f + 1); omega, by show 115 * f + 108 + 7 ≤ 115 * (f + 1); omega⟩ (r_cv fun M16 p16 => ?_) (fun q E M8 h8 => t_out rfl (by rw [if_neg (fun z => h8.1 ⟨hlt, z⟩)] at he; rw [he]; exact ⟨rfl, h8.2.mono hv.2.1 (fun _ _ h => h.elim)⟩))
        obtain ⟨hs, rfl⟩ := p16
        rw [if_pos hs.2] at he
        have hv2 := hv.at (b := a1 + 1) hlt
        have hd2 := hv2.1
        refine r_aload_n (pc := 19) dX19_items_19 rfl ?_
        refine r_o1 (pc := 20) (bc' := 17 * f) (bs' := 115 * f) (ct_X19_item hd2) k_X19_79_19 dX19_items_20 hd2.1.1 (Nat.le_of_ble_eq_true rfl) ⟨Nat.le_of_ble_eq_true rfl, Nat.le_of_ble_eq_true rfl⟩ ⟨Nat.le_refl _, Nat.le_refl _⟩ (r_cv fun M20 p20 => ?_) (fun q E M8 h8 => t_out rfl (by rw [if_neg (by rw [h8.1]; exact Bool.false_ne_true)] at he; rw [he]; exact ⟨rfl, h8.2.mono hv2.2.1 (fun _ _ h => h)⟩))
        obtain ⟨ht, hv3⟩ := hv2.item p20
        rw [if_pos ht] at he
        have hok := (item_ok hd2.2.2.2.2.2.1 (c := c) (a := a1 + 1) hlt).1 ht
        refine r_iinc1 (pc := 23) dX19_items_23 (nI_1 _) rfl ?_
        refine r_goto (pc := 26) 6 dX19_items_26 rfl ?_
        exact ih _ (n + 1) _ _ hv3 he (by omega) (by omega)
  refine r_iconst (pc := 0) (v := 1) dX19_items_0 (by decide) ?_
  refine r_istore1 (pc := 1) dX19_items_1 rfl ?_
  refine r_aload_n (pc := 2) dX19_items_2 rfl ?_
  refine r_o1 (pc := 3) (bc' := 2737) (bs' := 18515) (ct_X19_item hd) k_X19_79_19 dX19_items_3 hd.1.1 (Nat.le_of_ble_eq_true rfl) ⟨Nat.le_of_ble_eq_true rfl, Nat.le_of_ble_eq_true rfl⟩ ⟨Nat.le_of_ble_eq_true rfl, Nat.le_of_ble_eq_true rfl⟩ (r_cv fun M3 p3 => ?_) (fun q E M8 h8 => t_out rfl (by unfold valC; rw [if_neg (by rw [h8.1]; exact Bool.false_ne_true)]; exact ⟨rfl, h8.2⟩))
  obtain ⟨ht, hv3⟩ := hK0.item p3
  refine r_les (bc' := 17 * (en + 1)) (bs' := 115 * (en + 1)) (by show 17 * (en + 1) ≤ 2737; omega) (by show 115 * (en + 1) ≤ 18515; omega) (L9 (en + 1) _ 1 _ _ hv3 (by unfold valC; rw [if_pos ht]) (by omega) (by omega))
