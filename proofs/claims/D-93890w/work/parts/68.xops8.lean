/-! X: part, men, judge (printed by gen/mk_x68.py) -/
set_option maxRecDepth 100000
theorem XO.unfol {M Z : PM} {xo wa mo : Nat} {S : ST} (h : XO M xo wa mo Z (folS S)) (hS : OkS S.1) : XO M xo wa mo Z S := by
  have e22 : ∀ s, s < 8 → (folS S).1 22 s = S.1 22 s := fun s hs => by
    rw [fol_22, cI_f]
    rintro ⟨h1, h2⟩
    exact h2 (i_lt.mpr ((hS.2.1 s hs).2.2 h1).2)
  have e : PE (folS S) S := ⟨fun k hk i hi => by
    by_cases c : k = 22
    · subst c; exact e22 i hi
    · rw [fol_k c], fun _ _ => rfl⟩
  have e' : PE S (folS S) := ⟨fun k hk i hi => (e.1 k hk i hi).symm, fun j hj => (e.2 j hj).symm⟩
  exact h.pe (hS.pe e) e'
theorem put_e {σ : cS} {t : Nat} {w : Int32} (h : σ 16 t = 0) : putS σ t 0 w 1 (σ 14 t) (σ 15 t) = up2 (up2 (up2 σ 11 t 0) 12 t w) 13 t 1 := by
  funext k i
  unfold putS
  simp only [up2_ap]
  by_cases c6 : k = 16
  · subst c6
    by_cases ci : i = t
    · subst ci; simp [h]
    · simp [ci]
  · by_cases c5 : k = 15
    · subst c5
      by_cases ci : i = t
      · subst ci; simp
      · simp [ci]
    · by_cases c4 : k = 14
      · subst c4
        by_cases ci : i = t
        · subst ci; simp
        · simp [ci]
      · simp only [c6, c5, c4, if_false]
theorem thB_e {σ : cS} {t : Nat} {w st la : Int32} (h : t ≠ Int32.toNatClampNeg (σ 0 0)) (hs : σ 14 t = st) (hl : σ 15 t = la) : thB σ 0 w 1 st la = up2 (thingsS σ 0 w 1 (σ 14 t)) 15 (Int32.toNatClampNeg (σ 0 0)) (thingsS σ 0 w 1 (σ 14 t) 15 t) := by
  have e : thingsS σ 0 w 1 (σ 14 t) 15 t = la := by
    unfold thingsS
    simp only [up2_ap]
    simp [h, hl]
  rw [e, hs]
  funext k i
  unfold thB putS thingsS
  simp only [up2_ap]
  generalize Int32.toNatClampNeg (σ 0 0) = n
  by_cases c0 : k = 0
  · subst c0; simp
  · by_cases c6 : k = 16
    · subst c6; simp
    · by_cases c5 : k = 15
      · subst c5
        by_cases ci : i = n
        · subst ci; simp
        · simp [ci]
      · simp only [c0, c6, c5, if_false]
theorem part_le {σ : cS} (h : OkW σ) {t : Nat} (ht : t < Int32.toNatClampNeg (σ 0 0)) (h8 : ¬ 8 < σ 0 0 + σ 13 t - 1) : (σ 0 0).toInt + (σ 13 t).toInt - 1 ≤ 8 := by
  obtain ⟨-, -, b2, -⟩ := h.2.2.1 _ ht
  have b0 := h.1.1
  have e1 := i_add (x := σ 0 0) (y := σ 13 t) (by omega) (by omega)
  have e2 := i_sub (x := σ 0 0 + σ 13 t) (y := 1) (by rw [c_1]; omega) (by rw [c_1]; omega)
  rw [i_lt, e2, e1, c_1, c_8] at h8
  omega
theorem addS_k {σ : cS} {a b c d e : Int32} {k : Nat} (hk : k = 9 ∨ k = 10 ∨ 17 ≤ k) : thB σ a b c d e k = σ k := by
  unfold thB putS
  rw [up2_ne (by omega), up2_ne (by omega), up2_ne (by omega), up2_ne (by omega), up2_ne (by omega), up2_ne (by omega), up2_ne (by omega)]
theorem putS_k {σ : cS} {a b c d e : Int32} {i k : Nat} (hk : k ≤ 10 ∨ 17 ≤ k) : putS σ i a b c d e k = σ k := by
  unfold putS
  rw [up2_ne (by omega), up2_ne (by omega), up2_ne (by omega), up2_ne (by omega), up2_ne (by omega), up2_ne (by omega)]
theorem thB_T {σ : cS} (h : OkT σ) {w a b : Int32} (hw : bd w 1 99) (h8 : (σ 0 0).toInt < 8) : OkT (thB σ 0 w 1 a b) ∧ thB σ 0 w 1 a b 0 0 = σ 0 0 + 1 ∧ (thB σ 0 w 1 a b 0 0).toInt = (σ 0 0).toInt + 1 := by
  have e0 : thB σ 0 w 1 a b 0 0 = σ 0 0 + 1 := by simp [thB, up2_ap]
  have es := suc_i h.1.1 (by decide)
  refine ⟨⟨⟨⟨by rw [e0, es]; have := h.1.1.1; omega, by rw [e0, es]; omega⟩, ?_, ?_⟩, fun i hi => ?_⟩, e0, by rw [e0, es]⟩
  · exact h.1.2.1
  · exact h.1.2.2
  · have ei := ix_toInt (t := σ 0 0) h.1.1.1
    have ei2 := ix_toInt (t := σ 0 0 + 1) (by rw [es]; have := h.1.1.1; omega)
    rw [e0] at hi
    unfold thB putS
    simp (decide := true) only [up2_ap, if_true, if_false]
    by_cases c : i = Int32.toNatClampNeg (σ 0 0)
    · simp only [c, if_true]
      exact ⟨by decide, hw, by decide⟩
    · simp only [c, if_false]
      exact h.2 i (by omega)
theorem put_T {σ : cS} (h : OkT σ) {t : Nat} {w a b : Int32} (hw : bd w 1 99) : OkT (putS σ t 0 w 1 a b) := by
  refine ⟨h.1, fun i hi => ?_⟩
  have hi' : i < Int32.toNatClampNeg (σ 0 0) := hi
  unfold putS
  simp (decide := true) only [up2_ap, if_true, if_false]
  by_cases c : i = t
  · simp only [c, if_true]
    exact ⟨by decide, hw, by decide⟩
  · simp only [c, if_false]
    exact h.2 i hi'
theorem ct_X0_part {M : PM} {xo wa mo : Nat} {Z : PM} {S : ST} (hx : XO M xo wa mo Z S) (x1 : Int32) (hS : OkS S.1) : Ct (YX0_part, (7, 163, 11, 45), qi (fun r M' => oX xo mo Z (partS S x1) r M'), noX) [.ref xo, .int x1] M := by
  refine ct_ofH [some (.ref xo), some (.int x1), none, none, none, none, none] rfl rfl (Nat.le_of_ble_eq_true rfl) rfl rfl ?_
  have hB := hS.1.t
  have hC : ∀ (M9 : PM) (q : Nat) (b : Int32) (o2 o3 o4 o5 o6 : Option Value), mK M9 q = (1, 6) → mI M9 q 6 = b → bd b (-7) (-1) → XO M9 xo wa mo Z S → partS S x1 = noS S b → Wx (YX0_part, (7, 163, 11, 45), qi (fun r M' => oX xo mo Z (partS S x1) r M'), noX) 0 0 M9 130 [some (.ref xo), some (.int x1), o2, o3, o4, o5, o6] [.ref q] := by
    intro M9 q b o2 o3 o4 o5 o6 h1 h2 h3 h4 h5
    refine r_astore2 (pc := 130) dX0_part_130 rfl ?_
    refine r_aload_n (pc := 131) dX0_part_131 rfl ?_
    refine r_aload_n (pc := 132) dX0_part_132 rfl ?_
    refine r_o2 (pc := 133) (bc' := 0) (bs' := 0) (ct_X0_refused h4 h1 h2 h3) k_X0_173_0 dX0_part_133 h4.1.2.1 (Nat.le_of_ble_eq_true rfl) ⟨Nat.le_of_ble_eq_true rfl, Nat.le_of_ble_eq_true rfl⟩ ⟨Nat.le_of_ble_eq_true rfl, Nat.le_of_ble_eq_true rfl⟩ (r_ci fun r133 M133 p133 => ?_) nox
    obtain ⟨rfl, h6⟩ := p133
    refine r_ireturn (pc := 136) rfl dX0_part_136 ⟨_, rfl, ?_⟩
    exact (show oX xo mo Z (partS S x1) _ _ by rw [h5]; exact ⟨rfl, wa, h6⟩)
  have L : ∀ (ta e : Nat), thP S.1 x1 → e ≤ 9 → S.1 13 (Int32.toNatClampNeg x1) = nI e → bd (partW S.1 (Int32.toNatClampNeg x1)) 1 99 → (∀ M9 : PM, partS S x1 = (partM S.1 (Int32.toNatClampNeg x1) 0 0, (partM S.1 (Int32.toNatClampNeg x1), S.2))) → ∀ (n k : Nat) (M9 : PM) (σ9 : cS), k + n = e → (Int32.toNatClampNeg x1) < Int32.toNatClampNeg (σ9 0 0) → (σ9 0 0).toInt + n ≤ 8 → OkT σ9 → σ9 14 (Int32.toNatClampNeg x1) = S.1 14 (Int32.toNatClampNeg x1) → σ9 15 (Int32.toNatClampNeg x1) = S.1 15 (Int32.toNatClampNeg x1) → (∀ q, 17 ≤ q → σ9 q = S.1 q) → mK M9 ta = (1, 17) → mI M9 ta 2 = nI e → ta < M9.1 → XQ (shL M9 (σ9, S.2) mo) M9 xo wa mo Z (σ9, S.2) → partM S.1 (Int32.toNatClampNeg x1) = partL (Int32.toNatClampNeg x1) (partW S.1 (Int32.toNatClampNeg x1)) n σ9 → Wx (YX0_part, (7, 163, 11, 45), qi (fun r M' => oX xo mo Z (partS S x1) r M'), noX) n (3 * n) M9 89 [some (.ref xo), some (.int x1), some (.ref ta), some (.int (partW S.1 (Int32.toNatClampNeg x1))), some (.int (S.1 14 (Int32.toNatClampNeg x1))), some (.int (S.1 15 (Int32.toNatClampNeg x1))), some (.int (nI k))] [] := by
    intro ta e hy he9 he hw hsp n
    induction n with
    | zero =>
      intro k M9 σ9 hk ht h8 hB9 h14 h15 hq9 hK h2 hlt hx9 hI
      refine r_iload (pc := 89) dX0_part_89 rfl ?_
      refine r_aload_n (pc := 91) dX0_part_91 rfl ?_
      refine r_getIe (pc := 92) (v := nI e) dX0_part_92 fl_X0_259_17 hK (fun _ _ => rfl) h2 ?_
      refine r_icmp_ge (pc := 95) 118 dX0_part_95 rfl (fun _ => ?_) (fun hno => False.elim (by rw [lt_nI (by omega) (by omega)] at hno; omega))
      refine r_aload_n (pc := 118) dX0_part_118 rfl ?_
      refine r_o1 (pc := 119) (bc' := 0) (bs' := 0) (ct_X0_shelvesFollow hx9 hB9 (show HfP σ9 from fun s hs => by rw [hq9 22 (by decide), hq9 23 (by decide), hq9 24 (by decide), hq9 25 (by decide)]; exact hS.2.1.w s hs)) k_X0_385_0 dX0_part_119 hx9.1.2.1 (Nat.le_of_ble_eq_true rfl) ⟨Nat.le_of_ble_eq_true rfl, Nat.le_of_ble_eq_true rfl⟩ ⟨Nat.le_of_ble_eq_true rfl, Nat.le_of_ble_eq_true rfl⟩ (r_cv fun M119 p119 => ?_) nox
      have hok := ok_part hS x1
      rw [hsp M9] at hok
      have e9 : partM S.1 (Int32.toNatClampNeg x1) = σ9 := hI
      rw [e9] at hok
      have hx3 := XO.unfol (S := (σ9, S.2)) p119 hok
      refine r_aload_n (pc := 122) dX0_part_122 rfl ?_
      refine r_getR (pc := 123) dX0_part_123 fl_X0_90_0 hx3.1.2.1 (fun _ _ => rfl) hx3.2.2.1.1 ?_
      refine r_getIe (pc := 126) (v := σ9 0 0) dX0_part_126 fl_X0_104_3 hx3.2.2.1.2.2.k (fun _ _ => rfl) hx3.2.2.1.2.2.i4 ?_
      refine r_ireturn (pc := 129) rfl dX0_part_129 ⟨_, rfl, ?_⟩
      exact (show oX xo mo Z (partS S x1) _ _ by rw [hsp M9, e9]; exact ⟨rfl, wa, hx3⟩)
    | succ n ih =>
      intro k M9 σ9 hk ht h8 hB9 h14 h15 hq9 hK h2 hlt hx9 hI
      have h8' : (σ9 0 0).toInt < 8 := by omega
      refine r_iload (pc := 89) dX0_part_89 rfl ?_
      refine r_aload_n (pc := 91) dX0_part_91 rfl ?_
      refine r_getIe (pc := 92) (v := nI e) dX0_part_92 fl_X0_259_17 hK (fun _ _ => rfl) h2 ?_
      refine r_icmp_ge (pc := 95) 118 dX0_part_95 rfl (fun hno => False.elim (by rw [lt_nI (by omega) (by omega)] at hno; omega)) (fun _ => ?_)
      refine r_aload_n (pc := 98) dX0_part_98 rfl ?_
      refine r_getR (pc := 99) dX0_part_99 fl_X0_90_0 hx9.1.2.1 (fun _ _ => rfl) hx9.2.2.1.1 ?_
      refine r_iconst (pc := 102) (v := 0) dX0_part_102 (by decide) ?_
      refine r_iload_n (pc := 103) dX0_part_103 rfl ?_
      refine r_iconst (pc := 104) (v := 1) dX0_part_104 (by decide) ?_
      refine r_iload (pc := 105) dX0_part_105 rfl ?_
      refine r_iload (pc := 107) dX0_part_107 rfl ?_
      refine r_o6 (pc := 109) (bc' := n) (bs' := 3 * n) (ct_X3_addThing hx9.2.2.1.2.2 0 (partW S.1 (Int32.toNatClampNeg x1)) 1 (S.1 14 (Int32.toNatClampNeg x1)) (S.1 15 (Int32.toNatClampNeg x1)) hB9 (fun q => by rw [show σ9 0 0 = 8 from q, c_8] at h8'; omega) (by decide)) k_X0_207_3 dX0_part_109 hx9.2.2.1.2.2.k (Nat.le_of_ble_eq_true rfl) ⟨Nat.le_of_ble_eq_true rfl, Nat.le_of_ble_eq_true rfl⟩ ⟨by show n + 1 ≤ n + 1; omega, by show 3 * n + 3 ≤ 3 * (n + 1); omega⟩ (r_cv fun M109 p109 => ?_) nox
      obtain ⟨w3, f3, g3⟩ := p109
      have hne : (Int32.toNatClampNeg x1) ≠ Int32.toNatClampNeg (σ9 0 0) := by omega
      have eB := thB_e (w := partW S.1 (Int32.toNatClampNeg x1)) hne h14 h15
      obtain ⟨t1, t2, t3⟩ := thB_T hB9 (a := S.1 14 (Int32.toNatClampNeg x1)) (b := S.1 15 (Int32.toNatClampNeg x1)) hw h8'
      have hx4 := XQ.worldL (S' := (thB σ9 0 (partW S.1 (Int32.toNatClampNeg x1)) 1 (S.1 14 (Int32.toNatClampNeg x1)) (S.1 15 (Int32.toNatClampNeg x1)), S.2)) hx9 w3 f3 (fun k hk => addS_k (by omega)) rfl
      have hnt := hx9.2.2.1.2.2.1.nth (c := 5) hK
      obtain ⟨u1, -, u3⟩ := f3.2 ta hlt
      obtain ⟨u4, -, -⟩ := u3 hnt
      refine r_iinc6 (pc := 112) dX0_part_112 (nI_1 _) rfl ?_
      refine r_goto (pc := 115) 89 dX0_part_115 rfl ?_
      refine ih (k + 1) _ (thB σ9 0 (partW S.1 (Int32.toNatClampNeg x1)) 1 (S.1 14 (Int32.toNatClampNeg x1)) (S.1 15 (Int32.toNatClampNeg x1))) (by omega) ?_ (by rw [t3]; omega) t1 ?_ ?_ (fun q hq => (addS_k (by omega)).trans (hq9 q hq)) (u1.trans hK) (by rw [u4]; exact h2) (Nat.lt_of_lt_of_le hlt f3.1) hx4 ?_
      · have a1 := ix_toInt (t := σ9 0 0) hB9.1.1.1
        have a2 := ix_toInt (t := thB σ9 0 (partW S.1 (Int32.toNatClampNeg x1)) 1 (S.1 14 (Int32.toNatClampNeg x1)) (S.1 15 (Int32.toNatClampNeg x1)) 0 0) t1.1.1.1
        omega
      · unfold thB putS; simp (decide := true) only [up2_ap, if_true, if_false]; rw [if_neg hne]; exact h14
      · unfold thB putS; simp (decide := true) only [up2_ap, if_true, if_false]; rw [if_neg hne]; exact h15
      · rw [hI, partL, eB]
  refine r_aload_n (pc := 0) dX0_part_0 rfl ?_
  refine r_iload_n (pc := 1) dX0_part_1 rfl ?_
  refine r_o2 (pc := 2) (bc' := 10) (bs' := 38) (ct_X0_thingAt hx x1 hB) k_X0_193_0 dX0_part_2 hx.1.2.1 (Nat.le_of_ble_eq_true rfl) ⟨Nat.le_of_ble_eq_true rfl, Nat.le_of_ble_eq_true rfl⟩ ⟨Nat.le_of_ble_eq_true rfl, Nat.le_of_ble_eq_true rfl⟩ (r_cr fun ta M2 p2 => ?_) (fun q E M9 h9 => by obtain ⟨hn9, rfl, k9, w9, o9⟩ := h9; exact t_catch [] _ _ _ rfl (fun z hz => absurd hz List.not_mem_nil) rfl (by decide) q305 q389 ((hC M9 q _ _ _ _ _ _ k9 w9 (by decide) o9 (by unfold partS; rw [cI_t hn9])).loose (Nat.zero_le _) (Nat.zero_le _)))
  obtain ⟨hy, ⟨hr, hT⟩, p2⟩ := p2
  have p2 := Eq.symm (show _ = _ from p2)
  subst p2
  have ta_ := ta
  refine r_astore2 (pc := 5) dX0_part_5 rfl ?_
  refine r_aload_n (pc := 6) dX0_part_6 rfl ?_
  rcases kd7 (hB.2 _ (ix_lt hy.1 hy.2)).1 with e7 | e7 | e7 | e7 | e7 | e7 | e7
  · have hK7 := hT.k (k := 0) e7 (c := 12) rfl
    refine r_instNo (pc := 7) (RX12, TX12, 3) _ dX0_part_7 hK7 rfl q789 nc_45 ?_
    refine r_bipush (pc := 10) (v := (-2)) dX0_part_10 (by decide) ?_
    refine r_s2 (pc := 12) (bc' := 9) (bs' := 31) (ct_X0_need _ _) k_X0_115 dX0_part_12 (Nat.le_of_ble_eq_true rfl) ⟨Nat.le_of_ble_eq_true rfl, Nat.le_of_ble_eq_true rfl⟩ ⟨Nat.le_of_ble_eq_true rfl, Nat.le_of_ble_eq_true rfl⟩ (r_cv fun M12 p12 => ?_) (fun q E M9 h8 => by have h9 := hx.rf h8.2; obtain ⟨rfl, k9, w9, o9⟩ := h9; exact t_catch [] _ _ _ rfl (fun z hz => absurd hz List.not_mem_nil) rfl (by decide) q305 q389 ((hC M9 q _ _ _ _ _ _ k9 w9 (by decide) o9 (by unfold partS; rw [cI_f (fun q => q hy), cI_t (by rw [e7]; decide)])).loose (Nat.zero_le _) (Nat.zero_le _)))
    exact absurd rfl p12.1
  · have hK7 := hT.k (k := 1) e7 (c := 13) rfl
    refine r_instNo (pc := 7) (RX13, TX13, 3) _ dX0_part_7 hK7 rfl q789 nc_46 ?_
    refine r_bipush (pc := 10) (v := (-2)) dX0_part_10 (by decide) ?_
    refine r_s2 (pc := 12) (bc' := 9) (bs' := 31) (ct_X0_need _ _) k_X0_115 dX0_part_12 (Nat.le_of_ble_eq_true rfl) ⟨Nat.le_of_ble_eq_true rfl, Nat.le_of_ble_eq_true rfl⟩ ⟨Nat.le_of_ble_eq_true rfl, Nat.le_of_ble_eq_true rfl⟩ (r_cv fun M12 p12 => ?_) (fun q E M9 h8 => by have h9 := hx.rf h8.2; obtain ⟨rfl, k9, w9, o9⟩ := h9; exact t_catch [] _ _ _ rfl (fun z hz => absurd hz List.not_mem_nil) rfl (by decide) q305 q389 ((hC M9 q _ _ _ _ _ _ k9 w9 (by decide) o9 (by unfold partS; rw [cI_f (fun q => q hy), cI_t (by rw [e7]; decide)])).loose (Nat.zero_le _) (Nat.zero_le _)))
    exact absurd rfl p12.1
  · have hK7 := hT.k (k := 2) e7 (c := 14) rfl
    refine r_instNo (pc := 7) (RX14, TX14, 3) _ dX0_part_7 hK7 rfl q789 nc_47 ?_
    refine r_bipush (pc := 10) (v := (-2)) dX0_part_10 (by decide) ?_
    refine r_s2 (pc := 12) (bc' := 9) (bs' := 31) (ct_X0_need _ _) k_X0_115 dX0_part_12 (Nat.le_of_ble_eq_true rfl) ⟨Nat.le_of_ble_eq_true rfl, Nat.le_of_ble_eq_true rfl⟩ ⟨Nat.le_of_ble_eq_true rfl, Nat.le_of_ble_eq_true rfl⟩ (r_cv fun M12 p12 => ?_) (fun q E M9 h8 => by have h9 := hx.rf h8.2; obtain ⟨rfl, k9, w9, o9⟩ := h9; exact t_catch [] _ _ _ rfl (fun z hz => absurd hz List.not_mem_nil) rfl (by decide) q305 q389 ((hC M9 q _ _ _ _ _ _ k9 w9 (by decide) o9 (by unfold partS; rw [cI_f (fun q => q hy), cI_t (by rw [e7]; decide)])).loose (Nat.zero_le _) (Nat.zero_le _)))
    exact absurd rfl p12.1
  · have hK7 := hT.k (k := 3) e7 (c := 15) rfl
    refine r_instNo (pc := 7) (RX15, TX15, 3) _ dX0_part_7 hK7 rfl q789 nc_48 ?_
    refine r_bipush (pc := 10) (v := (-2)) dX0_part_10 (by decide) ?_
    refine r_s2 (pc := 12) (bc' := 9) (bs' := 31) (ct_X0_need _ _) k_X0_115 dX0_part_12 (Nat.le_of_ble_eq_true rfl) ⟨Nat.le_of_ble_eq_true rfl, Nat.le_of_ble_eq_true rfl⟩ ⟨Nat.le_of_ble_eq_true rfl, Nat.le_of_ble_eq_true rfl⟩ (r_cv fun M12 p12 => ?_) (fun q E M9 h8 => by have h9 := hx.rf h8.2; obtain ⟨rfl, k9, w9, o9⟩ := h9; exact t_catch [] _ _ _ rfl (fun z hz => absurd hz List.not_mem_nil) rfl (by decide) q305 q389 ((hC M9 q _ _ _ _ _ _ k9 w9 (by decide) o9 (by unfold partS; rw [cI_f (fun q => q hy), cI_t (by rw [e7]; decide)])).loose (Nat.zero_le _) (Nat.zero_le _)))
    exact absurd rfl p12.1
  · have hK7 := hT.k (k := 4) e7 (c := 16) rfl
    refine r_instNo (pc := 7) (RX16, TX16, 3) _ dX0_part_7 hK7 rfl q789 nc_49 ?_
    refine r_bipush (pc := 10) (v := (-2)) dX0_part_10 (by decide) ?_
    refine r_s2 (pc := 12) (bc' := 9) (bs' := 31) (ct_X0_need _ _) k_X0_115 dX0_part_12 (Nat.le_of_ble_eq_true rfl) ⟨Nat.le_of_ble_eq_true rfl, Nat.le_of_ble_eq_true rfl⟩ ⟨Nat.le_of_ble_eq_true rfl, Nat.le_of_ble_eq_true rfl⟩ (r_cv fun M12 p12 => ?_) (fun q E M9 h8 => by have h9 := hx.rf h8.2; obtain ⟨rfl, k9, w9, o9⟩ := h9; exact t_catch [] _ _ _ rfl (fun z hz => absurd hz List.not_mem_nil) rfl (by decide) q305 q389 ((hC M9 q _ _ _ _ _ _ k9 w9 (by decide) o9 (by unfold partS; rw [cI_f (fun q => q hy), cI_t (by rw [e7]; decide)])).loose (Nat.zero_le _) (Nat.zero_le _)))
    exact absurd rfl p12.1
  · have hti := ix_lt hy.1 hy.2
    obtain ⟨g1, g2, g3, g4, g5, g6⟩ := hS.1.2.2.1 _ hti
    have hK17 := hT.k (k := 5) e7 (c := 17) rfl
    have hw : bd (partW S.1 (Int32.toNatClampNeg x1)) 1 99 := by have := cnt_ok (k := 5) g2 g3; unfold cntC at this; rw [if_pos rfl] at this; exact this
    refine r_instE (pc := 7) (RX17, TX17, 3) dX0_part_7 hK17 rfl q789 ?_
    refine r_bipush (pc := 10) (v := (-2)) dX0_part_10 (by decide) ?_
    refine r_s2 (pc := 12) (bc' := 9) (bs' := 31) (ct_X0_need _ _) k_X0_115 dX0_part_12 (Nat.le_of_ble_eq_true rfl) ⟨Nat.le_of_ble_eq_true rfl, Nat.le_of_ble_eq_true rfl⟩ ⟨Nat.le_of_ble_eq_true rfl, Nat.le_of_ble_eq_true rfl⟩ (r_cv fun M12 p12 => ?_) (fun q E M9 h9 => absurd h9.1 (by decide))
    obtain ⟨-, p12⟩ := p12
    have p12 := Eq.symm (show _ = _ from p12)
    subst p12
    refine r_aload_n (pc := 15) dX0_part_15 rfl ?_
    refine r_getR (pc := 16) dX0_part_16 fl_X0_90_0 hx.1.2.1 (fun _ _ => rfl) hx.2.2.1.1 ?_
    refine r_getIe (pc := 19) (v := S.1 0 0) dX0_part_19 fl_X0_104_3 hx.2.2.1.2.2.k (fun _ _ => rfl) hx.2.2.1.2.2.i4 ?_
    refine r_aload_n (pc := 22) dX0_part_22 rfl ?_
    refine r_getIe (pc := 23) (v := S.1 13 (Int32.toNatClampNeg x1)) dX0_part_23 fl_X0_259_17 hK17 (fun _ _ => rfl) hT.2.2.2.2 ?_
    refine r_iadd (pc := 26) dX0_part_26 ?_
    refine r_iconst (pc := 27) (v := 1) dX0_part_27 (by decide) ?_
    refine r_isub (pc := 28) dX0_part_28 ?_
    refine r_bipush (pc := 29) (v := 8) dX0_part_29 (by decide) ?_
    refine r_icmp_gt (pc := 31) 38 dX0_part_31 rfl (fun h31 => ?_) (fun h31 => ?_)
    · refine r_iconst (pc := 38) (v := 0) dX0_part_38 (by decide) ?_
      refine r_eqi (bI (¬ 8 < S.1 0 0 + S.1 13 (Int32.toNatClampNeg x1) - 1)) (by first | exact bI_t' h31 | exact bI_f' (fun h => h h31)) ?_
      refine r_bipush (pc := 39) (v := (-7)) dX0_part_39 (by decide) ?_
      refine r_s2 (pc := 41) (bc' := 8) (bs' := 24) (ct_X0_need _ _) k_X0_115 dX0_part_41 (Nat.le_of_ble_eq_true rfl) ⟨Nat.le_of_ble_eq_true rfl, Nat.le_of_ble_eq_true rfl⟩ ⟨Nat.le_of_ble_eq_true rfl, Nat.le_of_ble_eq_true rfl⟩ (r_cv fun M41 p41 => ?_) (fun q E M9 h8 => by have h9 := And.intro (bI_eq0.mp h8.1) (hx.rf h8.2); obtain ⟨hn9, rfl, k9, w9, o9⟩ := h9; exact t_catch [] _ _ _ rfl (fun z hz => absurd hz List.not_mem_nil) rfl (by decide) q305 q389 ((hC M9 q _ _ _ _ _ _ k9 w9 (by decide) o9 (by unfold partS; rw [cI_f (fun q => q hy), cI_f (fun q => q e7), cI_t (Classical.not_not.mp hn9)])).loose (Nat.zero_le _) (Nat.zero_le _)))
      obtain ⟨h8, p41⟩ := p41
      have p41 := Eq.symm (show _ = _ from p41)
      subst p41
      rw [bI_ne0] at h8
      refine r_aload_n (pc := 44) dX0_part_44 rfl ?_
      refine r_o1 (pc := 45) (bc' := 8) (bs' := 24) (ct_X17_counts_17 hK17 ((hT.dv hB hti).2 e7).1) k_X0_378_17 dX0_part_45 hK17 (Nat.le_of_ble_eq_true rfl) ⟨Nat.le_of_ble_eq_true rfl, Nat.le_of_ble_eq_true rfl⟩ ⟨Nat.le_of_ble_eq_true rfl, Nat.le_of_ble_eq_true rfl⟩ (r_ci fun r45 M45 p45 => ?_) nox
      obtain ⟨rfl, p45⟩ := p45
      have p45 := Eq.symm (show _ = _ from p45)
      subst p45
      refine r_eqi (partW S.1 (Int32.toNatClampNeg x1)) (by unfold cntC; rw [if_pos rfl, hT.2.2.2.1, hT.2.2.2.2]) ?_
      refine r_istore3 (pc := 48) dX0_part_48 rfl ?_
      refine r_aload_n (pc := 49) dX0_part_49 rfl ?_
      refine r_getR (pc := 50) dX0_part_50 fl_X0_90_0 hx.1.2.1 (fun _ _ => rfl) hx.2.2.1.1 ?_
      refine r_getR (pc := 53) dX0_part_53 fl_X0_132_3 hx.2.2.1.2.2.k (fun _ _ => rfl) hx.2.2.1.2.2.r10 ?_
      refine r_iload_n (pc := 56) dX0_part_56 rfl ?_
      refine r_ialdv (pc := 57) (v := S.1 14 (Int32.toNatClampNeg x1)) dX0_part_57 hx.2.2.1.2.2.k10 hx.2.2.1.2.2.z10 (hB.vt hy) (hx.2.2.1.2.2.a14 hy) ?_
      refine r_istore4 (pc := 58) dX0_part_58 rfl ?_
      refine r_aload_n (pc := 60) dX0_part_60 rfl ?_
      refine r_getR (pc := 61) dX0_part_61 fl_X0_90_0 hx.1.2.1 (fun _ _ => rfl) hx.2.2.1.1 ?_
      refine r_getR (pc := 64) dX0_part_64 fl_X0_262_3 hx.2.2.1.2.2.k (fun _ _ => rfl) hx.2.2.1.2.2.r11 ?_
      refine r_iload_n (pc := 67) dX0_part_67 rfl ?_
      refine r_ialdv (pc := 68) (v := S.1 15 (Int32.toNatClampNeg x1)) dX0_part_68 hx.2.2.1.2.2.k11 hx.2.2.1.2.2.z11 (hB.vt hy) (hx.2.2.1.2.2.a15 hy) ?_
      refine r_istore5 (pc := 69) dX0_part_69 rfl ?_
      refine r_aload_n (pc := 71) dX0_part_71 rfl ?_
      refine r_getR (pc := 72) dX0_part_72 fl_X0_90_0 hx.1.2.1 (fun _ _ => rfl) hx.2.2.1.1 ?_
      refine r_iload_n (pc := 75) dX0_part_75 rfl ?_
      refine r_iconst (pc := 76) (v := 0) dX0_part_76 (by decide) ?_
      refine r_iload_n (pc := 77) dX0_part_77 rfl ?_
      refine r_iconst (pc := 78) (v := 1) dX0_part_78 (by decide) ?_
      refine r_iload (pc := 79) dX0_part_79 rfl ?_
      refine r_iload (pc := 81) dX0_part_81 rfl ?_
      refine r_o7 (pc := 83) (bc' := 7) (bs' := 21) (ct_X3_putThing hx.2.2.1.2.2 x1 0 (partW S.1 (Int32.toNatClampNeg x1)) 1 (S.1 14 (Int32.toNatClampNeg x1)) (S.1 15 (Int32.toNatClampNeg x1)) (hB.vt hy) (by decide)) k_X0_381_3 dX0_part_83 hx.2.2.1.2.2.k (Nat.le_of_ble_eq_true rfl) ⟨Nat.le_of_ble_eq_true rfl, Nat.le_of_ble_eq_true rfl⟩ ⟨Nat.le_of_ble_eq_true rfl, Nat.le_of_ble_eq_true rfl⟩ (r_cv fun M83 p83 => ?_) nox
      obtain ⟨w3, -, f3, g3'⟩ := p83
      have hx1 := XQ.worldL (S' := (putS S.1 (Int32.toNatClampNeg x1) 0 (partW S.1 (Int32.toNatClampNeg x1)) 1 (S.1 14 (Int32.toNatClampNeg x1)) (S.1 15 (Int32.toNatClampNeg x1)), S.2)) (hx.loose hS) w3 f3 (fun k hk => putS_k (by omega)) rfl
      have hnt := hx.2.2.1.2.2.1.nth (c := 5) hK17
      obtain ⟨u1, -, u3⟩ := f3.2 ta hT.1
      obtain ⟨u4, -, -⟩ := u3 hnt
      refine r_iconst (pc := 86) (v := 1) dX0_part_86 (by decide) ?_
      refine r_istore6 (pc := 87) dX0_part_87 rfl ?_
      obtain ⟨e, he9, he⟩ := bd_nI (n := 9) ⟨Int.le_trans (by decide) g3.1, g3.2⟩
      have h16 : S.1 16 (Int32.toNatClampNeg x1) = 0 := g6.elim id (fun q => absurd (q.2.symm.trans e7) (by decide))
      have hpl := part_le hS.1 hti h8
      rw [he, nI_toInt (by omega)] at hpl
      have h01 : 1 ≤ (S.1 0 0).toInt := by have := ix_toInt hS.1.1.1.1; omega
      have he1 : 1 ≤ e := by have := g3.1; rw [he, nI_toInt (by omega)] at this; omega
      refine (L ta e hy he9 he hw (fun _ => by unfold partS; rw [cI_f (fun q => q hy), cI_f (fun q => q e7), cI_f h8]) (e - 1) 1 _ (putS S.1 (Int32.toNatClampNeg x1) 0 (partW S.1 (Int32.toNatClampNeg x1)) 1 (S.1 14 (Int32.toNatClampNeg x1)) (S.1 15 (Int32.toNatClampNeg x1))) (by omega) hti (by show (S.1 0 0).toInt + ((e - 1 : Nat) : Int) ≤ 8; omega) (put_T hB hw) ?_ ?_ (fun q hq => putS_k (by omega)) (u1.trans hK17) (by rw [u4, hT.2.2.2.2, he]) (Nat.lt_of_lt_of_le hT.1 f3.1) hx1 ?_).loose (by omega) (by omega)
      · unfold putS; simp (decide := true) only [up2_ap, if_true, if_false]
      · unfold putS; simp (decide := true) only [up2_ap, if_true, if_false]
      · rw [put_e h16]; unfold partM; rw [he, ix_nI (by omega)]
    · refine r_iconst (pc := 34) (v := 1) dX0_part_34 (by decide) ?_
      refine r_goto (pc := 35) 39 dX0_part_35 rfl ?_
      refine r_eqi (bI (¬ 8 < S.1 0 0 + S.1 13 (Int32.toNatClampNeg x1) - 1)) (by first | exact bI_t' h31 | exact bI_f' (fun h => h h31)) ?_
      refine r_bipush (pc := 39) (v := (-7)) dX0_part_39 (by decide) ?_
      refine r_s2 (pc := 41) (bc' := 8) (bs' := 24) (ct_X0_need _ _) k_X0_115 dX0_part_41 (Nat.le_of_ble_eq_true rfl) ⟨Nat.le_of_ble_eq_true rfl, Nat.le_of_ble_eq_true rfl⟩ ⟨Nat.le_of_ble_eq_true rfl, Nat.le_of_ble_eq_true rfl⟩ (r_cv fun M41 p41 => ?_) (fun q E M9 h8 => by have h9 := And.intro (bI_eq0.mp h8.1) (hx.rf h8.2); obtain ⟨hn9, rfl, k9, w9, o9⟩ := h9; exact t_catch [] _ _ _ rfl (fun z hz => absurd hz List.not_mem_nil) rfl (by decide) q305 q389 ((hC M9 q _ _ _ _ _ _ k9 w9 (by decide) o9 (by unfold partS; rw [cI_f (fun q => q hy), cI_f (fun q => q e7), cI_t (Classical.not_not.mp hn9)])).loose (Nat.zero_le _) (Nat.zero_le _)))
      obtain ⟨h8, p41⟩ := p41
      have p41 := Eq.symm (show _ = _ from p41)
      subst p41
      rw [bI_ne0] at h8
      refine r_aload_n (pc := 44) dX0_part_44 rfl ?_
      refine r_o1 (pc := 45) (bc' := 8) (bs' := 24) (ct_X17_counts_17 hK17 ((hT.dv hB hti).2 e7).1) k_X0_378_17 dX0_part_45 hK17 (Nat.le_of_ble_eq_true rfl) ⟨Nat.le_of_ble_eq_true rfl, Nat.le_of_ble_eq_true rfl⟩ ⟨Nat.le_of_ble_eq_true rfl, Nat.le_of_ble_eq_true rfl⟩ (r_ci fun r45 M45 p45 => ?_) nox
      obtain ⟨rfl, p45⟩ := p45
      have p45 := Eq.symm (show _ = _ from p45)
      subst p45
      refine r_eqi (partW S.1 (Int32.toNatClampNeg x1)) (by unfold cntC; rw [if_pos rfl, hT.2.2.2.1, hT.2.2.2.2]) ?_
      refine r_istore3 (pc := 48) dX0_part_48 rfl ?_
      refine r_aload_n (pc := 49) dX0_part_49 rfl ?_
      refine r_getR (pc := 50) dX0_part_50 fl_X0_90_0 hx.1.2.1 (fun _ _ => rfl) hx.2.2.1.1 ?_
      refine r_getR (pc := 53) dX0_part_53 fl_X0_132_3 hx.2.2.1.2.2.k (fun _ _ => rfl) hx.2.2.1.2.2.r10 ?_
      refine r_iload_n (pc := 56) dX0_part_56 rfl ?_
      refine r_ialdv (pc := 57) (v := S.1 14 (Int32.toNatClampNeg x1)) dX0_part_57 hx.2.2.1.2.2.k10 hx.2.2.1.2.2.z10 (hB.vt hy) (hx.2.2.1.2.2.a14 hy) ?_
      refine r_istore4 (pc := 58) dX0_part_58 rfl ?_
      refine r_aload_n (pc := 60) dX0_part_60 rfl ?_
      refine r_getR (pc := 61) dX0_part_61 fl_X0_90_0 hx.1.2.1 (fun _ _ => rfl) hx.2.2.1.1 ?_
      refine r_getR (pc := 64) dX0_part_64 fl_X0_262_3 hx.2.2.1.2.2.k (fun _ _ => rfl) hx.2.2.1.2.2.r11 ?_
      refine r_iload_n (pc := 67) dX0_part_67 rfl ?_
      refine r_ialdv (pc := 68) (v := S.1 15 (Int32.toNatClampNeg x1)) dX0_part_68 hx.2.2.1.2.2.k11 hx.2.2.1.2.2.z11 (hB.vt hy) (hx.2.2.1.2.2.a15 hy) ?_
      refine r_istore5 (pc := 69) dX0_part_69 rfl ?_
      refine r_aload_n (pc := 71) dX0_part_71 rfl ?_
      refine r_getR (pc := 72) dX0_part_72 fl_X0_90_0 hx.1.2.1 (fun _ _ => rfl) hx.2.2.1.1 ?_
      refine r_iload_n (pc := 75) dX0_part_75 rfl ?_
      refine r_iconst (pc := 76) (v := 0) dX0_part_76 (by decide) ?_
      refine r_iload_n (pc := 77) dX0_part_77 rfl ?_
      refine r_iconst (pc := 78) (v := 1) dX0_part_78 (by decide) ?_
      refine r_iload (pc := 79) dX0_part_79 rfl ?_
      refine r_iload (pc := 81) dX0_part_81 rfl ?_
      refine r_o7 (pc := 83) (bc' := 7) (bs' := 21) (ct_X3_putThing hx.2.2.1.2.2 x1 0 (partW S.1 (Int32.toNatClampNeg x1)) 1 (S.1 14 (Int32.toNatClampNeg x1)) (S.1 15 (Int32.toNatClampNeg x1)) (hB.vt hy) (by decide)) k_X0_381_3 dX0_part_83 hx.2.2.1.2.2.k (Nat.le_of_ble_eq_true rfl) ⟨Nat.le_of_ble_eq_true rfl, Nat.le_of_ble_eq_true rfl⟩ ⟨Nat.le_of_ble_eq_true rfl, Nat.le_of_ble_eq_true rfl⟩ (r_cv fun M83 p83 => ?_) nox
      obtain ⟨w3, -, f3, g3'⟩ := p83
      have hx1 := XQ.worldL (S' := (putS S.1 (Int32.toNatClampNeg x1) 0 (partW S.1 (Int32.toNatClampNeg x1)) 1 (S.1 14 (Int32.toNatClampNeg x1)) (S.1 15 (Int32.toNatClampNeg x1)), S.2)) (hx.loose hS) w3 f3 (fun k hk => putS_k (by omega)) rfl
      have hnt := hx.2.2.1.2.2.1.nth (c := 5) hK17
      obtain ⟨u1, -, u3⟩ := f3.2 ta hT.1
      obtain ⟨u4, -, -⟩ := u3 hnt
      refine r_iconst (pc := 86) (v := 1) dX0_part_86 (by decide) ?_
      refine r_istore6 (pc := 87) dX0_part_87 rfl ?_
      obtain ⟨e, he9, he⟩ := bd_nI (n := 9) ⟨Int.le_trans (by decide) g3.1, g3.2⟩
      have h16 : S.1 16 (Int32.toNatClampNeg x1) = 0 := g6.elim id (fun q => absurd (q.2.symm.trans e7) (by decide))
      have hpl := part_le hS.1 hti h8
      rw [he, nI_toInt (by omega)] at hpl
      have h01 : 1 ≤ (S.1 0 0).toInt := by have := ix_toInt hS.1.1.1.1; omega
      have he1 : 1 ≤ e := by have := g3.1; rw [he, nI_toInt (by omega)] at this; omega
      refine (L ta e hy he9 he hw (fun _ => by unfold partS; rw [cI_f (fun q => q hy), cI_f (fun q => q e7), cI_f h8]) (e - 1) 1 _ (putS S.1 (Int32.toNatClampNeg x1) 0 (partW S.1 (Int32.toNatClampNeg x1)) 1 (S.1 14 (Int32.toNatClampNeg x1)) (S.1 15 (Int32.toNatClampNeg x1))) (by omega) hti (by show (S.1 0 0).toInt + ((e - 1 : Nat) : Int) ≤ 8; omega) (put_T hB hw) ?_ ?_ (fun q hq => putS_k (by omega)) (u1.trans hK17) (by rw [u4, hT.2.2.2.2, he]) (Nat.lt_of_lt_of_le hT.1 f3.1) hx1 ?_).loose (by omega) (by omega)
      · unfold putS; simp (decide := true) only [up2_ap, if_true, if_false]
      · unfold putS; simp (decide := true) only [up2_ap, if_true, if_false]
      · rw [put_e h16]; unfold partM; rw [he, ix_nI (by omega)]
  · have hK7 := hT.k (k := 6) e7 (c := 18) rfl
    refine r_instNo (pc := 7) (RX18, TX18, 3) _ dX0_part_7 hK7 rfl q789 nc_50 ?_
    refine r_bipush (pc := 10) (v := (-2)) dX0_part_10 (by decide) ?_
    refine r_s2 (pc := 12) (bc' := 9) (bs' := 31) (ct_X0_need _ _) k_X0_115 dX0_part_12 (Nat.le_of_ble_eq_true rfl) ⟨Nat.le_of_ble_eq_true rfl, Nat.le_of_ble_eq_true rfl⟩ ⟨Nat.le_of_ble_eq_true rfl, Nat.le_of_ble_eq_true rfl⟩ (r_cv fun M12 p12 => ?_) (fun q E M9 h8 => by have h9 := hx.rf h8.2; obtain ⟨rfl, k9, w9, o9⟩ := h9; exact t_catch [] _ _ _ rfl (fun z hz => absurd hz List.not_mem_nil) rfl (by decide) q305 q389 ((hC M9 q _ _ _ _ _ _ k9 w9 (by decide) o9 (by unfold partS; rw [cI_f (fun q => q hy), cI_t (by rw [e7]; decide)])).loose (Nat.zero_le _) (Nat.zero_le _)))
    exact absurd rfl p12.1
