/-! X: shelvesFollow, image, restore (printed by gen/mk_x67.py) -/
set_option maxRecDepth 100000
theorem r_thIc {G : GT} {bc bs : Nat} {M : PM} {pc : Nat} {ls : List (Option Value)} {st : List Value} {c ta k idx : Nat} {v : Int32} (d : decode (gc G) pc = .ok (.getfield idx, 3)) (hc : 12 ≤ c ∧ c ≤ 18) (hK : mK M ta = (1, c)) (hfl : ∀ c, 12 ≤ c → c ≤ 18 → FL (gy G).cls idx c k) (hv : ∀ c, 12 ≤ c → c ≤ 18 → ∀ i r, fv (ftX c k) i r = .int i) (e : mI M ta k = v) (kk : Wx G bc bs M (pc + 3) ls (.int v :: st)) : Wx G bc bs M pc ls (.ref ta :: st) := r_getIe d (hfl c hc.1 hc.2) hK (hv c hc.1 hc.2) e kk
theorem shL.hT {M : PM} {S : ST} {mo s a : Nat} (hH : HfP S.1) (hs : s < 8) (h : shL M S mo s (mR M a 0)) : (S.1 22 s = 2 ∧ ∃ ta c, mR M a 0 = some ta ∧ (12 ≤ c ∧ c ≤ 18) ∧ mK M ta = (1, c)) ∨ (¬ S.1 22 s = 2 ∧ (mR M a 0 = none ∨ ∃ ra c, mR M a 0 = some ra ∧ (8 ≤ c ∧ c ≤ 11) ∧ mK M ra = (1, c))) := by
  rcases h with ⟨a1, a2⟩ | ⟨a1, ta, c, a2, a3, a4, a5, a6⟩ | ⟨a1, ra, n, a2, a3, a4, a5, a6⟩
  · exact Or.inr ⟨by rw [a1]; decide, Or.inl a2⟩
  · exact Or.inl ⟨a1, ta, c, a2, a4, a5⟩
  · obtain ⟨⟨b1, b2⟩, -⟩ := (hH s hs).2.1 a1
    have := ix_toInt b1
    exact Or.inr ⟨by rw [a1]; decide, Or.inr ⟨ra, _, a2, ⟨by omega, by omega⟩, a4.1⟩⟩
theorem shL.ta {M : PM} {S : ST} {mo s : Nat} {o : Option Nat} (h : shL M S mo s o) (h2 : S.1 22 s = 2) : ∃ ta c, o = some ta ∧ (12 ≤ c ∧ c ≤ 18) ∧ mK M ta = (1, c) ∧ mI M ta 0 = S.1 25 s := by
  rcases h with ⟨a1, a2⟩ | ⟨a1, ta, c, a2, a3, a4, a5, a6⟩ | ⟨a1, ra, n, a2, a3, a4, a5, a6⟩
  · exact absurd (h2.symm.trans a1) (by decide)
  · exact ⟨ta, c, a2, a4, a5, a6⟩
  · exact absurd (h2.symm.trans a1) (by decide)
theorem ct_X4_holdsT {M : PM} {a : Nat} (hK : mK M a = (1, 4)) {b : Prop} (h : (b ∧ ∃ ta c, mR M a 0 = some ta ∧ (12 ≤ c ∧ c ≤ 18) ∧ mK M ta = (1, c)) ∨ (¬ b ∧ (mR M a 0 = none ∨ ∃ ra c, mR M a 0 = some ra ∧ (8 ≤ c ∧ c ≤ 11) ∧ mK M ra = (1, c)))) : Ct (YX4_holdsThing, (0, 0, 0, 0), qi (fun r M' => r = bI b ∧ M' = M), noX) [.ref a] M := by
  refine ct_of [some (.ref a)] rfl rfl rfl (Nat.le_of_ble_eq_true rfl) rfl rfl ?_
  rcases h with ⟨hb, ta, c, hr, hc, hk⟩ | ⟨hb, hr | ⟨ra, c, hr, hc, hk⟩⟩
  · refine r_aload_n (pc := 0) dX4_holdsThing_0 rfl ?_
    refine r_getR (pc := 1) dX4_holdsThing_1 fl_X4_9_4 hK (fun _ _ => rfl) hr ?_
    refine r_instTh (pc := 4) hc dX4_holdsThing_4 hk q534 ?_
    refine r_zreturn (pc := 7) rfl rfl dX4_holdsThing_7 ⟨_, rfl, ?_⟩
    exact ⟨bI_t' hb, rfl⟩
  · refine r_aload_n (pc := 0) dX4_holdsThing_0 rfl ?_
    refine r_getN (pc := 1) dX4_holdsThing_1 fl_X4_9_4 hK (fun _ _ => rfl) hr ?_
    refine r_instN (pc := 4) dX4_holdsThing_4 ?_
    refine r_zreturn (pc := 7) rfl rfl dX4_holdsThing_7 ⟨_, rfl, ?_⟩
    exact ⟨bI_f' hb, rfl⟩
  · refine r_aload_n (pc := 0) dX4_holdsThing_0 rfl ?_
    refine r_getR (pc := 1) dX4_holdsThing_1 fl_X4_9_4 hK (fun _ _ => rfl) hr ?_
    refine r_instRw (pc := 4) hc dX4_holdsThing_4 hk q534 ?_
    refine r_zreturn (pc := 7) rfl rfl dX4_holdsThing_7 ⟨_, rfl, ?_⟩
    exact ⟨bI_f' hb, rfl⟩
theorem ct_X0_isThingQ {M : PM} {Q : Nat → Option Nat → Prop} {xo wa mo : Nat} {Z : PM} {S : ST} (hx : XQ Q M xo wa mo Z S) (x1 : Int32) (hB : OkT S.1) : Ct (YX0_isThing, (1, 25, 0, 0), qi (fun r M' => r = bI (thP S.1 x1) ∧ M' = M), noX) [.ref xo, .int x1] M := by
  refine ct_of [some (.ref xo), some (.int x1)] rfl rfl rfl (Nat.le_of_ble_eq_true rfl) rfl rfl ?_
  refine r_iload_n (pc := 0) dX0_isThing_0 rfl ?_
  refine r_i2l (pc := 1) dX0_isThing_1 ?_
  refine r_lconst (pc := 2) (v := 0) dX0_isThing_2 (by decide) ?_
  refine r_aload_n (pc := 3) dX0_isThing_3 rfl ?_
  refine r_getR (pc := 4) dX0_isThing_4 fl_X0_90_0 hx.1.2.1 (fun _ _ => rfl) hx.2.2.1.1 ?_
  refine r_getIe (pc := 7) (v := S.1 0 0) dX0_isThing_7 fl_X0_104_3 hx.2.2.1.2.2.k (fun _ _ => rfl) hx.2.2.1.2.2.i4 ?_
  refine r_iconst (pc := 10) (v := 1) dX0_isThing_10 (by decide) ?_
  refine r_isub (pc := 11) dX0_isThing_11 ?_
  refine r_i2l (pc := 12) dX0_isThing_12 ?_
  refine r_s3 (pc := 13) (bc' := 0) (bs' := 0) (ct_X0_in _ 0 _ rfl (by decide) rfl) k_X0_107 dX0_isThing_13 (Nat.le_of_ble_eq_true rfl) ⟨Nat.le_of_ble_eq_true rfl, Nat.le_of_ble_eq_true rfl⟩ ⟨Nat.le_of_ble_eq_true rfl, Nat.le_of_ble_eq_true rfl⟩ (r_ci fun r13 M13 p13 => ?_) nox
  obtain ⟨rfl, p13⟩ := p13
  have p13 := Eq.symm (show _ = _ from p13)
  subst p13
  refine r_zreturn (pc := 16) rfl nar_b dX0_isThing_16 ⟨_, rfl, ?_⟩
  exact ⟨bI_congr (in_c hB.1.1 (by decide)), rfl⟩
theorem ct_X0_shelvesFollow {M : PM} {xo wa mo : Nat} {Z : PM} {S : ST} (hx : XQ (shL M S mo) M xo wa mo Z S) (hB : OkT S.1) (hH : HfP S.1) : Ct (YX0_shelvesFollow, (2, 46, 0, 0), qv (fun M' => XO M' xo wa mo Z (folS S)), noX) [.ref xo] M := by
  refine ct_of [some (.ref xo), none, none, none, none, none] rfl rfl rfl (Nat.le_of_ble_eq_true rfl) rfl rfl ?_
  have L : ∀ (n j : Nat) (M9 : PM) (o4 o5 : Option Value), j + n = 8 → XQ (shF j M9 S wa mo) M9 xo wa mo Z S → Wx (YX0_shelvesFollow, (2, 46, 0, 0), qv (fun M' => XO M' xo wa mo Z (folS S)), noX) 0 0 M9 10 [some (.ref xo), some (.ref (xo + 1)), some (.int 8), some (.int (nI j)), o4, o5] [] := by
    intro n
    induction n with
    | zero =>
      intro j M9 o4 o5 hj hx9
      obtain rfl : j = 8 := by omega
      refine r_iload_n (pc := 10) dX0_shelvesFollow_10 rfl ?_
      refine r_iload_n (pc := 11) dX0_shelvesFollow_11 rfl ?_
      refine r_icmp_ge (pc := 12) 75 dX0_shelvesFollow_12 rfl (fun _ => ?_) (fun hno => False.elim (absurd hno (by decide)))
      refine r_return (pc := 75) rfl dX0_shelvesFollow_75 ⟨rfl, ?_⟩
      exact hx9.done
    | succ n ih =>
      intro j M9 o4 o5 hj hx9
      have hj8 : j < 8 := by omega
      have hq := (hx9.2.2.2.2.2.1 j hj8).2 (Nat.le_refl _)
      refine r_iload_n (pc := 10) dX0_shelvesFollow_10 rfl ?_
      refine r_iload_n (pc := 11) dX0_shelvesFollow_11 rfl ?_
      refine r_icmp_ge (pc := 12) 75 dX0_shelvesFollow_12 rfl (fun hno => False.elim (by rw [show (8 : Int32) = nI 8 from rfl, lt_nI (by omega) (by omega)] at hno; omega)) (fun _ => ?_)
      refine r_aload_n (pc := 15) dX0_shelvesFollow_15 rfl ?_
      refine r_iload_n (pc := 16) dX0_shelvesFollow_16 rfl ?_
      refine r_aaldR (pc := 17) dX0_shelvesFollow_17 hx9.1.2.2.2.1.1 rfl hx9.1.2.2.2.1.2 (vp_in_nI (by omega) (by decide)) (by rw [ix_nI (by omega)]; exact (hx9.1.2.2.2.2.2.2.2.2.2 j hj8).1) ?_
      refine r_astore4 (pc := 18) dX0_shelvesFollow_18 rfl ?_
      refine r_aload (pc := 20) dX0_shelvesFollow_20 rfl ?_
      refine r_o1 (pc := 22) (bc' := 0) (bs' := 0) (ct_X4_holdsT (hx9.1.2.2.2.2.2.2.2.2.2 j hj8).2 (hq.hT hH hj8)) k_X0_139_4 dX0_shelvesFollow_22 (hx9.1.2.2.2.2.2.2.2.2.2 j hj8).2 (Nat.le_of_ble_eq_true rfl) ⟨Nat.le_of_ble_eq_true rfl, Nat.le_of_ble_eq_true rfl⟩ ⟨Nat.le_of_ble_eq_true rfl, Nat.le_of_ble_eq_true rfl⟩ (r_ci fun r22 M22 p22 => ?_) nox
      obtain ⟨rfl, p22⟩ := p22
      have p22 := Eq.symm (show _ = _ from p22)
      subst p22
      refine r_if_eq (pc := 25) 69 dX0_shelvesFollow_25 rfl (fun h25 => ?_) (fun h25 => ?_)
      · rw [bI_eq0] at h25
        refine r_iinc3 (pc := 69) dX0_shelvesFollow_69 (nI_1 _) rfl ?_
        refine r_goto (pc := 72) 10 dX0_shelvesFollow_72 rfl ?_
        first | exact ih (j + 1) _ _ _ (by omega) (hx9.stepT hH hj8 h25 (Or.inl ⟨h49.2, tb, rfl, hrb, _, hTb.2.1⟩)) | exact ih (j + 1) _ _ _ (by omega) (hx9.stepT hH hj8 h25 (Or.inr ⟨fun q => h49 ⟨n_neg ((hH j hj8).2.2 h25), q⟩, rfl⟩)) | exact ih (j + 1) _ _ _ (by omega) (hx9.stepN hj8 h25)
      · rw [bI_ne0] at h25
        obtain ⟨ta, c, hr, hc, hk, h0⟩ := hq.ta h25
        refine r_aload (pc := 28) dX0_shelvesFollow_28 rfl ?_
        refine r_getR (pc := 30) dX0_shelvesFollow_30 fl_X0_143_4 (hx9.1.2.2.2.2.2.2.2.2.2 j hj8).2 (fun _ _ => rfl) hr ?_
        refine r_castTh (pc := 33) hc dX0_shelvesFollow_33 hk q603 ?_
        refine r_thIc (pc := 36) (v := S.1 25 j) dX0_shelvesFollow_36 hc hk fls_X0_146 fvs_0 h0 ?_
        refine r_istore5 (pc := 39) dX0_shelvesFollow_39 rfl ?_
        refine r_aload (pc := 41) dX0_shelvesFollow_41 rfl ?_
        refine r_aload_n (pc := 43) dX0_shelvesFollow_43 rfl ?_
        refine r_iload (pc := 44) dX0_shelvesFollow_44 rfl ?_
        refine r_o2 (pc := 46) (bc' := 0) (bs' := 0) (ct_X0_isThingQ hx9 (S.1 25 j) hB) k_X0_111_0 dX0_shelvesFollow_46 hx9.1.2.1 (Nat.le_of_ble_eq_true rfl) ⟨Nat.le_of_ble_eq_true rfl, Nat.le_of_ble_eq_true rfl⟩ ⟨Nat.le_of_ble_eq_true rfl, Nat.le_of_ble_eq_true rfl⟩ (r_ci fun r46 M46 p46 => ?_) nox
        obtain ⟨rfl, p46⟩ := p46
        have p46 := Eq.symm (show _ = _ from p46)
        subst p46
        refine r_if_eq (pc := 49) 65 dX0_shelvesFollow_49 rfl (fun h49 => ?_) (fun h49 => ?_)
        · rw [bI_eq0] at h49
          refine r_null (pc := 65) dX0_shelvesFollow_65 ?_
          refine r_putN (pc := 66) dX0_shelvesFollow_66 fl_X0_143_4 (hx9.1.2.2.2.2.2.2.2.2.2 j hj8).2 rfl rfl ?_
          refine r_iinc3 (pc := 69) dX0_shelvesFollow_69 (nI_1 _) rfl ?_
          refine r_goto (pc := 72) 10 dX0_shelvesFollow_72 rfl ?_
          first | exact ih (j + 1) _ _ _ (by omega) (hx9.stepT hH hj8 h25 (Or.inl ⟨h49.2, tb, rfl, hrb, _, hTb.2.1⟩)) | exact ih (j + 1) _ _ _ (by omega) (hx9.stepT hH hj8 h25 (Or.inr ⟨fun q => h49 ⟨n_neg ((hH j hj8).2.2 h25), q⟩, rfl⟩)) | exact ih (j + 1) _ _ _ (by omega) (hx9.stepN hj8 h25)
        · rw [bI_ne0] at h49
          refine r_aload_n (pc := 52) dX0_shelvesFollow_52 rfl ?_
          refine r_getR (pc := 53) dX0_shelvesFollow_53 fl_X0_90_0 hx9.1.2.1 (fun _ _ => rfl) hx9.2.2.1.1 ?_
          refine r_getR (pc := 56) dX0_shelvesFollow_56 fl_X0_119_3 hx9.2.2.1.2.2.k (fun _ _ => rfl) hx9.2.2.1.2.2.r9 ?_
          refine r_iload (pc := 59) dX0_shelvesFollow_59 rfl ?_
          obtain ⟨tb, hrb, hTb⟩ := hx9.2.2.1.2.2.th h49
          refine r_aaldR (pc := 61) dX0_shelvesFollow_61 hx9.2.2.1.2.2.k9 rfl hx9.2.2.1.2.2.z9 (hB.vt h49) hrb ?_
          refine r_goto (pc := 62) 66 dX0_shelvesFollow_62 rfl ?_
          refine r_putR (pc := 66) dX0_shelvesFollow_66 fl_X0_143_4 (hx9.1.2.2.2.2.2.2.2.2.2 j hj8).2 rfl rfl ?_
          refine r_iinc3 (pc := 69) dX0_shelvesFollow_69 (nI_1 _) rfl ?_
          refine r_goto (pc := 72) 10 dX0_shelvesFollow_72 rfl ?_
          first | exact ih (j + 1) _ _ _ (by omega) (hx9.stepT hH hj8 h25 (Or.inl ⟨h49.2, tb, rfl, hrb, _, hTb.2.1⟩)) | exact ih (j + 1) _ _ _ (by omega) (hx9.stepT hH hj8 h25 (Or.inr ⟨fun q => h49 ⟨n_neg ((hH j hj8).2.2 h25), q⟩, rfl⟩)) | exact ih (j + 1) _ _ _ (by omega) (hx9.stepN hj8 h25)
  refine r_aload_n (pc := 0) dX0_shelvesFollow_0 rfl ?_
  refine r_getR (pc := 1) dX0_shelvesFollow_1 fl_X0_59_0 hx.1.2.1 (fun _ _ => rfl) hx.1.2.2.1.1 ?_
  refine r_astore1 (pc := 4) dX0_shelvesFollow_4 rfl ?_
  refine r_aload_n (pc := 5) dX0_shelvesFollow_5 rfl ?_
  refine r_alen (pc := 6) dX0_shelvesFollow_6 hx.1.2.2.2.1.1 hx.1.2.2.2.1.2 ?_
  refine r_istore2 (pc := 7) dX0_shelvesFollow_7 rfl ?_
  refine r_iconst (pc := 8) (v := 0) dX0_shelvesFollow_8 (by decide) ?_
  refine r_istore3 (pc := 9) dX0_shelvesFollow_9 rfl ?_
  exact L 8 0 M _ _ (by omega) hx.begin
theorem XO.imgS {M Z : PM} {xo wa wi mo : Nat} {S : ST} (h : XO M xo wa mo Z S) (hS : OkS S.1) (hd : dyW xo mo wi) (hne : wi ≠ wa) (hw : WX M wi S.1) : XO (sR M xo 7 (some wi)) xo wa mo Z (imageS S).2 := by
  obtain ⟨a, b, c⟩ := kpt_pk (σ := S.1) (τ := (imageS S).2.1) rfl
  refine h.img hd hne (hw.cc hS.1 a b c) (fun k h1 h2 => ?_) rfl rfl
  show (if k = 49 then sc 1 else if k = 36 then pkC S.1 else S.1 k) = _
  rw [if_neg h2, if_neg h1]
theorem XO.rest {M M1 Z : PM} {xo wa mo : Nat} {S : ST} (h : XO M xo wa mo Z S) (hS : OkS S.1) (f : frP noP M M1) (w : WX M1 M.1 (kpt S.1)) : XQ (shL (sR M1 xo 6 (some M.1)) (unC (S.1 36) S.1, S.2) mo) (sR M1 xo 6 (some M.1)) xo M.1 mo Z (unC (S.1 36) S.1, S.2) := by
  have h1 := (h.grown f).loose hS
  have x0 := h.1.1
  have m0 := h.2.1
  refine XQ.wnew h1 (Or.inr m0.2) ?_ (fun wi hw e => ?_) (fun k hk => unC_o (by omega)) (fun s hs e => e) (fun s o hs hq => ?_)
  · exact w.c (fun k hk => congrFun (unC_k (by omega)) 0) (fun k a b i _ => congrFun (unC_k (by omega)) i) (fun k a b i _ => congrFun (unC_k (by omega)) i) (fun k a b i _ => congrFun (unC_k (by omega)) i)
  · rw [((f.2 xo (by omega)).2.2 id).2.2] at hw
    rcases h.2.2.2.1 with ⟨-, a2⟩ | ⟨-, wj, a2, -, -, a5⟩
    · rw [a2] at hw; cases hw
    · cases a2.symm.trans hw
      have := a5.1.1
      omega
  · exact hq.fr (P := fun a => a = xo) (frP.rf.sR fun _ => rfl) (fun a c hK hp => by rw [hp, h1.1.2.1] at hK; have := (Prod.mk.inj hK).2; omega) (fun ra n c t hr hm _ => ⟨by omega, by omega⟩) (fun k a b => by show unC _ _ k s = _; rw [unC_o (by omega)]) (fun _ _ => rfl)
theorem rest_fol {S : ST} : folS (unC (S.1 36) S.1, S.2) = (restM S.1, S.2) := by
  unfold folS restM
  congr 1
theorem rest_H {σ : cS} (h : OkH σ) : HfP (unC (σ 36) σ) := fun s hs => by
  rw [unC_o (k := 22) (by omega), unC_o (k := 23) (by omega), unC_o (k := 24) (by omega), unC_o (k := 25) (by omega)]
  exact h.w s hs
theorem rest_T {σ : cS} (h : OkW (kpt σ)) : OkT (unC (σ 36) σ) := h.t.c (fun k hk => by rw [unC_k (by omega)]) (fun k a b => unC_k (by omega))
theorem ct_X0_image {M : PM} {xo wa mo : Nat} {Z : PM} {S : ST} (hx : XO M xo wa mo Z S) (hS : OkS S.1) : Ct (YX0_image, (3, 81, 10, 78), qi (fun r M' => oX xo mo Z (imageS S) r M'), noX) [.ref xo] M := by
  refine ct_of [some (.ref xo)] rfl rfl rfl (Nat.le_of_ble_eq_true rfl) rfl rfl ?_
  refine r_aload_n (pc := 0) dX0_image_0 rfl ?_
  refine r_aload_n (pc := 1) dX0_image_1 rfl ?_
  refine r_getR (pc := 2) dX0_image_2 fl_X0_90_0 hx.1.2.1 (fun _ _ => rfl) hx.2.2.1.1 ?_
  refine r_o1 (pc := 5) (bc' := 0) (bs' := 0) (ct_X3_again hx.2.2.1.2.2 hS.1) k_X0_284_3 dX0_image_5 hx.2.2.1.2.2.k (Nat.le_of_ble_eq_true rfl) ⟨Nat.le_of_ble_eq_true rfl, Nat.le_of_ble_eq_true rfl⟩ ⟨Nat.le_of_ble_eq_true rfl, Nat.le_of_ble_eq_true rfl⟩ (r_cr fun r5 M5 p5 => ?_) nox
  obtain ⟨rfl, w1, n1, f1, g1⟩ := p5
  have hx1 := hx.grown f1
  have hx2 := hx1.imgS hS (wi := M.1) (Or.inr hx.2.1.2) (by have := hx.2.2.1.2.2.1.1; omega) w1
  refine r_putR (pc := 8) dX0_image_8 fl_X0_410_0 hx1.1.2.1 rfl rfl ?_
  refine r_aload_n (pc := 11) dX0_image_11 rfl ?_
  refine r_getR (pc := 12) dX0_image_12 fl_X0_90_0 hx2.1.2.1 (fun _ _ => rfl) hx2.2.2.1.1 ?_
  refine r_getIe (pc := 15) (v := S.1 0 0) dX0_image_15 fl_X0_104_3 hx2.2.2.1.2.2.k (fun _ _ => rfl) hx2.2.2.1.2.2.i4 ?_
  refine r_ireturn (pc := 18) rfl dX0_image_18 ⟨_, rfl, ?_⟩
  exact ⟨rfl, wa, hx2⟩
theorem r_putRw {G : GT} {bc bs : Nat} {M : PM} {pc : Nat} {ls : List (Option Value)} {st : List Value} {a b c k idx : Nat} (d : decode (gc G) pc = .ok (.putfield idx, 3)) (h : FL (gy G).cls idx c k) (hK : mK M a = (1, c)) (hfin : (finX c k).map (·.1) = some false) (hty : isRT (ftX c k) = true) (kk : Wx G bc bs (sR M a k (some b)) (pc + 3) ls st) : Wx G bc bs M pc ls (.ref b :: .ref a :: st) := r_putR d h hK hfin hty kk
theorem ct_X0_restore {M : PM} {xo wa mo : Nat} {Z : PM} {S : ST} (hx : XO M xo wa mo Z S) (hS : OkS S.1) : Ct (YX0_restore, (5, 113, 11, 85), qi (fun r M' => oX xo mo Z (restoreS S) r M'), noX) [.ref xo] M := by
  refine ct_ofH [some (.ref xo), none] rfl rfl (Nat.le_of_ble_eq_true rfl) rfl rfl ?_
  have hB := hS.1.t
  have hC : ∀ (M9 : PM) (q : Nat) (b : Int32) (o1 : Option Value), mK M9 q = (1, 6) → mI M9 q 6 = b → bd b (-7) (-1) → XO M9 xo wa mo Z S → restoreS S = noS S b → Wx (YX0_restore, (5, 113, 11, 85), qi (fun r M' => oX xo mo Z (restoreS S) r M'), noX) 0 0 M9 40 [some (.ref xo), o1] [.ref q] := by
    intro M9 q b o1 h1 h2 h3 h4 h5
    refine r_astore1 (pc := 40) dX0_restore_40 rfl ?_
    refine r_aload_n (pc := 41) dX0_restore_41 rfl ?_
    refine r_aload_n (pc := 42) dX0_restore_42 rfl ?_
    refine r_o2 (pc := 43) (bc' := 0) (bs' := 0) (ct_X0_refused h4 h1 h2 h3) k_X0_173_0 dX0_restore_43 h4.1.2.1 (Nat.le_of_ble_eq_true rfl) ⟨Nat.le_of_ble_eq_true rfl, Nat.le_of_ble_eq_true rfl⟩ ⟨Nat.le_of_ble_eq_true rfl, Nat.le_of_ble_eq_true rfl⟩ (r_ci fun r43 M43 p43 => ?_) nox
    obtain ⟨rfl, h6⟩ := p43
    refine r_ireturn (pc := 46) rfl dX0_restore_46 ⟨_, rfl, ?_⟩
    exact (show oX xo mo Z (restoreS S) _ _ by rw [h5]; exact ⟨rfl, wa, h6⟩)
  rcases hx.2.2.2.1 with ⟨h49, him⟩ | ⟨h49, wi, him, hdi, hne, hwi⟩
  · refine r_aload_n (pc := 0) dX0_restore_0 rfl ?_
    refine r_getN (pc := 1) dX0_restore_1 fl_X0_410_0 hx.1.2.1 (fun _ _ => rfl) him ?_
    refine r_ifnullN (pc := 4) 11 dX0_restore_4 rfl ?_
    refine r_iconst (pc := 11) (v := 0) dX0_restore_11 (by decide) ?_
    refine r_bipush (pc := 12) (v := (-6)) dX0_restore_12 (by decide) ?_
    refine r_s2 (pc := 14) (bc' := 10) (bs' := 78) (ct_X0_need _ _) k_X0_115 dX0_restore_14 (Nat.le_of_ble_eq_true rfl) ⟨Nat.le_of_ble_eq_true rfl, Nat.le_of_ble_eq_true rfl⟩ ⟨Nat.le_of_ble_eq_true rfl, Nat.le_of_ble_eq_true rfl⟩ (r_cv fun M14 p14 => ?_) (fun q E M9 h8 => by have h9 := And.intro (trivial) (hx.rf h8.2); obtain ⟨hn9, rfl, k9, w9, o9⟩ := h9; exact t_catch [] _ _ _ rfl (fun z hz => absurd hz List.not_mem_nil) rfl (by decide) q305 q389 ((hC M9 q _ _ k9 w9 (by decide) o9 (by unfold restoreS; rw [cI_t h49])).loose (Nat.zero_le _) (Nat.zero_le _)))
    exact absurd rfl p14.1
  · have hok : OkW (kpt S.1) := hS.2.2.1.elim (fun q => absurd (h49.symm.trans q) (by decide)) (fun q => q.2)
    refine r_aload_n (pc := 0) dX0_restore_0 rfl ?_
    refine r_getR (pc := 1) dX0_restore_1 fl_X0_410_0 hx.1.2.1 (fun _ _ => rfl) him ?_
    refine r_ifnull (pc := 4) dX0_restore_4 ?_
    refine r_iconst (pc := 7) (v := 1) dX0_restore_7 (by decide) ?_
    refine r_goto (pc := 8) 12 dX0_restore_8 rfl ?_
    refine r_bipush (pc := 12) (v := (-6)) dX0_restore_12 (by decide) ?_
    refine r_s2 (pc := 14) (bc' := 10) (bs' := 78) (ct_X0_need _ _) k_X0_115 dX0_restore_14 (Nat.le_of_ble_eq_true rfl) ⟨Nat.le_of_ble_eq_true rfl, Nat.le_of_ble_eq_true rfl⟩ ⟨Nat.le_of_ble_eq_true rfl, Nat.le_of_ble_eq_true rfl⟩ (r_cv fun M14 p14 => ?_) (fun q E M9 h9 => absurd h9.1 (by decide))
    obtain ⟨-, p14⟩ := p14
    have p14 := Eq.symm (show _ = _ from p14)
    subst p14
    refine r_aload_n (pc := 17) dX0_restore_17 rfl ?_
    refine r_aload_n (pc := 18) dX0_restore_18 rfl ?_
    refine r_getR (pc := 19) dX0_restore_19 fl_X0_410_0 hx.1.2.1 (fun _ _ => rfl) him ?_
    refine r_o1 (pc := 22) (bc' := 0) (bs' := 0) (ct_X3_again hwi hok) k_X0_284_3 dX0_restore_22 hwi.k (Nat.le_of_ble_eq_true rfl) ⟨Nat.le_of_ble_eq_true rfl, Nat.le_of_ble_eq_true rfl⟩ ⟨Nat.le_of_ble_eq_true rfl, Nat.le_of_ble_eq_true rfl⟩ (r_cr fun r22 M22 p22 => ?_) nox
    obtain ⟨rfl, w1, n1, f1, g1⟩ := p22
    have hx1 := hx.grown f1
    have hx2 := hx.rest hS f1 w1
    refine r_putR (pc := 25) dX0_restore_25 fl_X0_90_0 hx1.1.2.1 rfl rfl ?_
    refine r_aload_n (pc := 28) dX0_restore_28 rfl ?_
    refine r_o1 (pc := 29) (bc' := 0) (bs' := 0) (ct_X0_shelvesFollow hx2 (rest_T hok) (rest_H hS.2.1)) k_X0_385_0 dX0_restore_29 hx2.1.2.1 (Nat.le_of_ble_eq_true rfl) ⟨Nat.le_of_ble_eq_true rfl, Nat.le_of_ble_eq_true rfl⟩ ⟨Nat.le_of_ble_eq_true rfl, Nat.le_of_ble_eq_true rfl⟩ (r_cv fun M29 p29 => ?_) nox
    have hx3 := p29
    rw [rest_fol] at hx3
    refine r_aload_n (pc := 32) dX0_restore_32 rfl ?_
    refine r_getR (pc := 33) dX0_restore_33 fl_X0_90_0 hx3.1.2.1 (fun _ _ => rfl) hx3.2.2.1.1 ?_
    refine r_getIe (pc := 36) (v := restM S.1 0 0) dX0_restore_36 fl_X0_104_3 hx3.2.2.1.2.2.k (fun _ _ => rfl) hx3.2.2.1.2.2.i4 ?_
    refine r_ireturn (pc := 39) rfl dX0_restore_39 ⟨_, rfl, ?_⟩
    exact (show oX xo mo Z (restoreS S) _ _ by unfold restoreS; rw [cI_f (by rw [h49]; decide)]; exact ⟨rfl, _, hx3⟩)
