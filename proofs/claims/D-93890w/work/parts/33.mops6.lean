/-! THE MODEL's calls: rows of people (printed by gen/model8.py) -/
set_option maxRecDepth 100000
theorem oM_scr {M0 : PM} {mo : Nat} {I I2 I' : Nat → Nat → Int32} {L : Nat → Nat → Int64} {w : Int32 × ST} {r : Int32} (hf : frM mo I I2 L L) (h1 : ∀ x, x ≠ mo → (x < mo + 24 ∨ mo + 31 < x) → I' x = I2 x) (h2 : ∀ k, k ≠ 46 → I' mo k = I2 mo k) (hw : w = (r, (sM I2 mo, L (mo + 17)))) : oM M0 mo I L w r (wIL M0 I' L) := by
  subst hw
  refine ⟨rfl, I', L, rfl, ⟨fun k hk i hi => congrFun (sM_eq ?_ (fun o ho => ?_)) i, fun _ _ => rfl⟩, fun a ha => ⟨(h1 a (by omega) (by omega)).trans (hf a ha).1, rfl⟩⟩
  · have hp : k ≤ 26 ∨ k = 28 ∨ k = 36 ∨ k = 47 ∨ k = 48 ∨ k = 49 := of_decide_eq_true hk
    exact h2 k (by omega)
  · have hp : k ≤ 26 ∨ k = 28 ∨ k = 36 ∨ k = 47 ∨ k = 48 ∨ k = 49 := of_decide_eq_true hk
    refine h1 _ ?_ ?_ <;> (rcases ho with ⟨g1, g2, g3⟩ | ⟨g1, g2, g3⟩ | ⟨g1, g3⟩ <;> omega)
theorem set_nI {σ : cS} {x : Int32} {N : Nat} (hN : N ≤ 8) (e : σ 1 0 = nI N) (h : setP σ x) : ∃ s, x = nI s ∧ s < 2 ^ N := by
  obtain ⟨s, hs, rfl⟩ := nI_of h.1
  have h2 := h.2
  have := pow8 hN
  rw [e, bt_shl N (by omega), nI_ltI hs (by omega)] at h2
  exact ⟨s, rfl, h2⟩
theorem endF_c {σ τ : cS} {t : Nat} {to : Int32} (h4 : σ 4 = τ 4) (h5 : σ 5 = τ 5) (h1 : σ 1 = τ 1) (h6 : σ 6 = τ 6) (h11 : σ 11 = τ 11) (h12 : σ 12 = τ 12) (h13 : σ 13 = τ 13) (h14 : σ 14 = τ 14) (h17 : σ 17 = τ 17) (h18 : σ 18 = τ 18) (s : Nat) : endF σ t to s = endF τ t to s := by
  unfold endF ppN farS farBS
  rw [h4, h5, h1, h6, h11, h12, h13, h14, h17, h18]
theorem bst_f {rf rt to : Int32} {fr fr' e : Nat → Int32} {p : Int32} {s n : Nat} (h : ∀ m, m < n → fr m = fr' m) : ∀ m, m ≤ n → bstC rf rt to fr e p s m = bstC rf rt to fr' e p s m
  | 0, _ => rfl
  | m + 1, hm => by rw [bstC, bstC, bst_f h m (by omega), h m (by omega)]
theorem end_f {rf rt to : Int32} {fr fr' : Nat → Int32} {p : Int32} {n : Nat} (h : ∀ m, m < n → fr m = fr' m) (s : Nat) : endC rf rt to fr p n s = endC rf rt to fr' p n s := by
  induction s using Nat.strongRecOn with
  | _ s ih => rw [end_eq, end_eq (fr := fr'), bst_f h n (Nat.le_refl _), bst_c (fun j hj => ih j hj) n]
theorem ct_X5_count {M0 : PM} {mo : Nat} {I : Nat → Nat → Int32} {L : Nat → Nat → Int64} (hm : MR M0 mo) (s : Nat) (hs : s < 256) : Ct (YX5_count, (0, 0, 0, 0), qi (fun r M' => r = nI (cntN s) ∧ M' = wIL M0 I L), noX) [.ref mo, .int (nI s)] (wIL M0 I L) := by
  refine ct_of [some (.ref mo), some (.int (nI s)), none, none] rfl rfl rfl (Nat.le_of_ble_eq_true rfl) rfl rfl ?_
  have L1 : ∀ (n : Nat) (c k : Nat), k < 256 → cntN k = n → c + n = cntN s → Wx (YX5_count, (0, 0, 0, 0), qi (fun r M' => r = nI (cntN s) ∧ M' = wIL M0 I L), noX) 0 0 (wIL M0 I L) 4 [some (.ref mo), some (.int (nI s)), some (.int (nI c)), some (.int (nI k))] [] := by
    intro n
    induction n with
    | zero =>
      intro c k hk h1 h2
      refine r_iload_n (pc := 4) dX5_count_4 rfl ?_
      refine r_if_eq (pc := 5) 20 dX5_count_5 rfl (fun _ => ?_) (fun hno => False.elim (hno (by rw [cnt_0 k hk h1]; rfl)))
      refine r_iload_n (pc := 20) dX5_count_20 rfl ?_
      refine r_ireturn (pc := 21) rfl dX5_count_21 ⟨_, rfl, ?_⟩
      exact ⟨by rw [← h2]; rfl, rfl⟩
    | succ n ih =>
      intro c k hk h1 h2
      have k0 : k ≠ 0 := fun e => by subst e; have h1 : (0 : Nat) = n + 1 := h1; omega
      obtain ⟨b1, b2, b3⟩ := bt_cn k hk k0
      refine r_iload_n (pc := 4) dX5_count_4 rfl ?_
      refine r_if_eq (pc := 5) 20 dX5_count_5 rfl (fun hno => False.elim ((by rw [show (0 : Int32) = nI 0 from rfl, nI_eq (by omega) (by omega)] at hno; exact k0 hno))) (fun _ => ?_)
      refine r_iinc2 (pc := 8) dX5_count_8 (nI_1 _) rfl ?_
      refine r_iload_n (pc := 11) dX5_count_11 rfl ?_
      refine r_iload_n (pc := 12) dX5_count_12 rfl ?_
      refine r_iconst (pc := 13) (v := 1) dX5_count_13 (by decide) ?_
      refine r_isub (pc := 14) dX5_count_14 ?_
      refine r_iand (pc := 15) dX5_count_15 ?_
      rw [b1]
      refine r_istore3 (pc := 16) dX5_count_16 rfl ?_
      refine r_goto (pc := 17) 4 dX5_count_17 rfl ?_
      exact ih (c + 1) _ b3 (by omega) (by omega)
  refine r_iconst (pc := 0) (v := 0) dX5_count_0 (by decide) ?_
  refine r_istore2 (pc := 1) dX5_count_1 rfl ?_
  refine r_iload_n (pc := 2) dX5_count_2 rfl ?_
  refine r_istore3 (pc := 3) dX5_count_3 rfl ?_
  exact L1 (cntN s) 0 s hs rfl (by omega)
theorem ct_X5_rows {M0 : PM} {mo : Nat} {I : Nat → Nat → Int32} {L : Nat → Nat → Int64} (hm : MR M0 mo) (x1 : Int32) (x2 : Int32) (x3 : Int32) (N : Nat) (hN : N ≤ 8) (eN : I mo 1 = nI N) : Ct (YX5_rows, (2, 46, 0, 0), qv (fun M' => ∃ I', M' = wIL M0 I' L ∧ (∀ x, x ≠ mo + 24 → I' x = I x) ∧ ∀ j, j < 2 ^ N → I' (mo + 24) j = endC (I mo 4) (I mo 5) x3 (I (mo + 25)) x2 N j), noX) [.ref mo, .int x1, .int x2, .int x3] (wIL M0 I L) := by
  refine ct_of [some (.ref mo), some (.int x1), some (.int x2), some (.int x3), none, none, none, none] rfl rfl rfl (Nat.le_of_ble_eq_true rfl) rfl rfl ?_
  have h256 := pow8 hN
  have hpos := Nat.two_pow_pos N
  have L1 : ∀ (n : Nat) (s : Nat) (I1 : Nat → Nat → Int32) (o5 o6 o7 : Option Value), s + n = 2 ^ N → (∀ x, x ≠ mo + 24 → I1 x = I x) → (∀ j, j < s → I1 (mo + 24) j = endC (I mo 4) (I mo 5) x3 (I (mo + 25)) x2 N j) → Wx (YX5_rows, (2, 46, 0, 0), qv (fun M' => ∃ I', M' = wIL M0 I' L ∧ (∀ x, x ≠ mo + 24 → I' x = I x) ∧ ∀ j, j < 2 ^ N → I' (mo + 24) j = endC (I mo 4) (I mo 5) x3 (I (mo + 25)) x2 N j), noX) 0 0 (wIL M0 I1 L) 10 [some (.ref mo), some (.int x1), some (.int x2), some (.int x3), some (.int (nI s)), o5, o6, o7] [] := by
    intro n
    induction n with
    | zero =>
      intro s I1 o5 o6 o7 hs a1 a2
      refine r_iload (pc := 10) dX5_rows_10 rfl ?_
      refine r_iconst (pc := 12) (v := 1) dX5_rows_12 (by decide) ?_
      refine r_aload_n (pc := 13) dX5_rows_13 rfl ?_
      refine rm_getI (pc := 14) dX5_rows_14 fl_X5_120_5 (MR_k hm) (fun _ _ => rfl) ?_
      refine r_ishl (pc := 17) dX5_rows_17 ?_
      refine r_icmp_ge (pc := 18) 114 dX5_rows_18 rfl (fun _ => ?_) (fun hno => False.elim (by rw [a1 mo (by omega), eN, bt_shl N (by omega), nI_ltI (by omega) (by omega)] at hno; omega))
      refine r_return (pc := 114) rfl dX5_rows_114 ⟨rfl, ?_⟩
      exact ⟨I1, rfl, a1, fun j hj => a2 j (by omega)⟩
    | succ n ih =>
      intro s I1 o5 o6 o7 hs a1 a2
      have L2 : ∀ (k m : Nat) (b : Int32) (o7 : Option Value), m + k = N → b = bstC (I mo 4) (I mo 5) x3 (I (mo + 25)) (I1 (mo + 24)) x2 s m → Wx (YX5_rows, (2, 46, 0, 0), qv (fun M' => ∃ I', M' = wIL M0 I' L ∧ (∀ x, x ≠ mo + 24 → I' x = I x) ∧ ∀ j, j < 2 ^ N → I' (mo + 24) j = endC (I mo 4) (I mo 5) x3 (I (mo + 25)) x2 N j), noX) 0 0 (wIL M0 I1 L) 27 [some (.ref mo), some (.int x1), some (.int x2), some (.int x3), some (.int (nI s)), some (.int b), some (.int (nI m)), o7] [] := by
        intro k
        induction k with
        | zero =>
          intro m b o7 hm2 hb
          refine r_iload (pc := 27) dX5_rows_27 rfl ?_
          refine r_aload_n (pc := 29) dX5_rows_29 rfl ?_
          refine rm_getI (pc := 30) dX5_rows_30 fl_X5_120_5 (MR_k hm) (fun _ _ => rfl) ?_
          refine r_icmp_ge (pc := 33) 99 dX5_rows_33 rfl (fun _ => ?_) (fun hno => False.elim (by rw [a1 mo (by omega), eN, nI_ltI (by omega) (by omega)] at hno; omega))
          refine r_aload_n (pc := 99) dX5_rows_99 rfl ?_
          refine r_getR (pc := 100) dX5_rows_100 fl_X5_90_5 (MR_k hm) (fun _ _ => rfl) (MR_r38 hm) ?_
          refine r_iload (pc := 103) dX5_rows_103 rfl ?_
          refine r_iload (pc := 105) dX5_rows_105 rfl ?_
          refine rm_iast (pc := 107) dX5_rows_107 (MR_k38 hm) (MR_z38 hm) (vp_in_nI (by omega) (by decide)) ?_
          refine r_iinc4 (pc := 108) dX5_rows_108 (nI_1 _) rfl ?_
          refine r_goto (pc := 111) 10 dX5_rows_111 rfl ?_
          refine ih (s + 1) _ _ _ _ (by omega) (fun x hx => (up2_ne hx).trans (a1 x hx)) (fun j hj => ?_)
          rw [up2_self, ix_nI (by omega)]
          by_cases e : j = s
          · subst e
            rw [va_up_self, hb, show m = N by omega, end_eq]
            exact bst_c (fun i hi => a2 i hi) N
          · rw [va_up_ne _ _ e]; exact a2 j (by omega)
        | succ k ik =>
          intro m b o7 hm2 hb
          have hv : vp_in (nI m) 8 := vp_in_nI (by omega) (by decide)
          have em : Int32.toNatClampNeg (nI m) = m := ix_nI (by omega)
          have e0 : I1 mo = I mo := a1 mo (by omega)
          have e25 : I1 (mo + 25) = I (mo + 25) := a1 _ (by omega)
          refine r_iload (pc := 27) dX5_rows_27 rfl ?_
          refine r_aload_n (pc := 29) dX5_rows_29 rfl ?_
          refine rm_getI (pc := 30) dX5_rows_30 fl_X5_120_5 (MR_k hm) (fun _ _ => rfl) ?_
          refine r_icmp_ge (pc := 33) 99 dX5_rows_33 rfl (fun hno => False.elim (by rw [a1 mo (by omega), eN, nI_ltI (by omega) (by omega)] at hno; omega)) (fun _ => ?_)
          refine r_iload (pc := 36) dX5_rows_36 rfl ?_
          refine r_iload (pc := 38) dX5_rows_38 rfl ?_
          refine r_ishr (pc := 40) dX5_rows_40 ?_
          refine r_iconst (pc := 41) (v := 1) dX5_rows_41 (by decide) ?_
          refine r_iand (pc := 42) dX5_rows_42 ?_
          refine r_if_ne (pc := 43) 49 dX5_rows_43 rfl (fun h43 => ?_) (fun h43 => ?_)
          · rw [bt_0 s (by omega) m (by omega)] at h43
            have hbit : s.testBit m = true := by simpa using h43
            have hlt := bit_lt hbit
            refine r_aload_n (pc := 49) dX5_rows_49 rfl ?_
            refine r_aload_n (pc := 50) dX5_rows_50 rfl ?_
            refine r_getR (pc := 51) dX5_rows_51 fl_X5_90_5 (MR_k hm) (fun _ _ => rfl) (MR_r38 hm) ?_
            refine r_iload (pc := 54) dX5_rows_54 rfl ?_
            refine r_iconst (pc := 56) (v := 1) dX5_rows_56 (by decide) ?_
            refine r_iload (pc := 57) dX5_rows_57 rfl ?_
            refine r_ishl (pc := 59) dX5_rows_59 ?_
            refine r_iconst (pc := 60) (v := (-1)) dX5_rows_60 (by decide) ?_
            refine r_ixor (pc := 61) dX5_rows_61 ?_
            refine r_iand (pc := 62) dX5_rows_62 ?_
            refine r_eqi (nI (s - 2 ^ m)) (by rw [bt_clr s (by omega) m (by omega), if_pos hbit]) ?_
            refine rm_iald (pc := 63) dX5_rows_63 (MR_k38 hm) (MR_z38 hm) (vp_in_nI (by omega) (by decide)) ?_
            refine r_aload_n (pc := 64) dX5_rows_64 rfl ?_
            refine r_getR (pc := 65) dX5_rows_65 fl_X5_93_5 (MR_k hm) (fun _ _ => rfl) (MR_r39 hm) ?_
            refine r_iload (pc := 68) dX5_rows_68 rfl ?_
            refine rm_iald (pc := 70) dX5_rows_70 (MR_k39 hm) (MR_z39 hm) (by first | assumption | exact vp_in_lit rfl) ?_
            refine r_iload_n (pc := 71) dX5_rows_71 rfl ?_
            refine r_o4 (pc := 72) (bc' := 0) (bs' := 0) (ct_X5_goes hm _ _ _) k_X5_253_5 dX5_rows_72 (MR_k hm) (Nat.le_of_ble_eq_true rfl) ⟨Nat.le_of_ble_eq_true rfl, Nat.le_of_ble_eq_true rfl⟩ ⟨Nat.le_of_ble_eq_true rfl, Nat.le_of_ble_eq_true rfl⟩ (r_ci fun r72 M72 p72 => ?_) nox
            obtain ⟨rfl, rfl⟩ := p72
            refine r_eqi (goesC (I mo 4) (I mo 5) (I1 (mo + 24) (s - 2 ^ m)) (I (mo + 25) m) x3) (by rw [e0, e25, em, ix_nI (by omega)]) ?_
            refine r_istore7 (pc := 75) dX5_rows_75 rfl ?_
            refine r_iload (pc := 77) dX5_rows_77 rfl ?_
            refine r_iload (pc := 79) dX5_rows_79 rfl ?_
            refine r_icmp_le (pc := 81) 89 dX5_rows_81 rfl (fun h81 => ?_) (fun h81 => ?_)
            · refine r_iload (pc := 89) dX5_rows_89 rfl ?_
              refine r_istore5 (pc := 91) dX5_rows_91 rfl ?_
              refine r_iinc6 (pc := 93) dX5_rows_93 (nI_1 _) rfl ?_
              refine r_goto (pc := 96) 27 dX5_rows_96 rfl ?_
              refine ik (m + 1) _ _ (by omega) ?_
              rw [bstC]
              first
                | (rw [if_neg (by rw [h43]; decide)]; exact hb)
                | (rw [if_pos hbit, mxC, ← hb, if_neg h81]; done)
                | (rw [if_pos hbit, mxC, ← hb, if_pos h81]; done)
            · refine r_iload (pc := 84) dX5_rows_84 rfl ?_
              refine r_goto (pc := 86) 91 dX5_rows_86 rfl ?_
              refine r_istore5 (pc := 91) dX5_rows_91 rfl ?_
              refine r_iinc6 (pc := 93) dX5_rows_93 (nI_1 _) rfl ?_
              refine r_goto (pc := 96) 27 dX5_rows_96 rfl ?_
              refine ik (m + 1) _ _ (by omega) ?_
              rw [bstC]
              first
                | (rw [if_neg (by rw [h43]; decide)]; exact hb)
                | (rw [if_pos hbit, mxC, ← hb, if_neg h81]; done)
                | (rw [if_pos hbit, mxC, ← hb, if_pos h81]; done)
          · rw [bt_0 s (by omega) m (by omega)] at h43
            refine r_goto (pc := 46) 93 dX5_rows_46 rfl ?_
            refine r_iinc6 (pc := 93) dX5_rows_93 (nI_1 _) rfl ?_
            refine r_goto (pc := 96) 27 dX5_rows_96 rfl ?_
            refine ik (m + 1) _ _ (by omega) ?_
            rw [bstC]
            first
              | (rw [if_neg (by rw [h43]; decide)]; exact hb)
              | (rw [if_pos hbit, mxC, ← hb, if_neg h81]; done)
              | (rw [if_pos hbit, mxC, ← hb, if_pos h81]; done)
      refine r_iload (pc := 10) dX5_rows_10 rfl ?_
      refine r_iconst (pc := 12) (v := 1) dX5_rows_12 (by decide) ?_
      refine r_aload_n (pc := 13) dX5_rows_13 rfl ?_
      refine rm_getI (pc := 14) dX5_rows_14 fl_X5_120_5 (MR_k hm) (fun _ _ => rfl) ?_
      refine r_ishl (pc := 17) dX5_rows_17 ?_
      refine r_icmp_ge (pc := 18) 114 dX5_rows_18 rfl (fun hno => False.elim (by rw [a1 mo (by omega), eN, bt_shl N (by omega), nI_ltI (by omega) (by omega)] at hno; omega)) (fun _ => ?_)
      refine r_iload_n (pc := 21) dX5_rows_21 rfl ?_
      refine r_istore5 (pc := 22) dX5_rows_22 rfl ?_
      refine r_iconst (pc := 24) (v := 0) dX5_rows_24 (by decide) ?_
      refine r_istore6 (pc := 25) dX5_rows_25 rfl ?_
      exact L2 N 0 _ _ (by omega) rfl
  refine r_aload_n (pc := 0) dX5_rows_0 rfl ?_
  refine r_getR (pc := 1) dX5_rows_1 fl_X5_90_5 (MR_k hm) (fun _ _ => rfl) (MR_r38 hm) ?_
  refine r_iconst (pc := 4) (v := 0) dX5_rows_4 (by decide) ?_
  refine r_iload_n (pc := 5) dX5_rows_5 rfl ?_
  refine rm_iast (pc := 6) dX5_rows_6 (MR_k38 hm) (MR_z38 hm) (vp_in_lit rfl) ?_
  refine r_iconst (pc := 7) (v := 1) dX5_rows_7 (by decide) ?_
  refine r_istore4 (pc := 8) dX5_rows_8 rfl ?_
  refine L1 (2 ^ N - 1) 1 _ _ _ _ (by omega) (fun x hx => up2_ne hx) (fun j hj => ?_)
  have : j = 0 := by omega
  subst this
  rw [up2_self, show Int32.toNatClampNeg 0 = 0 from rfl, va_up_self, end_eq]
  have : ∀ m, bstC (I mo 4) (I mo 5) x3 (I (mo + 25)) (endC (I mo 4) (I mo 5) x3 (I (mo + 25)) x2 N) x2 0 m = x2 := fun m => by
    induction m with
    | zero => rfl
    | succ m ih => rw [bstC, if_neg (by simp)]; exact ih
  exact (this N).symm
theorem ct_X5_rowsFor {M0 : PM} {mo : Nat} {I : Nat → Nat → Int32} {L : Nat → Nat → Int64} (hm : MR M0 mo) (x1 : Int32) (x2 : Int32) (N : Nat) (hN : N ≤ 8) (eN : I mo 1 = nI N) (hx : vp_in x1 8) (h1 : ¬ I (mo + 3) (Int32.toNatClampNeg x1) = 0) (h2 : I (mo + 2) (Int32.toNatClampNeg x1) = 5 → ¬ I (mo + 4) (Int32.toNatClampNeg x1) = 0 ∧ ¬ (I (mo + 3) (Int32.toNatClampNeg x1) + I (mo + 4) (Int32.toNatClampNeg x1) - 1) / I (mo + 4) (Int32.toNatClampNeg x1) = 0) : Ct (YX5_rowsFor, (3, 73, 0, 0), qv (fun M' => ∃ I', M' = wIL M0 I' L ∧ (∀ x, x ≠ mo + 24 → x ≠ mo + 25 → I' x = I x) ∧ (∀ i, i < N → I' (mo + 25) i = farS (sM I mo) i (Int32.toNatClampNeg x1)) ∧ ∀ j, j < 2 ^ N → I' (mo + 24) j = endF (sM I mo) (Int32.toNatClampNeg x1) x2 j), noX) [.ref mo, .int x1, .int x2] (wIL M0 I L) := by
  refine ct_of [some (.ref mo), some (.int x1), some (.int x2), none] rfl rfl rfl (Nat.le_of_ble_eq_true rfl) rfl rfl ?_
  have L1 : ∀ (n : Nat) (j : Nat) (I1 : Nat → Nat → Int32), j + n = N → (∀ x, x ≠ mo + 25 → I1 x = I x) → (∀ i, i < j → I1 (mo + 25) i = farS (sM I mo) i (Int32.toNatClampNeg x1)) → Wx (YX5_rowsFor, (3, 73, 0, 0), qv (fun M' => ∃ I', M' = wIL M0 I' L ∧ (∀ x, x ≠ mo + 24 → x ≠ mo + 25 → I' x = I x) ∧ (∀ i, i < N → I' (mo + 25) i = farS (sM I mo) i (Int32.toNatClampNeg x1)) ∧ ∀ j, j < 2 ^ N → I' (mo + 24) j = endF (sM I mo) (Int32.toNatClampNeg x1) x2 j), noX) 0 0 (wIL M0 I1 L) 2 [some (.ref mo), some (.int x1), some (.int x2), some (.int (nI j))] [] := by
    intro n
    induction n with
    | zero =>
      intro j I1 hj a1 a2
      refine r_iload_n (pc := 2) dX5_rowsFor_2 rfl ?_
      refine r_aload_n (pc := 3) dX5_rowsFor_3 rfl ?_
      refine rm_getI (pc := 4) dX5_rowsFor_4 fl_X5_120_5 (MR_k hm) (fun _ _ => rfl) ?_
      refine r_icmp_ge (pc := 7) 28 dX5_rowsFor_7 rfl (fun _ => ?_) (fun hno => False.elim (by rw [a1 mo (by omega), eN, nI_ltI (by omega) (by omega)] at hno; omega))
      refine r_aload_n (pc := 28) dX5_rowsFor_28 rfl ?_
      refine r_iload_n (pc := 29) dX5_rowsFor_29 rfl ?_
      refine r_aload_n (pc := 30) dX5_rowsFor_30 rfl ?_
      refine r_getR (pc := 31) dX5_rowsFor_31 fl_X5_32_5 (MR_k hm) (fun _ _ => rfl) (MR_r14 hm) ?_
      refine r_iload_n (pc := 34) dX5_rowsFor_34 rfl ?_
      refine rm_iald (pc := 35) dX5_rowsFor_35 (MR_k14 hm) (MR_z14 hm) (by first | assumption | exact vp_in_lit rfl) ?_
      refine r_iload_n (pc := 36) dX5_rowsFor_36 rfl ?_
      refine r_o4 (pc := 37) (bc' := 0) (bs' := 0) (ct_X5_rows hm _ _ _ N hN (by rw [a1 mo (by omega)]; exact eN)) k_X5_256_5 dX5_rowsFor_37 (MR_k hm) (Nat.le_of_ble_eq_true rfl) ⟨Nat.le_of_ble_eq_true rfl, Nat.le_of_ble_eq_true rfl⟩ ⟨Nat.le_of_ble_eq_true rfl, Nat.le_of_ble_eq_true rfl⟩ (r_cv fun M37 p37 => ?_) nox
      obtain ⟨I2, rfl, b1, b2⟩ := p37
      refine r_return (pc := 40) rfl dX5_rowsFor_40 ⟨rfl, ?_⟩
      refine ⟨I2, rfl, fun x hx hx2 => (b1 x hx).trans (a1 x hx2), fun i hi => ?_, fun k hk => ?_⟩
      · rw [b1 _ (by omega)]; exact a2 i (by omega)
      · rw [b2 k hk, a1 mo (by omega), a1 (mo + 5) (by omega), endF]
        have eP : ppN (sM I mo) = N := by show Int32.toNatClampNeg (I mo 1) = N; rw [eN, ix_nI (by omega)]
        rw [eP]
        exact end_f (fun m hm => a2 m (by omega)) k
    | succ n ih =>
      intro j I1 hj a1 a2
      have hv : vp_in (nI j) 8 := vp_in_nI (by omega) (by decide)
      have ej : Int32.toNatClampNeg (nI j) = j := ix_nI (by omega)
      have e2 : I1 (mo + 2) = I (mo + 2) := a1 _ (by omega)
      have e3 : I1 (mo + 3) = I (mo + 3) := a1 _ (by omega)
      have e4 : I1 (mo + 4) = I (mo + 4) := a1 _ (by omega)
      have e8 : I1 (mo + 8) = I (mo + 8) := a1 _ (by omega)
      have e9 : I1 (mo + 9) = I (mo + 9) := a1 _ (by omega)
      have e0 : I1 mo = I mo := a1 mo (by omega)
      refine r_iload_n (pc := 2) dX5_rowsFor_2 rfl ?_
      refine r_aload_n (pc := 3) dX5_rowsFor_3 rfl ?_
      refine rm_getI (pc := 4) dX5_rowsFor_4 fl_X5_120_5 (MR_k hm) (fun _ _ => rfl) ?_
      refine r_icmp_ge (pc := 7) 28 dX5_rowsFor_7 rfl (fun hno => False.elim (by rw [a1 mo (by omega), eN, nI_ltI (by omega) (by omega)] at hno; omega)) (fun _ => ?_)
      refine r_aload_n (pc := 10) dX5_rowsFor_10 rfl ?_
      refine r_getR (pc := 11) dX5_rowsFor_11 fl_X5_93_5 (MR_k hm) (fun _ _ => rfl) (MR_r39 hm) ?_
      refine r_iload_n (pc := 14) dX5_rowsFor_14 rfl ?_
      refine r_aload_n (pc := 15) dX5_rowsFor_15 rfl ?_
      refine r_iload_n (pc := 16) dX5_rowsFor_16 rfl ?_
      refine r_iload_n (pc := 17) dX5_rowsFor_17 rfl ?_
      refine r_o3 (pc := 18) (bc' := 0) (bs' := 0) (ct_X5_farOf hm _ _ hv hx (by rw [e3]; exact h1) (by rw [e2, e3, e4]; exact h2)) k_X5_236_5 dX5_rowsFor_18 (MR_k hm) (Nat.le_of_ble_eq_true rfl) ⟨Nat.le_of_ble_eq_true rfl, Nat.le_of_ble_eq_true rfl⟩ ⟨Nat.le_of_ble_eq_true rfl, Nat.le_of_ble_eq_true rfl⟩ (r_ci fun r18 M18 p18 => ?_) nox
      obtain ⟨rfl, rfl⟩ := p18
      refine r_eqi (farS (sM I mo) j (Int32.toNatClampNeg x1)) (by rw [ej, e2, e3, e4, e8, e9, e0]; rfl) ?_
      refine rm_iast (pc := 21) dX5_rowsFor_21 (MR_k39 hm) (MR_z39 hm) (by first | assumption | exact vp_in_lit rfl) ?_
      refine r_iinc3 (pc := 22) dX5_rowsFor_22 (nI_1 _) rfl ?_
      refine r_goto (pc := 25) 2 dX5_rowsFor_25 rfl ?_
      refine ih (j + 1) _ (by omega) (fun x hx => (up2_ne hx).trans (a1 x hx)) (fun i hi => ?_)
      rw [up2_self, ej]
      by_cases e : i = j
      · subst e; rw [va_up_self]
      · rw [va_up_ne _ _ e]; exact a2 i (by omega)
  refine r_iconst (pc := 0) (v := 0) dX5_rowsFor_0 (by decide) ?_
  refine r_istore3 (pc := 1) dX5_rowsFor_1 rfl ?_
  exact L1 N 0 I (by omega) (fun _ _ => rfl) (fun i hi => absurd hi (by omega))
theorem ct_X5_end {M0 : PM} {mo : Nat} {I : Nat → Nat → Int32} {L : Nat → Nat → Int64} (hm : MR M0 mo) (x1 : Int32) (x2 : Int32) (hk : OkS (sM I mo)) : Ct (YX5_end, (4, 96, 0, 0), qi (fun r M' => oM M0 mo I L (endS (sS I L mo) x1 x2) r M'), noX) [.ref mo, .int x1, .int x2] (wIL M0 I L) := by
  refine ct_of [some (.ref mo), some (.int x1), some (.int x2)] rfl rfl rfl (Nat.le_of_ble_eq_true rfl) rfl rfl ?_
  obtain ⟨N, hN, eN⟩ := bd_nI (n := 8) hk.1.1.2.1
  have eN : I mo 1 = nI N := eN
  have h256 := pow8 hN
  have eP : ppN (sM I mo) = N := by show Int32.toNatClampNeg (I mo 1) = N; rw [eN, ix_nI (by omega)]
  refine r_aload_n (pc := 0) dX5_end_0 rfl ?_
  refine r_iload_n (pc := 1) dX5_end_1 rfl ?_
  refine r_o2 (pc := 2) (bc' := 0) (bs' := 0) (ct_X5_isThing hm _) k_X5_140_5 dX5_end_2 (MR_k hm) (Nat.le_of_ble_eq_true rfl) ⟨Nat.le_of_ble_eq_true rfl, Nat.le_of_ble_eq_true rfl⟩ ⟨Nat.le_of_ble_eq_true rfl, Nat.le_of_ble_eq_true rfl⟩ (r_ci fun r2 M2 p2 => ?_) nox
  obtain ⟨rfl, rfl⟩ := p2
  refine r_if_eq (pc := 5) 16 dX5_end_5 rfl (fun h5 => ?_) (fun h5 => ?_)
  · rw [bI_eq0] at h5
    refine r_aload_n (pc := 16) dX5_end_16 rfl ?_
    refine r_iconst (pc := 17) (v := (-1)) dX5_end_17 (by decide) ?_
    refine r_o2 (pc := 18) (bc' := 0) (bs' := 0) (ct_X5_no hm _ (vp_in_lit rfl)) k_X5_136_5 dX5_end_18 (MR_k hm) (Nat.le_of_ble_eq_true rfl) ⟨Nat.le_of_ble_eq_true rfl, Nat.le_of_ble_eq_true rfl⟩ ⟨Nat.le_of_ble_eq_true rfl, Nat.le_of_ble_eq_true rfl⟩ (r_ci fun r18 M18 p18 => ?_) nox
    obtain ⟨rfl, rfl⟩ := p18
    refine r_ireturn (pc := 21) rfl dX5_end_21 ⟨_, rfl, ?_⟩
    first
      | contradiction
      | (refine oM.of ?_ (by repeat' (first | exact frM.rf | assumption | refine frM.up0 ?_ | refine frM.up ?_ (by decide) | refine frM.upL ?_ (by decide)))
         simp (decide := true) only [endS, noS, noTenS, thP, mnP, shelfP, stepS, farP, setP, eq_false h5, not_true_eq_false, not_false_eq_true, true_and, and_true, false_and, and_false, true_or, or_true, false_or, or_false, cI_True, cI_False, if_true, if_false, sm0, sm1, sm2, sm3, sm4, sm5, sm6, sm7, sm8, sm9, sm10, sm11, sm12, sm13, sm14, sm15, sm16, sm17, sm18, sm19, sm20, sm21, sm22, sm23, sm24, sm25, sm26, sm27, sm28, sm29, sm30, sm31, sm32, sm33, sm34, sm35, sm36, sm37, sm38, sm39, sm40, sm41, sm42, sm43, sm44, sm45, sm46, sm47, sm48, sm49, su0, su1, su2, su3, su4, su5, su6, su7, su8, su9, su10, su11, su12, su13, su14, su15, su16, su17, su18, su19, su20, su21, su22, su23, su24, su25, su26, su27, su28, su29, su30, su31, su32, su33, su34, su35, su36, su37, su38, su39, su40, su41, su42, su43, su44, su45, su46, su47, su48, su49])
  · rw [bI_ne0] at h5
    have ht := vp_b (n := 8) h5.1 h5.2 hk.1.1.1.2
    have hd := hk.1.far (ix_lt h5.1 h5.2)
    refine r_aload_n (pc := 8) dX5_end_8 rfl ?_
    refine r_iload_n (pc := 9) dX5_end_9 rfl ?_
    refine r_o2 (pc := 10) (bc' := 0) (bs' := 0) (ct_X5_isSet hm _) k_X5_259_5 dX5_end_10 (MR_k hm) (Nat.le_of_ble_eq_true rfl) ⟨Nat.le_of_ble_eq_true rfl, Nat.le_of_ble_eq_true rfl⟩ ⟨Nat.le_of_ble_eq_true rfl, Nat.le_of_ble_eq_true rfl⟩ (r_ci fun r10 M10 p10 => ?_) nox
    obtain ⟨rfl, rfl⟩ := p10
    refine r_if_ne (pc := 13) 22 dX5_end_13 rfl (fun h13 => ?_) (fun h13 => ?_)
    · rw [bI_ne0] at h13
      obtain ⟨s, es, hs⟩ := set_nI (σ := sM I mo) hN (show sM I mo 1 0 = nI N from eN) (show setP (sM I mo) x2 from h13)
      have is : Int32.toNatClampNeg x2 = s := by rw [es, ix_nI (by omega)]
      have hvs : vp_in x2 256 := by rw [es]; exact vp_in_nI (by omega) (by decide)
      refine r_aload_n (pc := 22) dX5_end_22 rfl ?_
      refine r_iload_n (pc := 23) dX5_end_23 rfl ?_
      refine r_aload_n (pc := 24) dX5_end_24 rfl ?_
      refine rm_getI (pc := 25) dX5_end_25 fl_X5_7_5 (MR_k hm) (fun _ _ => rfl) ?_
      refine r_o3 (pc := 28) (bc' := 0) (bs' := 0) (ct_X5_rowsFor hm _ _ N hN eN ht hd.1 hd.2) k_X5_262_5 dX5_end_28 (MR_k hm) (Nat.le_of_ble_eq_true rfl) ⟨Nat.le_of_ble_eq_true rfl, Nat.le_of_ble_eq_true rfl⟩ ⟨Nat.le_of_ble_eq_true rfl, Nat.le_of_ble_eq_true rfl⟩ (r_cv fun M28 p28 => ?_) nox
      obtain ⟨I1, rfl, a1, a2, a3⟩ := p28
      refine r_aload_n (pc := 31) dX5_end_31 rfl ?_
      refine r_getR (pc := 32) dX5_end_32 fl_X5_90_5 (MR_k hm) (fun _ _ => rfl) (MR_r38 hm) ?_
      refine r_iload_n (pc := 35) dX5_end_35 rfl ?_
      refine rm_iald (pc := 36) dX5_end_36 (MR_k38 hm) (MR_z38 hm) (by first | assumption | exact vp_in_lit rfl) ?_
      rw [is, a3 s hs]
      refine r_ireturn (pc := 37) rfl dX5_end_37 ⟨_, rfl, ?_⟩
      refine oM_scr frM.rf (fun x h1 h2 => a1 x (by omega) (by omega)) (fun k hk => by rw [a1 mo (by omega) (by omega)]) ?_
      rw [endS, cI_f (by intro q; exact q.elim (fun q => q h5) (fun q => q h13)), is]
      rfl
    · rw [bI_eq0] at h13
      refine r_aload_n (pc := 16) dX5_end_16 rfl ?_
      refine r_iconst (pc := 17) (v := (-1)) dX5_end_17 (by decide) ?_
      refine r_o2 (pc := 18) (bc' := 0) (bs' := 0) (ct_X5_no hm _ (vp_in_lit rfl)) k_X5_136_5 dX5_end_18 (MR_k hm) (Nat.le_of_ble_eq_true rfl) ⟨Nat.le_of_ble_eq_true rfl, Nat.le_of_ble_eq_true rfl⟩ ⟨Nat.le_of_ble_eq_true rfl, Nat.le_of_ble_eq_true rfl⟩ (r_ci fun r18 M18 p18 => ?_) nox
      obtain ⟨rfl, rfl⟩ := p18
      refine r_ireturn (pc := 21) rfl dX5_end_21 ⟨_, rfl, ?_⟩
      first
        | contradiction
        | (refine oM.of ?_ (by repeat' (first | exact frM.rf | assumption | refine frM.up0 ?_ | refine frM.up ?_ (by decide) | refine frM.upL ?_ (by decide)))
           simp (decide := true) only [endS, noS, noTenS, thP, mnP, shelfP, stepS, farP, setP, eq_true h5, eq_false h13, not_true_eq_false, not_false_eq_true, true_and, and_true, false_and, and_false, true_or, or_true, false_or, or_false, cI_True, cI_False, if_true, if_false, sm0, sm1, sm2, sm3, sm4, sm5, sm6, sm7, sm8, sm9, sm10, sm11, sm12, sm13, sm14, sm15, sm16, sm17, sm18, sm19, sm20, sm21, sm22, sm23, sm24, sm25, sm26, sm27, sm28, sm29, sm30, sm31, sm32, sm33, sm34, sm35, sm36, sm37, sm38, sm39, sm40, sm41, sm42, sm43, sm44, sm45, sm46, sm47, sm48, sm49, su0, su1, su2, su3, su4, su5, su6, su7, su8, su9, su10, su11, su12, su13, su14, su15, su16, su17, su18, su19, su20, su21, su22, su23, su24, su25, su26, su27, su28, su29, su30, su31, su32, su33, su34, su35, su36, su37, su38, su39, su40, su41, su42, su43, su44, su45, su46, su47, su48, su49])
theorem ct_X5_does {M0 : PM} {mo : Nat} {I : Nat → Nat → Int32} {L : Nat → Nat → Int64} (hm : MR M0 mo) (x1 : Int32) (x2 : Int32) (x3 : Int32) (hk : OkS (sM I mo)) : Ct (YX5_does, (4, 96, 0, 0), qi (fun r M' => oM M0 mo I L (doesS (sS I L mo) x1 x2 x3) r M'), noX) [.ref mo, .int x1, .int x2, .int x3] (wIL M0 I L) := by
  refine ct_of [some (.ref mo), some (.int x1), some (.int x2), some (.int x3)] rfl rfl rfl (Nat.le_of_ble_eq_true rfl) rfl rfl ?_
  obtain ⟨N, hN, eN⟩ := bd_nI (n := 8) hk.1.1.2.1
  have eN : I mo 1 = nI N := eN
  have h256 := pow8 hN
  have eP : ppN (sM I mo) = N := by show Int32.toNatClampNeg (I mo 1) = N; rw [eN, ix_nI (by omega)]
  refine r_aload_n (pc := 0) dX5_does_0 rfl ?_
  refine r_iload_n (pc := 1) dX5_does_1 rfl ?_
  refine r_o2 (pc := 2) (bc' := 0) (bs' := 0) (ct_X5_isThing hm _) k_X5_140_5 dX5_does_2 (MR_k hm) (Nat.le_of_ble_eq_true rfl) ⟨Nat.le_of_ble_eq_true rfl, Nat.le_of_ble_eq_true rfl⟩ ⟨Nat.le_of_ble_eq_true rfl, Nat.le_of_ble_eq_true rfl⟩ (r_ci fun r2 M2 p2 => ?_) nox
  obtain ⟨rfl, rfl⟩ := p2
  refine r_if_eq (pc := 5) 16 dX5_does_5 rfl (fun h5 => ?_) (fun h5 => ?_)
  · rw [bI_eq0] at h5
    refine r_aload_n (pc := 16) dX5_does_16 rfl ?_
    refine r_iconst (pc := 17) (v := (-1)) dX5_does_17 (by decide) ?_
    refine r_o2 (pc := 18) (bc' := 0) (bs' := 0) (ct_X5_no hm _ (vp_in_lit rfl)) k_X5_136_5 dX5_does_18 (MR_k hm) (Nat.le_of_ble_eq_true rfl) ⟨Nat.le_of_ble_eq_true rfl, Nat.le_of_ble_eq_true rfl⟩ ⟨Nat.le_of_ble_eq_true rfl, Nat.le_of_ble_eq_true rfl⟩ (r_ci fun r18 M18 p18 => ?_) nox
    obtain ⟨rfl, rfl⟩ := p18
    refine r_ireturn (pc := 21) rfl dX5_does_21 ⟨_, rfl, ?_⟩
    first
      | contradiction
      | (refine oM.of ?_ (by repeat' (first | exact frM.rf | assumption | refine frM.up0 ?_ | refine frM.up ?_ (by decide) | refine frM.upL ?_ (by decide)))
         simp (decide := true) only [doesS, noS, noTenS, thP, mnP, shelfP, stepS, farP, setP, onP, eq_false h5, not_true_eq_false, not_false_eq_true, true_and, and_true, false_and, and_false, true_or, or_true, false_or, or_false, cI_True, cI_False, if_true, if_false, sm0, sm1, sm2, sm3, sm4, sm5, sm6, sm7, sm8, sm9, sm10, sm11, sm12, sm13, sm14, sm15, sm16, sm17, sm18, sm19, sm20, sm21, sm22, sm23, sm24, sm25, sm26, sm27, sm28, sm29, sm30, sm31, sm32, sm33, sm34, sm35, sm36, sm37, sm38, sm39, sm40, sm41, sm42, sm43, sm44, sm45, sm46, sm47, sm48, sm49, su0, su1, su2, su3, su4, su5, su6, su7, su8, su9, su10, su11, su12, su13, su14, su15, su16, su17, su18, su19, su20, su21, su22, su23, su24, su25, su26, su27, su28, su29, su30, su31, su32, su33, su34, su35, su36, su37, su38, su39, su40, su41, su42, su43, su44, su45, su46, su47, su48, su49])
  · rw [bI_ne0] at h5
    have ht := vp_b (n := 8) h5.1 h5.2 hk.1.1.1.2
    have hd := hk.1.far (ix_lt h5.1 h5.2)
    refine r_aload_n (pc := 8) dX5_does_8 rfl ?_
    refine r_iload_n (pc := 9) dX5_does_9 rfl ?_
    refine r_o2 (pc := 10) (bc' := 0) (bs' := 0) (ct_X5_isSet hm _) k_X5_259_5 dX5_does_10 (MR_k hm) (Nat.le_of_ble_eq_true rfl) ⟨Nat.le_of_ble_eq_true rfl, Nat.le_of_ble_eq_true rfl⟩ ⟨Nat.le_of_ble_eq_true rfl, Nat.le_of_ble_eq_true rfl⟩ (r_ci fun r10 M10 p10 => ?_) nox
    obtain ⟨rfl, rfl⟩ := p10
    refine r_if_ne (pc := 13) 22 dX5_does_13 rfl (fun h13 => ?_) (fun h13 => ?_)
    · rw [bI_ne0] at h13
      obtain ⟨s, es, hs⟩ := set_nI (σ := sM I mo) hN (show sM I mo 1 0 = nI N from eN) (show setP (sM I mo) x2 from h13)
      have is : Int32.toNatClampNeg x2 = s := by rw [es, ix_nI (by omega)]
      have hvs : vp_in x2 256 := by rw [es]; exact vp_in_nI (by omega) (by decide)
      refine r_aload_n (pc := 22) dX5_does_22 rfl ?_
      refine r_iload_n (pc := 23) dX5_does_23 rfl ?_
      refine r_iload_n (pc := 24) dX5_does_24 rfl ?_
      refine r_o3 (pc := 25) (bc' := 0) (bs' := 0) (ct_X5_isOnward hm _ _ ht) k_X5_265_5 dX5_does_25 (MR_k hm) (Nat.le_of_ble_eq_true rfl) ⟨Nat.le_of_ble_eq_true rfl, Nat.le_of_ble_eq_true rfl⟩ ⟨Nat.le_of_ble_eq_true rfl, Nat.le_of_ble_eq_true rfl⟩ (r_ci fun r25 M25 p25 => ?_) nox
      obtain ⟨rfl, rfl⟩ := p25
      refine r_if_ne (pc := 28) 38 dX5_does_28 rfl (fun h28 => ?_) (fun h28 => ?_)
      · rw [bI_ne0] at h28
        refine r_aload_n (pc := 38) dX5_does_38 rfl ?_
        refine r_iload_n (pc := 39) dX5_does_39 rfl ?_
        refine r_iload_n (pc := 40) dX5_does_40 rfl ?_
        refine r_o3 (pc := 41) (bc' := 0) (bs' := 0) (ct_X5_rowsFor hm _ _ N hN eN ht hd.1 hd.2) k_X5_262_5 dX5_does_41 (MR_k hm) (Nat.le_of_ble_eq_true rfl) ⟨Nat.le_of_ble_eq_true rfl, Nat.le_of_ble_eq_true rfl⟩ ⟨Nat.le_of_ble_eq_true rfl, Nat.le_of_ble_eq_true rfl⟩ (r_cv fun M41 p41 => ?_) nox
        obtain ⟨I1, rfl, a1, a2, a3⟩ := p41
        refine r_aload_n (pc := 44) dX5_does_44 rfl ?_
        refine r_getR (pc := 45) dX5_does_45 fl_X5_90_5 (MR_k hm) (fun _ _ => rfl) (MR_r38 hm) ?_
        refine r_iload_n (pc := 48) dX5_does_48 rfl ?_
        refine rm_iald (pc := 49) dX5_does_49 (MR_k38 hm) (MR_z38 hm) (by first | assumption | exact vp_in_lit rfl) ?_
        rw [is, a3 s hs]
        refine r_iload_n (pc := 50) dX5_does_50 rfl ?_
        refine r_icmp_ne (pc := 51) 58 dX5_does_51 rfl (fun h51 => ?_) (fun h51 => ?_)
        · refine r_iconst (pc := 58) (v := 0) dX5_does_58 (by decide) ?_
          refine r_ireturn (pc := 59) rfl dX5_does_59 ⟨_, rfl, ?_⟩
          refine oM_scr frM.rf (fun x h1 h2 => a1 x (by omega) (by omega)) (fun k hk => by rw [a1 mo (by omega) (by omega)]) ?_
          rw [doesS, cI_f (by intro q; exact q.elim (fun q => q h5) (fun q => q h13)), cI_f (by intro q; exact q h28), is]
          first
            | rw [bI_t (show endF (sS I L mo).1 (Int32.toNatClampNeg x1) x3 s = x3 from h51)]
            | rw [bI_f (show ¬ endF (sS I L mo).1 (Int32.toNatClampNeg x1) x3 s = x3 from h51)]
        · refine r_iconst (pc := 54) (v := 1) dX5_does_54 (by decide) ?_
          refine r_goto (pc := 55) 59 dX5_does_55 rfl ?_
          refine r_ireturn (pc := 59) rfl dX5_does_59 ⟨_, rfl, ?_⟩
          refine oM_scr frM.rf (fun x h1 h2 => a1 x (by omega) (by omega)) (fun k hk => by rw [a1 mo (by omega) (by omega)]) ?_
          rw [doesS, cI_f (by intro q; exact q.elim (fun q => q h5) (fun q => q h13)), cI_f (by intro q; exact q h28), is]
          first
            | rw [bI_t (show endF (sS I L mo).1 (Int32.toNatClampNeg x1) x3 s = x3 from h51)]
            | rw [bI_f (show ¬ endF (sS I L mo).1 (Int32.toNatClampNeg x1) x3 s = x3 from h51)]
      · rw [bI_eq0] at h28
        refine r_aload_n (pc := 31) dX5_does_31 rfl ?_
        refine r_bipush (pc := 32) (v := (-6)) dX5_does_32 (by decide) ?_
        refine r_o2 (pc := 34) (bc' := 0) (bs' := 0) (ct_X5_no hm _ (vp_in_lit rfl)) k_X5_136_5 dX5_does_34 (MR_k hm) (Nat.le_of_ble_eq_true rfl) ⟨Nat.le_of_ble_eq_true rfl, Nat.le_of_ble_eq_true rfl⟩ ⟨Nat.le_of_ble_eq_true rfl, Nat.le_of_ble_eq_true rfl⟩ (r_ci fun r34 M34 p34 => ?_) nox
        obtain ⟨rfl, rfl⟩ := p34
        refine r_ireturn (pc := 37) rfl dX5_does_37 ⟨_, rfl, ?_⟩
        first
          | contradiction
          | (refine oM.of ?_ (by repeat' (first | exact frM.rf | assumption | refine frM.up0 ?_ | refine frM.up ?_ (by decide) | refine frM.upL ?_ (by decide)))
             simp (decide := true) only [doesS, noS, noTenS, thP, mnP, shelfP, stepS, farP, setP, onP, eq_true h5, eq_true h13, eq_false h28, not_true_eq_false, not_false_eq_true, true_and, and_true, false_and, and_false, true_or, or_true, false_or, or_false, cI_True, cI_False, if_true, if_false, sm0, sm1, sm2, sm3, sm4, sm5, sm6, sm7, sm8, sm9, sm10, sm11, sm12, sm13, sm14, sm15, sm16, sm17, sm18, sm19, sm20, sm21, sm22, sm23, sm24, sm25, sm26, sm27, sm28, sm29, sm30, sm31, sm32, sm33, sm34, sm35, sm36, sm37, sm38, sm39, sm40, sm41, sm42, sm43, sm44, sm45, sm46, sm47, sm48, sm49, su0, su1, su2, su3, su4, su5, su6, su7, su8, su9, su10, su11, su12, su13, su14, su15, su16, su17, su18, su19, su20, su21, su22, su23, su24, su25, su26, su27, su28, su29, su30, su31, su32, su33, su34, su35, su36, su37, su38, su39, su40, su41, su42, su43, su44, su45, su46, su47, su48, su49])
    · rw [bI_eq0] at h13
      refine r_aload_n (pc := 16) dX5_does_16 rfl ?_
      refine r_iconst (pc := 17) (v := (-1)) dX5_does_17 (by decide) ?_
      refine r_o2 (pc := 18) (bc' := 0) (bs' := 0) (ct_X5_no hm _ (vp_in_lit rfl)) k_X5_136_5 dX5_does_18 (MR_k hm) (Nat.le_of_ble_eq_true rfl) ⟨Nat.le_of_ble_eq_true rfl, Nat.le_of_ble_eq_true rfl⟩ ⟨Nat.le_of_ble_eq_true rfl, Nat.le_of_ble_eq_true rfl⟩ (r_ci fun r18 M18 p18 => ?_) nox
      obtain ⟨rfl, rfl⟩ := p18
      refine r_ireturn (pc := 21) rfl dX5_does_21 ⟨_, rfl, ?_⟩
      first
        | contradiction
        | (refine oM.of ?_ (by repeat' (first | exact frM.rf | assumption | refine frM.up0 ?_ | refine frM.up ?_ (by decide) | refine frM.upL ?_ (by decide)))
           simp (decide := true) only [doesS, noS, noTenS, thP, mnP, shelfP, stepS, farP, setP, onP, eq_true h5, eq_false h13, not_true_eq_false, not_false_eq_true, true_and, and_true, false_and, and_false, true_or, or_true, false_or, or_false, cI_True, cI_False, if_true, if_false, sm0, sm1, sm2, sm3, sm4, sm5, sm6, sm7, sm8, sm9, sm10, sm11, sm12, sm13, sm14, sm15, sm16, sm17, sm18, sm19, sm20, sm21, sm22, sm23, sm24, sm25, sm26, sm27, sm28, sm29, sm30, sm31, sm32, sm33, sm34, sm35, sm36, sm37, sm38, sm39, sm40, sm41, sm42, sm43, sm44, sm45, sm46, sm47, sm48, sm49, su0, su1, su2, su3, su4, su5, su6, su7, su8, su9, su10, su11, su12, su13, su14, su15, su16, su17, su18, su19, su20, su21, su22, su23, su24, su25, su26, su27, su28, su29, su30, su31, su32, su33, su34, su35, su36, su37, su38, su39, su40, su41, su42, su43, su44, su45, su46, su47, su48, su49])
theorem ct_X5_fewest {M0 : PM} {mo : Nat} {I : Nat → Nat → Int32} {L : Nat → Nat → Int64} (hm : MR M0 mo) (x1 : Int32) (x2 : Int32) (hk : OkS (sM I mo)) : Ct (YX5_fewest, (4, 96, 0, 0), qi (fun r M' => oM M0 mo I L (fewestS (sS I L mo) x1 x2) r M'), noX) [.ref mo, .int x1, .int x2] (wIL M0 I L) := by
  refine ct_of [some (.ref mo), some (.int x1), some (.int x2), none, none] rfl rfl rfl (Nat.le_of_ble_eq_true rfl) rfl rfl ?_
  obtain ⟨N, hN, eN⟩ := bd_nI (n := 8) hk.1.1.2.1
  have eN : I mo 1 = nI N := eN
  have h256 := pow8 hN
  have eP : ppN (sM I mo) = N := by show Int32.toNatClampNeg (I mo 1) = N; rw [eN, ix_nI (by omega)]
  have base : ∀ I1 : Nat → Nat → Int32, (∀ x, x ≠ mo + 24 → x ≠ mo + 25 → I1 x = I x) → (∀ j, j < 2 ^ N → I1 (mo + 24) j = endF (sM I mo) (Int32.toNatClampNeg x1) x2 j) → thP (sM I mo) x1 → onP (sM I mo) x1 x2 → Wx (YX5_fewest, (4, 96, 0, 0), qi (fun r M' => oM M0 mo I L (fewestS (sS I L mo) x1 x2) r M'), noX) 0 0 (wIL M0 I1 L) 36 [some (.ref mo), some (.int x1), some (.int x2), none, none] [] := by
    intro I1 a1 a3 t1 t2
    have hw0 : fewestS (sS I L mo) x1 x2 = cI (fewV (sM I mo) (Int32.toNatClampNeg x1) x2 = -1) (noS (sS I L mo) (-5)) (fewV (sM I mo) (Int32.toNatClampNeg x1) x2, sS I L mo) := by rw [fewestS, cI_f (by intro q; exact q t1), cI_f (by intro q; exact q t2)]
    have L1 : ∀ (n : Nat) (s : Nat) (b : Int32), s + n = 2 ^ N → (b = -1 ∨ ∃ k, k < 256 ∧ b = nI k) → fewV (sM I mo) (Int32.toNatClampNeg x1) x2 = fewL (endF (sM I mo) (Int32.toNatClampNeg x1) x2) x2 n s b → Wx (YX5_fewest, (4, 96, 0, 0), qi (fun r M' => oM M0 mo I L (fewestS (sS I L mo) x1 x2) r M'), noX) 0 0 (wIL M0 I1 L) 41 [some (.ref mo), some (.int x1), some (.int x2), some (.int b), some (.int (nI s))] [] := by
      intro n
      induction n with
      | zero =>
        intro s b hs hb hw
        refine r_iload (pc := 41) dX5_fewest_41 rfl ?_
        refine r_iconst (pc := 43) (v := 1) dX5_fewest_43 (by decide) ?_
        refine r_aload_n (pc := 44) dX5_fewest_44 rfl ?_
        refine rm_getI (pc := 45) dX5_fewest_45 fl_X5_120_5 (MR_k hm) (fun _ _ => rfl) ?_
        refine r_ishl (pc := 48) dX5_fewest_48 ?_
        refine r_icmp_ge (pc := 49) 91 dX5_fewest_49 rfl (fun _ => ?_) (fun hno => False.elim (by rw [a1 mo (by omega) (by omega), eN, bt_shl N (by omega), nI_ltI (by omega) (by omega)] at hno; omega))
        refine r_iload_n (pc := 91) dX5_fewest_91 rfl ?_
        refine r_iconst (pc := 92) (v := (-1)) dX5_fewest_92 (by decide) ?_
        refine r_icmp_ne (pc := 93) 105 dX5_fewest_93 rfl (fun h93 => ?_) (fun h93 => ?_)
        · refine r_iload_n (pc := 105) dX5_fewest_105 rfl ?_
          refine r_ireturn (pc := 106) rfl dX5_fewest_106 ⟨_, rfl, ?_⟩
          first
            | (rw [hw0, hw, fewL, cI_f h93]; refine oM_scr frM.rf (fun x h1 h2 => a1 x (by omega) (by omega)) (fun k hk => by rw [a1 mo (by omega) (by omega)]) ?_; rfl)
            | (rw [hw0, hw, fewL, cI_t h93, noS]
               refine oM_scr (I2 := up2 I (mo + 1) 5 (I (mo + 1) 5 + 1)) (frM.rf.up (by decide)) (fun x h1 h2 => ?_) (fun k hk => ?_) ?_
               · by_cases e : x = mo + 1
                 · subst e; rw [show Int32.toNatClampNeg (- -5) = 5 from rfl, up2_self, up2_self, a1 _ (by omega) (by omega)]
                 · rw [up2_ne e, up2_ne e]; exact a1 x (by omega) (by omega)
               · rw [up2_ne (by omega), up2_ne (by omega), a1 mo (by omega) (by omega)]
               · rw [← su10]; rfl)
        · refine r_aload_n (pc := 96) dX5_fewest_96 rfl ?_
          refine r_bipush (pc := 97) (v := (-5)) dX5_fewest_97 (by decide) ?_
          refine r_o2 (pc := 99) (bc' := 0) (bs' := 0) (ct_X5_no hm _ (vp_in_lit rfl)) k_X5_136_5 dX5_fewest_99 (MR_k hm) (Nat.le_of_ble_eq_true rfl) ⟨Nat.le_of_ble_eq_true rfl, Nat.le_of_ble_eq_true rfl⟩ ⟨Nat.le_of_ble_eq_true rfl, Nat.le_of_ble_eq_true rfl⟩ (r_ci fun r99 M99 p99 => ?_) nox
          obtain ⟨rfl, rfl⟩ := p99
          refine r_goto (pc := 102) 106 dX5_fewest_102 rfl ?_
          refine r_ireturn (pc := 106) rfl dX5_fewest_106 ⟨_, rfl, ?_⟩
          first
            | (rw [hw0, hw, fewL, cI_f h93]; refine oM_scr frM.rf (fun x h1 h2 => a1 x (by omega) (by omega)) (fun k hk => by rw [a1 mo (by omega) (by omega)]) ?_; rfl)
            | (rw [hw0, hw, fewL, cI_t h93, noS]
               refine oM_scr (I2 := up2 I (mo + 1) 5 (I (mo + 1) 5 + 1)) (frM.rf.up (by decide)) (fun x h1 h2 => ?_) (fun k hk => ?_) ?_
               · by_cases e : x = mo + 1
                 · subst e; rw [show Int32.toNatClampNeg (- -5) = 5 from rfl, up2_self, up2_self, a1 _ (by omega) (by omega)]
                 · rw [up2_ne e, up2_ne e]; exact a1 x (by omega) (by omega)
               · rw [up2_ne (by omega), up2_ne (by omega), a1 mo (by omega) (by omega)]
               · rw [← su10]; rfl)
      | succ n ih =>
        intro s b hs hb hw
        have hvs : vp_in (nI s) 256 := vp_in_nI (by omega) (by decide)
        have is : Int32.toNatClampNeg (nI s) = s := ix_nI (by omega)
        rw [fewL] at hw
        refine r_iload (pc := 41) dX5_fewest_41 rfl ?_
        refine r_iconst (pc := 43) (v := 1) dX5_fewest_43 (by decide) ?_
        refine r_aload_n (pc := 44) dX5_fewest_44 rfl ?_
        refine rm_getI (pc := 45) dX5_fewest_45 fl_X5_120_5 (MR_k hm) (fun _ _ => rfl) ?_
        refine r_ishl (pc := 48) dX5_fewest_48 ?_
        refine r_icmp_ge (pc := 49) 91 dX5_fewest_49 rfl (fun hno => False.elim (by rw [a1 mo (by omega) (by omega), eN, bt_shl N (by omega), nI_ltI (by omega) (by omega)] at hno; omega)) (fun _ => ?_)
        refine r_aload_n (pc := 52) dX5_fewest_52 rfl ?_
        refine r_getR (pc := 53) dX5_fewest_53 fl_X5_90_5 (MR_k hm) (fun _ _ => rfl) (MR_r38 hm) ?_
        refine r_iload (pc := 56) dX5_fewest_56 rfl ?_
        refine rm_iald (pc := 58) dX5_fewest_58 (MR_k38 hm) (MR_z38 hm) (by first | assumption | exact vp_in_lit rfl) ?_
        rw [is, a3 s (by omega)]
        refine r_iload_n (pc := 59) dX5_fewest_59 rfl ?_
        refine r_icmp_ne (pc := 60) 85 dX5_fewest_60 rfl (fun h60 => ?_) (fun h60 => ?_)
        · rw [cI_f (fun q => h60 q.1)] at hw
          refine r_iinc4 (pc := 85) dX5_fewest_85 (nI_1 _) rfl ?_
          refine r_goto (pc := 88) 41 dX5_fewest_88 rfl ?_
          refine ih (s + 1) _ (by omega) ?_ hw
          first | exact hb | exact Or.inr ⟨s, by omega, rfl⟩
        · refine r_iload_n (pc := 63) dX5_fewest_63 rfl ?_
          refine r_iconst (pc := 64) (v := (-1)) dX5_fewest_64 (by decide) ?_
          refine r_icmp_eq (pc := 65) 82 dX5_fewest_65 rfl (fun h65 => ?_) (fun h65 => ?_)
          · rw [cI_t ⟨h60, Or.inl h65⟩] at hw
            refine r_iload (pc := 82) dX5_fewest_82 rfl ?_
            refine r_istore3 (pc := 84) dX5_fewest_84 rfl ?_
            refine r_iinc4 (pc := 85) dX5_fewest_85 (nI_1 _) rfl ?_
            refine r_goto (pc := 88) 41 dX5_fewest_88 rfl ?_
            refine ih (s + 1) _ (by omega) ?_ hw
            first | exact hb | exact Or.inr ⟨s, by omega, rfl⟩
          · obtain ⟨kb, hkb, eb⟩ := hb.resolve_left h65
            have ib : Int32.toNatClampNeg b = kb := by rw [eb, ix_nI (by omega)]
            rw [ib] at hw
            subst eb
            refine r_aload_n (pc := 68) dX5_fewest_68 rfl ?_
            refine r_iload (pc := 69) dX5_fewest_69 rfl ?_
            refine r_o2 (pc := 71) (bc' := 0) (bs' := 0) (ct_X5_count hm s (by omega)) k_X5_268_5 dX5_fewest_71 (MR_k hm) (Nat.le_of_ble_eq_true rfl) ⟨Nat.le_of_ble_eq_true rfl, Nat.le_of_ble_eq_true rfl⟩ ⟨Nat.le_of_ble_eq_true rfl, Nat.le_of_ble_eq_true rfl⟩ (r_ci fun r71 M71 p71 => ?_) nox
            obtain ⟨rfl, rfl⟩ := p71
            refine r_aload_n (pc := 74) dX5_fewest_74 rfl ?_
            refine r_iload_n (pc := 75) dX5_fewest_75 rfl ?_
            refine r_o2 (pc := 76) (bc' := 0) (bs' := 0) (ct_X5_count hm kb hkb) k_X5_268_5 dX5_fewest_76 (MR_k hm) (Nat.le_of_ble_eq_true rfl) ⟨Nat.le_of_ble_eq_true rfl, Nat.le_of_ble_eq_true rfl⟩ ⟨Nat.le_of_ble_eq_true rfl, Nat.le_of_ble_eq_true rfl⟩ (r_ci fun r76 M76 p76 => ?_) nox
            obtain ⟨rfl, rfl⟩ := p76
            refine r_icmp_ge (pc := 79) 85 dX5_fewest_79 rfl (fun h79 => ?_) (fun h79 => ?_)
            · rw [cI_f (fun q => q.2.elim h65 h79)] at hw
              refine r_iinc4 (pc := 85) dX5_fewest_85 (nI_1 _) rfl ?_
              refine r_goto (pc := 88) 41 dX5_fewest_88 rfl ?_
              refine ih (s + 1) _ (by omega) ?_ hw
              first | exact hb | exact Or.inr ⟨s, by omega, rfl⟩
            · rw [cI_t ⟨h60, Or.inr h79⟩] at hw
              refine r_iload (pc := 82) dX5_fewest_82 rfl ?_
              refine r_istore3 (pc := 84) dX5_fewest_84 rfl ?_
              refine r_iinc4 (pc := 85) dX5_fewest_85 (nI_1 _) rfl ?_
              refine r_goto (pc := 88) 41 dX5_fewest_88 rfl ?_
              refine ih (s + 1) _ (by omega) ?_ hw
              first | exact hb | exact Or.inr ⟨s, by omega, rfl⟩
    refine r_iconst (pc := 36) (v := (-1)) dX5_fewest_36 (by decide) ?_
    refine r_istore3 (pc := 37) dX5_fewest_37 rfl ?_
    refine r_iconst (pc := 38) (v := 0) dX5_fewest_38 (by decide) ?_
    refine r_istore4 (pc := 39) dX5_fewest_39 rfl ?_
    exact L1 (2 ^ N) 0 _ (by omega) (Or.inl rfl) (by rw [fewV, eP])
  refine r_aload_n (pc := 0) dX5_fewest_0 rfl ?_
  refine r_iload_n (pc := 1) dX5_fewest_1 rfl ?_
  refine r_o2 (pc := 2) (bc' := 0) (bs' := 0) (ct_X5_isThing hm _) k_X5_140_5 dX5_fewest_2 (MR_k hm) (Nat.le_of_ble_eq_true rfl) ⟨Nat.le_of_ble_eq_true rfl, Nat.le_of_ble_eq_true rfl⟩ ⟨Nat.le_of_ble_eq_true rfl, Nat.le_of_ble_eq_true rfl⟩ (r_ci fun r2 M2 p2 => ?_) nox
  obtain ⟨rfl, rfl⟩ := p2
  refine r_if_ne (pc := 5) 14 dX5_fewest_5 rfl (fun h5 => ?_) (fun h5 => ?_)
  · rw [bI_ne0] at h5
    have ht := vp_b (n := 8) h5.1 h5.2 hk.1.1.1.2
    have hd := hk.1.far (ix_lt h5.1 h5.2)
    refine r_aload_n (pc := 14) dX5_fewest_14 rfl ?_
    refine r_iload_n (pc := 15) dX5_fewest_15 rfl ?_
    refine r_iload_n (pc := 16) dX5_fewest_16 rfl ?_
    refine r_o3 (pc := 17) (bc' := 0) (bs' := 0) (ct_X5_isOnward hm _ _ ht) k_X5_265_5 dX5_fewest_17 (MR_k hm) (Nat.le_of_ble_eq_true rfl) ⟨Nat.le_of_ble_eq_true rfl, Nat.le_of_ble_eq_true rfl⟩ ⟨Nat.le_of_ble_eq_true rfl, Nat.le_of_ble_eq_true rfl⟩ (r_ci fun r17 M17 p17 => ?_) nox
    obtain ⟨rfl, rfl⟩ := p17
    refine r_if_ne (pc := 20) 30 dX5_fewest_20 rfl (fun h20 => ?_) (fun h20 => ?_)
    · rw [bI_ne0] at h20
      refine r_aload_n (pc := 30) dX5_fewest_30 rfl ?_
      refine r_iload_n (pc := 31) dX5_fewest_31 rfl ?_
      refine r_iload_n (pc := 32) dX5_fewest_32 rfl ?_
      refine r_o3 (pc := 33) (bc' := 0) (bs' := 0) (ct_X5_rowsFor hm _ _ N hN eN ht hd.1 hd.2) k_X5_262_5 dX5_fewest_33 (MR_k hm) (Nat.le_of_ble_eq_true rfl) ⟨Nat.le_of_ble_eq_true rfl, Nat.le_of_ble_eq_true rfl⟩ ⟨Nat.le_of_ble_eq_true rfl, Nat.le_of_ble_eq_true rfl⟩ (r_cv fun M33 p33 => ?_) nox
      obtain ⟨I1, rfl, a1, a2, a3⟩ := p33
      exact base I1 a1 a3 h5 h20
    · rw [bI_eq0] at h20
      refine r_aload_n (pc := 23) dX5_fewest_23 rfl ?_
      refine r_bipush (pc := 24) (v := (-6)) dX5_fewest_24 (by decide) ?_
      refine r_o2 (pc := 26) (bc' := 0) (bs' := 0) (ct_X5_no hm _ (vp_in_lit rfl)) k_X5_136_5 dX5_fewest_26 (MR_k hm) (Nat.le_of_ble_eq_true rfl) ⟨Nat.le_of_ble_eq_true rfl, Nat.le_of_ble_eq_true rfl⟩ ⟨Nat.le_of_ble_eq_true rfl, Nat.le_of_ble_eq_true rfl⟩ (r_ci fun r26 M26 p26 => ?_) nox
      obtain ⟨rfl, rfl⟩ := p26
      refine r_ireturn (pc := 29) rfl dX5_fewest_29 ⟨_, rfl, ?_⟩
      first
        | contradiction
        | (refine oM.of ?_ (by repeat' (first | exact frM.rf | assumption | refine frM.up0 ?_ | refine frM.up ?_ (by decide) | refine frM.upL ?_ (by decide)))
           simp (decide := true) only [fewestS, noS, noTenS, thP, mnP, shelfP, stepS, farP, onP, eq_true h5, eq_false h20, not_true_eq_false, not_false_eq_true, true_and, and_true, false_and, and_false, true_or, or_true, false_or, or_false, cI_True, cI_False, if_true, if_false, sm0, sm1, sm2, sm3, sm4, sm5, sm6, sm7, sm8, sm9, sm10, sm11, sm12, sm13, sm14, sm15, sm16, sm17, sm18, sm19, sm20, sm21, sm22, sm23, sm24, sm25, sm26, sm27, sm28, sm29, sm30, sm31, sm32, sm33, sm34, sm35, sm36, sm37, sm38, sm39, sm40, sm41, sm42, sm43, sm44, sm45, sm46, sm47, sm48, sm49, su0, su1, su2, su3, su4, su5, su6, su7, su8, su9, su10, su11, su12, su13, su14, su15, su16, su17, su18, su19, su20, su21, su22, su23, su24, su25, su26, su27, su28, su29, su30, su31, su32, su33, su34, su35, su36, su37, su38, su39, su40, su41, su42, su43, su44, su45, su46, su47, su48, su49])
  · rw [bI_eq0] at h5
    refine r_aload_n (pc := 8) dX5_fewest_8 rfl ?_
    refine r_iconst (pc := 9) (v := (-1)) dX5_fewest_9 (by decide) ?_
    refine r_o2 (pc := 10) (bc' := 0) (bs' := 0) (ct_X5_no hm _ (vp_in_lit rfl)) k_X5_136_5 dX5_fewest_10 (MR_k hm) (Nat.le_of_ble_eq_true rfl) ⟨Nat.le_of_ble_eq_true rfl, Nat.le_of_ble_eq_true rfl⟩ ⟨Nat.le_of_ble_eq_true rfl, Nat.le_of_ble_eq_true rfl⟩ (r_ci fun r10 M10 p10 => ?_) nox
    obtain ⟨rfl, rfl⟩ := p10
    refine r_ireturn (pc := 13) rfl dX5_fewest_13 ⟨_, rfl, ?_⟩
    first
      | contradiction
      | (refine oM.of ?_ (by repeat' (first | exact frM.rf | assumption | refine frM.up0 ?_ | refine frM.up ?_ (by decide) | refine frM.upL ?_ (by decide)))
         simp (decide := true) only [fewestS, noS, noTenS, thP, mnP, shelfP, stepS, farP, onP, eq_false h5, not_true_eq_false, not_false_eq_true, true_and, and_true, false_and, and_false, true_or, or_true, false_or, or_false, cI_True, cI_False, if_true, if_false, sm0, sm1, sm2, sm3, sm4, sm5, sm6, sm7, sm8, sm9, sm10, sm11, sm12, sm13, sm14, sm15, sm16, sm17, sm18, sm19, sm20, sm21, sm22, sm23, sm24, sm25, sm26, sm27, sm28, sm29, sm30, sm31, sm32, sm33, sm34, sm35, sm36, sm37, sm38, sm39, sm40, sm41, sm42, sm43, sm44, sm45, sm46, sm47, sm48, sm49, su0, su1, su2, su3, su4, su5, su6, su7, su8, su9, su10, su11, su12, su13, su14, su15, su16, su17, su18, su19, su20, su21, su22, su23, su24, su25, su26, su27, su28, su29, su30, su31, su32, su33, su34, su35, su36, su37, su38, su39, su40, su41, su42, su43, su44, su45, su46, su47, su48, su49])
theorem ct_X5_weakest {M0 : PM} {mo : Nat} {I : Nat → Nat → Int32} {L : Nat → Nat → Int64} (hm : MR M0 mo) (x1 : Int32) (x2 : Int32) (hk : OkS (sM I mo)) : Ct (YX5_weakest, (4, 96, 0, 0), qi (fun r M' => oM M0 mo I L (weakestS (sS I L mo) x1 x2) r M'), noX) [.ref mo, .int x1, .int x2] (wIL M0 I L) := by
  refine ct_of [some (.ref mo), some (.int x1), some (.int x2), none, none, none, none] rfl rfl rfl (Nat.le_of_ble_eq_true rfl) rfl rfl ?_
  obtain ⟨N, hN, eN⟩ := bd_nI (n := 8) hk.1.1.2.1
  have eN : I mo 1 = nI N := eN
  have h256 := pow8 hN
  have eP : ppN (sM I mo) = N := by show Int32.toNatClampNeg (I mo 1) = N; rw [eN, ix_nI (by omega)]
  have base : ∀ (I1 : Nat → Nat → Int32) (s : Nat), x2 = nI s → s < 2 ^ N → (∀ x, x ≠ mo + 24 → x ≠ mo + 25 → I1 x = I x) → (∀ j, j < 2 ^ N → I1 (mo + 24) j = endF (sM I mo) (Int32.toNatClampNeg x1) (I mo 3) j) → weakestS (sS I L mo) x1 x2 = (weakL (endF (sM I mo) (Int32.toNatClampNeg x1) (I mo 3)) s N 0 (-1) 0, sS I L mo) → Wx (YX5_weakest, (4, 96, 0, 0), qi (fun r M' => oM M0 mo I L (weakestS (sS I L mo) x1 x2) r M'), noX) 0 0 (wIL M0 I1 L) 42 [some (.ref mo), some (.int x1), some (.int x2), none, none, none, none] [] := by
    intro I1 s es hs a1 a3 hw0
    have L1 : ∀ (n : Nat) (m : Nat) (b w : Int32) (o : Option Value), m + n = N → weakestS (sS I L mo) x1 x2 = (weakL (endF (sM I mo) (Int32.toNatClampNeg x1) (I mo 3)) s n m b w, sS I L mo) → Wx (YX5_weakest, (4, 96, 0, 0), qi (fun r M' => oM M0 mo I L (weakestS (sS I L mo) x1 x2) r M'), noX) 0 0 (wIL M0 I1 L) 50 [some (.ref mo), some (.int x1), some (.int x2), some (.int b), some (.int w), some (.int (nI m)), o] [] := by
      intro n
      induction n with
      | zero =>
        intro m b w o hm2 hw
        refine r_iload (pc := 50) dX5_weakest_50 rfl ?_
        refine r_aload_n (pc := 52) dX5_weakest_52 rfl ?_
        refine rm_getI (pc := 53) dX5_weakest_53 fl_X5_120_5 (MR_k hm) (fun _ _ => rfl) ?_
        refine r_icmp_ge (pc := 56) 114 dX5_weakest_56 rfl (fun _ => ?_) (fun hno => False.elim (by rw [a1 mo (by omega) (by omega), eN, nI_ltI (by omega) (by omega)] at hno; omega))
        refine r_iload_n (pc := 114) dX5_weakest_114 rfl ?_
        refine r_ireturn (pc := 115) rfl dX5_weakest_115 ⟨_, rfl, ?_⟩
        rw [hw, weakL]
        refine oM_scr frM.rf (fun x h1 h2 => a1 x (by omega) (by omega)) (fun k hk => by rw [a1 mo (by omega) (by omega)]) ?_
        rfl
      | succ n ih =>
        intro m b w o hm2 hw
        rw [weakL] at hw
        refine r_iload (pc := 50) dX5_weakest_50 rfl ?_
        refine r_aload_n (pc := 52) dX5_weakest_52 rfl ?_
        refine rm_getI (pc := 53) dX5_weakest_53 fl_X5_120_5 (MR_k hm) (fun _ _ => rfl) ?_
        refine r_icmp_ge (pc := 56) 114 dX5_weakest_56 rfl (fun hno => False.elim (by rw [a1 mo (by omega) (by omega), eN, nI_ltI (by omega) (by omega)] at hno; omega)) (fun _ => ?_)
        refine r_iload_n (pc := 59) dX5_weakest_59 rfl ?_
        refine r_iload (pc := 60) dX5_weakest_60 rfl ?_
        refine r_ishr (pc := 62) dX5_weakest_62 ?_
        refine r_iconst (pc := 63) (v := 1) dX5_weakest_63 (by decide) ?_
        refine r_iand (pc := 64) dX5_weakest_64 ?_
        refine r_if_ne (pc := 65) 71 dX5_weakest_65 rfl (fun h65 => ?_) (fun h65 => ?_)
        · rw [es, bt_0 s (by omega) m (by omega)] at h65
          have hbit : s.testBit m = true := by simpa using h65
          have hlt := bit_lt hbit
          refine r_aload_n (pc := 71) dX5_weakest_71 rfl ?_
          refine r_getR (pc := 72) dX5_weakest_72 fl_X5_90_5 (MR_k hm) (fun _ _ => rfl) (MR_r38 hm) ?_
          refine r_iload_n (pc := 75) dX5_weakest_75 rfl ?_
          refine r_iconst (pc := 76) (v := 1) dX5_weakest_76 (by decide) ?_
          refine r_iload (pc := 77) dX5_weakest_77 rfl ?_
          refine r_ishl (pc := 79) dX5_weakest_79 ?_
          refine r_iconst (pc := 80) (v := (-1)) dX5_weakest_80 (by decide) ?_
          refine r_ixor (pc := 81) dX5_weakest_81 ?_
          refine r_iand (pc := 82) dX5_weakest_82 ?_
          refine r_eqi (nI (s - 2 ^ m)) (by rw [es, bt_clr s (by omega) m (by omega), if_pos hbit]) ?_
          refine rm_iald (pc := 83) dX5_weakest_83 (MR_k38 hm) (MR_z38 hm) (vp_in_nI (by omega) (by decide)) ?_
          rw [ix_nI (by omega), a3 _ (by omega)]
          refine r_istore6 (pc := 84) dX5_weakest_84 rfl ?_
          refine r_iload_n (pc := 86) dX5_weakest_86 rfl ?_
          refine r_iconst (pc := 87) (v := (-1)) dX5_weakest_87 (by decide) ?_
          refine r_icmp_eq (pc := 88) 101 dX5_weakest_88 rfl (fun h88 => ?_) (fun h88 => ?_)
          · rw [cI_t ⟨hbit, Or.inl h88⟩] at hw
            refine r_iload (pc := 101) dX5_weakest_101 rfl ?_
            refine r_istore3 (pc := 103) dX5_weakest_103 rfl ?_
            refine r_iload (pc := 104) dX5_weakest_104 rfl ?_
            refine r_istore4 (pc := 106) dX5_weakest_106 rfl ?_
            refine r_iinc5 (pc := 108) dX5_weakest_108 (nI_1 _) rfl ?_
            refine r_goto (pc := 111) 50 dX5_weakest_111 rfl ?_
            exact ih (m + 1) _ _ _ (by omega) hw
          · refine r_iload (pc := 91) dX5_weakest_91 rfl ?_
            refine r_iload (pc := 93) dX5_weakest_93 rfl ?_
            refine r_icmp_gt (pc := 95) 101 dX5_weakest_95 rfl (fun h95 => ?_) (fun h95 => ?_)
            · rw [cI_t ⟨hbit, Or.inr h95⟩] at hw
              refine r_iload (pc := 101) dX5_weakest_101 rfl ?_
              refine r_istore3 (pc := 103) dX5_weakest_103 rfl ?_
              refine r_iload (pc := 104) dX5_weakest_104 rfl ?_
              refine r_istore4 (pc := 106) dX5_weakest_106 rfl ?_
              refine r_iinc5 (pc := 108) dX5_weakest_108 (nI_1 _) rfl ?_
              refine r_goto (pc := 111) 50 dX5_weakest_111 rfl ?_
              exact ih (m + 1) _ _ _ (by omega) hw
            · rw [cI_f (fun q => q.2.elim h88 h95)] at hw
              refine r_goto (pc := 98) 108 dX5_weakest_98 rfl ?_
              refine r_iinc5 (pc := 108) dX5_weakest_108 (nI_1 _) rfl ?_
              refine r_goto (pc := 111) 50 dX5_weakest_111 rfl ?_
              exact ih (m + 1) _ _ _ (by omega) hw
        · rw [es, bt_0 s (by omega) m (by omega)] at h65
          rw [cI_f (by rw [h65]; intro q; exact absurd q.1 (by decide))] at hw
          refine r_goto (pc := 68) 108 dX5_weakest_68 rfl ?_
          refine r_iinc5 (pc := 108) dX5_weakest_108 (nI_1 _) rfl ?_
          refine r_goto (pc := 111) 50 dX5_weakest_111 rfl ?_
          exact ih (m + 1) _ _ _ (by omega) hw
    refine r_iconst (pc := 42) (v := (-1)) dX5_weakest_42 (by decide) ?_
    refine r_istore3 (pc := 43) dX5_weakest_43 rfl ?_
    refine r_iconst (pc := 44) (v := 0) dX5_weakest_44 (by decide) ?_
    refine r_istore4 (pc := 45) dX5_weakest_45 rfl ?_
    refine r_iconst (pc := 47) (v := 0) dX5_weakest_47 (by decide) ?_
    refine r_istore5 (pc := 48) dX5_weakest_48 rfl ?_
    exact L1 N 0 _ _ _ (by omega) hw0
  refine r_aload_n (pc := 0) dX5_weakest_0 rfl ?_
  refine r_iload_n (pc := 1) dX5_weakest_1 rfl ?_
  refine r_o2 (pc := 2) (bc' := 0) (bs' := 0) (ct_X5_isThing hm _) k_X5_140_5 dX5_weakest_2 (MR_k hm) (Nat.le_of_ble_eq_true rfl) ⟨Nat.le_of_ble_eq_true rfl, Nat.le_of_ble_eq_true rfl⟩ ⟨Nat.le_of_ble_eq_true rfl, Nat.le_of_ble_eq_true rfl⟩ (r_ci fun r2 M2 p2 => ?_) nox
  obtain ⟨rfl, rfl⟩ := p2
  refine r_if_eq (pc := 5) 16 dX5_weakest_5 rfl (fun h5 => ?_) (fun h5 => ?_)
  · rw [bI_eq0] at h5
    refine r_aload_n (pc := 16) dX5_weakest_16 rfl ?_
    refine r_iconst (pc := 17) (v := (-1)) dX5_weakest_17 (by decide) ?_
    refine r_o2 (pc := 18) (bc' := 0) (bs' := 0) (ct_X5_no hm _ (vp_in_lit rfl)) k_X5_136_5 dX5_weakest_18 (MR_k hm) (Nat.le_of_ble_eq_true rfl) ⟨Nat.le_of_ble_eq_true rfl, Nat.le_of_ble_eq_true rfl⟩ ⟨Nat.le_of_ble_eq_true rfl, Nat.le_of_ble_eq_true rfl⟩ (r_ci fun r18 M18 p18 => ?_) nox
    obtain ⟨rfl, rfl⟩ := p18
    refine r_ireturn (pc := 21) rfl dX5_weakest_21 ⟨_, rfl, ?_⟩
    first
      | contradiction
      | (refine oM.of ?_ (by repeat' (first | exact frM.rf | assumption | refine frM.up0 ?_ | refine frM.up ?_ (by decide) | refine frM.upL ?_ (by decide)))
         simp (decide := true) only [weakestS, noS, noTenS, thP, mnP, shelfP, stepS, farP, setP, eq_false h5, not_true_eq_false, not_false_eq_true, true_and, and_true, false_and, and_false, true_or, or_true, false_or, or_false, cI_True, cI_False, if_true, if_false, sm0, sm1, sm2, sm3, sm4, sm5, sm6, sm7, sm8, sm9, sm10, sm11, sm12, sm13, sm14, sm15, sm16, sm17, sm18, sm19, sm20, sm21, sm22, sm23, sm24, sm25, sm26, sm27, sm28, sm29, sm30, sm31, sm32, sm33, sm34, sm35, sm36, sm37, sm38, sm39, sm40, sm41, sm42, sm43, sm44, sm45, sm46, sm47, sm48, sm49, su0, su1, su2, su3, su4, su5, su6, su7, su8, su9, su10, su11, su12, su13, su14, su15, su16, su17, su18, su19, su20, su21, su22, su23, su24, su25, su26, su27, su28, su29, su30, su31, su32, su33, su34, su35, su36, su37, su38, su39, su40, su41, su42, su43, su44, su45, su46, su47, su48, su49])
  · rw [bI_ne0] at h5
    have ht := vp_b (n := 8) h5.1 h5.2 hk.1.1.1.2
    have hd := hk.1.far (ix_lt h5.1 h5.2)
    refine r_aload_n (pc := 8) dX5_weakest_8 rfl ?_
    refine r_iload_n (pc := 9) dX5_weakest_9 rfl ?_
    refine r_o2 (pc := 10) (bc' := 0) (bs' := 0) (ct_X5_isSet hm _) k_X5_259_5 dX5_weakest_10 (MR_k hm) (Nat.le_of_ble_eq_true rfl) ⟨Nat.le_of_ble_eq_true rfl, Nat.le_of_ble_eq_true rfl⟩ ⟨Nat.le_of_ble_eq_true rfl, Nat.le_of_ble_eq_true rfl⟩ (r_ci fun r10 M10 p10 => ?_) nox
    obtain ⟨rfl, rfl⟩ := p10
    refine r_if_ne (pc := 13) 22 dX5_weakest_13 rfl (fun h13 => ?_) (fun h13 => ?_)
    · rw [bI_ne0] at h13
      obtain ⟨s, es, hs⟩ := set_nI (σ := sM I mo) hN (show sM I mo 1 0 = nI N from eN) (show setP (sM I mo) x2 from h13)
      have is : Int32.toNatClampNeg x2 = s := by rw [es, ix_nI (by omega)]
      have hvs : vp_in x2 256 := by rw [es]; exact vp_in_nI (by omega) (by decide)
      refine r_iload_n (pc := 22) dX5_weakest_22 rfl ?_
      refine r_if_ne (pc := 23) 33 dX5_weakest_23 rfl (fun h23 => ?_) (fun h23 => ?_)
      · refine r_aload_n (pc := 33) dX5_weakest_33 rfl ?_
        refine r_iload_n (pc := 34) dX5_weakest_34 rfl ?_
        refine r_aload_n (pc := 35) dX5_weakest_35 rfl ?_
        refine rm_getI (pc := 36) dX5_weakest_36 fl_X5_7_5 (MR_k hm) (fun _ _ => rfl) ?_
        refine r_o3 (pc := 39) (bc' := 0) (bs' := 0) (ct_X5_rowsFor hm _ _ N hN eN ht hd.1 hd.2) k_X5_262_5 dX5_weakest_39 (MR_k hm) (Nat.le_of_ble_eq_true rfl) ⟨Nat.le_of_ble_eq_true rfl, Nat.le_of_ble_eq_true rfl⟩ ⟨Nat.le_of_ble_eq_true rfl, Nat.le_of_ble_eq_true rfl⟩ (r_cv fun M39 p39 => ?_) nox
        obtain ⟨I1, rfl, a1, a2, a3⟩ := p39
        refine base I1 s es hs a1 a3 ?_
        rw [weakestS, cI_f (by intro q; exact q.elim (fun q => q h5) (fun q => q h13)), cI_f h23, is, eP]
        rfl
      · refine r_aload_n (pc := 26) dX5_weakest_26 rfl ?_
        refine r_bipush (pc := 27) (v := (-5)) dX5_weakest_27 (by decide) ?_
        refine r_o2 (pc := 29) (bc' := 0) (bs' := 0) (ct_X5_no hm _ (vp_in_lit rfl)) k_X5_136_5 dX5_weakest_29 (MR_k hm) (Nat.le_of_ble_eq_true rfl) ⟨Nat.le_of_ble_eq_true rfl, Nat.le_of_ble_eq_true rfl⟩ ⟨Nat.le_of_ble_eq_true rfl, Nat.le_of_ble_eq_true rfl⟩ (r_ci fun r29 M29 p29 => ?_) nox
        obtain ⟨rfl, rfl⟩ := p29
        refine r_ireturn (pc := 32) rfl dX5_weakest_32 ⟨_, rfl, ?_⟩
        refine oM.of ?_ (by repeat' (first | exact frM.rf | assumption | refine frM.up0 ?_ | refine frM.up ?_ (by decide) | refine frM.upL ?_ (by decide)))
        rw [weakestS, cI_f (by intro q; exact q.elim (fun q => q h5) (fun q => q h13)), cI_t h23, noS, ← su10]
        rfl
    · rw [bI_eq0] at h13
      refine r_aload_n (pc := 16) dX5_weakest_16 rfl ?_
      refine r_iconst (pc := 17) (v := (-1)) dX5_weakest_17 (by decide) ?_
      refine r_o2 (pc := 18) (bc' := 0) (bs' := 0) (ct_X5_no hm _ (vp_in_lit rfl)) k_X5_136_5 dX5_weakest_18 (MR_k hm) (Nat.le_of_ble_eq_true rfl) ⟨Nat.le_of_ble_eq_true rfl, Nat.le_of_ble_eq_true rfl⟩ ⟨Nat.le_of_ble_eq_true rfl, Nat.le_of_ble_eq_true rfl⟩ (r_ci fun r18 M18 p18 => ?_) nox
      obtain ⟨rfl, rfl⟩ := p18
      refine r_ireturn (pc := 21) rfl dX5_weakest_21 ⟨_, rfl, ?_⟩
      first
        | contradiction
        | (refine oM.of ?_ (by repeat' (first | exact frM.rf | assumption | refine frM.up0 ?_ | refine frM.up ?_ (by decide) | refine frM.upL ?_ (by decide)))
           simp (decide := true) only [weakestS, noS, noTenS, thP, mnP, shelfP, stepS, farP, setP, eq_true h5, eq_false h13, not_true_eq_false, not_false_eq_true, true_and, and_true, false_and, and_false, true_or, or_true, false_or, or_false, cI_True, cI_False, if_true, if_false, sm0, sm1, sm2, sm3, sm4, sm5, sm6, sm7, sm8, sm9, sm10, sm11, sm12, sm13, sm14, sm15, sm16, sm17, sm18, sm19, sm20, sm21, sm22, sm23, sm24, sm25, sm26, sm27, sm28, sm29, sm30, sm31, sm32, sm33, sm34, sm35, sm36, sm37, sm38, sm39, sm40, sm41, sm42, sm43, sm44, sm45, sm46, sm47, sm48, sm49, su0, su1, su2, su3, su4, su5, su6, su7, su8, su9, su10, su11, su12, su13, su14, su15, su16, su17, su18, su19, su20, su21, su22, su23, su24, su25, su26, su27, su28, su29, su30, su31, su32, su33, su34, su35, su36, su37, su38, su39, su40, su41, su42, su43, su44, su45, su46, su47, su48, su49])
theorem ct_X5_helps {M0 : PM} {mo : Nat} {I : Nat → Nat → Int32} {L : Nat → Nat → Int64} (hm : MR M0 mo) (x1 : Int32) (x2 : Int32) (x3 : Int32) (x4 : Int32) (hk : OkS (sM I mo)) : Ct (YX5_helps, (4, 96, 0, 0), qi (fun r M' => oM M0 mo I L (helpsS (sS I L mo) x1 x2 x3 x4) r M'), noX) [.ref mo, .int x1, .int x2, .int x3, .int x4] (wIL M0 I L) := by
  refine ct_of [some (.ref mo), some (.int x1), some (.int x2), some (.int x3), some (.int x4), none, none, none] rfl rfl rfl (Nat.le_of_ble_eq_true rfl) rfl rfl ?_
  obtain ⟨N, hN, eN⟩ := bd_nI (n := 8) hk.1.1.2.1
  have eN : I mo 1 = nI N := eN
  have h256 := pow8 hN
  have eP : ppN (sM I mo) = N := by show Int32.toNatClampNeg (I mo 1) = N; rw [eN, ix_nI (by omega)]
  have base : ∀ (I0 : Nat → Nat → Int32) (s : Nat), x2 = nI s → s < 2 ^ N → thP (sM I mo) x1 → mnP (sM I mo) x4 → (∀ x, x ≠ mo + 24 → x ≠ mo + 25 → I0 x = I x) → helpsS (sS I L mo) x1 x2 x3 x4 = (helpL (sM I mo) (Int32.toNatClampNeg x1) (Int32.toNatClampNeg x4) s x3 99 1, sS I L mo) → Wx (YX5_helps, (4, 96, 0, 0), qi (fun r M' => oM M0 mo I L (helpsS (sS I L mo) x1 x2 x3 x4) r M'), noX) 0 0 (wIL M0 I0 L) 79 [some (.ref mo), some (.int x1), some (.int x2), some (.int x3), some (.int x4), none, none, none] [] := by
    intro I0 s es hs t1 t4 a0 hw0
    have ht := vp_b (n := 8) t1.1 t1.2 hk.1.1.1.2
    have hd := hk.1.far (ix_lt t1.1 t1.2)
    have hn := vp_b (n := 8) t4.1 t4.2 hk.1.1.2.1.2
    have hvs : vp_in x2 256 := by rw [es]; exact vp_in_nI (by omega) (by decide)
    have is : Int32.toNatClampNeg x2 = s := by rw [es, ix_nI (by omega)]
    have fin : ∀ (I1 : Nat → Nat → Int32) (b v : Int32), (∀ x, x ≠ mo + 24 → x ≠ mo + 25 → x ≠ mo + 8 → I1 x = I x) → (∀ i, i ≠ (Int32.toNatClampNeg x4) → I1 (mo + 8) i = I (mo + 8) i) → helpsS (sS I L mo) x1 x2 x3 x4 = (b, sS I L mo) → Wx (YX5_helps, (4, 96, 0, 0), qi (fun r M' => oM M0 mo I L (helpsS (sS I L mo) x1 x2 x3 x4) r M'), noX) 0 0 (wIL M0 I1 L) 145 [some (.ref mo), some (.int x1), some (.int x2), some (.int x3), some (.int x4), some (.int (I (mo + 8) (Int32.toNatClampNeg x4))), some (.int b), some (.int v)] [] := by
      intro I1 b v a1 a2 hw
      refine r_aload_n (pc := 145) dX5_helps_145 rfl ?_
      refine r_getR (pc := 146) dX5_helps_146 fl_X5_41_5 (MR_k hm) (fun _ _ => rfl) (MR_r17 hm) ?_
      refine r_iload (pc := 149) dX5_helps_149 rfl ?_
      refine r_iload (pc := 151) dX5_helps_151 rfl ?_
      refine rm_iast (pc := 153) dX5_helps_153 (MR_k17 hm) (MR_z17 hm) (by first | assumption | exact vp_in_lit rfl) ?_
      refine r_iload (pc := 154) dX5_helps_154 rfl ?_
      refine r_ireturn (pc := 156) rfl dX5_helps_156 ⟨_, rfl, ?_⟩
      rw [hw]
      refine oM_scr frM.rf (fun x h1 h2 => ?_) (fun k hk => by rw [up2_ne (by omega), a1 mo (by omega) (by omega) (by omega)]) rfl
      by_cases e : x = mo + 8
      · subst e
        rw [up2_self]
        funext i
        by_cases ei : i = (Int32.toNatClampNeg x4)
        · rw [ei, va_up_self]
        · rw [va_up_ne _ _ ei]; exact a2 i ei
      · rw [up2_ne e]; exact a1 x (by omega) (by omega) e
    have brk : ∀ (I1 : Nat → Nat → Int32) (b v : Int32), ¬ b = -1 → (∀ x, x ≠ mo + 24 → x ≠ mo + 25 → x ≠ mo + 8 → I1 x = I x) → (∀ i, i ≠ (Int32.toNatClampNeg x4) → I1 (mo + 8) i = I (mo + 8) i) → helpsS (sS I L mo) x1 x2 x3 x4 = (b, sS I L mo) → Wx (YX5_helps, (4, 96, 0, 0), qi (fun r M' => oM M0 mo I L (helpsS (sS I L mo) x1 x2 x3 x4) r M'), noX) 0 0 (wIL M0 I1 L) 94 [some (.ref mo), some (.int x1), some (.int x2), some (.int x3), some (.int x4), some (.int (I (mo + 8) (Int32.toNatClampNeg x4))), some (.int b), some (.int v)] [] := by
      intro I1 b v hb a1 a2 hw
      refine r_iload (pc := 94) dX5_helps_94 rfl ?_
      refine r_bipush (pc := 96) (v := 100) dX5_helps_96 (by decide) ?_
      refine r_icmp_ge (pc := 98) 145 dX5_helps_98 rfl (fun h98 => ?_) (fun h98 => ?_)
      · exact fin I1 b v a1 a2 hw
      · refine r_iload (pc := 101) dX5_helps_101 rfl ?_
        refine r_iconst (pc := 103) (v := (-1)) dX5_helps_103 (by decide) ?_
        refine r_icmp_ne (pc := 104) 145 dX5_helps_104 rfl (fun _ => ?_) (fun hno => False.elim (hb hno))
        exact fin I1 b v a1 a2 hw
    have L1 : ∀ (n : Nat) (v : Nat) (I1 : Nat → Nat → Int32), v + n = 100 → (∀ x, x ≠ mo + 24 → x ≠ mo + 25 → x ≠ mo + 8 → I1 x = I x) → (∀ i, i ≠ (Int32.toNatClampNeg x4) → I1 (mo + 8) i = I (mo + 8) i) → helpsS (sS I L mo) x1 x2 x3 x4 = (helpL (sM I mo) (Int32.toNatClampNeg x1) (Int32.toNatClampNeg x4) s x3 n v, sS I L mo) → Wx (YX5_helps, (4, 96, 0, 0), qi (fun r M' => oM M0 mo I L (helpsS (sS I L mo) x1 x2 x3 x4) r M'), noX) 0 0 (wIL M0 I1 L) 94 [some (.ref mo), some (.int x1), some (.int x2), some (.int x3), some (.int x4), some (.int (I (mo + 8) (Int32.toNatClampNeg x4))), some (.int (-1)), some (.int (nI v))] [] := by
      intro n
      induction n with
      | zero =>
        intro v I1 hv a1 a2 hw
        refine r_iload (pc := 94) dX5_helps_94 rfl ?_
        refine r_bipush (pc := 96) (v := 100) dX5_helps_96 (by decide) ?_
        refine r_icmp_ge (pc := 98) 145 dX5_helps_98 rfl (fun _ => ?_) (fun hno => False.elim (by rw [show (100 : Int32) = nI 100 from rfl, nI_ltI (by omega) (by omega)] at hno; omega))
        exact fin I1 _ _ a1 a2 hw
      | succ n ih =>
        intro v I1 hv a1 a2 hw
        rw [helpL] at hw
        have q0 : (up2 I1 (mo + 8) (Int32.toNatClampNeg x4) (I (mo + 8) (Int32.toNatClampNeg x4) + nI v)) mo = I mo := (up2_ne (by omega)).trans (a1 _ (by omega) (by omega) (by omega))
        have q2 : (up2 I1 (mo + 8) (Int32.toNatClampNeg x4) (I (mo + 8) (Int32.toNatClampNeg x4) + nI v)) (mo + 2) = I (mo + 2) := (up2_ne (by omega)).trans (a1 _ (by omega) (by omega) (by omega))
        have q3 : (up2 I1 (mo + 8) (Int32.toNatClampNeg x4) (I (mo + 8) (Int32.toNatClampNeg x4) + nI v)) (mo + 3) = I (mo + 3) := (up2_ne (by omega)).trans (a1 _ (by omega) (by omega) (by omega))
        have q4 : (up2 I1 (mo + 8) (Int32.toNatClampNeg x4) (I (mo + 8) (Int32.toNatClampNeg x4) + nI v)) (mo + 4) = I (mo + 4) := (up2_ne (by omega)).trans (a1 _ (by omega) (by omega) (by omega))
        have q5 : (up2 I1 (mo + 8) (Int32.toNatClampNeg x4) (I (mo + 8) (Int32.toNatClampNeg x4) + nI v)) (mo + 5) = I (mo + 5) := (up2_ne (by omega)).trans (a1 _ (by omega) (by omega) (by omega))
        have q9 : (up2 I1 (mo + 8) (Int32.toNatClampNeg x4) (I (mo + 8) (Int32.toNatClampNeg x4) + nI v)) (mo + 9) = I (mo + 9) := (up2_ne (by omega)).trans (a1 _ (by omega) (by omega) (by omega))
        have q8 : (up2 I1 (mo + 8) (Int32.toNatClampNeg x4) (I (mo + 8) (Int32.toNatClampNeg x4) + nI v)) (mo + 8) = up2 (sM I mo) 17 (Int32.toNatClampNeg x4) (sM I mo 17 (Int32.toNatClampNeg x4) + nI v) 17 := by
          rw [up2_self, up2_self]
          funext i
          by_cases ei : i = (Int32.toNatClampNeg x4)
          · rw [ei, va_up_self, va_up_self]; rfl
          · rw [va_up_ne _ _ ei, va_up_ne _ _ ei]; exact a2 i ei
        have qe : ∀ j, endF (sM (up2 I1 (mo + 8) (Int32.toNatClampNeg x4) (I (mo + 8) (Int32.toNatClampNeg x4) + nI v)) mo) (Int32.toNatClampNeg x1) x3 j = endF (up2 (sM I mo) 17 (Int32.toNatClampNeg x4) (sM I mo 17 (Int32.toNatClampNeg x4) + nI v)) (Int32.toNatClampNeg x1) x3 j := fun j => endF_c (by rw [show sM (up2 I1 (mo + 8) (Int32.toNatClampNeg x4) (I (mo + 8) (Int32.toNatClampNeg x4) + nI v)) mo 4 = sM I mo 4 by rw [sM_sc (by unfold isSc; decide), q0]; rfl]; exact (up2_ne (by decide)).symm) (by rw [show sM (up2 I1 (mo + 8) (Int32.toNatClampNeg x4) (I (mo + 8) (Int32.toNatClampNeg x4) + nI v)) mo 5 = sM I mo 5 by rw [sM_sc (by unfold isSc; decide), q0]; rfl]; exact (up2_ne (by decide)).symm) (by rw [show sM (up2 I1 (mo + 8) (Int32.toNatClampNeg x4) (I (mo + 8) (Int32.toNatClampNeg x4) + nI v)) mo 1 = sM I mo 1 by rw [sM_sc (by unfold isSc; decide), q0]; rfl]; exact (up2_ne (by decide)).symm) (by rw [show sM (up2 I1 (mo + 8) (Int32.toNatClampNeg x4) (I (mo + 8) (Int32.toNatClampNeg x4) + nI v)) mo 6 = sM I mo 6 by rw [sM_sc (by unfold isSc; decide), q0]; rfl]; exact (up2_ne (by decide)).symm) (by rw [up2_ne (show (11 : Nat) ≠ 17 by decide)]; exact q2) (by rw [up2_ne (show (12 : Nat) ≠ 17 by decide)]; exact q3) (by rw [up2_ne (show (13 : Nat) ≠ 17 by decide)]; exact q4) (by rw [up2_ne (show (14 : Nat) ≠ 17 by decide)]; exact q5) q8 (by rw [up2_ne (show (18 : Nat) ≠ 17 by decide)]; exact q9) j
        refine r_iload (pc := 94) dX5_helps_94 rfl ?_
        refine r_bipush (pc := 96) (v := 100) dX5_helps_96 (by decide) ?_
        refine r_icmp_ge (pc := 98) 145 dX5_helps_98 rfl (fun hno => False.elim (by rw [show (100 : Int32) = nI 100 from rfl, nI_ltI (by omega) (by omega)] at hno; omega)) (fun _ => ?_)
        refine r_iload (pc := 101) dX5_helps_101 rfl ?_
        refine r_iconst (pc := 103) (v := (-1)) dX5_helps_103 (by decide) ?_
        refine r_icmp_ne (pc := 104) 145 dX5_helps_104 rfl (fun hno => absurd hno (by decide)) (fun _ => ?_)
        refine r_aload_n (pc := 107) dX5_helps_107 rfl ?_
        refine r_getR (pc := 108) dX5_helps_108 fl_X5_41_5 (MR_k hm) (fun _ _ => rfl) (MR_r17 hm) ?_
        refine r_iload (pc := 111) dX5_helps_111 rfl ?_
        refine r_iload (pc := 113) dX5_helps_113 rfl ?_
        refine r_iload (pc := 115) dX5_helps_115 rfl ?_
        refine r_iadd (pc := 117) dX5_helps_117 ?_
        refine rm_iast (pc := 118) dX5_helps_118 (MR_k17 hm) (MR_z17 hm) (by first | assumption | exact vp_in_lit rfl) ?_
        refine r_aload_n (pc := 119) dX5_helps_119 rfl ?_
        refine r_iload_n (pc := 120) dX5_helps_120 rfl ?_
        refine r_iload_n (pc := 121) dX5_helps_121 rfl ?_
        refine r_o3 (pc := 122) (bc' := 0) (bs' := 0) (ct_X5_rowsFor (I := (up2 I1 (mo + 8) (Int32.toNatClampNeg x4) (I (mo + 8) (Int32.toNatClampNeg x4) + nI v))) hm _ _ N hN (by rw [q0]; exact eN) ht (by rw [q3]; exact hd.1) (by rw [q2, q3, q4]; exact hd.2)) k_X5_262_5 dX5_helps_122 (MR_k hm) (Nat.le_of_ble_eq_true rfl) ⟨Nat.le_of_ble_eq_true rfl, Nat.le_of_ble_eq_true rfl⟩ ⟨Nat.le_of_ble_eq_true rfl, Nat.le_of_ble_eq_true rfl⟩ (r_cv fun M122 p122 => ?_) nox
        obtain ⟨I2, rfl, c1, c2, c3⟩ := p122
        refine r_aload_n (pc := 125) dX5_helps_125 rfl ?_
        refine r_getR (pc := 126) dX5_helps_126 fl_X5_90_5 (MR_k hm) (fun _ _ => rfl) (MR_r38 hm) ?_
        refine r_iload_n (pc := 129) dX5_helps_129 rfl ?_
        refine rm_iald (pc := 130) dX5_helps_130 (MR_k38 hm) (MR_z38 hm) (by first | assumption | exact vp_in_lit rfl) ?_
        rw [is, c3 s hs, qe]
        refine r_iload_n (pc := 131) dX5_helps_131 rfl ?_
        refine r_icmp_ne (pc := 132) 139 dX5_helps_132 rfl (fun h132 => ?_) (fun h132 => ?_)
        · rw [cI_f h132] at hw
          refine r_iinc7 (pc := 139) dX5_helps_139 (nI_1 _) rfl ?_
          refine r_goto (pc := 142) 94 dX5_helps_142 rfl ?_
          have k1 : ∀ x, x ≠ mo + 24 → x ≠ mo + 25 → x ≠ mo + 8 → I2 x = I x := fun x h1 h2 h3 => (c1 x h1 h2).trans ((up2_ne h3).trans (a1 x h1 h2 h3))
          have k2 : ∀ i, i ≠ (Int32.toNatClampNeg x4) → I2 (mo + 8) i = I (mo + 8) i := fun i hi => by rw [c1 _ (by omega) (by omega), up2_self, va_up_ne _ _ hi]; exact a2 i hi
          first
            | exact ih (v + 1) I2 (by omega) k1 k2 hw
            | exact brk I2 _ _ (fun h => absurd (congrArg Int32.toInt h) (by rw [nI_toInt (by omega), c_m1]; omega)) k1 k2 hw
        · rw [cI_t h132] at hw
          refine r_iload (pc := 135) dX5_helps_135 rfl ?_
          refine r_istore6 (pc := 137) dX5_helps_137 rfl ?_
          refine r_iinc7 (pc := 139) dX5_helps_139 (nI_1 _) rfl ?_
          refine r_goto (pc := 142) 94 dX5_helps_142 rfl ?_
          have k1 : ∀ x, x ≠ mo + 24 → x ≠ mo + 25 → x ≠ mo + 8 → I2 x = I x := fun x h1 h2 h3 => (c1 x h1 h2).trans ((up2_ne h3).trans (a1 x h1 h2 h3))
          have k2 : ∀ i, i ≠ (Int32.toNatClampNeg x4) → I2 (mo + 8) i = I (mo + 8) i := fun i hi => by rw [c1 _ (by omega) (by omega), up2_self, va_up_ne _ _ hi]; exact a2 i hi
          first
            | exact ih (v + 1) I2 (by omega) k1 k2 hw
            | exact brk I2 _ _ (fun h => absurd (congrArg Int32.toInt h) (by rw [nI_toInt (by omega), c_m1]; omega)) k1 k2 hw
    refine r_aload_n (pc := 79) dX5_helps_79 rfl ?_
    refine r_getR (pc := 80) dX5_helps_80 fl_X5_41_5 (MR_k hm) (fun _ _ => rfl) (MR_r17 hm) ?_
    refine r_iload (pc := 83) dX5_helps_83 rfl ?_
    refine rm_iald (pc := 85) dX5_helps_85 (MR_k17 hm) (MR_z17 hm) (by first | assumption | exact vp_in_lit rfl) ?_
    refine r_eqi (I (mo + 8) (Int32.toNatClampNeg x4)) (by rw [a0 _ (by omega) (by omega)]) ?_
    refine r_istore5 (pc := 86) dX5_helps_86 rfl ?_
    refine r_iconst (pc := 88) (v := (-1)) dX5_helps_88 (by decide) ?_
    refine r_istore6 (pc := 89) dX5_helps_89 rfl ?_
    refine r_iconst (pc := 91) (v := 1) dX5_helps_91 (by decide) ?_
    refine r_istore7 (pc := 92) dX5_helps_92 rfl ?_
    exact L1 99 1 I0 rfl (fun x h1 h2 _ => a0 x h1 h2) (fun i _ => by rw [a0 _ (by omega) (by omega)]) hw0
  refine r_aload_n (pc := 0) dX5_helps_0 rfl ?_
  refine r_iload_n (pc := 1) dX5_helps_1 rfl ?_
  refine r_o2 (pc := 2) (bc' := 0) (bs' := 0) (ct_X5_isThing hm _) k_X5_140_5 dX5_helps_2 (MR_k hm) (Nat.le_of_ble_eq_true rfl) ⟨Nat.le_of_ble_eq_true rfl, Nat.le_of_ble_eq_true rfl⟩ ⟨Nat.le_of_ble_eq_true rfl, Nat.le_of_ble_eq_true rfl⟩ (r_ci fun r2 M2 p2 => ?_) nox
  obtain ⟨rfl, rfl⟩ := p2
  refine r_if_eq (pc := 5) 34 dX5_helps_5 rfl (fun h5 => ?_) (fun h5 => ?_)
  · rw [bI_eq0] at h5
    refine r_aload_n (pc := 34) dX5_helps_34 rfl ?_
    refine r_iconst (pc := 35) (v := (-1)) dX5_helps_35 (by decide) ?_
    refine r_o2 (pc := 36) (bc' := 0) (bs' := 0) (ct_X5_noTen hm _ (vp_in_lit rfl)) k_X5_271_5 dX5_helps_36 (MR_k hm) (Nat.le_of_ble_eq_true rfl) ⟨Nat.le_of_ble_eq_true rfl, Nat.le_of_ble_eq_true rfl⟩ ⟨Nat.le_of_ble_eq_true rfl, Nat.le_of_ble_eq_true rfl⟩ (r_ci fun r36 M36 p36 => ?_) nox
    obtain ⟨rfl, rfl⟩ := p36
    refine r_ireturn (pc := 39) rfl dX5_helps_39 ⟨_, rfl, ?_⟩
    first
      | contradiction
      | (refine oM.of ?_ (by repeat' (first | exact frM.rf | assumption | refine frM.up0 ?_ | refine frM.up ?_ (by decide) | refine frM.upL ?_ (by decide)))
         simp (decide := true) only [helpsS, noS, noTenS, thP, mnP, shelfP, stepS, farP, setP, onP, eq_false h5, not_true_eq_false, not_false_eq_true, true_and, and_true, false_and, and_false, true_or, or_true, false_or, or_false, cI_True, cI_False, if_true, if_false, sm0, sm1, sm2, sm3, sm4, sm5, sm6, sm7, sm8, sm9, sm10, sm11, sm12, sm13, sm14, sm15, sm16, sm17, sm18, sm19, sm20, sm21, sm22, sm23, sm24, sm25, sm26, sm27, sm28, sm29, sm30, sm31, sm32, sm33, sm34, sm35, sm36, sm37, sm38, sm39, sm40, sm41, sm42, sm43, sm44, sm45, sm46, sm47, sm48, sm49, su0, su1, su2, su3, su4, su5, su6, su7, su8, su9, su10, su11, su12, su13, su14, su15, su16, su17, su18, su19, su20, su21, su22, su23, su24, su25, su26, su27, su28, su29, su30, su31, su32, su33, su34, su35, su36, su37, su38, su39, su40, su41, su42, su43, su44, su45, su46, su47, su48, su49])
  · rw [bI_ne0] at h5
    have ht := vp_b (n := 8) h5.1 h5.2 hk.1.1.1.2
    have hd := hk.1.far (ix_lt h5.1 h5.2)
    refine r_aload_n (pc := 8) dX5_helps_8 rfl ?_
    refine r_iload_n (pc := 9) dX5_helps_9 rfl ?_
    refine r_o2 (pc := 10) (bc' := 0) (bs' := 0) (ct_X5_isSet hm _) k_X5_259_5 dX5_helps_10 (MR_k hm) (Nat.le_of_ble_eq_true rfl) ⟨Nat.le_of_ble_eq_true rfl, Nat.le_of_ble_eq_true rfl⟩ ⟨Nat.le_of_ble_eq_true rfl, Nat.le_of_ble_eq_true rfl⟩ (r_ci fun r10 M10 p10 => ?_) nox
    obtain ⟨rfl, rfl⟩ := p10
    refine r_if_eq (pc := 13) 34 dX5_helps_13 rfl (fun h13 => ?_) (fun h13 => ?_)
    · rw [bI_eq0] at h13
      refine r_aload_n (pc := 34) dX5_helps_34 rfl ?_
      refine r_iconst (pc := 35) (v := (-1)) dX5_helps_35 (by decide) ?_
      refine r_o2 (pc := 36) (bc' := 0) (bs' := 0) (ct_X5_noTen hm _ (vp_in_lit rfl)) k_X5_271_5 dX5_helps_36 (MR_k hm) (Nat.le_of_ble_eq_true rfl) ⟨Nat.le_of_ble_eq_true rfl, Nat.le_of_ble_eq_true rfl⟩ ⟨Nat.le_of_ble_eq_true rfl, Nat.le_of_ble_eq_true rfl⟩ (r_ci fun r36 M36 p36 => ?_) nox
      obtain ⟨rfl, rfl⟩ := p36
      refine r_ireturn (pc := 39) rfl dX5_helps_39 ⟨_, rfl, ?_⟩
      first
        | contradiction
        | (refine oM.of ?_ (by repeat' (first | exact frM.rf | assumption | refine frM.up0 ?_ | refine frM.up ?_ (by decide) | refine frM.upL ?_ (by decide)))
           simp (decide := true) only [helpsS, noS, noTenS, thP, mnP, shelfP, stepS, farP, setP, onP, eq_true h5, eq_false h13, not_true_eq_false, not_false_eq_true, true_and, and_true, false_and, and_false, true_or, or_true, false_or, or_false, cI_True, cI_False, if_true, if_false, sm0, sm1, sm2, sm3, sm4, sm5, sm6, sm7, sm8, sm9, sm10, sm11, sm12, sm13, sm14, sm15, sm16, sm17, sm18, sm19, sm20, sm21, sm22, sm23, sm24, sm25, sm26, sm27, sm28, sm29, sm30, sm31, sm32, sm33, sm34, sm35, sm36, sm37, sm38, sm39, sm40, sm41, sm42, sm43, sm44, sm45, sm46, sm47, sm48, sm49, su0, su1, su2, su3, su4, su5, su6, su7, su8, su9, su10, su11, su12, su13, su14, su15, su16, su17, su18, su19, su20, su21, su22, su23, su24, su25, su26, su27, su28, su29, su30, su31, su32, su33, su34, su35, su36, su37, su38, su39, su40, su41, su42, su43, su44, su45, su46, su47, su48, su49])
    · rw [bI_ne0] at h13
      obtain ⟨s, es, hs⟩ := set_nI (σ := sM I mo) hN (show sM I mo 1 0 = nI N from eN) (show setP (sM I mo) x2 from h13)
      have is : Int32.toNatClampNeg x2 = s := by rw [es, ix_nI (by omega)]
      have hvs : vp_in x2 256 := by rw [es]; exact vp_in_nI (by omega) (by decide)
      refine r_aload_n (pc := 16) dX5_helps_16 rfl ?_
      refine r_iload (pc := 17) dX5_helps_17 rfl ?_
      refine r_o2 (pc := 19) (bc' := 0) (bs' := 0) (ct_X5_isMan hm _) k_X5_178_5 dX5_helps_19 (MR_k hm) (Nat.le_of_ble_eq_true rfl) ⟨Nat.le_of_ble_eq_true rfl, Nat.le_of_ble_eq_true rfl⟩ ⟨Nat.le_of_ble_eq_true rfl, Nat.le_of_ble_eq_true rfl⟩ (r_ci fun r19 M19 p19 => ?_) nox
      obtain ⟨rfl, rfl⟩ := p19
      refine r_if_eq (pc := 22) 34 dX5_helps_22 rfl (fun h22 => ?_) (fun h22 => ?_)
      · rw [bI_eq0] at h22
        refine r_aload_n (pc := 34) dX5_helps_34 rfl ?_
        refine r_iconst (pc := 35) (v := (-1)) dX5_helps_35 (by decide) ?_
        refine r_o2 (pc := 36) (bc' := 0) (bs' := 0) (ct_X5_noTen hm _ (vp_in_lit rfl)) k_X5_271_5 dX5_helps_36 (MR_k hm) (Nat.le_of_ble_eq_true rfl) ⟨Nat.le_of_ble_eq_true rfl, Nat.le_of_ble_eq_true rfl⟩ ⟨Nat.le_of_ble_eq_true rfl, Nat.le_of_ble_eq_true rfl⟩ (r_ci fun r36 M36 p36 => ?_) nox
        obtain ⟨rfl, rfl⟩ := p36
        refine r_ireturn (pc := 39) rfl dX5_helps_39 ⟨_, rfl, ?_⟩
        first
          | contradiction
          | (refine oM.of ?_ (by repeat' (first | exact frM.rf | assumption | refine frM.up0 ?_ | refine frM.up ?_ (by decide) | refine frM.upL ?_ (by decide)))
             simp (decide := true) only [helpsS, noS, noTenS, thP, mnP, shelfP, stepS, farP, setP, onP, eq_true h5, eq_true h13, eq_false h22, not_true_eq_false, not_false_eq_true, true_and, and_true, false_and, and_false, true_or, or_true, false_or, or_false, cI_True, cI_False, if_true, if_false, sm0, sm1, sm2, sm3, sm4, sm5, sm6, sm7, sm8, sm9, sm10, sm11, sm12, sm13, sm14, sm15, sm16, sm17, sm18, sm19, sm20, sm21, sm22, sm23, sm24, sm25, sm26, sm27, sm28, sm29, sm30, sm31, sm32, sm33, sm34, sm35, sm36, sm37, sm38, sm39, sm40, sm41, sm42, sm43, sm44, sm45, sm46, sm47, sm48, sm49, su0, su1, su2, su3, su4, su5, su6, su7, su8, su9, su10, su11, su12, su13, su14, su15, su16, su17, su18, su19, su20, su21, su22, su23, su24, su25, su26, su27, su28, su29, su30, su31, su32, su33, su34, su35, su36, su37, su38, su39, su40, su41, su42, su43, su44, su45, su46, su47, su48, su49])
      · rw [bI_ne0] at h22
        refine r_iload_n (pc := 25) dX5_helps_25 rfl ?_
        refine r_iload (pc := 26) dX5_helps_26 rfl ?_
        refine r_ishr (pc := 28) dX5_helps_28 ?_
        refine r_iconst (pc := 29) (v := 1) dX5_helps_29 (by decide) ?_
        refine r_iand (pc := 30) dX5_helps_30 ?_
        refine r_if_ne (pc := 31) 40 dX5_helps_31 rfl (fun h31 => ?_) (fun h31 => ?_)
        · refine r_aload_n (pc := 40) dX5_helps_40 rfl ?_
          refine r_iload_n (pc := 41) dX5_helps_41 rfl ?_
          refine r_iload_n (pc := 42) dX5_helps_42 rfl ?_
          refine r_o3 (pc := 43) (bc' := 0) (bs' := 0) (ct_X5_isOnward hm _ _ ht) k_X5_265_5 dX5_helps_43 (MR_k hm) (Nat.le_of_ble_eq_true rfl) ⟨Nat.le_of_ble_eq_true rfl, Nat.le_of_ble_eq_true rfl⟩ ⟨Nat.le_of_ble_eq_true rfl, Nat.le_of_ble_eq_true rfl⟩ (r_ci fun r43 M43 p43 => ?_) nox
          obtain ⟨rfl, rfl⟩ := p43
          refine r_if_ne (pc := 46) 56 dX5_helps_46 rfl (fun h46 => ?_) (fun h46 => ?_)
          · rw [bI_ne0] at h46
            refine r_aload_n (pc := 56) dX5_helps_56 rfl ?_
            refine r_iload_n (pc := 57) dX5_helps_57 rfl ?_
            refine r_iload_n (pc := 58) dX5_helps_58 rfl ?_
            refine r_o3 (pc := 59) (bc' := 0) (bs' := 0) (ct_X5_rowsFor hm _ _ N hN eN ht hd.1 hd.2) k_X5_262_5 dX5_helps_59 (MR_k hm) (Nat.le_of_ble_eq_true rfl) ⟨Nat.le_of_ble_eq_true rfl, Nat.le_of_ble_eq_true rfl⟩ ⟨Nat.le_of_ble_eq_true rfl, Nat.le_of_ble_eq_true rfl⟩ (r_cv fun M59 p59 => ?_) nox
            obtain ⟨I1, rfl, a1, a2, a3⟩ := p59
            refine r_aload_n (pc := 62) dX5_helps_62 rfl ?_
            refine r_getR (pc := 63) dX5_helps_63 fl_X5_90_5 (MR_k hm) (fun _ _ => rfl) (MR_r38 hm) ?_
            refine r_iload_n (pc := 66) dX5_helps_66 rfl ?_
            refine rm_iald (pc := 67) dX5_helps_67 (MR_k38 hm) (MR_z38 hm) (by first | assumption | exact vp_in_lit rfl) ?_
            rw [is, a3 s hs]
            refine r_iload_n (pc := 68) dX5_helps_68 rfl ?_
            refine r_icmp_ne (pc := 69) 79 dX5_helps_69 rfl (fun h69 => ?_) (fun h69 => ?_)
            · refine base I1 s es hs h5 h22 a1 ?_
              rw [helpsS, cI_f (show ¬ (¬ thP (sS I L mo).1 x1 ∨ ¬ setP (sS I L mo).1 x2 ∨ ¬ mnP (sS I L mo).1 x4 ∨ (x2 >>> (x4 &&& 31)) &&& 1 = 0) from fun q => q.elim (fun q => q h5) (fun q => q.elim (fun q => q h13) (fun q => q.elim (fun q => q h22) h31))), cI_f (by intro q; exact q h46), is, cI_f h69]
            · refine r_aload_n (pc := 72) dX5_helps_72 rfl ?_
              refine r_bipush (pc := 73) (v := (-6)) dX5_helps_73 (by decide) ?_
              refine r_o2 (pc := 75) (bc' := 0) (bs' := 0) (ct_X5_noTen hm _ (vp_in_lit rfl)) k_X5_271_5 dX5_helps_75 (MR_k hm) (Nat.le_of_ble_eq_true rfl) ⟨Nat.le_of_ble_eq_true rfl, Nat.le_of_ble_eq_true rfl⟩ ⟨Nat.le_of_ble_eq_true rfl, Nat.le_of_ble_eq_true rfl⟩ (r_ci fun r75 M75 p75 => ?_) nox
              obtain ⟨rfl, rfl⟩ := p75
              refine r_ireturn (pc := 78) rfl dX5_helps_78 ⟨_, rfl, ?_⟩
              have hw9 : helpsS (sS I L mo) x1 x2 x3 x4 = noTenS (sS I L mo) (-6) := by rw [helpsS, cI_f (show ¬ (¬ thP (sS I L mo).1 x1 ∨ ¬ setP (sS I L mo).1 x2 ∨ ¬ mnP (sS I L mo).1 x4 ∨ (x2 >>> (x4 &&& 31)) &&& 1 = 0) from fun q => q.elim (fun q => q h5) (fun q => q.elim (fun q => q h13) (fun q => q.elim (fun q => q h22) h31))), cI_f (by intro q; exact q h46), is, cI_t h69]
              rw [hw9, noTenS]
              refine oM_scr (I2 := up2 I (mo + 1) 6 (I (mo + 1) 6 + 1)) (frM.rf.up (by decide)) (fun x h1 h2 => ?_) (fun k hk => ?_) ?_
              · by_cases e : x = mo + 1
                · subst e; rw [show Int32.toNatClampNeg (- -6) = 6 from rfl, up2_self, up2_self, a1 _ (by omega) (by omega)]
                · rw [up2_ne e, up2_ne e]; exact a1 x (by omega) (by omega)
              · rw [up2_ne (by omega), up2_ne (by omega), a1 mo (by omega) (by omega)]
              · rw [← su10]; rfl
          · rw [bI_eq0] at h46
            refine r_aload_n (pc := 49) dX5_helps_49 rfl ?_
            refine r_bipush (pc := 50) (v := (-6)) dX5_helps_50 (by decide) ?_
            refine r_o2 (pc := 52) (bc' := 0) (bs' := 0) (ct_X5_noTen hm _ (vp_in_lit rfl)) k_X5_271_5 dX5_helps_52 (MR_k hm) (Nat.le_of_ble_eq_true rfl) ⟨Nat.le_of_ble_eq_true rfl, Nat.le_of_ble_eq_true rfl⟩ ⟨Nat.le_of_ble_eq_true rfl, Nat.le_of_ble_eq_true rfl⟩ (r_ci fun r52 M52 p52 => ?_) nox
            obtain ⟨rfl, rfl⟩ := p52
            refine r_ireturn (pc := 55) rfl dX5_helps_55 ⟨_, rfl, ?_⟩
            first
              | contradiction
              | (refine oM.of ?_ (by repeat' (first | exact frM.rf | assumption | refine frM.up0 ?_ | refine frM.up ?_ (by decide) | refine frM.upL ?_ (by decide)))
                 simp (decide := true) only [helpsS, noS, noTenS, thP, mnP, shelfP, stepS, farP, setP, onP, eq_true h5, eq_true h13, eq_true h22, h31, eq_false h46, not_true_eq_false, not_false_eq_true, true_and, and_true, false_and, and_false, true_or, or_true, false_or, or_false, cI_True, cI_False, if_true, if_false, sm0, sm1, sm2, sm3, sm4, sm5, sm6, sm7, sm8, sm9, sm10, sm11, sm12, sm13, sm14, sm15, sm16, sm17, sm18, sm19, sm20, sm21, sm22, sm23, sm24, sm25, sm26, sm27, sm28, sm29, sm30, sm31, sm32, sm33, sm34, sm35, sm36, sm37, sm38, sm39, sm40, sm41, sm42, sm43, sm44, sm45, sm46, sm47, sm48, sm49, su0, su1, su2, su3, su4, su5, su6, su7, su8, su9, su10, su11, su12, su13, su14, su15, su16, su17, su18, su19, su20, su21, su22, su23, su24, su25, su26, su27, su28, su29, su30, su31, su32, su33, su34, su35, su36, su37, su38, su39, su40, su41, su42, su43, su44, su45, su46, su47, su48, su49])
        · refine r_aload_n (pc := 34) dX5_helps_34 rfl ?_
          refine r_iconst (pc := 35) (v := (-1)) dX5_helps_35 (by decide) ?_
          refine r_o2 (pc := 36) (bc' := 0) (bs' := 0) (ct_X5_noTen hm _ (vp_in_lit rfl)) k_X5_271_5 dX5_helps_36 (MR_k hm) (Nat.le_of_ble_eq_true rfl) ⟨Nat.le_of_ble_eq_true rfl, Nat.le_of_ble_eq_true rfl⟩ ⟨Nat.le_of_ble_eq_true rfl, Nat.le_of_ble_eq_true rfl⟩ (r_ci fun r36 M36 p36 => ?_) nox
          obtain ⟨rfl, rfl⟩ := p36
          refine r_ireturn (pc := 39) rfl dX5_helps_39 ⟨_, rfl, ?_⟩
          first
            | contradiction
            | (refine oM.of ?_ (by repeat' (first | exact frM.rf | assumption | refine frM.up0 ?_ | refine frM.up ?_ (by decide) | refine frM.upL ?_ (by decide)))
               simp (decide := true) only [helpsS, noS, noTenS, thP, mnP, shelfP, stepS, farP, setP, onP, eq_true h5, eq_true h13, eq_true h22, h31, not_true_eq_false, not_false_eq_true, true_and, and_true, false_and, and_false, true_or, or_true, false_or, or_false, cI_True, cI_False, if_true, if_false, sm0, sm1, sm2, sm3, sm4, sm5, sm6, sm7, sm8, sm9, sm10, sm11, sm12, sm13, sm14, sm15, sm16, sm17, sm18, sm19, sm20, sm21, sm22, sm23, sm24, sm25, sm26, sm27, sm28, sm29, sm30, sm31, sm32, sm33, sm34, sm35, sm36, sm37, sm38, sm39, sm40, sm41, sm42, sm43, sm44, sm45, sm46, sm47, sm48, sm49, su0, su1, su2, su3, su4, su5, su6, su7, su8, su9, su10, su11, su12, su13, su14, su15, su16, su17, su18, su19, su20, su21, su22, su23, su24, su25, su26, su27, su28, su29, su30, su31, su32, su33, su34, su35, su36, su37, su38, su39, su40, su41, su42, su43, su44, su45, su46, su47, su48, su49])
