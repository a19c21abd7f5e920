/-! THE READER: its small methods (printed by gen/mk_x84.py) -/
set_option maxRecDepth 100000
theorem WX.frT {M M' : PM} {wa : Nat} {σ : cS} {P : Nat → Prop} (h : WX M wa σ) (hB : OkT σ) (f : frP P M M') (hp : ∀ a, inW wa a → ¬ P a) (ht : ∀ a c, c ≤ 6 → mK M a = (1, 12 + c) → ¬ P a) : WX M' wa σ := by
  have h0 := h.1.1
  have g : ∀ o, o < 10 → mI M' (wa + o) = mI M (wa + o) ∧ mR M' (wa + o) = mR M (wa + o) := fun o ho => by
    have := (f.2 (wa + o) (by omega)).2.2 (hp _ ⟨by omega, by omega⟩)
    exact ⟨this.1, this.2.2⟩
  refine ⟨h.1.fr f (hp _ ⟨by omega, by omega⟩), ?_, fun i hi => ?_, fun i hi => ?_, fun i hi => ?_⟩
  · have := (g 0 (by decide)).1
    unfold WI
    rw [show mI M' wa = mI M wa from this]
    exact h.2.1
  · obtain ⟨⟨ta, a1, a2⟩, a3, a4, a5⟩ := h.2.2.1 i hi
    have hk := (hB.2 i hi).1
    have hk6 : Int32.toNatClampNeg (σ 11 i) ≤ 6 := by have := ix_toInt hk.1; have := hk.2; omega
    refine ⟨⟨ta, by rw [(g 1 (by decide)).2]; exact a1, a2.fr f (ht _ _ hk6 a2.2.1)⟩, ?_, ?_, ?_⟩
    · rw [(g 2 (by decide)).1]; exact a3
    · rw [(g 3 (by decide)).1]; exact a4
    · rw [(g 4 (by decide)).1]; exact a5
  · rw [(g 5 (by decide)).1, (g 6 (by decide)).1]; exact h.2.2.2.1 i hi
  · rw [(g 7 (by decide)).1, (g 8 (by decide)).1, (g 9 (by decide)).1]; exact h.2.2.2.2 i hi
/-- a Reader at ra, over the row at ta (numbers c, en of them) and the World at wn, has come to a -/
def RD (M : PM) (ra ta wn : Nat) (o : Int32) (en : Nat) (c : Nat → Int32) (σ : cS) (a : Nat) : Prop :=
  (mK M ra = (1, 19) ∧ mR M ra 0 = some ta ∧ mR M ra 1 = some wn ∧ mI M ra 2 = nI a) ∧ (ta + 2 ≤ wn ∧ wn + 10 ≤ ra ∧ ra < M.1) ∧ (rwP M (8 + Int32.toNatClampNeg o) (rT o) ta (ta + 1) en ∧ bd o 0 3 ∧ en ≤ 160) ∧ (∀ i, i < en → (elM M o (ta + 1) i).toInt32 = c i) ∧ WX M wn σ ∧ OkW σ ∧ a ≤ en
section
variable {M M' : PM} {ra ta wn en a : Nat} {o : Int32} {c : Nat → Int32} {σ τ : cS}
theorem elM_c {M M' : PM} {o : Int32} {b : Nat} (h1 : mI M' b = mI M b) (h2 : mL M' b = mL M b) (i : Nat) : elM M' o b i = elM M o b i := by
  unfold elM
  rw [h1, h2]
theorem RD.fr {P : Nat → Prop} (h : RD M ra ta wn o en c σ a) (f : frP P M M') (hr : ¬ P ra) (ht : ¬ P ta) (ht1 : ¬ P (ta + 1)) (hw : WX M' wn τ) (hk : OkW τ) : RD M' ra ta wn o en c τ a := by
  obtain ⟨⟨k1, k2, k3, k4⟩, ⟨p1, p2, p3⟩, ⟨r1, r2, r3⟩, e, -, -, ha⟩ := h
  obtain ⟨f1, f2, f3⟩ := f.2 ra p3
  obtain ⟨g1, g2, g3⟩ := f3 hr
  obtain ⟨-, -, t3⟩ := f.2 (ta + 1) (by omega)
  obtain ⟨u1, u2, u3⟩ := t3 ht1
  refine ⟨⟨f1.trans k1, by rw [g3]; exact k2, by rw [g3]; exact k3, by rw [g1]; exact k4⟩, ⟨p1, p2, Nat.lt_of_lt_of_le p3 f.1⟩, ⟨r1.fr f (by omega) (by omega) ht, r2, r3⟩, fun i hi => ?_, hw, hk, ha⟩
  rw [elM_c u1 u2]; exact e i hi
theorem RD.grown (h : RD M ra ta wn o en c σ a) (f : frP noP M M') : RD M' ra ta wn o en c σ a := h.fr f id id id (h.2.2.2.2.1.grown f) h.2.2.2.2.2.1
theorem RD.at (h : RD M ra ta wn o en c σ a) {b : Nat} (hb : b ≤ en) : RD (sI M ra 2 (nI b)) ra ta wn o en c σ b := by
  obtain ⟨⟨k1, k2, k3, k4⟩, ⟨p1, p2, p3⟩, ⟨r1, r2, r3⟩, e, hw, hk, ha⟩ := h
  have f : frP (fun q => q = ra) M (sI M ra 2 (nI b)) := frP.rf.sI fun _ => rfl
  refine ⟨⟨k1, k2, k3, ?_⟩, ⟨p1, p2, p3⟩, ⟨r1.fr f (by omega) (by omega) (by omega), r2, r3⟩, fun i hi => ?_, ?_, hk, hb⟩
  · show up2 (mI M) ra 2 (nI b) ra 2 = _
    rw [up2_self, va_up_self]
  · rw [elM_c (M := M) (M' := sI M ra 2 (nI b)) (up2_ne (by omega)) rfl]; exact e i hi
  · refine hw.frT hk.t f (fun q h1 h2 => by have := h1.2; omega) (fun q c hc hK h2 => ?_)
    rw [h2, k1] at hK
    have := (Prod.mk.inj hK).2
    omega
theorem sI_sI (M : PM) (a k : Nat) (v w : Int32) : sI (sI M a k v) a k w = sI M a k w := by
  refine PM_ext rfl rfl rfl ?_ rfl rfl
  funext q j
  show up2 (up2 (mI M) a k v) a k w q j = up2 (mI M) a k w q j
  rw [up2_ap, up2_ap, up2_ap]
  by_cases h1 : q = a
  · by_cases h2 : j = k
    · simp [h1, h2]
    · simp [h1, h2]
  · simp [h1]
theorem sI_id {M : PM} {a k : Nat} {v : Int32} (h : mI M a k = v) : sI M a k v = M := by
  refine PM_ext rfl rfl rfl ?_ rfl rfl
  funext q j
  show up2 (mI M) a k v q j = mI M q j
  rw [up2_ap]
  by_cases h1 : q = a
  · by_cases h2 : j = k
    · rw [if_pos h1, if_pos h2, h1, h2]; exact h.symm
    · rw [if_pos h1, if_neg h2]
  · rw [if_neg h1]
theorem RD.id (h : RD M ra ta wn o en c σ a) : sI M ra 2 (nI a) = M := sI_id h.1.2.2.2
theorem cl160 {a : Nat} (h : a < 1000) : Int32.toNatClampNeg (nI a) = a := nI_clamp (by omega)
theorem inj160 {a b : Nat} (ha : a < 1000) (hb : b < 1000) : nI a = nI b ↔ a = b := nI_inj (by omega) (by omega)
theorem RD.vp (h : RD M ra ta wn o en c σ a) {i : Nat} (ha : i < en) : vp_in (nI i) en := by
  have h3 := h.2.2.1.2.2
  refine vp_n ?_
  rw [nI_toInt (by omega)]
  omega
theorem RD.el (h : RD M ra ta wn o en c σ a) {i : Nat} (ha : i < en) : (elM M o (ta + 1) (Int32.toNatClampNeg (nI i))).toInt32 = c i := by
  have h3 := h.2.2.1.2.2
  rw [cl160 (by omega)]
  exact h.2.2.2.1 i ha
end
/-- a Faulty thrown: only the cells P have changed since M0 -/
def faO (P : Nat → Prop) (M0 : PM) (pl : Nat) (q : Nat) (E : String) (M' : PM) : Prop := E = "NoFartherThanAThrow$Faulty" ∧ mK M' q = (1, 20) ∧ mI M' q 6 = nI pl ∧ frP P M0 M'
theorem faO.mono {P Q : Nat → Prop} {M0 M M' : PM} {pl q : Nat} {E : String} (h : faO P M pl q E M') (f : frP Q M0 M) (hp : ∀ a, a < M.1 → P a → Q a) : faO Q M0 pl q E M' := ⟨h.1, h.2.1, h.2.2.1, f.trans (h.2.2.2.mono hp)⟩
def seP (c : Nat → Int32) (en a : Nat) (x : Int32) : Prop := a < en ∧ c a = x
theorem ct_X19_ends {M : PM} {ra ta wn en a : Nat} {o : Int32} {c : Nat → Int32} {σ : cS} (hd : RD M ra ta wn o en c σ a) : Ct (YX19_ends, (2, 60, 0, 0), qi (fun r M' => r = bI (a = en) ∧ M' = M), noX) [.ref ra] M := by
  refine ct_of [some (.ref ra)] rfl rfl rfl (Nat.le_of_ble_eq_true rfl) rfl rfl ?_
  have h160 := hd.2.2.1.2.2
  have hae := hd.2.2.2.2.2.2
  refine r_aload_n (pc := 0) dX19_ends_0 rfl ?_
  refine r_getIe (pc := 1) (v := nI a) dX19_ends_1 fl_X19_19_19 hd.1.1 (fun _ _ => rfl) hd.1.2.2.2 ?_
  refine r_aload_n (pc := 4) dX19_ends_4 rfl ?_
  refine r_getR (pc := 5) dX19_ends_5 fl_X19_9_19 hd.1.1 (fun _ _ => rfl) hd.1.2.1 ?_
  refine r_X19_length (pc := 8) hd.2.2.1.1 hd.2.2.1.2.1 dX19_ends_8 rfl (Nat.le_of_ble_eq_true rfl) (Nat.le_of_ble_eq_true rfl) (Nat.le_of_ble_eq_true rfl) ?_
  refine r_icmp_ne (pc := 11) 18 dX19_ends_11 rfl (fun h11 => ?_) (fun h11 => ?_)
  · refine r_iconst (pc := 18) (v := 0) dX19_ends_18 (by decide) ?_
    refine r_zreturn (pc := 19) rfl rfl dX19_ends_19 ⟨_, rfl, ?_⟩
    rw [inj160 (by omega) (by omega)] at h11
    exact ⟨(bI_f h11).symm, rfl⟩
  · refine r_iconst (pc := 14) (v := 1) dX19_ends_14 (by decide) ?_
    refine r_goto (pc := 15) 19 dX19_ends_15 rfl ?_
    refine r_zreturn (pc := 19) rfl rfl dX19_ends_19 ⟨_, rfl, ?_⟩
    rw [inj160 (by omega) (by omega)] at h11
    exact ⟨(bI_t h11).symm, rfl⟩
theorem ct_X19_sees {M : PM} {ra ta wn en a : Nat} {o : Int32} {c : Nat → Int32} {σ : cS} (hd : RD M ra ta wn o en c σ a) (x1 : Int32) : Ct (YX19_sees, (3, 80, 0, 0), qi (fun r M' => r = bI (seP c en a x1) ∧ M' = M), noX) [.ref ra, .int x1] M := by
  refine ct_of [some (.ref ra), some (.int x1)] rfl rfl rfl (Nat.le_of_ble_eq_true rfl) rfl rfl ?_
  have h160 := hd.2.2.1.2.2
  have hae := hd.2.2.2.2.2.2
  refine r_aload_n (pc := 0) dX19_sees_0 rfl ?_
  refine r_o1 (pc := 1) (bc' := 0) (bs' := 0) (ct_X19_ends hd) k_X19_29_19 dX19_sees_1 hd.1.1 (Nat.le_of_ble_eq_true rfl) ⟨Nat.le_of_ble_eq_true rfl, Nat.le_of_ble_eq_true rfl⟩ ⟨Nat.le_of_ble_eq_true rfl, Nat.le_of_ble_eq_true rfl⟩ (r_ci fun r1 M1 p1 => ?_) nox
  obtain ⟨rfl, p1⟩ := p1
  have p1 := Eq.symm (show _ = _ from p1)
  subst p1
  refine r_if_ne (pc := 4) 26 dX19_sees_4 rfl (fun h4 => ?_) (fun h4 => ?_)
  · rw [bI_ne0] at h4
    refine r_iconst (pc := 26) (v := 0) dX19_sees_26 (by decide) ?_
    refine r_zreturn (pc := 27) rfl rfl dX19_sees_27 ⟨_, rfl, ?_⟩
    first | exact ⟨(bI_f fun q => h19 q.2).symm, rfl⟩ | exact ⟨(bI_f fun q => absurd q.1 (by omega)).symm, rfl⟩
  · rw [bI_eq0] at h4
    refine r_aload_n (pc := 7) dX19_sees_7 rfl ?_
    refine r_getR (pc := 8) dX19_sees_8 fl_X19_9_19 hd.1.1 (fun _ _ => rfl) hd.1.2.1 ?_
    refine r_aload_n (pc := 11) dX19_sees_11 rfl ?_
    refine r_getIe (pc := 12) (v := nI a) dX19_sees_12 fl_X19_19_19 hd.1.1 (fun _ _ => rfl) hd.1.2.2.2 ?_
    refine r_X19_asInt (pc := 15) (nI (a)) hd.2.2.1.1 hd.2.2.1.2.1 (hd.vp (show a < en by have := hd.2.2.2.2.2.2; omega)) dX19_sees_15 rfl (Nat.le_of_ble_eq_true rfl) (Nat.le_of_ble_eq_true rfl) (Nat.le_of_ble_eq_true rfl) ?_
    rw [hd.el (show a < en by have := hd.2.2.2.2.2.2; omega)]
    refine r_iload_n (pc := 18) dX19_sees_18 rfl ?_
    refine r_icmp_ne (pc := 19) 26 dX19_sees_19 rfl (fun h19 => ?_) (fun h19 => ?_)
    · refine r_iconst (pc := 26) (v := 0) dX19_sees_26 (by decide) ?_
      refine r_zreturn (pc := 27) rfl rfl dX19_sees_27 ⟨_, rfl, ?_⟩
      first | exact ⟨(bI_f fun q => h19 q.2).symm, rfl⟩ | exact ⟨(bI_f fun q => absurd q.1 (by omega)).symm, rfl⟩
    · refine r_iconst (pc := 22) (v := 1) dX19_sees_22 (by decide) ?_
      refine r_goto (pc := 23) 27 dX19_sees_23 rfl ?_
      refine r_zreturn (pc := 27) rfl rfl dX19_sees_27 ⟨_, rfl, ?_⟩
      exact ⟨(bI_t ⟨by omega, h19⟩).symm, rfl⟩
theorem ct_X19_digit {M : PM} {ra ta wn en a : Nat} {o : Int32} {c : Nat → Int32} {σ : cS} (hd : RD M ra ta wn o en c σ a) : Ct (YX19_digit, (3, 80, 0, 0), qi (fun r M' => r = bI (dgP c en a) ∧ M' = M), noX) [.ref ra] M := by
  refine ct_of [some (.ref ra)] rfl rfl rfl (Nat.le_of_ble_eq_true rfl) rfl rfl ?_
  have h160 := hd.2.2.1.2.2
  have hae := hd.2.2.2.2.2.2
  refine r_aload_n (pc := 0) dX19_digit_0 rfl ?_
  refine r_o1 (pc := 1) (bc' := 0) (bs' := 0) (ct_X19_ends hd) k_X19_29_19 dX19_digit_1 hd.1.1 (Nat.le_of_ble_eq_true rfl) ⟨Nat.le_of_ble_eq_true rfl, Nat.le_of_ble_eq_true rfl⟩ ⟨Nat.le_of_ble_eq_true rfl, Nat.le_of_ble_eq_true rfl⟩ (r_ci fun r1 M1 p1 => ?_) nox
  obtain ⟨rfl, p1⟩ := p1
  have p1 := Eq.symm (show _ = _ from p1)
  subst p1
  refine r_if_ne (pc := 4) 43 dX19_digit_4 rfl (fun h4 => ?_) (fun h4 => ?_)
  · rw [bI_ne0] at h4
    refine r_iconst (pc := 43) (v := 0) dX19_digit_43 (by decide) ?_
    refine r_zreturn (pc := 44) rfl rfl dX19_digit_44 ⟨_, rfl, ?_⟩
    refine ⟨(bI_f fun q => ?_).symm, rfl⟩
    obtain ⟨q1, q2, q3⟩ := q
    first | exact q3 h36 | exact q2 h20 | omega
  · rw [bI_eq0] at h4
    refine r_aload_n (pc := 7) dX19_digit_7 rfl ?_
    refine r_getR (pc := 8) dX19_digit_8 fl_X19_9_19 hd.1.1 (fun _ _ => rfl) hd.1.2.1 ?_
    refine r_aload_n (pc := 11) dX19_digit_11 rfl ?_
    refine r_getIe (pc := 12) (v := nI a) dX19_digit_12 fl_X19_19_19 hd.1.1 (fun _ _ => rfl) hd.1.2.2.2 ?_
    refine r_X19_asInt (pc := 15) (nI (a)) hd.2.2.1.1 hd.2.2.1.2.1 (hd.vp (show a < en by have := hd.2.2.2.2.2.2; omega)) dX19_digit_15 rfl (Nat.le_of_ble_eq_true rfl) (Nat.le_of_ble_eq_true rfl) (Nat.le_of_ble_eq_true rfl) ?_
    rw [hd.el (show a < en by have := hd.2.2.2.2.2.2; omega)]
    refine r_bipush (pc := 18) (v := 48) dX19_digit_18 (by decide) ?_
    refine r_icmp_lt (pc := 20) 43 dX19_digit_20 rfl (fun h20 => ?_) (fun h20 => ?_)
    · refine r_iconst (pc := 43) (v := 0) dX19_digit_43 (by decide) ?_
      refine r_zreturn (pc := 44) rfl rfl dX19_digit_44 ⟨_, rfl, ?_⟩
      refine ⟨(bI_f fun q => ?_).symm, rfl⟩
      obtain ⟨q1, q2, q3⟩ := q
      first | exact q3 h36 | exact q2 h20 | omega
    · refine r_aload_n (pc := 23) dX19_digit_23 rfl ?_
      refine r_getR (pc := 24) dX19_digit_24 fl_X19_9_19 hd.1.1 (fun _ _ => rfl) hd.1.2.1 ?_
      refine r_aload_n (pc := 27) dX19_digit_27 rfl ?_
      refine r_getIe (pc := 28) (v := nI a) dX19_digit_28 fl_X19_19_19 hd.1.1 (fun _ _ => rfl) hd.1.2.2.2 ?_
      refine r_X19_asInt (pc := 31) (nI (a)) hd.2.2.1.1 hd.2.2.1.2.1 (hd.vp (show a < en by have := hd.2.2.2.2.2.2; omega)) dX19_digit_31 rfl (Nat.le_of_ble_eq_true rfl) (Nat.le_of_ble_eq_true rfl) (Nat.le_of_ble_eq_true rfl) ?_
      rw [hd.el (show a < en by have := hd.2.2.2.2.2.2; omega)]
      refine r_bipush (pc := 34) (v := 57) dX19_digit_34 (by decide) ?_
      refine r_icmp_gt (pc := 36) 43 dX19_digit_36 rfl (fun h36 => ?_) (fun h36 => ?_)
      · refine r_iconst (pc := 43) (v := 0) dX19_digit_43 (by decide) ?_
        refine r_zreturn (pc := 44) rfl rfl dX19_digit_44 ⟨_, rfl, ?_⟩
        refine ⟨(bI_f fun q => ?_).symm, rfl⟩
        obtain ⟨q1, q2, q3⟩ := q
        first | exact q3 h36 | exact q2 h20 | omega
      · refine r_iconst (pc := 39) (v := 1) dX19_digit_39 (by decide) ?_
        refine r_goto (pc := 40) 44 dX19_digit_40 rfl ?_
        refine r_zreturn (pc := 44) rfl rfl dX19_digit_44 ⟨_, rfl, ?_⟩
        exact ⟨(bI_t ⟨by omega, h20, h36⟩).symm, rfl⟩
theorem ct_X19_must {M : PM} {ra ta wn en a : Nat} {o : Int32} {c : Nat → Int32} {σ : cS} (hd : RD M ra ta wn o en c σ a) (x1 : Int32) : Ct (YX19_must, (4, 101, 1, 7), qv (fun M' => seP c en a x1 ∧ M' = sI M ra 2 (nI (a + 1))), fun q E M' => ¬ seP c en a x1 ∧ faO noP M a q E M') [.ref ra, .int x1] M := by
  refine ct_of [some (.ref ra), some (.int x1)] rfl rfl rfl (Nat.le_of_ble_eq_true rfl) rfl rfl ?_
  refine r_aload_n (pc := 0) dX19_must_0 rfl ?_
  refine r_iload_n (pc := 1) dX19_must_1 rfl ?_
  refine r_o2 (pc := 2) (bc' := 1) (bs' := 7) (ct_X19_sees hd x1) k_X19_37_19 dX19_must_2 hd.1.1 (Nat.le_of_ble_eq_true rfl) ⟨Nat.le_of_ble_eq_true rfl, Nat.le_of_ble_eq_true rfl⟩ ⟨Nat.le_of_ble_eq_true rfl, Nat.le_of_ble_eq_true rfl⟩ (r_ci fun r2 M2 p2 => ?_) nox
  obtain ⟨rfl, p2⟩ := p2
  have p2 := Eq.symm (show _ = _ from p2)
  subst p2
  refine r_if_ne (pc := 5) 20 dX19_must_5 rfl (fun h5 => ?_) (fun h5 => ?_)
  · rw [bI_ne0] at h5
    refine r_aload_n (pc := 20) dX19_must_20 rfl ?_
    refine r_dup (pc := 21) dX19_must_21 rfl ?_
    refine r_getIe (pc := 22) (v := nI a) dX19_must_22 fl_X19_19_19 hd.1.1 (fun _ _ => rfl) hd.1.2.2.2 ?_
    refine r_iconst (pc := 25) (v := 1) dX19_must_25 (by decide) ?_
    refine r_iadd (pc := 26) dX19_must_26 ?_
    refine r_putI (pc := 27) dX19_must_27 fl_X19_19_19 hd.1.1 rfl rfl ?_
    refine r_return (pc := 30) rfl dX19_must_30 ⟨rfl, ?_⟩
    refine ⟨h5, ?_⟩
    rw [← nI_1]
  · rw [bI_eq0] at h5
    refine r_new (c := 20) (pc := 8) (RX20, TX20, 7) dX19_must_8 rfl q1026 q1027 q112 dv_20 (Nat.le_of_ble_eq_true rfl) rfl (Nat.le_of_ble_eq_true rfl) ?_
    have hd2 := hd.grown (frP.rf.nw (κ := (1, 20)) (n := 0))
    refine r_dup (pc := 11) dX19_must_11 rfl ?_
    refine r_aload_n (pc := 12) dX19_must_12 rfl ?_
    refine r_getIe (pc := 13) (v := nI a) dX19_must_13 fl_X19_19_19 hd2.1.1 (fun _ _ => rfl) hd2.1.2.2.2 ?_
    refine r_o2 (pc := 16) (bc' := 0) (bs' := 0) (ct_X20_init (nI a) (nw_K _ _ _) (nw_R _ _ _)) k_X19_43_20 dX19_must_16 (nw_K _ _ _) (Nat.le_of_ble_eq_true rfl) ⟨Nat.le_of_ble_eq_true rfl, Nat.le_of_ble_eq_true rfl⟩ ⟨Nat.le_of_ble_eq_true rfl, Nat.le_of_ble_eq_true rfl⟩ (r_cv fun M16 p16 => ?_) nox
    have p16 := Eq.symm (show _ = _ from p16)
    subst p16
    refine r_athrow (pc := 19) (c := 20) dX19_must_19 (nw_K M (1, 20) 0) rfl ?_
    exact t_out rfl ⟨h5, rfl, nw_K M (1, 20) 0, congrFun (up2_self (mI (nw M (1, 20) 0)) M.1 6 _) 6, frP.rf.nw.sI fun hq => absurd hq (Nat.lt_irrefl _)⟩
theorem ct_X19_hasRoom {M : PM} {ra : Nat} (x1 : Int32) (x2 : Nat) : Ct (YX19_hasRoom, (4, 89, 1, 7), qv (fun M' => ¬ x1 = 0 ∧ M' = M), fun q E M' => x1 = 0 ∧ faO noP M x2 q E M') [.ref ra, .int x1, .int (nI x2)] M := by
  refine ct_of [some (.ref ra), some (.int x1), some (.int (nI x2))] rfl rfl rfl (Nat.le_of_ble_eq_true rfl) rfl rfl ?_
  refine r_iload_n (pc := 0) dX19_hasRoom_0 rfl ?_
  refine r_if_ne (pc := 1) 13 dX19_hasRoom_1 rfl (fun h1 => ?_) (fun h1 => ?_)
  · refine r_return (pc := 13) rfl dX19_hasRoom_13 ⟨rfl, ?_⟩
    exact ⟨h1, rfl⟩
  · refine r_new (c := 20) (pc := 4) (RX20, TX20, 7) dX19_hasRoom_4 rfl q1026 q1027 q112 dv_20 (Nat.le_of_ble_eq_true rfl) rfl (Nat.le_of_ble_eq_true rfl) ?_
    refine r_dup (pc := 7) dX19_hasRoom_7 rfl ?_
    refine r_iload_n (pc := 8) dX19_hasRoom_8 rfl ?_
    refine r_o2 (pc := 9) (bc' := 0) (bs' := 0) (ct_X20_init (nI x2) (nw_K _ _ _) (nw_R _ _ _)) k_X19_43_20 dX19_hasRoom_9 (nw_K _ _ _) (Nat.le_of_ble_eq_true rfl) ⟨Nat.le_of_ble_eq_true rfl, Nat.le_of_ble_eq_true rfl⟩ ⟨Nat.le_of_ble_eq_true rfl, Nat.le_of_ble_eq_true rfl⟩ (r_cv fun M9 p9 => ?_) nox
    have p9 := Eq.symm (show _ = _ from p9)
    subst p9
    refine r_athrow (pc := 12) (c := 20) dX19_hasRoom_12 (nw_K M (1, 20) 0) rfl ?_
    exact t_out rfl ⟨h1, rfl, nw_K M (1, 20) 0, congrFun (up2_self (mI (nw M (1, 20) 0)) M.1 6 _) 6, frP.rf.nw.sI fun hq => absurd hq (Nat.lt_irrefl _)⟩
