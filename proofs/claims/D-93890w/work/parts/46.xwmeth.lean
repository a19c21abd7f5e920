/-! THE WORLD'S METHODS (printed by gen/mk_x46.py) -/
set_option maxRecDepth 100000
section
variable {G G' : GT} {bc bs bc' bs' : Nat} {M : PM} {pc : Nat} {ls : List (Option Value)} {st rest : List Value} {ins : Instr}
theorem r_getIe {a c k idx : Nat} {v : Int32} (d : decode (gc G) pc = .ok (.getfield idx, 3)) (h : FL (gy G).cls idx c k) (hK : mK M a = (1, c)) (hv : ∀ i r, fv (ftX c k) i r = .int i) (e : mI M a k = v) (kk : Wx G bc bs M (pc + 3) ls (.int v :: st)) : Wx G bc bs M pc ls (.ref a :: st) := r_getI d h hK hv (e ▸ kk)
theorem r_ialdv {a n : Nat} {i v : Int32} (d : decode (gc G) pc = .ok (.iaload, 1)) (hK : mK M a = (2, 0)) (hz : mZ M a = n) (hin : vp_in i n) (e : mI M a i.toNatClampNeg = v) (kk : Wx G bc bs M (pc + 1) ls (.int v :: st)) : Wx G bc bs M pc ls (.int i :: .ref a :: st) := r_iald d hK hz hin (e ▸ kk)
theorem r_zaldv {a n : Nat} {i v : Int32} (d : decode (gc G) pc = .ok (.baload, 1)) (hK : mK M a = (2, 3)) (hz : mZ M a = n) (hin : vp_in i n) (e : mI M a i.toNatClampNeg = v) (kk : Wx G bc bs M (pc + 1) ls (.int v :: st)) : Wx G bc bs M pc ls (.int i :: .ref a :: st) := r_zald d hK hz hin (e ▸ kk)
theorem r_o7 {b c : Nat} {x2 x3 x4 x5 x6 x7 : Value} (hct : Ct G' [.ref b, x2, x3, x4, x5, x6, x7] M) (hC : Cs (gy G).cls ins 7 (some c) G'.1) (d : decode (gc G) pc = .ok (ins, 3)) (hK : mK M b = (1, c)) (hcat : (rest.map fun v => v.category).sum ≤ 8) (hroom : gF G' + 1 ≤ gF G ∧ 8 + (gn G' + 11) + gO G' ≤ gO G) (hb : bc' + gC G' ≤ bc ∧ bs' + gS G' ≤ bs)
    (kk : ∀ v M', gQ G' v M' → Wx G bc' bs' M' (pc + 3) ls (v.toList ++ rest)) (kx : ∀ q E M', gX G' q E M' → Tx G bc' bs' M' pc ls q E) : Wx G bc bs M pc ls (x7 :: x6 :: x5 :: x4 :: x3 :: x2 :: .ref b :: rest) := r_call hct hC d rfl rfl (fun _ h => by cases h; exact ⟨b, _, rfl, hK⟩) hcat hroom hb kk kx
end
theorem kd7 {k : Int32} (h : bd k 0 6) : k = 0 ∨ k = 1 ∨ k = 2 ∨ k = 3 ∨ k = 4 ∨ k = 5 ∨ k = 6 := by
  obtain ⟨n, hn, rfl⟩ := bd_nI (n := 6) h
  rcases n with _ | _ | _ | _ | _ | _ | _ | n
  · exact Or.inl rfl
  · exact Or.inr (Or.inl rfl)
  · exact Or.inr (Or.inr (Or.inl rfl))
  · exact Or.inr (Or.inr (Or.inr (Or.inl rfl)))
  · exact Or.inr (Or.inr (Or.inr (Or.inr (Or.inl rfl))))
  · exact Or.inr (Or.inr (Or.inr (Or.inr (Or.inr (Or.inl rfl)))))
  · exact Or.inr (Or.inr (Or.inr (Or.inr (Or.inr (Or.inr rfl)))))
  · omega
theorem low_99 (y : Int32) : (if y < 99 then y else 99) = lowC 99 y := by
  unfold lowC
  have c9 : (99 : Int32).toInt = 99 := by decide
  by_cases h : y < 99
  · rw [if_pos h, if_neg (fun h2 => by rw [i_lt] at h h2; omega)]
  · rw [if_neg h]
    by_cases h2 : 99 < y
    · rw [if_pos h2]
    · rw [if_neg h2, i_eq]
      rw [i_lt] at h h2
      omega
/-- where one brings a thing -/
def brC (rf rt p f e : Int32) : Int32 := if e < (if wetP rf rt (p + f) then (if p < rf then rf else p) else p + f) then e else (if wetP rf rt (p + f) then (if p < rf then rf else p) else p + f)
theorem near_in {d : Int32} (h1 : -1000 ≤ d.toInt) (h2 : d.toInt ≤ 1000) : nearC d = d := by
  unfold nearC
  have c1 : (1000 : Int32).toInt = 1000 := by decide
  have c2 : (-1000 : Int32).toInt = -1000 := by decide
  rw [if_neg (by rw [i_lt]; omega), if_neg (by rw [i_lt]; omega)]
theorem wrong_x {σ : cS} (h : OkW σ) {m d : Int32} {t : Nat} (ht : t < Int32.toNatClampNeg (σ 0 0)) : wrongS σ m t (nearC d) = if σ 15 t = m then 1 else if ¬ (¬ d < -(σ 14 t) ∧ ¬ (σ 3 0 - σ 14 t) < d) then 2 else if wetP (σ 4 0) (σ 5 0) (σ 14 t + d) then 3 else if d = 0 ∨ farS σ (Int32.toNatClampNeg m) t < (if 0 ≤ d then d else 0 - d) then 4 else if σ 16 t = 0 then 0 else 5 := by
  obtain ⟨-, -, -, hs, -, hb⟩ := h.2.2.1 t ht
  have hl := h.2.1.1
  have z0 : (0 : Int32).toInt = 0 := by decide
  have c1 : (1000 : Int32).toInt = 1000 := by decide
  have c2 : (-1000 : Int32).toInt = -1000 := by decide
  have s1 : 0 ≤ (σ 14 t).toInt := by have := hs.1; rw [i_lt] at this; omega
  have s2 : (σ 14 t).toInt ≤ (σ 3 0).toInt := by have := hs.2.1; rw [i_lt] at this; omega
  have en : (-(σ 14 t)).toInt = -(σ 14 t).toInt := by
    have := i_sub (x := 0) (y := σ 14 t) (by omega) (by omega)
    rw [Int32.zero_sub] at this
    omega
  have es : (σ 3 0 - σ 14 t).toInt = (σ 3 0).toInt - (σ 14 t).toInt := i_sub (by omega) (by omega)
  unfold wrongS wrongC
  by_cases e1 : σ 15 t = m
  · rw [if_pos e1, if_pos e1]
  rw [if_neg e1, if_neg e1]
  by_cases e2 : ¬ d < -(σ 14 t) ∧ ¬ (σ 3 0 - σ 14 t) < d
  · rw [if_neg (show ¬ ¬ (¬ d < -(σ 14 t) ∧ ¬ (σ 3 0 - σ 14 t) < d) from fun hh => hh e2)]
    rw [i_lt, i_lt, en, es] at e2
    have ed : nearC d = d := near_in (by omega) (by omega)
    have ea : (σ 14 t + d).toInt = (σ 14 t).toInt + d.toInt := i_add (by omega) (by omega)
    rw [ed, if_neg (show ¬ (σ 14 t + d < 0 ∨ σ 3 0 < σ 14 t + d) by rw [i_lt, i_lt, ea]; omega)]
    by_cases e3 : wetP (σ 4 0) (σ 5 0) (σ 14 t + d)
    · rw [if_pos e3, if_pos e3]
    rw [if_neg e3, if_neg e3]
    have eN : (-d).toInt = -d.toInt := by
      have := i_sub (x := 0) (y := d) (by omega) (by omega)
      rw [Int32.zero_sub] at this
      omega
    have eq1 : (d = 0 ∨ farS σ (Int32.toNatClampNeg m) t < d ∨ farS σ (Int32.toNatClampNeg m) t < -d) ↔ (d = 0 ∨ farS σ (Int32.toNatClampNeg m) t < (if 0 ≤ d then d else 0 - d)) := by
      have hf : 0 ≤ (farS σ (Int32.toNatClampNeg m) t).toInt ∨ True := Or.inr trivial
      by_cases e0 : 0 ≤ d
      · rw [if_pos e0]
        have e0' := Int32.le_iff_toInt_le.mp e0
        constructor
        · rintro (a | a | a)
          · exact Or.inl a
          · exact Or.inr a
          · refine Or.inr ?_
            rw [i_lt] at a ⊢
            omega
        · rintro (a | a)
          · exact Or.inl a
          · exact Or.inr (Or.inl a)
      · rw [if_neg e0, Int32.zero_sub]
        have e0' : d.toInt < 0 := by rw [Int32.le_iff_toInt_le] at e0; omega
        constructor
        · rintro (a | a | a)
          · exact Or.inl a
          · refine Or.inr ?_
            rw [i_lt] at a ⊢
            omega
          · exact Or.inr a
        · rintro (a | a)
          · exact Or.inl a
          · exact Or.inr (Or.inr a)
    by_cases e4 : d = 0 ∨ farS σ (Int32.toNatClampNeg m) t < (if 0 ≤ d then d else 0 - d)
    · rw [if_pos (eq1.mpr e4), if_pos e4]
    rw [if_neg (fun h9 => e4 (eq1.mp h9)), if_neg e4]
    rcases hb with hb | ⟨hb, -⟩
    · rw [hb]; rfl
    · rw [hb]; rfl
  · rw [if_pos (show ¬ (¬ d < -(σ 14 t) ∧ ¬ (σ 3 0 - σ 14 t) < d) from e2)]
    rw [i_lt, i_lt, en, es] at e2
    have ek : (σ 14 t + nearC d).toInt < 0 ∨ (σ 3 0).toInt < (σ 14 t + nearC d).toInt := by
      unfold nearC
      by_cases a1 : (1000 : Int32) < d
      · rw [if_pos a1, i_add (by omega) (by omega)]
        omega
      rw [if_neg a1]
      by_cases a2 : d < (-1000 : Int32)
      · rw [if_pos a2, i_add (by omega) (by omega)]
        omega
      rw [if_neg a2]
      rw [i_lt] at a1 a2
      rw [i_add (by omega) (by omega)]
      omega
    rw [if_pos (by rw [i_lt, i_lt, z0]; exact ek)]
theorem ct_X3_isWet {M : PM} {wa : Nat} {σ : cS} (hw : WX M wa σ) (x1 : Int32) : Ct (YX3_isWet, (0, 0, 0, 0), qi (fun r M' => r = bI (wetP (σ 4 0) (σ 5 0) x1) ∧ M' = M), noX) [.ref wa, .int x1] M := by
  refine ct_of [some (.ref wa), some (.int x1)] rfl rfl rfl (Nat.le_of_ble_eq_true rfl) rfl rfl ?_
  refine r_iload_n (pc := 0) dX3_isWet_0 rfl ?_
  refine r_aload_n (pc := 1) dX3_isWet_1 rfl ?_
  refine r_getIe (pc := 2) (v := σ 4 0) dX3_isWet_2 fl_X3_51_3 hw.k (fun _ _ => rfl) hw.i1 ?_
  refine r_icmp_le (pc := 5) 20 dX3_isWet_5 rfl (fun h5 => ?_) (fun h5 => ?_)
  · refine r_iconst (pc := 20) (v := 0) dX3_isWet_20 (by decide) ?_
    refine r_zreturn (pc := 21) rfl rfl dX3_isWet_21 ⟨_, rfl, ?_⟩
    exact ⟨(bI_f (fun hh => by simp_all)).symm, rfl⟩
  · refine r_iload_n (pc := 8) dX3_isWet_8 rfl ?_
    refine r_aload_n (pc := 9) dX3_isWet_9 rfl ?_
    refine r_getIe (pc := 10) (v := σ 5 0) dX3_isWet_10 fl_X3_54_3 hw.k (fun _ _ => rfl) hw.i2 ?_
    refine r_icmp_ge (pc := 13) 20 dX3_isWet_13 rfl (fun h13 => ?_) (fun h13 => ?_)
    · refine r_iconst (pc := 20) (v := 0) dX3_isWet_20 (by decide) ?_
      refine r_zreturn (pc := 21) rfl rfl dX3_isWet_21 ⟨_, rfl, ?_⟩
      exact ⟨(bI_f (fun hh => by simp_all)).symm, rfl⟩
    · refine r_iconst (pc := 16) (v := 1) dX3_isWet_16 (by decide) ?_
      refine r_goto (pc := 17) 21 dX3_isWet_17 rfl ?_
      refine r_zreturn (pc := 21) rfl rfl dX3_isWet_21 ⟨_, rfl, ?_⟩
      exact ⟨(bI_t ⟨h5, h13⟩).symm, rfl⟩
theorem ct_X3_isStep {M : PM} {wa : Nat} {σ : cS} (hw : WX M wa σ) (x1 : Int32) : Ct (YX3_isStep, (1, 25, 0, 0), qi (fun r M' => r = bI (stepS σ x1) ∧ M' = M), noX) [.ref wa, .int x1] M := by
  refine ct_of [some (.ref wa), some (.int x1)] rfl rfl rfl (Nat.le_of_ble_eq_true rfl) rfl rfl ?_
  refine r_iload_n (pc := 0) dX3_isStep_0 rfl ?_
  refine r_i2l (pc := 1) dX3_isStep_1 ?_
  refine r_lconst (pc := 2) (v := 0) dX3_isStep_2 (by decide) ?_
  refine r_aload_n (pc := 3) dX3_isStep_3 rfl ?_
  refine r_getIe (pc := 4) (v := σ 3 0) dX3_isStep_4 fl_X3_9_3 hw.k (fun _ _ => rfl) hw.i0 ?_
  refine r_i2l (pc := 7) dX3_isStep_7 ?_
  refine r_s3 (pc := 8) (bc' := 0) (bs' := 0) (ct_X0_in x1 0 (σ 3 0) rfl (by decide) rfl) k_X3_78 dX3_isStep_8 (Nat.le_of_ble_eq_true rfl) ⟨Nat.le_of_ble_eq_true rfl, Nat.le_of_ble_eq_true rfl⟩ ⟨Nat.le_of_ble_eq_true rfl, Nat.le_of_ble_eq_true rfl⟩ (r_ci fun r8 M8 p8 => ?_) nox
  obtain ⟨rfl, p8⟩ := p8
  have p8 := Eq.symm (show _ = _ from p8)
  subst p8
  refine r_if_eq (pc := 11) 26 dX3_isStep_11 rfl (fun h11 => ?_) (fun h11 => ?_)
  · rw [bI_eq0] at h11
    refine r_iconst (pc := 26) (v := 0) dX3_isStep_26 (by decide) ?_
    refine r_zreturn (pc := 27) rfl rfl dX3_isStep_27 ⟨_, rfl, ?_⟩
    exact ⟨(bI_f (fun hh => by first | exact h11 ⟨hh.1, hh.2.1⟩ | exact hh.2.2 h19)).symm, rfl⟩
  · rw [bI_ne0] at h11
    refine r_aload_n (pc := 14) dX3_isStep_14 rfl ?_
    refine r_iload_n (pc := 15) dX3_isStep_15 rfl ?_
    refine r_o2 (pc := 16) (bc' := 0) (bs' := 0) (ct_X3_isWet hw x1) k_X3_82_3 dX3_isStep_16 hw.k (Nat.le_of_ble_eq_true rfl) ⟨Nat.le_of_ble_eq_true rfl, Nat.le_of_ble_eq_true rfl⟩ ⟨Nat.le_of_ble_eq_true rfl, Nat.le_of_ble_eq_true rfl⟩ (r_ci fun r16 M16 p16 => ?_) nox
    obtain ⟨rfl, p16⟩ := p16
    have p16 := Eq.symm (show _ = _ from p16)
    subst p16
    refine r_if_ne (pc := 19) 26 dX3_isStep_19 rfl (fun h19 => ?_) (fun h19 => ?_)
    · rw [bI_ne0] at h19
      refine r_iconst (pc := 26) (v := 0) dX3_isStep_26 (by decide) ?_
      refine r_zreturn (pc := 27) rfl rfl dX3_isStep_27 ⟨_, rfl, ?_⟩
      exact ⟨(bI_f (fun hh => by first | exact h11 ⟨hh.1, hh.2.1⟩ | exact hh.2.2 h19)).symm, rfl⟩
    · rw [bI_eq0] at h19
      refine r_iconst (pc := 22) (v := 1) dX3_isStep_22 (by decide) ?_
      refine r_goto (pc := 23) 27 dX3_isStep_23 rfl ?_
      refine r_zreturn (pc := 27) rfl rfl dX3_isStep_27 ⟨_, rfl, ?_⟩
      exact ⟨(bI_t ⟨h11.1, h11.2, h19⟩).symm, rfl⟩
/-- what far(..) and tires(..) need of the state -/
def OkT (σ : cS) : Prop := (bd (σ 0 0) 0 8 ∧ bd (σ 1 0) 0 8 ∧ bd (σ 2 0) 0 4) ∧ ∀ i, i < Int32.toNatClampNeg (σ 0 0) → bd (σ 11 i) 0 6 ∧ bd (σ 12 i) 1 99 ∧ bd (σ 13 i) 1 9
theorem OkW.t {σ : cS} (h : OkW σ) : OkT σ := ⟨h.1, fun i hi => ⟨(h.2.2.1 i hi).1, (h.2.2.1 i hi).2.1, (h.2.2.1 i hi).2.2.1⟩⟩
theorem OkT.vt {σ : cS} (h : OkT σ) {t : Int32} (ht : thP σ t) : vp_in t 8 := vp_b ht.1 ht.2 h.1.1.2
theorem OkT.vm {σ : cS} (h : OkT σ) {t : Int32} (ht : mnP σ t) : vp_in t 8 := vp_b ht.1 ht.2 h.1.2.1.2
theorem OkT.vw {σ : cS} (h : OkT σ) {t : Int32} (ht : wnP σ t) : vp_in t 4 := vp_b ht.1 ht.2 h.1.2.2.2
theorem OkT.far {σ : cS} (h : OkT σ) {t : Nat} (ht : t < Int32.toNatClampNeg (σ 0 0)) : ¬ σ 12 t = 0 ∧ (σ 11 t = 5 → ¬ σ 13 t = 0 ∧ ¬ (σ 12 t + σ 13 t - 1) / σ 13 t = 0) := by
  obtain ⟨-, a, b⟩ := h.2 t ht
  exact ⟨dv_w a, fun _ => dv_c a b⟩
theorem OkT.c {σ τ : cS} (h : OkT σ) (e0 : ∀ k, k ≤ 2 → τ k 0 = σ k 0) (e : ∀ k, 11 ≤ k → k ≤ 13 → τ k = σ k) : OkT τ := by
  unfold OkT
  rw [e0 0 (by decide), e0 1 (by decide), e0 2 (by decide), e 11 (by decide) (by decide), e 12 (by decide) (by decide), e 13 (by decide) (by decide)]
  exact h
theorem fr_12 (w e wd s : Int32) : farC 0 w e wd s = lowC (canC 0 w e s) 40 := by simp (decide := true) only [farC, if_true, if_false]
theorem fr_13 (w e wd s : Int32) : farC 1 w e wd s = lowC (canC 1 w e s / 2) 40 := by simp (decide := true) only [farC, if_true, if_false]
theorem fr_14 (w e wd s : Int32) : farC 2 w e wd s = lowC (canC 2 w e s) 40 + wd := by simp (decide := true) only [farC, if_true, if_false]
theorem fr_15 (w e wd s : Int32) : farC 3 w e wd s = (lowC (canC 3 w e s) 40 + wd) / 2 := by simp (decide := true) only [farC, if_true, if_false]
theorem fr_16 (w e wd s : Int32) : farC 4 w e wd s = lowC (canC 4 w e s) 5 := by simp (decide := true) only [farC, if_true, if_false]
theorem fr_17 (w e wd s : Int32) : farC 5 w e wd s = lowC (canC 5 w e s / 2) 40 := by simp (decide := true) only [farC, if_true, if_false]
theorem fr_18 (w e wd s : Int32) : farC 6 w e wd s = lowC (canC 6 w e s / 2) 40 + e := by simp (decide := true) only [farC, if_true, if_false]
/-- what a thing's far(..) needs -/
theorem TH.dv {M : PM} {σ : cS} {i ta : Nat} (h : TH M σ i ta) (hB : OkT σ) (hi : i < Int32.toNatClampNeg (σ 0 0)) : ¬ mI M ta 1 = 0 ∧ (σ 11 i = 5 → ¬ mI M ta 2 = 0 ∧ ¬ (mI M ta 1 + mI M ta 2 - 1) / mI M ta 2 = 0) := by
  rw [h.2.2.2.1, h.2.2.2.2]
  exact hB.far hi
theorem TH.k {M : PM} {σ : cS} {i ta c : Nat} {k : Int32} (h : TH M σ i ta) (e : σ 11 i = k) (hc : 12 + Int32.toNatClampNeg k = c) : mK M ta = (1, c) := by
  rw [h.2.1, e, hc]
theorem ct_X3_far {M : PM} {wa : Nat} {σ : cS} (hw : WX M wa σ) (x1 x2 : Int32) (hB : OkT σ) (hm : mnP σ x1) (ht : thP σ x2) : Ct (YX3_far, (5, 121, 0, 0), qi (fun r M' => r = farS σ (Int32.toNatClampNeg x1) (Int32.toNatClampNeg x2) ∧ M' = M), noX) [.ref wa, .int x1, .int x2] M := by
  refine ct_of [some (.ref wa), some (.int x1), some (.int x2)] rfl rfl rfl (Nat.le_of_ble_eq_true rfl) rfl rfl ?_
  refine r_aload_n (pc := 0) dX3_far_0 rfl ?_
  refine r_getR (pc := 1) dX3_far_1 fl_X3_20_3 hw.k (fun _ _ => rfl) hw.r9 ?_
  refine r_iload_n (pc := 4) dX3_far_4 rfl ?_
  obtain ⟨ta, hr, hT⟩ := hw.th ht
  refine r_aaldR (pc := 5) dX3_far_5 hw.k9 rfl hw.z9 (hB.vt ht) hr ?_
  refine r_aload_n (pc := 6) dX3_far_6 rfl ?_
  refine r_getR (pc := 7) dX3_far_7 fl_X3_35_3 hw.k (fun _ _ => rfl) hw.r13 ?_
  refine r_iload_n (pc := 10) dX3_far_10 rfl ?_
  refine r_ialdv (pc := 11) (v := σ 17 (Int32.toNatClampNeg x1)) dX3_far_11 hw.k13 hw.z13 (hB.vm hm) (hw.a17 hm) ?_
  refine r_aload_n (pc := 12) dX3_far_12 rfl ?_
  refine r_getR (pc := 13) dX3_far_13 fl_X3_38_3 hw.k (fun _ _ => rfl) hw.r14 ?_
  refine r_iload_n (pc := 16) dX3_far_16 rfl ?_
  refine r_ialdv (pc := 17) (v := σ 18 (Int32.toNatClampNeg x1)) dX3_far_17 hw.k14 hw.z14 (hB.vm hm) (hw.a18 hm) ?_
  refine r_isub (pc := 18) dX3_far_18 ?_
  refine r_aload_n (pc := 19) dX3_far_19 rfl ?_
  refine r_getIe (pc := 20) (v := σ 6 0) dX3_far_20 fl_X3_57_3 hw.k (fun _ _ => rfl) hw.i3 ?_
  rcases kd7 (hB.2 _ (ix_lt ht.1 ht.2)).1 with e7 | e7 | e7 | e7 | e7 | e7 | e7
  · have hK7 := hT.k e7 (c := 12) rfl
    refine r_o3 (pc := 23) (bc' := 0) (bs' := 0) (ct_X12_far_12 _ _ hK7 (hT.dv hB (ix_lt ht.1 ht.2)).1) k_X3_100_12 dX3_far_23 hK7 (Nat.le_of_ble_eq_true rfl) ⟨Nat.le_of_ble_eq_true rfl, Nat.le_of_ble_eq_true rfl⟩ ⟨Nat.le_of_ble_eq_true rfl, Nat.le_of_ble_eq_true rfl⟩ (r_ci fun r7 M7 p7 => ?_) nox
    obtain ⟨e8, p7⟩ := p7
    have p7 := Eq.symm (show _ = _ from p7)
    subst p7
    have e9 : r7 = farBS σ (σ 17 (Int32.toNatClampNeg x1) - σ 18 (Int32.toNatClampNeg x1)) (Int32.toNatClampNeg x2) := by rw [e8]; show _ = farC _ _ _ _ _; rw [e7, fr_12, hT.2.2.2.1, hT.2.2.2.2]
    refine r_ireturn (pc := 26) rfl dX3_far_26 ⟨_, rfl, ?_⟩
    exact ⟨e9, rfl⟩
  · have hK7 := hT.k e7 (c := 13) rfl
    refine r_o3 (pc := 23) (bc' := 0) (bs' := 0) (ct_X13_far_13 _ _ hK7 (hT.dv hB (ix_lt ht.1 ht.2)).1) k_X3_100_13 dX3_far_23 hK7 (Nat.le_of_ble_eq_true rfl) ⟨Nat.le_of_ble_eq_true rfl, Nat.le_of_ble_eq_true rfl⟩ ⟨Nat.le_of_ble_eq_true rfl, Nat.le_of_ble_eq_true rfl⟩ (r_ci fun r7 M7 p7 => ?_) nox
    obtain ⟨e8, p7⟩ := p7
    have p7 := Eq.symm (show _ = _ from p7)
    subst p7
    have e9 : r7 = farBS σ (σ 17 (Int32.toNatClampNeg x1) - σ 18 (Int32.toNatClampNeg x1)) (Int32.toNatClampNeg x2) := by rw [e8]; show _ = farC _ _ _ _ _; rw [e7, fr_13, hT.2.2.2.1, hT.2.2.2.2]
    refine r_ireturn (pc := 26) rfl dX3_far_26 ⟨_, rfl, ?_⟩
    exact ⟨e9, rfl⟩
  · have hK7 := hT.k e7 (c := 14) rfl
    refine r_o3 (pc := 23) (bc' := 0) (bs' := 0) (ct_X14_far_14 _ _ hK7 (hT.dv hB (ix_lt ht.1 ht.2)).1) k_X3_100_14 dX3_far_23 hK7 (Nat.le_of_ble_eq_true rfl) ⟨Nat.le_of_ble_eq_true rfl, Nat.le_of_ble_eq_true rfl⟩ ⟨Nat.le_of_ble_eq_true rfl, Nat.le_of_ble_eq_true rfl⟩ (r_ci fun r7 M7 p7 => ?_) nox
    obtain ⟨e8, p7⟩ := p7
    have p7 := Eq.symm (show _ = _ from p7)
    subst p7
    have e9 : r7 = farBS σ (σ 17 (Int32.toNatClampNeg x1) - σ 18 (Int32.toNatClampNeg x1)) (Int32.toNatClampNeg x2) := by rw [e8]; show _ = farC _ _ _ _ _; rw [e7, fr_14, hT.2.2.2.1, hT.2.2.2.2]
    refine r_ireturn (pc := 26) rfl dX3_far_26 ⟨_, rfl, ?_⟩
    exact ⟨e9, rfl⟩
  · have hK7 := hT.k e7 (c := 15) rfl
    refine r_o3 (pc := 23) (bc' := 0) (bs' := 0) (ct_X15_far_15 _ _ hK7 (hT.dv hB (ix_lt ht.1 ht.2)).1) k_X3_100_15 dX3_far_23 hK7 (Nat.le_of_ble_eq_true rfl) ⟨Nat.le_of_ble_eq_true rfl, Nat.le_of_ble_eq_true rfl⟩ ⟨Nat.le_of_ble_eq_true rfl, Nat.le_of_ble_eq_true rfl⟩ (r_ci fun r7 M7 p7 => ?_) nox
    obtain ⟨e8, p7⟩ := p7
    have p7 := Eq.symm (show _ = _ from p7)
    subst p7
    have e9 : r7 = farBS σ (σ 17 (Int32.toNatClampNeg x1) - σ 18 (Int32.toNatClampNeg x1)) (Int32.toNatClampNeg x2) := by rw [e8]; show _ = farC _ _ _ _ _; rw [e7, fr_15, hT.2.2.2.1, hT.2.2.2.2]
    refine r_ireturn (pc := 26) rfl dX3_far_26 ⟨_, rfl, ?_⟩
    exact ⟨e9, rfl⟩
  · have hK7 := hT.k e7 (c := 16) rfl
    refine r_o3 (pc := 23) (bc' := 0) (bs' := 0) (ct_X16_far_16 _ _ hK7 (hT.dv hB (ix_lt ht.1 ht.2)).1) k_X3_100_16 dX3_far_23 hK7 (Nat.le_of_ble_eq_true rfl) ⟨Nat.le_of_ble_eq_true rfl, Nat.le_of_ble_eq_true rfl⟩ ⟨Nat.le_of_ble_eq_true rfl, Nat.le_of_ble_eq_true rfl⟩ (r_ci fun r7 M7 p7 => ?_) nox
    obtain ⟨e8, p7⟩ := p7
    have p7 := Eq.symm (show _ = _ from p7)
    subst p7
    have e9 : r7 = farBS σ (σ 17 (Int32.toNatClampNeg x1) - σ 18 (Int32.toNatClampNeg x1)) (Int32.toNatClampNeg x2) := by rw [e8]; show _ = farC _ _ _ _ _; rw [e7, fr_16, hT.2.2.2.1, hT.2.2.2.2]
    refine r_ireturn (pc := 26) rfl dX3_far_26 ⟨_, rfl, ?_⟩
    exact ⟨e9, rfl⟩
  · have hK7 := hT.k e7 (c := 17) rfl
    refine r_o3 (pc := 23) (bc' := 0) (bs' := 0) (ct_X13_far_17 _ _ hK7 ((hT.dv hB (ix_lt ht.1 ht.2)).2 e7)) k_X3_100_17 dX3_far_23 hK7 (Nat.le_of_ble_eq_true rfl) ⟨Nat.le_of_ble_eq_true rfl, Nat.le_of_ble_eq_true rfl⟩ ⟨Nat.le_of_ble_eq_true rfl, Nat.le_of_ble_eq_true rfl⟩ (r_ci fun r7 M7 p7 => ?_) nox
    obtain ⟨e8, p7⟩ := p7
    have p7 := Eq.symm (show _ = _ from p7)
    subst p7
    have e9 : r7 = farBS σ (σ 17 (Int32.toNatClampNeg x1) - σ 18 (Int32.toNatClampNeg x1)) (Int32.toNatClampNeg x2) := by rw [e8]; show _ = farC _ _ _ _ _; rw [e7, fr_17, hT.2.2.2.1, hT.2.2.2.2]
    refine r_ireturn (pc := 26) rfl dX3_far_26 ⟨_, rfl, ?_⟩
    exact ⟨e9, rfl⟩
  · have hK7 := hT.k e7 (c := 18) rfl
    refine r_o3 (pc := 23) (bc' := 0) (bs' := 0) (ct_X18_far_18 _ _ hK7 (hT.dv hB (ix_lt ht.1 ht.2)).1) k_X3_100_18 dX3_far_23 hK7 (Nat.le_of_ble_eq_true rfl) ⟨Nat.le_of_ble_eq_true rfl, Nat.le_of_ble_eq_true rfl⟩ ⟨Nat.le_of_ble_eq_true rfl, Nat.le_of_ble_eq_true rfl⟩ (r_ci fun r7 M7 p7 => ?_) nox
    obtain ⟨e8, p7⟩ := p7
    have p7 := Eq.symm (show _ = _ from p7)
    subst p7
    have e9 : r7 = farBS σ (σ 17 (Int32.toNatClampNeg x1) - σ 18 (Int32.toNatClampNeg x1)) (Int32.toNatClampNeg x2) := by rw [e8]; show _ = farC _ _ _ _ _; rw [e7, fr_18, hT.2.2.2.1, hT.2.2.2.2]
    refine r_ireturn (pc := 26) rfl dX3_far_26 ⟨_, rfl, ?_⟩
    exact ⟨e9, rfl⟩
theorem ct_X3_wrong {M : PM} {wa : Nat} {σ : cS} (hw : WX M wa σ) (x1 x2 x3 : Int32) (hB : OkW σ) (hm : mnP σ x1) (ht : thP σ x2) : Ct (YX3_wrong, (6, 143, 0, 0), qi (fun r M' => r = wrongS σ x1 (Int32.toNatClampNeg x2) (nearC x3) ∧ M' = M), noX) [.ref wa, .int x1, .int x2, .int x3] M := by
  refine ct_of [some (.ref wa), some (.int x1), some (.int x2), some (.int x3)] rfl rfl rfl (Nat.le_of_ble_eq_true rfl) rfl rfl ?_
  refine r_aload_n (pc := 0) dX3_wrong_0 rfl ?_
  refine r_getR (pc := 1) dX3_wrong_1 fl_X3_28_3 hw.k (fun _ _ => rfl) hw.r11 ?_
  refine r_iload_n (pc := 4) dX3_wrong_4 rfl ?_
  refine r_ialdv (pc := 5) (v := σ 15 (Int32.toNatClampNeg x2)) dX3_wrong_5 hw.k11 hw.z11 (hB.vt ht) (hw.a15 ht) ?_
  refine r_iload_n (pc := 6) dX3_wrong_6 rfl ?_
  refine r_icmp_ne (pc := 7) 12 dX3_wrong_7 rfl (fun h7 => ?_) (fun h7 => ?_)
  · refine r_iload_n (pc := 12) dX3_wrong_12 rfl ?_
    refine r_i2l (pc := 13) dX3_wrong_13 ?_
    refine r_aload_n (pc := 14) dX3_wrong_14 rfl ?_
    refine r_getR (pc := 15) dX3_wrong_15 fl_X3_24_3 hw.k (fun _ _ => rfl) hw.r10 ?_
    refine r_iload_n (pc := 18) dX3_wrong_18 rfl ?_
    refine r_ialdv (pc := 19) (v := σ 14 (Int32.toNatClampNeg x2)) dX3_wrong_19 hw.k10 hw.z10 (hB.vt ht) (hw.a14 ht) ?_
    refine r_ineg (pc := 20) dX3_wrong_20 ?_
    refine r_i2l (pc := 21) dX3_wrong_21 ?_
    refine r_aload_n (pc := 22) dX3_wrong_22 rfl ?_
    refine r_getIe (pc := 23) (v := σ 3 0) dX3_wrong_23 fl_X3_9_3 hw.k (fun _ _ => rfl) hw.i0 ?_
    refine r_aload_n (pc := 26) dX3_wrong_26 rfl ?_
    refine r_getR (pc := 27) dX3_wrong_27 fl_X3_24_3 hw.k (fun _ _ => rfl) hw.r10 ?_
    refine r_iload_n (pc := 30) dX3_wrong_30 rfl ?_
    refine r_ialdv (pc := 31) (v := σ 14 (Int32.toNatClampNeg x2)) dX3_wrong_31 hw.k10 hw.z10 (hB.vt ht) (hw.a14 ht) ?_
    refine r_isub (pc := 32) dX3_wrong_32 ?_
    refine r_i2l (pc := 33) dX3_wrong_33 ?_
    refine r_s3 (pc := 34) (bc' := 0) (bs' := 0) (ct_X0_in _ _ _ rfl rfl rfl) k_X3_78 dX3_wrong_34 (Nat.le_of_ble_eq_true rfl) ⟨Nat.le_of_ble_eq_true rfl, Nat.le_of_ble_eq_true rfl⟩ ⟨Nat.le_of_ble_eq_true rfl, Nat.le_of_ble_eq_true rfl⟩ (r_ci fun r34 M34 p34 => ?_) nox
    obtain ⟨rfl, p34⟩ := p34
    have p34 := Eq.symm (show _ = _ from p34)
    subst p34
    refine r_if_ne (pc := 37) 42 dX3_wrong_37 rfl (fun h37 => ?_) (fun h37 => ?_)
    · rw [bI_ne0] at h37
      refine r_aload_n (pc := 42) dX3_wrong_42 rfl ?_
      refine r_aload_n (pc := 43) dX3_wrong_43 rfl ?_
      refine r_getR (pc := 44) dX3_wrong_44 fl_X3_24_3 hw.k (fun _ _ => rfl) hw.r10 ?_
      refine r_iload_n (pc := 47) dX3_wrong_47 rfl ?_
      refine r_ialdv (pc := 48) (v := σ 14 (Int32.toNatClampNeg x2)) dX3_wrong_48 hw.k10 hw.z10 (hB.vt ht) (hw.a14 ht) ?_
      refine r_iload_n (pc := 49) dX3_wrong_49 rfl ?_
      refine r_iadd (pc := 50) dX3_wrong_50 ?_
      refine r_o2 (pc := 51) (bc' := 0) (bs' := 0) (ct_X3_isWet hw _) k_X3_82_3 dX3_wrong_51 hw.k (Nat.le_of_ble_eq_true rfl) ⟨Nat.le_of_ble_eq_true rfl, Nat.le_of_ble_eq_true rfl⟩ ⟨Nat.le_of_ble_eq_true rfl, Nat.le_of_ble_eq_true rfl⟩ (r_ci fun r51 M51 p51 => ?_) nox
      obtain ⟨rfl, p51⟩ := p51
      have p51 := Eq.symm (show _ = _ from p51)
      subst p51
      refine r_if_eq (pc := 54) 59 dX3_wrong_54 rfl (fun h54 => ?_) (fun h54 => ?_)
      · rw [bI_eq0] at h54
        refine r_iload_n (pc := 59) dX3_wrong_59 rfl ?_
        refine r_if_eq (pc := 60) 76 dX3_wrong_60 rfl (fun h60 => ?_) (fun h60 => ?_)
        · refine r_iconst (pc := 76) (v := 4) dX3_wrong_76 (by decide) ?_
          refine r_ireturn (pc := 77) rfl dX3_wrong_77 ⟨_, rfl, ?_⟩
          exact ⟨by rw [wrong_x hB (ix_lt ht.1 ht.2), if_neg h7, if_neg (fun hh => hh h37), if_neg h54, if_pos (by first | exact Or.inl h60 | exact Or.inr h73)], rfl⟩
        · refine r_iload_n (pc := 63) dX3_wrong_63 rfl ?_
          refine r_mabs (pc := 64) dX3_wrong_64 q1119 (Nat.le_of_ble_eq_true rfl) (Nat.le_of_ble_eq_true rfl) ?_
          refine r_aload_n (pc := 67) dX3_wrong_67 rfl ?_
          refine r_iload_n (pc := 68) dX3_wrong_68 rfl ?_
          refine r_iload_n (pc := 69) dX3_wrong_69 rfl ?_
          refine r_o3 (pc := 70) (bc' := 0) (bs' := 0) (ct_X3_far hw _ _ hB.t hm ht) k_X3_107_3 dX3_wrong_70 hw.k (Nat.le_of_ble_eq_true rfl) ⟨Nat.le_of_ble_eq_true rfl, Nat.le_of_ble_eq_true rfl⟩ ⟨Nat.le_of_ble_eq_true rfl, Nat.le_of_ble_eq_true rfl⟩ (r_ci fun r70 M70 p70 => ?_) nox
          obtain ⟨rfl, p70⟩ := p70
          have p70 := Eq.symm (show _ = _ from p70)
          subst p70
          refine r_icmp_le (pc := 73) 78 dX3_wrong_73 rfl (fun h73 => ?_) (fun h73 => ?_)
          · refine r_aload_n (pc := 78) dX3_wrong_78 rfl ?_
            refine r_getR (pc := 79) dX3_wrong_79 fl_X3_31_3 hw.k (fun _ _ => rfl) hw.r12 ?_
            refine r_iload_n (pc := 82) dX3_wrong_82 rfl ?_
            refine r_zaldv (pc := 83) (v := σ 16 (Int32.toNatClampNeg x2)) dX3_wrong_83 hw.k12 hw.z12 (hB.vt ht) (hw.a16 ht) ?_
            refine r_if_eq (pc := 84) 91 dX3_wrong_84 rfl (fun h84 => ?_) (fun h84 => ?_)
            · refine r_iconst (pc := 91) (v := 0) dX3_wrong_91 (by decide) ?_
              refine r_ireturn (pc := 92) rfl dX3_wrong_92 ⟨_, rfl, ?_⟩
              exact ⟨by rw [wrong_x hB (ix_lt ht.1 ht.2), if_neg h7, if_neg (fun hh => hh h37), if_neg h54, if_neg (fun hh => hh.elim h60 h73)]; first | rw [if_pos h84] | rw [if_neg h84], rfl⟩
            · refine r_iconst (pc := 87) (v := 5) dX3_wrong_87 (by decide) ?_
              refine r_goto (pc := 88) 92 dX3_wrong_88 rfl ?_
              refine r_ireturn (pc := 92) rfl dX3_wrong_92 ⟨_, rfl, ?_⟩
              exact ⟨by rw [wrong_x hB (ix_lt ht.1 ht.2), if_neg h7, if_neg (fun hh => hh h37), if_neg h54, if_neg (fun hh => hh.elim h60 h73)]; first | rw [if_pos h84] | rw [if_neg h84], rfl⟩
          · refine r_iconst (pc := 76) (v := 4) dX3_wrong_76 (by decide) ?_
            refine r_ireturn (pc := 77) rfl dX3_wrong_77 ⟨_, rfl, ?_⟩
            exact ⟨by rw [wrong_x hB (ix_lt ht.1 ht.2), if_neg h7, if_neg (fun hh => hh h37), if_neg h54, if_pos (by first | exact Or.inl h60 | exact Or.inr h73)], rfl⟩
      · rw [bI_ne0] at h54
        refine r_iconst (pc := 57) (v := 3) dX3_wrong_57 (by decide) ?_
        refine r_ireturn (pc := 58) rfl dX3_wrong_58 ⟨_, rfl, ?_⟩
        exact ⟨by rw [wrong_x hB (ix_lt ht.1 ht.2), if_neg h7, if_neg (fun hh => hh h37), if_pos h54], rfl⟩
    · rw [bI_eq0] at h37
      refine r_iconst (pc := 40) (v := 2) dX3_wrong_40 (by decide) ?_
      refine r_ireturn (pc := 41) rfl dX3_wrong_41 ⟨_, rfl, ?_⟩
      exact ⟨by rw [wrong_x hB (ix_lt ht.1 ht.2), if_neg h7, if_pos h37], rfl⟩
  · refine r_iconst (pc := 10) (v := 1) dX3_wrong_10 (by decide) ?_
    refine r_ireturn (pc := 11) rfl dX3_wrong_11 ⟨_, rfl, ?_⟩
    exact ⟨by rw [wrong_x hB (ix_lt ht.1 ht.2), if_pos h7], rfl⟩
theorem ct_X3_brings {M : PM} {wa : Nat} {σ : cS} (hw : WX M wa σ) (x1 x2 x3 : Int32) : Ct (YX3_brings, (1, 24, 0, 0), qi (fun r M' => r = brC (σ 4 0) (σ 5 0) x1 x2 x3 ∧ M' = M), noX) [.ref wa, .int x1, .int x2, .int x3] M := by
  refine ct_of [some (.ref wa), some (.int x1), some (.int x2), some (.int x3), none] rfl rfl rfl (Nat.le_of_ble_eq_true rfl) rfl rfl ?_
  refine r_iload_n (pc := 0) dX3_brings_0 rfl ?_
  refine r_iload_n (pc := 1) dX3_brings_1 rfl ?_
  refine r_iadd (pc := 2) dX3_brings_2 ?_
  refine r_istore4 (pc := 3) dX3_brings_3 rfl ?_
  refine r_aload_n (pc := 5) dX3_brings_5 rfl ?_
  refine r_iload (pc := 6) dX3_brings_6 rfl ?_
  refine r_o2 (pc := 8) (bc' := 0) (bs' := 0) (ct_X3_isWet hw _) k_X3_82_3 dX3_brings_8 hw.k (Nat.le_of_ble_eq_true rfl) ⟨Nat.le_of_ble_eq_true rfl, Nat.le_of_ble_eq_true rfl⟩ ⟨Nat.le_of_ble_eq_true rfl, Nat.le_of_ble_eq_true rfl⟩ (r_ci fun r8 M8 p8 => ?_) nox
  obtain ⟨rfl, p8⟩ := p8
  have p8 := Eq.symm (show _ = _ from p8)
  subst p8
  refine r_if_eq (pc := 11) 24 dX3_brings_11 rfl (fun h11 => ?_) (fun h11 => ?_)
  · rw [bI_eq0] at h11
    refine r_iload (pc := 24) dX3_brings_24 rfl ?_
    refine r_iload_n (pc := 26) dX3_brings_26 rfl ?_
    refine r_mmin (pc := 27) dX3_brings_27 q1135 (Nat.le_of_ble_eq_true rfl) (Nat.le_of_ble_eq_true rfl) ?_
    refine r_ireturn (pc := 30) rfl dX3_brings_30 ⟨_, rfl, ?_⟩
    exact ⟨by unfold brC; first | rw [if_pos h11] | rw [if_neg h11], rfl⟩
  · rw [bI_ne0] at h11
    refine r_iload_n (pc := 14) dX3_brings_14 rfl ?_
    refine r_aload_n (pc := 15) dX3_brings_15 rfl ?_
    refine r_getIe (pc := 16) (v := σ 4 0) dX3_brings_16 fl_X3_51_3 hw.k (fun _ _ => rfl) hw.i1 ?_
    refine r_mmax (pc := 19) dX3_brings_19 q870 (Nat.le_of_ble_eq_true rfl) (Nat.le_of_ble_eq_true rfl) ?_
    refine r_istore4 (pc := 22) dX3_brings_22 rfl ?_
    refine r_iload (pc := 24) dX3_brings_24 rfl ?_
    refine r_iload_n (pc := 26) dX3_brings_26 rfl ?_
    refine r_mmin (pc := 27) dX3_brings_27 q1135 (Nat.le_of_ble_eq_true rfl) (Nat.le_of_ble_eq_true rfl) ?_
    refine r_ireturn (pc := 30) rfl dX3_brings_30 ⟨_, rfl, ?_⟩
    exact ⟨by unfold brC; first | rw [if_pos h11] | rw [if_neg h11], rfl⟩
theorem ct_X3_mayThrow {M : PM} {wa : Nat} {σ : cS} (hw : WX M wa σ) (x1 x2 x3 : Int32) (hB : OkT σ) (hm : mnP σ x1) (ht : thP σ x2) : Ct (YX3_mayThrow, (6, 143, 0, 0), qi (fun r M' => r = bI (throwP σ x1 x2 x3) ∧ M' = M), noX) [.ref wa, .int x1, .int x2, .int x3] M := by
  refine ct_of [some (.ref wa), some (.int x1), some (.int x2), some (.int x3)] rfl rfl rfl (Nat.le_of_ble_eq_true rfl) rfl rfl ?_
  refine r_iload_n (pc := 0) dX3_mayThrow_0 rfl ?_
  refine r_iconst (pc := 1) (v := 2) dX3_mayThrow_1 (by decide) ?_
  refine r_aload_n (pc := 2) dX3_mayThrow_2 rfl ?_
  refine r_iload_n (pc := 3) dX3_mayThrow_3 rfl ?_
  refine r_iload_n (pc := 4) dX3_mayThrow_4 rfl ?_
  refine r_o3 (pc := 5) (bc' := 0) (bs' := 0) (ct_X3_far hw _ _ hB hm ht) k_X3_107_3 dX3_mayThrow_5 hw.k (Nat.le_of_ble_eq_true rfl) ⟨Nat.le_of_ble_eq_true rfl, Nat.le_of_ble_eq_true rfl⟩ ⟨Nat.le_of_ble_eq_true rfl, Nat.le_of_ble_eq_true rfl⟩ (r_ci fun r5 M5 p5 => ?_) nox
  obtain ⟨rfl, p5⟩ := p5
  have p5 := Eq.symm (show _ = _ from p5)
  subst p5
  refine r_imul (pc := 8) dX3_mayThrow_8 ?_
  refine r_icmp_gt (pc := 9) 31 dX3_mayThrow_9 rfl (fun h9 => ?_) (fun h9 => ?_)
  · refine r_iconst (pc := 31) (v := 0) dX3_mayThrow_31 (by decide) ?_
    refine r_zreturn (pc := 32) rfl rfl dX3_mayThrow_32 ⟨_, rfl, ?_⟩
    exact ⟨(bI_f (fun hh => by first | exact hh.1 h9 | exact h24 hh.2)).symm, rfl⟩
  · refine r_aload_n (pc := 12) dX3_mayThrow_12 rfl ?_
    refine r_aload_n (pc := 13) dX3_mayThrow_13 rfl ?_
    refine r_getR (pc := 14) dX3_mayThrow_14 fl_X3_24_3 hw.k (fun _ _ => rfl) hw.r10 ?_
    refine r_iload_n (pc := 17) dX3_mayThrow_17 rfl ?_
    refine r_ialdv (pc := 18) (v := σ 14 (Int32.toNatClampNeg x2)) dX3_mayThrow_18 hw.k10 hw.z10 (hB.vt ht) (hw.a14 ht) ?_
    refine r_iload_n (pc := 19) dX3_mayThrow_19 rfl ?_
    refine r_iadd (pc := 20) dX3_mayThrow_20 ?_
    refine r_o2 (pc := 21) (bc' := 0) (bs' := 0) (ct_X3_isStep hw _) k_X3_118_3 dX3_mayThrow_21 hw.k (Nat.le_of_ble_eq_true rfl) ⟨Nat.le_of_ble_eq_true rfl, Nat.le_of_ble_eq_true rfl⟩ ⟨Nat.le_of_ble_eq_true rfl, Nat.le_of_ble_eq_true rfl⟩ (r_ci fun r21 M21 p21 => ?_) nox
    obtain ⟨rfl, p21⟩ := p21
    have p21 := Eq.symm (show _ = _ from p21)
    subst p21
    refine r_if_eq (pc := 24) 31 dX3_mayThrow_24 rfl (fun h24 => ?_) (fun h24 => ?_)
    · rw [bI_eq0] at h24
      refine r_iconst (pc := 31) (v := 0) dX3_mayThrow_31 (by decide) ?_
      refine r_zreturn (pc := 32) rfl rfl dX3_mayThrow_32 ⟨_, rfl, ?_⟩
      exact ⟨(bI_f (fun hh => by first | exact hh.1 h9 | exact h24 hh.2)).symm, rfl⟩
    · rw [bI_ne0] at h24
      refine r_iconst (pc := 27) (v := 1) dX3_mayThrow_27 (by decide) ?_
      refine r_goto (pc := 28) 32 dX3_mayThrow_28 rfl ?_
      refine r_zreturn (pc := 32) rfl rfl dX3_mayThrow_32 ⟨_, rfl, ?_⟩
      exact ⟨(bI_t ⟨h9, h24⟩).symm, rfl⟩
theorem sI_comm {M : PM} {a b k j : Nat} {u v : Int32} (h : a ≠ b) : sI (sI M a k u) b j v = sI (sI M b j v) a k u := by
  refine PM_ext rfl rfl rfl ?_ rfl rfl
  funext q
  show up2 (up2 (mI M) a k u) b j v q = up2 (up2 (mI M) b j v) a k u q
  by_cases h1 : q = a
  · subst h1
    rw [up2_ne h, up2_self, up2_self, up2_ne h]
  · by_cases h2 : q = b
    · subst h2
      rw [up2_self, up2_ne h1, up2_ne h1, up2_self]
    · rw [up2_ne h2, up2_ne h1, up2_ne h1, up2_ne h2]
theorem n_suc {x : Int32} {n : Nat} (h : bd x 0 n) (hn : n < 100) : Int32.toNatClampNeg (x + 1) = Int32.toNatClampNeg x + 1 := by
  have e : (x + 1).toInt = x.toInt + 1 := i_add (by have := h.1; have := h.2; have : (1 : Int32).toInt = 1 := by decide
                                                    omega) (by have := h.1; have := h.2; have : (1 : Int32).toInt = 1 := by decide
                                                               omega)
  show (x + 1).toInt.toNat = x.toInt.toNat + 1
  rw [e]
  have := h.1
  omega
section
variable {M M' : PM} {wa : Nat} {σ : cS}
/-- one more man, want, thing counts -/
theorem WX.c1 (h : WX M wa σ) (hb : bd (σ 1 0) 0 8) (hn : mI M (wa + 5) (Int32.toNatClampNeg (σ 1 0)) = σ 17 (Int32.toNatClampNeg (σ 1 0)) ∧ mI M (wa + 6) (Int32.toNatClampNeg (σ 1 0)) = σ 18 (Int32.toNatClampNeg (σ 1 0))) : WX (sI M wa 5 (σ 1 0 + 1)) wa (up2 σ 1 0 (σ 1 0 + 1)) := by
  have hz : ∀ q, q ≠ 1 → up2 σ 1 0 (σ 1 0 + 1) q = σ q := fun q hq => up2_ne hq
  have hk : up2 σ 1 0 (σ 1 0 + 1) 1 0 = σ 1 0 + 1 := (congrFun (up2_self σ 1 0 _) 0).trans (va_up_self _ _ _)
  have hw : ∀ o, 1 ≤ o → mI (sI M wa 5 (σ 1 0 + 1)) (wa + o) = mI M (wa + o) := fun o ho => up2_ne (by omega)
  obtain ⟨i0, i1, i2, i3, i4, i5, i6, i7, i8⟩ := h.2.1
  have hs : ∀ q, q ≠ 5 → mI (sI M wa 5 (σ 1 0 + 1)) wa q = mI M wa q := fun q hq => (congrFun (up2_self _ _ _ _) q).trans (va_up_ne _ _ hq)
  have he : mI (sI M wa 5 (σ 1 0 + 1)) wa 5 = up2 σ 1 0 (σ 1 0 + 1) 1 0 := ((congrFun (up2_self _ _ _ _) 5).trans (va_up_self _ _ _)).trans hk.symm
  have hT : ∀ j, ((∃ ta, mR M (wa + 1) j = some ta ∧ TH M σ j ta) ∧ mI M (wa + 2) j = σ 14 j ∧ mI M (wa + 3) j = σ 15 j ∧ mI M (wa + 4) j = σ 16 j) → (∃ ta, mR (sI M wa 5 (σ 1 0 + 1)) (wa + 1) j = some ta ∧ TH (sI M wa 5 (σ 1 0 + 1)) (up2 σ 1 0 (σ 1 0 + 1)) j ta) ∧ mI (sI M wa 5 (σ 1 0 + 1)) (wa + 2) j = up2 σ 1 0 (σ 1 0 + 1) 14 j ∧ mI (sI M wa 5 (σ 1 0 + 1)) (wa + 3) j = up2 σ 1 0 (σ 1 0 + 1) 15 j ∧ mI (sI M wa 5 (σ 1 0 + 1)) (wa + 4) j = up2 σ 1 0 (σ 1 0 + 1) 16 j := by
    rintro j ⟨⟨ta, a1, a2⟩, a3, a4, a5⟩
    have hn9 := h.1.nth a2.2.1
    have h9 : mI (sI M wa 5 (σ 1 0 + 1)) ta = mI M ta := up2_ne (fun e => hn9 ⟨by omega, by omega⟩)
    refine ⟨⟨ta, a1, ?_⟩, by rw [hw 2 (by decide), hz 14 (by decide)]; exact a3, by rw [hw 3 (by decide), hz 15 (by decide)]; exact a4, by rw [hw 4 (by decide), hz 16 (by decide)]; exact a5⟩
    unfold TH
    rw [h9, hz 11 (by decide), hz 12 (by decide), hz 13 (by decide)]
    exact a2
  refine ⟨h.1, ⟨by rw [hs 0 (by decide), hz 3 (by decide)]; exact i0, by rw [hs 1 (by decide), hz 4 (by decide)]; exact i1, by rw [hs 2 (by decide), hz 5 (by decide)]; exact i2, by rw [hs 3 (by decide), hz 6 (by decide)]; exact i3, by rw [hs 4 (by decide), hz 0 (by decide)]; exact i4, he, by rw [hs 6 (by decide), hz 2 (by decide)]; exact i6, by rw [hs 7 (by decide), hz 8 (by decide)]; exact i7, by rw [hs 8 (by decide), hz 7 (by decide)]; exact i8⟩, ?_, ?_, ?_⟩
  · intro j hj
    rw [hz 0 (by decide)] at hj
    exact hT j (h.2.2.1 j hj)
  · intro j hj
    rw [hk, n_suc hb (by decide)] at hj
    rw [hw 5 (by decide), hw 6 (by decide), hz 17 (by decide), hz 18 (by decide)]
    rcases Nat.lt_succ_iff_lt_or_eq.mp hj with hj | hj
    · exact h.2.2.2.1 j hj
    · rw [hj]; exact hn
  · intro j hj
    rw [hz 2 (by decide)] at hj
    rw [hw 7 (by decide), hw 8 (by decide), hw 9 (by decide), hz 19 (by decide), hz 20 (by decide), hz 21 (by decide)]
    exact h.2.2.2.2 j hj
theorem WX.c2 (h : WX M wa σ) (hb : bd (σ 2 0) 0 4) (hn : mI M (wa + 7) (Int32.toNatClampNeg (σ 2 0)) = σ 19 (Int32.toNatClampNeg (σ 2 0)) ∧ mI M (wa + 8) (Int32.toNatClampNeg (σ 2 0)) = σ 20 (Int32.toNatClampNeg (σ 2 0)) ∧ mI M (wa + 9) (Int32.toNatClampNeg (σ 2 0)) = σ 21 (Int32.toNatClampNeg (σ 2 0))) : WX (sI M wa 6 (σ 2 0 + 1)) wa (up2 σ 2 0 (σ 2 0 + 1)) := by
  have hz : ∀ q, q ≠ 2 → up2 σ 2 0 (σ 2 0 + 1) q = σ q := fun q hq => up2_ne hq
  have hk : up2 σ 2 0 (σ 2 0 + 1) 2 0 = σ 2 0 + 1 := (congrFun (up2_self σ 2 0 _) 0).trans (va_up_self _ _ _)
  have hw : ∀ o, 1 ≤ o → mI (sI M wa 6 (σ 2 0 + 1)) (wa + o) = mI M (wa + o) := fun o ho => up2_ne (by omega)
  obtain ⟨i0, i1, i2, i3, i4, i5, i6, i7, i8⟩ := h.2.1
  have hs : ∀ q, q ≠ 6 → mI (sI M wa 6 (σ 2 0 + 1)) wa q = mI M wa q := fun q hq => (congrFun (up2_self _ _ _ _) q).trans (va_up_ne _ _ hq)
  have he : mI (sI M wa 6 (σ 2 0 + 1)) wa 6 = up2 σ 2 0 (σ 2 0 + 1) 2 0 := ((congrFun (up2_self _ _ _ _) 6).trans (va_up_self _ _ _)).trans hk.symm
  have hT : ∀ j, ((∃ ta, mR M (wa + 1) j = some ta ∧ TH M σ j ta) ∧ mI M (wa + 2) j = σ 14 j ∧ mI M (wa + 3) j = σ 15 j ∧ mI M (wa + 4) j = σ 16 j) → (∃ ta, mR (sI M wa 6 (σ 2 0 + 1)) (wa + 1) j = some ta ∧ TH (sI M wa 6 (σ 2 0 + 1)) (up2 σ 2 0 (σ 2 0 + 1)) j ta) ∧ mI (sI M wa 6 (σ 2 0 + 1)) (wa + 2) j = up2 σ 2 0 (σ 2 0 + 1) 14 j ∧ mI (sI M wa 6 (σ 2 0 + 1)) (wa + 3) j = up2 σ 2 0 (σ 2 0 + 1) 15 j ∧ mI (sI M wa 6 (σ 2 0 + 1)) (wa + 4) j = up2 σ 2 0 (σ 2 0 + 1) 16 j := by
    rintro j ⟨⟨ta, a1, a2⟩, a3, a4, a5⟩
    have hn9 := h.1.nth a2.2.1
    have h9 : mI (sI M wa 6 (σ 2 0 + 1)) ta = mI M ta := up2_ne (fun e => hn9 ⟨by omega, by omega⟩)
    refine ⟨⟨ta, a1, ?_⟩, by rw [hw 2 (by decide), hz 14 (by decide)]; exact a3, by rw [hw 3 (by decide), hz 15 (by decide)]; exact a4, by rw [hw 4 (by decide), hz 16 (by decide)]; exact a5⟩
    unfold TH
    rw [h9, hz 11 (by decide), hz 12 (by decide), hz 13 (by decide)]
    exact a2
  refine ⟨h.1, ⟨by rw [hs 0 (by decide), hz 3 (by decide)]; exact i0, by rw [hs 1 (by decide), hz 4 (by decide)]; exact i1, by rw [hs 2 (by decide), hz 5 (by decide)]; exact i2, by rw [hs 3 (by decide), hz 6 (by decide)]; exact i3, by rw [hs 4 (by decide), hz 0 (by decide)]; exact i4, by rw [hs 5 (by decide), hz 1 (by decide)]; exact i5, he, by rw [hs 7 (by decide), hz 8 (by decide)]; exact i7, by rw [hs 8 (by decide), hz 7 (by decide)]; exact i8⟩, ?_, ?_, ?_⟩
  · intro j hj
    rw [hz 0 (by decide)] at hj
    exact hT j (h.2.2.1 j hj)
  · intro j hj
    rw [hz 1 (by decide)] at hj
    rw [hw 5 (by decide), hw 6 (by decide), hz 17 (by decide), hz 18 (by decide)]
    exact h.2.2.2.1 j hj
  · intro j hj
    rw [hk, n_suc hb (by decide)] at hj
    rw [hw 7 (by decide), hw 8 (by decide), hw 9 (by decide), hz 19 (by decide), hz 20 (by decide), hz 21 (by decide)]
    rcases Nat.lt_succ_iff_lt_or_eq.mp hj with hj | hj
    · exact h.2.2.2.2 j hj
    · rw [hj]; exact hn
theorem WX.c0 (h : WX M wa σ) (hb : bd (σ 0 0) 0 8) (hn : (∃ ta, mR M (wa + 1) (Int32.toNatClampNeg (σ 0 0)) = some ta ∧ TH M σ (Int32.toNatClampNeg (σ 0 0)) ta) ∧ mI M (wa + 2) (Int32.toNatClampNeg (σ 0 0)) = σ 14 (Int32.toNatClampNeg (σ 0 0)) ∧ mI M (wa + 3) (Int32.toNatClampNeg (σ 0 0)) = σ 15 (Int32.toNatClampNeg (σ 0 0)) ∧ mI M (wa + 4) (Int32.toNatClampNeg (σ 0 0)) = σ 16 (Int32.toNatClampNeg (σ 0 0))) : WX (sI M wa 4 (σ 0 0 + 1)) wa (up2 σ 0 0 (σ 0 0 + 1)) := by
  have hz : ∀ q, q ≠ 0 → up2 σ 0 0 (σ 0 0 + 1) q = σ q := fun q hq => up2_ne hq
  have hk : up2 σ 0 0 (σ 0 0 + 1) 0 0 = σ 0 0 + 1 := (congrFun (up2_self σ 0 0 _) 0).trans (va_up_self _ _ _)
  have hw : ∀ o, 1 ≤ o → mI (sI M wa 4 (σ 0 0 + 1)) (wa + o) = mI M (wa + o) := fun o ho => up2_ne (by omega)
  obtain ⟨i0, i1, i2, i3, i4, i5, i6, i7, i8⟩ := h.2.1
  have hs : ∀ q, q ≠ 4 → mI (sI M wa 4 (σ 0 0 + 1)) wa q = mI M wa q := fun q hq => (congrFun (up2_self _ _ _ _) q).trans (va_up_ne _ _ hq)
  have he : mI (sI M wa 4 (σ 0 0 + 1)) wa 4 = up2 σ 0 0 (σ 0 0 + 1) 0 0 := ((congrFun (up2_self _ _ _ _) 4).trans (va_up_self _ _ _)).trans hk.symm
  have hT : ∀ j, ((∃ ta, mR M (wa + 1) j = some ta ∧ TH M σ j ta) ∧ mI M (wa + 2) j = σ 14 j ∧ mI M (wa + 3) j = σ 15 j ∧ mI M (wa + 4) j = σ 16 j) → (∃ ta, mR (sI M wa 4 (σ 0 0 + 1)) (wa + 1) j = some ta ∧ TH (sI M wa 4 (σ 0 0 + 1)) (up2 σ 0 0 (σ 0 0 + 1)) j ta) ∧ mI (sI M wa 4 (σ 0 0 + 1)) (wa + 2) j = up2 σ 0 0 (σ 0 0 + 1) 14 j ∧ mI (sI M wa 4 (σ 0 0 + 1)) (wa + 3) j = up2 σ 0 0 (σ 0 0 + 1) 15 j ∧ mI (sI M wa 4 (σ 0 0 + 1)) (wa + 4) j = up2 σ 0 0 (σ 0 0 + 1) 16 j := by
    rintro j ⟨⟨ta, a1, a2⟩, a3, a4, a5⟩
    have hn9 := h.1.nth a2.2.1
    have h9 : mI (sI M wa 4 (σ 0 0 + 1)) ta = mI M ta := up2_ne (fun e => hn9 ⟨by omega, by omega⟩)
    refine ⟨⟨ta, a1, ?_⟩, by rw [hw 2 (by decide), hz 14 (by decide)]; exact a3, by rw [hw 3 (by decide), hz 15 (by decide)]; exact a4, by rw [hw 4 (by decide), hz 16 (by decide)]; exact a5⟩
    unfold TH
    rw [h9, hz 11 (by decide), hz 12 (by decide), hz 13 (by decide)]
    exact a2
  refine ⟨h.1, ⟨by rw [hs 0 (by decide), hz 3 (by decide)]; exact i0, by rw [hs 1 (by decide), hz 4 (by decide)]; exact i1, by rw [hs 2 (by decide), hz 5 (by decide)]; exact i2, by rw [hs 3 (by decide), hz 6 (by decide)]; exact i3, he, by rw [hs 5 (by decide), hz 1 (by decide)]; exact i5, by rw [hs 6 (by decide), hz 2 (by decide)]; exact i6, by rw [hs 7 (by decide), hz 8 (by decide)]; exact i7, by rw [hs 8 (by decide), hz 7 (by decide)]; exact i8⟩, ?_, ?_, ?_⟩
  · intro j hj
    rw [hk, n_suc hb (by decide)] at hj
    rcases Nat.lt_succ_iff_lt_or_eq.mp hj with hj | hj
    · exact hT j (h.2.2.1 j hj)
    · rw [hj]; exact hT _ hn
  · intro j hj
    rw [hz 1 (by decide)] at hj
    rw [hw 5 (by decide), hw 6 (by decide), hz 17 (by decide), hz 18 (by decide)]
    exact h.2.2.2.1 j hj
  · intro j hj
    rw [hz 2 (by decide)] at hj
    rw [hw 7 (by decide), hw 8 (by decide), hw 9 (by decide), hz 19 (by decide), hz 20 (by decide), hz 21 (by decide)]
    exact h.2.2.2.2 j hj
end
/-- stores into a World are within it -/
theorem inW_o {wa o : Nat} (h : o < 10) : inW wa (wa + o) := ⟨Nat.le_add_right _ _, Nat.add_lt_add_left h _⟩
theorem inW_0 {wa : Nat} : inW wa wa := ⟨Nat.le_refl _, by omega⟩
theorem TH.c {M : PM} {σ : cS} {i ta : Nat} (h : TH M σ i ta) (hb : bd (σ 11 i) 0 6) : ∃ c, 12 ≤ c ∧ c ≤ 18 ∧ mK M ta = (1, c) := by
  refine ⟨_, Nat.le_add_right _ _, ?_, h.2.1⟩
  have := hb.1
  have := hb.2
  show 12 + (σ 11 i).toInt.toNat ≤ 18
  omega
/-- an int of a thing, of whichever class -/
theorem r_thI {G : GT} {bc bs : Nat} {M : PM} {pc : Nat} {ls : List (Option Value)} {st : List Value} {σ : cS} {i ta k idx : Nat} {v : Int32} (d : decode (gc G) pc = .ok (.getfield idx, 3)) (h : TH M σ i ta) (hb : bd (σ 11 i) 0 6) (hfl : ∀ c, 12 ≤ c → c ≤ 18 → FL (gy G).cls idx c k) (hv : ∀ c, 12 ≤ c → c ≤ 18 → ∀ i r, fv (ftX c k) i r = .int i) (e : mI M ta k = v) (kk : Wx G bc bs M (pc + 3) ls (.int v :: st)) : Wx G bc bs M pc ls (.ref ta :: st) := by
  obtain ⟨c, c1, c2, hK⟩ := h.c hb
  exact r_getIe d (hfl c c1 c2) hK (hv c c1 c2) e kk
theorem fvs_0 : ∀ c, 12 ≤ c → c ≤ 18 → ∀ i r, fv (ftX c 0) i r = .int i := by
  intro c h1 h2 i r
  match c, h1, h2 with
  | 12, _, _ => rfl
  | 13, _, _ => rfl
  | 14, _, _ => rfl
  | 15, _, _ => rfl
  | 16, _, _ => rfl
  | 17, _, _ => rfl
  | 18, _, _ => rfl
  | c + 19, _, h => exact absurd h (by omega)
theorem fvs_1 : ∀ c, 12 ≤ c → c ≤ 18 → ∀ i r, fv (ftX c 1) i r = .int i := by
  intro c h1 h2 i r
  match c, h1, h2 with
  | 12, _, _ => rfl
  | 13, _, _ => rfl
  | 14, _, _ => rfl
  | 15, _, _ => rfl
  | 16, _, _ => rfl
  | 17, _, _ => rfl
  | 18, _, _ => rfl
  | c + 19, _, h => exact absurd h (by omega)
theorem fvs_2 : ∀ c, 12 ≤ c → c ≤ 18 → ∀ i r, fv (ftX c 2) i r = .int i := by
  intro c h1 h2 i r
  match c, h1, h2 with
  | 12, _, _ => rfl
  | 13, _, _ => rfl
  | 14, _, _ => rfl
  | 15, _, _ => rfl
  | 16, _, _ => rfl
  | 17, _, _ => rfl
  | 18, _, _ => rfl
  | c + 19, _, h => exact absurd h (by omega)
theorem fls_X0_146 : ∀ c, 12 ≤ c → c ≤ 18 → FL "NoFartherThanAThrow" 146 c 0 := by
  intro c h1 h2
  match c, h1, h2 with
  | 12, _, _ => exact fl_X0_146_12
  | 13, _, _ => exact fl_X0_146_13
  | 14, _, _ => exact fl_X0_146_14
  | 15, _, _ => exact fl_X0_146_15
  | 16, _, _ => exact fl_X0_146_16
  | 17, _, _ => exact fl_X0_146_17
  | 18, _, _ => exact fl_X0_146_18
  | c + 19, _, h => exact absurd h (by omega)
theorem fls_X0_256 : ∀ c, 12 ≤ c → c ≤ 18 → FL "NoFartherThanAThrow" 256 c 1 := by
  intro c h1 h2
  match c, h1, h2 with
  | 12, _, _ => exact fl_X0_256_12
  | 13, _, _ => exact fl_X0_256_13
  | 14, _, _ => exact fl_X0_256_14
  | 15, _, _ => exact fl_X0_256_15
  | 16, _, _ => exact fl_X0_256_16
  | 17, _, _ => exact fl_X0_256_17
  | 18, _, _ => exact fl_X0_256_18
  | c + 19, _, h => exact absurd h (by omega)
theorem fls_X0_259 : ∀ c, 12 ≤ c → c ≤ 18 → FL "NoFartherThanAThrow" 259 c 2 := by
  intro c h1 h2
  match c, h1, h2 with
  | 12, _, _ => exact fl_X0_259_12
  | 13, _, _ => exact fl_X0_259_13
  | 14, _, _ => exact fl_X0_259_14
  | 15, _, _ => exact fl_X0_259_15
  | 16, _, _ => exact fl_X0_259_16
  | 17, _, _ => exact fl_X0_259_17
  | 18, _, _ => exact fl_X0_259_18
  | c + 19, _, h => exact absurd h (by omega)
theorem fls_X3_108 : ∀ c, 12 ≤ c → c ≤ 18 → FL "NoFartherThanAThrow$World" 108 c 1 := by
  intro c h1 h2
  match c, h1, h2 with
  | 12, _, _ => exact fl_X3_108_12
  | 13, _, _ => exact fl_X3_108_13
  | 14, _, _ => exact fl_X3_108_14
  | 15, _, _ => exact fl_X3_108_15
  | 16, _, _ => exact fl_X3_108_16
  | 17, _, _ => exact fl_X3_108_17
  | 18, _, _ => exact fl_X3_108_18
  | c + 19, _, h => exact absurd h (by omega)
theorem ct_X3_tires {M : PM} {wa : Nat} {σ : cS} (hw : WX M wa σ) (x1 x2 : Int32) (hB : OkT σ) (hm : mnP σ x1) (ht : thP σ x2) : Ct (YX3_tires, (1, 24, 0, 0), qv (fun M' => WX M' wa (tiresS σ (Int32.toNatClampNeg x1) (Int32.toNatClampNeg x2)) ∧ frP (inW wa) M M' ∧ mR M' = mR M), noX) [.ref wa, .int x1, .int x2] M := by
  refine ct_of [some (.ref wa), some (.int x1), some (.int x2)] rfl rfl rfl (Nat.le_of_ble_eq_true rfl) rfl rfl ?_
  refine r_aload_n (pc := 0) dX3_tires_0 rfl ?_
  refine r_getR (pc := 1) dX3_tires_1 fl_X3_38_3 hw.k (fun _ _ => rfl) hw.r14 ?_
  refine r_iload_n (pc := 4) dX3_tires_4 rfl ?_
  refine r_bipush (pc := 5) (v := 99) dX3_tires_5 (by decide) ?_
  refine r_aload_n (pc := 7) dX3_tires_7 rfl ?_
  refine r_getR (pc := 8) dX3_tires_8 fl_X3_38_3 hw.k (fun _ _ => rfl) hw.r14 ?_
  refine r_iload_n (pc := 11) dX3_tires_11 rfl ?_
  refine r_ialdv (pc := 12) (v := σ 18 (Int32.toNatClampNeg x1)) dX3_tires_12 hw.k14 hw.z14 (hB.vm hm) (hw.a18 hm) ?_
  refine r_aload_n (pc := 13) dX3_tires_13 rfl ?_
  refine r_getR (pc := 14) dX3_tires_14 fl_X3_20_3 hw.k (fun _ _ => rfl) hw.r9 ?_
  refine r_iload_n (pc := 17) dX3_tires_17 rfl ?_
  obtain ⟨ta, hr, hT⟩ := hw.th ht
  refine r_aaldR (pc := 18) dX3_tires_18 hw.k9 rfl hw.z9 (hB.vt ht) hr ?_
  refine r_thI (pc := 19) (k := 1) (v := σ 12 (Int32.toNatClampNeg x2)) dX3_tires_19 hT (hB.2 _ (ix_lt ht.1 ht.2)).1 fls_X3_108 fvs_1 hT.2.2.2.1 ?_
  refine r_bipush (pc := 22) (v := 10) dX3_tires_22 (by decide) ?_
  refine r_idiv (pc := 24) dX3_tires_24 (by decide) ?_
  refine r_iadd (pc := 25) dX3_tires_25 ?_
  refine r_iconst (pc := 26) (v := 1) dX3_tires_26 (by decide) ?_
  refine r_iadd (pc := 27) dX3_tires_27 ?_
  refine r_mmin (pc := 28) dX3_tires_28 q1135 (Nat.le_of_ble_eq_true rfl) (Nat.le_of_ble_eq_true rfl) ?_
  refine r_iast (pc := 31) dX3_tires_31 hw.k14 hw.z14 (hB.vm hm) ?_
  refine r_return (pc := 32) rfl dX3_tires_32 ⟨rfl, ?_⟩
  rw [low_99]
  exact ⟨hw.put (k := 18) (by decide) (by decide), frP.rf.sI (fun _ => inW_o (by decide)), rfl⟩
theorem OkT.u {σ : cS} (h : OkT σ) {k i : Nat} {v : Int32} (hk : 14 ≤ k ∨ (3 ≤ k ∧ k ≤ 10)) : OkT (up2 σ k i v) := h.c (fun q hq => by rw [up2_ne (by omega)]) (fun q h1 h2 => up2_ne (by omega))
theorem carries_e (σ : cS) (m : Int32) (t : Nat) (d : Int32) : tiresS (up2 (up2 σ 14 t (σ 14 t + d)) 15 t m) (Int32.toNatClampNeg m) t = carriesS σ m t d := by
  unfold tiresS carriesS
  rw [show up2 (up2 σ 14 t (σ 14 t + d)) 15 t m 18 = σ 18 from rfl, show up2 (up2 σ 14 t (σ 14 t + d)) 15 t m 12 = σ 12 from rfl]
theorem ct_X3_carry {M : PM} {wa : Nat} {σ : cS} (hw : WX M wa σ) (x1 x2 x3 : Int32) (hB : OkT σ) (hm : mnP σ x1) (ht : thP σ x2) : Ct (YX3_carry, (2, 46, 0, 0), qv (fun M' => WX M' wa (carriesS σ x1 (Int32.toNatClampNeg x2) x3) ∧ frP (inW wa) M M' ∧ mR M' = mR M), noX) [.ref wa, .int x1, .int x2, .int x3] M := by
  refine ct_of [some (.ref wa), some (.int x1), some (.int x2), some (.int x3)] rfl rfl rfl (Nat.le_of_ble_eq_true rfl) rfl rfl ?_
  refine r_aload_n (pc := 0) dX3_carry_0 rfl ?_
  refine r_getR (pc := 1) dX3_carry_1 fl_X3_24_3 hw.k (fun _ _ => rfl) hw.r10 ?_
  refine r_iload_n (pc := 4) dX3_carry_4 rfl ?_
  refine r_dup2 (pc := 5) dX3_carry_5 rfl rfl ?_
  refine r_ialdv (pc := 6) (v := σ 14 (Int32.toNatClampNeg x2)) dX3_carry_6 hw.k10 hw.z10 (hB.vt ht) (hw.a14 ht) ?_
  refine r_iload_n (pc := 7) dX3_carry_7 rfl ?_
  refine r_iadd (pc := 8) dX3_carry_8 ?_
  refine r_iast (pc := 9) dX3_carry_9 hw.k10 hw.z10 (hB.vt ht) ?_
  have hw1 := hw.put (k := 14) (i := (Int32.toNatClampNeg x2)) (v := σ 14 (Int32.toNatClampNeg x2) + x3) (by decide) (by decide)
  refine r_aload_n (pc := 10) dX3_carry_10 rfl ?_
  refine r_getR (pc := 11) dX3_carry_11 fl_X3_28_3 hw1.k (fun _ _ => rfl) hw1.r11 ?_
  refine r_iload_n (pc := 14) dX3_carry_14 rfl ?_
  refine r_iload_n (pc := 15) dX3_carry_15 rfl ?_
  refine r_iast (pc := 16) dX3_carry_16 hw1.k11 hw1.z11 (hB.vt ht) ?_
  have hw2 := hw1.put (k := 15) (i := (Int32.toNatClampNeg x2)) (v := x1) (by decide) (by decide)
  refine r_aload_n (pc := 17) dX3_carry_17 rfl ?_
  refine r_iload_n (pc := 18) dX3_carry_18 rfl ?_
  refine r_iload_n (pc := 19) dX3_carry_19 rfl ?_
  refine r_o3 (pc := 20) (bc' := 0) (bs' := 0) (ct_X3_tires hw2 _ _ ((hB.u (Or.inl (by decide))).u (Or.inl (by decide))) hm ht) k_X3_114_3 dX3_carry_20 hw2.k (Nat.le_of_ble_eq_true rfl) ⟨Nat.le_of_ble_eq_true rfl, Nat.le_of_ble_eq_true rfl⟩ ⟨Nat.le_of_ble_eq_true rfl, Nat.le_of_ble_eq_true rfl⟩ (r_cv fun M20 p20 => ?_) nox
  obtain ⟨w3, f3, g3⟩ := p20
  refine r_return (pc := 23) rfl dX3_carry_23 ⟨rfl, ?_⟩
  refine ⟨?_, frP.trans ((frP.rf.sI (fun _ => inW_o (o := 2) (by decide))).sI (fun _ => inW_o (o := 3) (by decide))) f3, g3⟩
  rw [← carries_e]
  exact w3
theorem ct_X3_draw {M : PM} {wa : Nat} {σ : cS} (hw : WX M wa σ) (x1 : Int32) (h0 : ¬ x1 = 0) : Ct (YX3_draw, (0, 0, 0, 0), qi (fun r M' => r = drC (σ 7 0) x1 ∧ WX M' wa (up2 σ 7 0 (sdC (σ 7 0))) ∧ frP (inW wa) M M' ∧ mR M' = mR M), noX) [.ref wa, .int x1] M := by
  refine ct_of [some (.ref wa), some (.int x1)] rfl rfl rfl (Nat.le_of_ble_eq_true rfl) rfl rfl ?_
  refine r_aload_n (pc := 0) dX3_draw_0 rfl ?_
  refine r_aload_n (pc := 1) dX3_draw_1 rfl ?_
  refine r_getIe (pc := 2) (v := σ 7 0) dX3_draw_2 fl_X3_15_3 hw.k (fun _ _ => rfl) hw.i8 ?_
  refine r_ldc (pc := 5) dX3_draw_5 q1270 ?_
  refine r_imul (pc := 7) dX3_draw_7 ?_
  refine r_sipush (pc := 8) (v := 12345) dX3_draw_8 (by decide) ?_
  refine r_iadd (pc := 11) dX3_draw_11 ?_
  refine r_putI (pc := 12) dX3_draw_12 fl_X3_15_3 hw.k rfl rfl ?_
  have hw1 := hw.s7 (v := sdC (σ 7 0))
  refine r_aload_n (pc := 15) dX3_draw_15 rfl ?_
  refine r_getIe (pc := 16) (v := (up2 σ 7 0 (sdC (σ 7 0))) 7 0) dX3_draw_16 fl_X3_15_3 hw1.k (fun _ _ => rfl) hw1.i8 ?_
  refine r_bipush (pc := 19) (v := 16) dX3_draw_19 (by decide) ?_
  refine r_iushr (pc := 21) dX3_draw_21 ?_
  refine r_iload_n (pc := 22) dX3_draw_22 rfl ?_
  refine r_irem (pc := 23) dX3_draw_23 h0 ?_
  refine r_ireturn (pc := 24) rfl dX3_draw_24 ⟨_, rfl, ?_⟩
  refine ⟨?_, hw1, frP.rf.sI (fun _ => inW_0), rfl⟩
  show _ = drC (σ 7 0) x1
  rw [up2_self, va_up_self]
  rfl
theorem vp_c {x : Int32} {n : Nat} (h : bd x 0 n) (h8 : ¬ x = Int32.ofNat n) (hn : n < 100) : vp_in x n := by
  rw [vp_in_iff]
  have e : (Int32.ofNat n).toInt = n := nI_toInt (by omega)
  have : x.toInt ≠ n := fun q => h8 (i_eq.mpr (by rw [e]; exact q))
  have := h.1
  have := h.2
  omega
theorem ct_X3_addMan {M : PM} {wa : Nat} {σ : cS} (hw : WX M wa σ) (x1 : Int32) (hB : OkT σ) (h8 : ¬ σ 1 0 = 8) : Ct (YX3_addMan, (0, 0, 0, 0), qv (fun M' => WX M' wa (menS σ x1) ∧ frP (inW wa) M M' ∧ mR M' = mR M), noX) [.ref wa, .int x1] M := by
  refine ct_of [some (.ref wa), some (.int x1)] rfl rfl rfl (Nat.le_of_ble_eq_true rfl) rfl rfl ?_
  refine r_aload_n (pc := 0) dX3_addMan_0 rfl ?_
  refine r_getR (pc := 1) dX3_addMan_1 fl_X3_35_3 hw.k (fun _ _ => rfl) hw.r13 ?_
  refine r_aload_n (pc := 4) dX3_addMan_4 rfl ?_
  refine r_getIe (pc := 5) (v := σ 1 0) dX3_addMan_5 fl_X3_63_3 hw.k (fun _ _ => rfl) hw.i5 ?_
  refine r_iload_n (pc := 8) dX3_addMan_8 rfl ?_
  refine r_iast (pc := 9) dX3_addMan_9 hw.k13 hw.z13 (vp_c hB.1.2.1 h8 (by decide)) ?_
  have hw1 := hw.put (k := 17) (i := (Int32.toNatClampNeg (σ 1 0))) (v := x1) (by decide) (by decide)
  refine r_aload_n (pc := 10) dX3_addMan_10 rfl ?_
  refine r_getR (pc := 11) dX3_addMan_11 fl_X3_38_3 hw1.k (fun _ _ => rfl) hw1.r14 ?_
  refine r_aload_n (pc := 14) dX3_addMan_14 rfl ?_
  refine r_dup (pc := 15) dX3_addMan_15 rfl ?_
  refine r_getIe (pc := 16) (v := σ 1 0) dX3_addMan_16 fl_X3_63_3 hw1.k (fun _ _ => rfl) hw1.i5 ?_
  refine r_dup_x1 (pc := 19) dX3_addMan_19 rfl rfl ?_
  refine r_iconst (pc := 20) (v := 1) dX3_addMan_20 (by decide) ?_
  refine r_iadd (pc := 21) dX3_addMan_21 ?_
  refine r_putI (pc := 22) dX3_addMan_22 fl_X3_63_3 hw1.k rfl rfl ?_
  refine r_iconst (pc := 25) (v := 0) dX3_addMan_25 (by decide) ?_
  refine r_iast (pc := 26) dX3_addMan_26 hw1.k14 hw1.z14 (vp_c hB.1.2.1 h8 (by decide)) ?_
  refine r_return (pc := 27) rfl dX3_addMan_27 ⟨rfl, ?_⟩
  refine ⟨?_, ((frP.rf.sI fun _ => inW_o (o := 5) (by decide)).sI fun _ => inW_0).sI (fun _ => inW_o (o := 6) (by decide)), rfl⟩
  rw [sI_comm (by omega)]
  exact WX.c1 (hw1.put (k := 18) (i := (Int32.toNatClampNeg (σ 1 0))) (v := 0) (by decide) (by decide)) hB.1.2.1 ⟨by simp [mI, sI, up2_ap], by simp [mI, sI, up2_ap]⟩
theorem ct_X3_addWant {M : PM} {wa : Nat} {σ : cS} (hw : WX M wa σ) (x1 x2 x3 : Int32) (hB : OkT σ) (h8 : ¬ σ 2 0 = 4) : Ct (YX3_addWant, (0, 0, 0, 0), qv (fun M' => WX M' wa (wantedS σ x1 x2 x3) ∧ frP (inW wa) M M' ∧ mR M' = mR M), noX) [.ref wa, .int x1, .int x2, .int x3] M := by
  refine ct_of [some (.ref wa), some (.int x1), some (.int x2), some (.int x3)] rfl rfl rfl (Nat.le_of_ble_eq_true rfl) rfl rfl ?_
  refine r_aload_n (pc := 0) dX3_addWant_0 rfl ?_
  refine r_getR (pc := 1) dX3_addWant_1 fl_X3_41_3 hw.k (fun _ _ => rfl) hw.r15 ?_
  refine r_aload_n (pc := 4) dX3_addWant_4 rfl ?_
  refine r_getIe (pc := 5) (v := σ 2 0) dX3_addWant_5 fl_X3_66_3 hw.k (fun _ _ => rfl) hw.i6 ?_
  refine r_iload_n (pc := 8) dX3_addWant_8 rfl ?_
  refine r_iast (pc := 9) dX3_addWant_9 hw.k15 hw.z15 (vp_c hB.1.2.2 h8 (by decide)) ?_
  have hw1 := hw.put (k := 19) (i := (Int32.toNatClampNeg (σ 2 0))) (v := x1) (by decide) (by decide)
  refine r_aload_n (pc := 10) dX3_addWant_10 rfl ?_
  refine r_getR (pc := 11) dX3_addWant_11 fl_X3_44_3 hw1.k (fun _ _ => rfl) hw1.r16 ?_
  refine r_aload_n (pc := 14) dX3_addWant_14 rfl ?_
  refine r_getIe (pc := 15) (v := σ 2 0) dX3_addWant_15 fl_X3_66_3 hw1.k (fun _ _ => rfl) hw1.i6 ?_
  refine r_iload_n (pc := 18) dX3_addWant_18 rfl ?_
  refine r_iast (pc := 19) dX3_addWant_19 hw1.k16 hw1.z16 (vp_c hB.1.2.2 h8 (by decide)) ?_
  have hw2 := hw1.put (k := 20) (i := (Int32.toNatClampNeg (σ 2 0))) (v := x2) (by decide) (by decide)
  refine r_aload_n (pc := 20) dX3_addWant_20 rfl ?_
  refine r_getR (pc := 21) dX3_addWant_21 fl_X3_47_3 hw2.k (fun _ _ => rfl) hw2.r17 ?_
  refine r_aload_n (pc := 24) dX3_addWant_24 rfl ?_
  refine r_dup (pc := 25) dX3_addWant_25 rfl ?_
  refine r_getIe (pc := 26) (v := σ 2 0) dX3_addWant_26 fl_X3_66_3 hw2.k (fun _ _ => rfl) hw2.i6 ?_
  refine r_dup_x1 (pc := 29) dX3_addWant_29 rfl rfl ?_
  refine r_iconst (pc := 30) (v := 1) dX3_addWant_30 (by decide) ?_
  refine r_iadd (pc := 31) dX3_addWant_31 ?_
  refine r_putI (pc := 32) dX3_addWant_32 fl_X3_66_3 hw2.k rfl rfl ?_
  refine r_iload_n (pc := 35) dX3_addWant_35 rfl ?_
  refine r_iast (pc := 36) dX3_addWant_36 hw2.k17 hw2.z17 (vp_c hB.1.2.2 h8 (by decide)) ?_
  refine r_return (pc := 37) rfl dX3_addWant_37 ⟨rfl, ?_⟩
  refine ⟨?_, (((frP.rf.sI fun _ => inW_o (o := 7) (by decide)).sI fun _ => inW_o (o := 8) (by decide)).sI fun _ => inW_0).sI (fun _ => inW_o (o := 9) (by decide)), rfl⟩
  rw [sI_comm (by omega)]
  exact WX.c2 (hw2.put (k := 21) (i := (Int32.toNatClampNeg (σ 2 0))) (v := x3) (by decide) (by decide)) hB.1.2.2 ⟨by simp [mI, sI, up2_ap], by simp [mI, sI, up2_ap], by simp [mI, sI, up2_ap]⟩
/-- a thing of whichever class into a row of things -/
theorem r_aastT {G : GT} {bc bs : Nat} {M : PM} {pc : Nat} {ls : List (Option Value)} {st : List Value} {a v n c : Nat} {i : Int32} (d : decode (gc G) pc = .ok (.aastore, 1)) (hK : mK M a = (2, 6)) (hz : mZ M a = n) (h1 : 12 ≤ c) (h2 : c ≤ 18) (hv : mK M v = (1, c)) (hin : vp_in i n) (kk : Wx G bc bs (sR M a i.toNatClampNeg (some v)) (pc + 1) ls st) : Wx G bc bs M pc ls (.ref v :: .int i :: .ref a :: st) := by
  match c, h1, h2, hv with
  | 12, _, _, hv => exact r_aast (RX12, TX12, 3) "NoFartherThanAThrow$Thing" d hK rfl hz hv rfl (Or.inl rfl) hin kk
  | 13, _, _, hv => exact r_aast (RX13, TX13, 3) "NoFartherThanAThrow$Thing" d hK rfl hz hv rfl (Or.inr q1951) hin kk
  | 14, _, _, hv => exact r_aast (RX14, TX14, 3) "NoFartherThanAThrow$Thing" d hK rfl hz hv rfl (Or.inr q1952) hin kk
  | 15, _, _, hv => exact r_aast (RX15, TX15, 3) "NoFartherThanAThrow$Thing" d hK rfl hz hv rfl (Or.inr q1949) hin kk
  | 16, _, _, hv => exact r_aast (RX16, TX16, 3) "NoFartherThanAThrow$Thing" d hK rfl hz hv rfl (Or.inr q1950) hin kk
  | 17, _, _, hv => exact r_aast (RX17, TX17, 3) "NoFartherThanAThrow$Thing" d hK rfl hz hv rfl (Or.inr q1953) hin kk
  | 18, _, _, hv => exact r_aast (RX18, TX18, 3) "NoFartherThanAThrow$Thing" d hK rfl hz hv rfl (Or.inr q1954) hin kk
  | c + 19, _, h, _ => exact absurd h (by omega)
def WTi (M : PM) (wa : Nat) (σ : cS) (i : Nat) : Prop := (∃ ta, mR M (wa + 1) i = some ta ∧ TH M σ i ta) ∧ mI M (wa + 2) i = σ 14 i ∧ mI M (wa + 3) i = σ 15 i ∧ mI M (wa + 4) i = σ 16 i
/-- a thing put at place i -/
def putS (σ : cS) (i : Nat) (k w e p b : Int32) : cS := up2 (up2 (up2 (up2 (up2 (up2 σ 11 i k) 12 i w) 13 i e) 14 i p) 15 i b) 16 i 0
section
variable {M M' : PM} {wa : Nat} {σ : cS}
theorem fr_th {c : Nat} {i w e : Int32} : frP noP M (thM M c i w e) := ((frP.rf.nw.sI fun h => absurd h (Nat.lt_irrefl _)).sI fun h => absurd h (Nat.lt_irrefl _)).sI fun h => absurd h (Nat.lt_irrefl _)
theorem WX.grown (h : WX M wa σ) (f : frP noP M M') : WX M' wa σ := h.fr f (fun _ _ h => h) (fun _ _ _ h => h)
/-- a thing's reference is put -/
theorem WX.pth (h : WX M wa σ) {i v : Nat} {k w e : Int32} (hv : v < M.1 ∧ mK M v = (1, 12 + Int32.toNatClampNeg k) ∧ mI M v 0 = nI i ∧ mI M v 1 = w ∧ mI M v 2 = e) : WX (sR M (wa + 1) i (some v)) wa (up2 (up2 (up2 σ 11 i k) 12 i w) 13 i e) ∧ (∃ ta, mR (sR M (wa + 1) i (some v)) (wa + 1) i = some ta ∧ TH (sR M (wa + 1) i (some v)) (up2 (up2 (up2 σ 11 i k) 12 i w) 13 i e) i ta) := by
  have hi : TH (sR M (wa + 1) i (some v)) (up2 (up2 (up2 σ 11 i k) 12 i w) 13 i e) i v := by
    obtain ⟨v0, v1, v2, v3, v4⟩ := hv
    refine ⟨v0, ?_, v2, ?_, ?_⟩
    · show mK M v = (1, 12 + Int32.toNatClampNeg (up2 (up2 (up2 σ 11 i k) 12 i w) 13 i e 11 i))
      rw [show up2 (up2 (up2 σ 11 i k) 12 i w) 13 i e 11 i = k by simp [up2_ap]]
      exact v1
    · show mI M v 1 = _
      rw [v3]; simp [up2_ap]
    · show mI M v 2 = _
      rw [v4]; simp [up2_ap]
  have hr : mR (sR M (wa + 1) i (some v)) (wa + 1) i = some v := (congrFun (up2_self _ _ _ _) i).trans (va_up_self _ _ _)
  refine ⟨⟨⟨h.1.1, h.1.2.1, fun j hj => ?_⟩, h.2.1, fun j hj => ?_, h.2.2.2.1, h.2.2.2.2⟩, v, hr, hi⟩
  · obtain ⟨h1, h2, h3⟩ := h.1.2.2 j hj
    refine ⟨?_, h2, h3⟩
    show up2 (mR M) (wa + 1) i (some v) wa (9 + j) = _
    rw [up2_ne (by omega)]
    exact h1
  · obtain ⟨⟨ta, a1, a2⟩, a3⟩ := h.2.2.1 j hj
    refine ⟨?_, a3⟩
    by_cases c : j = i
    · subst c
      exact ⟨v, hr, hi⟩
    · refine ⟨ta, ?_, ?_⟩
      · show up2 (mR M) (wa + 1) i (some v) (wa + 1) j = _
        rw [up2_self, va_up_ne _ _ c]
        exact a1
      · unfold TH at a2 ⊢
        have e1 : up2 (up2 (up2 σ 11 i k) 12 i w) 13 i e 11 j = σ 11 j := by simp [up2_ap, c]
        have e2 : up2 (up2 (up2 σ 11 i k) 12 i w) 13 i e 12 j = σ 12 j := by simp [up2_ap, c]
        have e3 : up2 (up2 (up2 σ 11 i k) 12 i w) 13 i e 13 j = σ 13 j := by simp [up2_ap, c]
        rw [e1, e2, e3]
        exact a2
end
theorem kd_le {k : Int32} (h : bd k 0 6) : 12 + Int32.toNatClampNeg k ≤ 18 := by
  have := h.1
  have := h.2
  show 12 + k.toInt.toNat ≤ 18
  omega
theorem nI_ix {x : Int32} {n : Nat} (h : vp_in x n) (hn : n < 100) : x = nI (Int32.toNatClampNeg x) := by
  obtain ⟨a, ha, rfl⟩ := vp_in_of h (by omega)
  rw [nI_clamp (by omega)]
theorem ct_X3_putThing {M : PM} {wa : Nat} {σ : cS} (hw : WX M wa σ) (x1 x2 x3 x4 x5 x6 : Int32) (hi : vp_in x1 8) (hk : bd x2 0 6) : Ct (YX3_putThing, (5, 112, 1, 3), qv (fun M' => WX M' wa (putS σ (Int32.toNatClampNeg x1) x2 x3 x4 x5 x6) ∧ WTi M' wa (putS σ (Int32.toNatClampNeg x1) x2 x3 x4 x5 x6) (Int32.toNatClampNeg x1) ∧ frP (inW wa) M M' ∧ ∀ j, j ≠ (Int32.toNatClampNeg x1) → mR M' (wa + 1) j = mR M (wa + 1) j), noX) [.ref wa, .int x1, .int x2, .int x3, .int x4, .int x5, .int x6] M := by
  refine ct_of [some (.ref wa), some (.int x1), some (.int x2), some (.int x3), some (.int x4), some (.int x5), some (.int x6)] rfl rfl rfl (Nat.le_of_ble_eq_true rfl) rfl rfl ?_
  refine r_aload_n (pc := 0) dX3_putThing_0 rfl ?_
  refine r_getR (pc := 1) dX3_putThing_1 fl_X3_20_3 hw.k (fun _ _ => rfl) hw.r9 ?_
  refine r_iload_n (pc := 4) dX3_putThing_4 rfl ?_
  refine r_iload_n (pc := 5) dX3_putThing_5 rfl ?_
  refine r_iload_n (pc := 6) dX3_putThing_6 rfl ?_
  refine r_iload_n (pc := 7) dX3_putThing_7 rfl ?_
  refine r_iload (pc := 8) dX3_putThing_8 rfl ?_
  refine r_s4 (pc := 10) (bc' := 0) (bs' := 0) (ct_X0_thingOfKind x2 x1 x3 x4 hk) k_X3_92 dX3_putThing_10 (Nat.le_of_ble_eq_true rfl) ⟨Nat.le_of_ble_eq_true rfl, Nat.le_of_ble_eq_true rfl⟩ ⟨Nat.le_of_ble_eq_true rfl, Nat.le_of_ble_eq_true rfl⟩ (r_cr fun r10 M10 p10 => ?_) nox
  obtain ⟨rfl, p10⟩ := p10
  have p10 := Eq.symm (show _ = _ from p10)
  subst p10
  have hw1 := hw.grown (fr_th (c := 12 + Int32.toNatClampNeg x2) (i := x1) (w := x3) (e := x4))
  have hk1 : mK (thM M (12 + Int32.toNatClampNeg x2) x1 x3 x4) M.1 = (1, 12 + Int32.toNatClampNeg x2) := nw_K M (1, 12 + Int32.toNatClampNeg x2) 0
  have hp := hw1.pth (i := Int32.toNatClampNeg x1) (v := M.1) (k := x2) (w := x3) (e := x4) ⟨Nat.lt_succ_self _, hk1, by rw [← nI_ix hi (by decide)]; simp [mI, sI, up2_ap, nw], by simp [mI, sI, up2_ap, nw], by simp [mI, sI, up2_ap, nw]⟩
  refine r_aastT (pc := 13) dX3_putThing_13 hw1.k9 hw1.z9 (Nat.le_add_right _ _) (kd_le hk) hk1 hi ?_
  have hw2 := hp.1
  refine r_aload_n (pc := 14) dX3_putThing_14 rfl ?_
  refine r_getR (pc := 15) dX3_putThing_15 fl_X3_24_3 hw2.k (fun _ _ => rfl) hw2.r10 ?_
  refine r_iload_n (pc := 18) dX3_putThing_18 rfl ?_
  refine r_iload (pc := 19) dX3_putThing_19 rfl ?_
  refine r_iast (pc := 21) dX3_putThing_21 hw2.k10 hw2.z10 hi ?_
  have hw3 := hw2.put (k := 14) (i := (Int32.toNatClampNeg x1)) (v := x5) (by decide) (by decide)
  refine r_aload_n (pc := 22) dX3_putThing_22 rfl ?_
  refine r_getR (pc := 23) dX3_putThing_23 fl_X3_28_3 hw3.k (fun _ _ => rfl) hw3.r11 ?_
  refine r_iload_n (pc := 26) dX3_putThing_26 rfl ?_
  refine r_iload (pc := 27) dX3_putThing_27 rfl ?_
  refine r_iast (pc := 29) dX3_putThing_29 hw3.k11 hw3.z11 hi ?_
  have hw4 := hw3.put (k := 15) (i := (Int32.toNatClampNeg x1)) (v := x6) (by decide) (by decide)
  refine r_aload_n (pc := 30) dX3_putThing_30 rfl ?_
  refine r_getR (pc := 31) dX3_putThing_31 fl_X3_31_3 hw4.k (fun _ _ => rfl) hw4.r12 ?_
  refine r_iload_n (pc := 34) dX3_putThing_34 rfl ?_
  refine r_iconst (pc := 35) (v := 0) dX3_putThing_35 (by decide) ?_
  refine r_zast (pc := 36) dX3_putThing_36 hw4.k12 hw4.z12 hi ?_
  refine r_return (pc := 37) rfl dX3_putThing_37 ⟨rfl, ?_⟩
  have hw5 := hw4.put (k := 16) (i := (Int32.toNatClampNeg x1)) (v := 0) (by decide) (by decide)
  refine ⟨hw5, ⟨?_, by simp [mI, sI, sR, up2_ap, putS], by simp [mI, sI, sR, up2_ap, putS], by simp [mI, sI, sR, up2_ap, putS]; rfl⟩, ?_, ?_⟩
  · obtain ⟨ta, b1, b2⟩ := hp.2
    have hn9 := hw2.1.nth b2.2.1
    refine ⟨ta, b1, ?_⟩
    exact ((b2.fr (frP.rf.sI (fun _ => inW_o (o := 2) (by decide))) hn9).fr (frP.rf.sI (fun _ => inW_o (o := 3) (by decide))) hn9).fr (frP.rf.sI (fun _ => inW_o (o := 4) (by decide))) hn9
  · exact ((((fr_th.mono (fun _ _ h => h.elim)).sR fun _ => inW_o (o := 1) (by decide)).sI fun _ => inW_o (o := 2) (by decide)).sI fun _ => inW_o (o := 3) (by decide)).sI fun _ => inW_o (o := 4) (by decide)
  · intro j hj
    show up2 (va_up (mR M) M.1 (fun _ => none)) (wa + 1) (Int32.toNatClampNeg x1) (some M.1) (wa + 1) j = _
    rw [up2_self, va_up_ne _ _ hj, va_up_ne _ _ (by have := hw.1.1; omega)]
