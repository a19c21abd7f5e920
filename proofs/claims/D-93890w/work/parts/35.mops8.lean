/-! THE MODEL's calls: handovers, wants shared (printed by gen/model10.py) -/
set_option maxRecDepth 100000
theorem hv_c {now now' : Nat → Int32} {f : Int32} {m : Nat} : ∀ l, (∀ i, i < l → now i = now' i) → hvF now f m l = hvF now' f m l
  | 0, _ => rfl
  | l + 1, h => by rw [hvF, hvF, hv_c l (fun i hi => h i (by omega)), h l (by omega)]
theorem thn_c {now now' fr : Nat → Int32} {n m : Nat} (h : ∀ i, i < 9 → now i = now' i) : thnC now fr n m = thnC now' fr n m := by rw [thnC, thnC, hv_c 9 h]
theorem han_c {fr : Nat → Int32} {n : Nat} {p : Int32} : ∀ (c k : Nat) (now now' : Nat → Int32), (∀ i, i < 9 → now i = now' i) → hanL fr n p c k now = hanL fr n p c k now'
  | 0, _, _, _, _ => rfl
  | c + 1, k, now, now', h => by
    have e : thnC now fr n = thnC now' fr n := funext fun m => thn_c h
    rw [hanL, hanL, e]
theorem bt_top : ∀ m, m < 8 → ∀ s, s < 256 → s < 2 ^ m → s.testBit m = false ∧ (s + 2 ^ m).testBit m = true ∧ s + 2 ^ m < 256 ∧ s + 2 ^ m < 2 ^ (m + 1) := by decide +kernel
theorem nw_at {f : Nat → Int32} {a i n : Nat} {v : Int32} (h : ∀ i, i < n → f i = -1) (hi : i < n) : (if i = a then v else -1) = va_up f a v i := by
  by_cases e : i = a
  · rw [if_pos e, e, va_up_self]
  · rw [if_neg e, va_up_ne _ _ e, h i hi]
theorem ct_X5_handovers {M0 : PM} {mo : Nat} {I : Nat → Nat → Int32} {L : Nat → Nat → Int64} (hm : MR M0 mo) (x1 : Int32) (x2 : Int32) (hk : OkS (sM I mo)) : Ct (YX5_handovers, (3, 69, 0, 0), qi (fun r M' => oM M0 mo I L (handoversS (sS I L mo) x1 x2) r M'), noX) [.ref mo, .int x1, .int x2] (wIL M0 I L) := by
  refine ct_of [some (.ref mo), some (.int x1), some (.int x2), none, none, none, none] rfl rfl rfl (Nat.le_of_ble_eq_true rfl) rfl rfl ?_
  obtain ⟨N, hN, eN⟩ := bd_nI (n := 8) hk.1.1.2.1
  have eN : I mo 1 = nI N := eN
  have h256 := pow8 hN
  have eP : ppN (sM I mo) = N := by show Int32.toNatClampNeg (I mo 1) = N; rw [eN, ix_nI (by omega)]
  have base : ∀ (I0 : Nat → Nat → Int32), thP (sM I mo) x1 → onP (sM I mo) x1 x2 → (∀ x, x ≠ mo + 26 → x ≠ mo + 27 → I0 x = I x) → handoversS (sS I L mo) x1 x2 = (hanL (fun m => farS (sM I mo) m (Int32.toNatClampNeg x1)) N x2 99 1 (I0 (mo + 26)), sS I L mo) → Wx (YX5_handovers, (3, 69, 0, 0), qi (fun r M' => oM M0 mo I L (handoversS (sS I L mo) x1 x2) r M'), noX) 0 0 (wIL M0 I0 L) 83 [some (.ref mo), some (.int x1), some (.int x2), some (.int (nI 9)), none, none, none] [] := by
    intro I0 t1 t2 a0 hw0
    have ht := vp_b (n := 8) t1.1 t1.2 hk.1.1.1.2
    have hd := hk.1.far (ix_lt t1.1 t1.2)
    have L1 : ∀ (n : Nat) (k : Nat) (I1 : Nat → Nat → Int32) (o4 o5 o6 : Option Value), k + n = 100 → (∀ x, x ≠ mo + 26 → x ≠ mo + 27 → I1 x = I x) → handoversS (sS I L mo) x1 x2 = (hanL (fun m => farS (sM I mo) m (Int32.toNatClampNeg x1)) N x2 n k (I1 (mo + 26)), sS I L mo) → Wx (YX5_handovers, (3, 69, 0, 0), qi (fun r M' => oM M0 mo I L (handoversS (sS I L mo) x1 x2) r M'), noX) 0 0 (wIL M0 I1 L) 85 [some (.ref mo), some (.int x1), some (.int x2), some (.int (nI k)), o4, o5, o6] [] := by
      intro n
      induction n with
      | zero =>
        intro k I1 o4 o5 o6 hk2 a1 hw
        refine r_iload_n (pc := 85) dX5_handovers_85 rfl ?_
        refine r_bipush (pc := 86) (v := 100) dX5_handovers_86 (by decide) ?_
        refine r_icmp_ge (pc := 88) 273 dX5_handovers_88 rfl (fun _ => ?_) (fun hno => False.elim (by rw [show (100 : Int32) = nI 100 from rfl, nI_ltI (by omega) (by omega)] at hno; omega))
        refine r_iconst (pc := 273) (v := (-1)) dX5_handovers_273 (by decide) ?_
        refine r_ireturn (pc := 274) rfl dX5_handovers_274 ⟨_, rfl, ?_⟩
        rw [hw, hanL]
        refine oM_scr frM.rf (fun x h1 h2 => a1 x (by omega) (by omega)) (fun k hk => by rw [a1 mo (by omega) (by omega)]) ?_
        rfl
      | succ n ih =>
        intro k I1 o4 o5 o6 hk2 a1 hw
        rw [hanL] at hw
        generalize hnow : I1 (mo + 26) = now at hw
        have LG : (¬ ∃ m, m < N ∧ ¬ thnC now (fun m => farS (sM I mo) m (Int32.toNatClampNeg x1)) N m < x2) → ∀ (c j : Nat) (I2 : Nat → Nat → Int32) (o5 o6 : Option Value), j + c = 9 → (∀ x, x ≠ mo + 26 → x ≠ mo + 27 → I2 x = I x) → (∀ i, i < 9 → I2 (mo + 27) i = thnC now (fun m => farS (sM I mo) m (Int32.toNatClampNeg x1)) N i) → (∀ i, i < j → I2 (mo + 26) i = thnC now (fun m => farS (sM I mo) m (Int32.toNatClampNeg x1)) N i) → Wx (YX5_handovers, (3, 69, 0, 0), qi (fun r M' => oM M0 mo I L (handoversS (sS I L mo) x1 x2) r M'), noX) 0 0 (wIL M0 I2 L) 240 [some (.ref mo), some (.int x1), some (.int x2), some (.int (nI k)), some (.int (nI j)), o5, o6] [] := by
          intro hno9 c
          rw [cI_f hno9] at hw
          induction c with
          | zero =>
            intro j I2 o5 o6 hj b1 b2 b3
            refine r_iload (pc := 240) dX5_handovers_240 rfl ?_
            refine r_bipush (pc := 242) (v := 9) dX5_handovers_242 (by decide) ?_
            refine r_icmp_ge (pc := 244) 267 dX5_handovers_244 rfl (fun _ => ?_) (fun hno => False.elim (by rw [show (9 : Int32) = nI 9 from rfl, nI_ltI (by omega) (by omega)] at hno; omega))
            refine r_iinc3 (pc := 267) dX5_handovers_267 (nI_1 _) rfl ?_
            refine r_goto (pc := 270) 85 dX5_handovers_270 rfl ?_
            refine ih (k + 1) I2 _ _ _ (by omega) b1 (hw.trans ?_)
            rw [han_c n (k + 1) _ _ (fun i hi => (b3 i (by omega)).symm)]
          | succ c ic =>
            intro j I2 o5 o6 hj b1 b2 b3
            have hv : vp_in (nI j) 9 := vp_in_nI (by omega) (by decide)
            have ej : Int32.toNatClampNeg (nI j) = j := ix_nI (by omega)
            refine r_iload (pc := 240) dX5_handovers_240 rfl ?_
            refine r_bipush (pc := 242) (v := 9) dX5_handovers_242 (by decide) ?_
            refine r_icmp_ge (pc := 244) 267 dX5_handovers_244 rfl (fun hno => False.elim (by rw [show (9 : Int32) = nI 9 from rfl, nI_ltI (by omega) (by omega)] at hno; omega)) (fun _ => ?_)
            refine r_aload_n (pc := 247) dX5_handovers_247 rfl ?_
            refine r_getR (pc := 248) dX5_handovers_248 fl_X5_96_5 (MR_k hm) (fun _ _ => rfl) (MR_r40 hm) ?_
            refine r_iload (pc := 251) dX5_handovers_251 rfl ?_
            refine r_aload_n (pc := 253) dX5_handovers_253 rfl ?_
            refine r_getR (pc := 254) dX5_handovers_254 fl_X5_99_5 (MR_k hm) (fun _ _ => rfl) (MR_r41 hm) ?_
            refine r_iload (pc := 257) dX5_handovers_257 rfl ?_
            refine rm_iald (pc := 259) dX5_handovers_259 (MR_k41 hm) (MR_z41 hm) (by first | assumption | exact vp_in_lit rfl) ?_
            refine rm_iast (pc := 260) dX5_handovers_260 (MR_k40 hm) (MR_z40 hm) (by first | assumption | exact vp_in_lit rfl) ?_
            refine r_iinc4 (pc := 261) dX5_handovers_261 (nI_1 _) rfl ?_
            refine r_goto (pc := 264) 240 dX5_handovers_264 rfl ?_
            refine ic (j + 1) _ _ _ (by omega) (fun x h1 h2 => (up2_ne h1).trans (b1 x h1 h2)) (fun i hi => by rw [up2_ne (by omega)]; exact b2 i hi) (fun i hi => ?_)
            rw [up2_self, ej]
            by_cases e : i = j
            · subst e; rw [va_up_self]; exact b2 i (by omega)
            · rw [va_up_ne _ _ e]; exact b3 i (by omega)
        have LE : ∀ (c m : Nat) (I2 : Nat → Nat → Int32) (o5 o6 : Option Value), m + c = N → (∀ x, x ≠ mo + 26 → x ≠ mo + 27 → I2 x = I x) → (∀ i, i < 9 → I2 (mo + 26) i = now i) → (∀ i, i < m → I2 (mo + 27) i = thnC now (fun m => farS (sM I mo) m (Int32.toNatClampNeg x1)) N i ∧ thnC now (fun m => farS (sM I mo) m (Int32.toNatClampNeg x1)) N i < x2) → (∀ i, m ≤ i → i < 9 → I2 (mo + 27) i = -1) → Wx (YX5_handovers, (3, 69, 0, 0), qi (fun r M' => oM M0 mo I L (handoversS (sS I L mo) x1 x2) r M'), noX) 0 0 (wIL M0 I2 L) 118 [some (.ref mo), some (.int x1), some (.int x2), some (.int (nI k)), some (.int (nI m)), o5, o6] [] := by
          intro c
          induction c with
          | zero =>
            intro m I2 o5 o6 hmN b1 b2 b3 b4
            refine r_iload (pc := 118) dX5_handovers_118 rfl ?_
            refine r_aload_n (pc := 120) dX5_handovers_120 rfl ?_
            refine rm_getI (pc := 121) dX5_handovers_121 fl_X5_120_5 (MR_k hm) (fun _ _ => rfl) ?_
            refine r_icmp_ge (pc := 124) 237 dX5_handovers_124 rfl (fun _ => ?_) (fun hno => False.elim (by rw [b1 mo (by omega) (by omega), eN, nI_ltI (by omega) (by omega)] at hno; omega))
            refine r_iconst (pc := 237) (v := 0) dX5_handovers_237 (by decide) ?_
            refine r_istore4 (pc := 238) dX5_handovers_238 rfl ?_
            refine LG (fun q => ?_) 9 0 I2 _ _ rfl b1 (fun i hi => ?_) (fun i hi => absurd hi (by omega))
            · obtain ⟨i, q1, q2⟩ := q; exact q2 (b3 i (by omega)).2
            · by_cases h : i < m
              · exact (b3 i h).1
              · rw [b4 i (by omega) hi, thnC, cI_f (fun q => absurd q.1 (by omega))]
          | succ c ic =>
            intro m I2 o5 o6 hmN b1 b2 b3 b4
            have hv : vp_in (nI m) 9 := vp_in_nI (by omega) (by decide)
            have hv8 : vp_in (nI m) 8 := vp_in_nI (by omega) (by decide)
            have em : Int32.toNatClampNeg (nI m) = m := ix_nI (by omega)
            have q2 : I2 (mo + 2) = I (mo + 2) := b1 _ (by omega) (by omega)
            have q3 : I2 (mo + 3) = I (mo + 3) := b1 _ (by omega) (by omega)
            have q4 : I2 (mo + 4) = I (mo + 4) := b1 _ (by omega) (by omega)
            have q8 : I2 (mo + 8) = I (mo + 8) := b1 _ (by omega) (by omega)
            have q9 : I2 (mo + 9) = I (mo + 9) := b1 _ (by omega) (by omega)
            have q0 : I2 mo = I mo := b1 _ (by omega) (by omega)
            generalize hf : farS (sM I mo) m (Int32.toNatClampNeg x1) = f
            have LF : ¬ f = 0 → ∀ (d l : Nat) (I3 : Nat → Nat → Int32), l + d = 9 → (∀ x, x ≠ mo + 26 → x ≠ mo + 27 → I3 x = I x) → (∀ i, i < 9 → I3 (mo + 26) i = now i) → (∀ i, i ≠ m → I3 (mo + 27) i = I2 (mo + 27) i) → I3 (mo + 27) m = hvF now f m l → Wx (YX5_handovers, (3, 69, 0, 0), qi (fun r M' => oM M0 mo I L (handoversS (sS I L mo) x1 x2) r M'), noX) 0 0 (wIL M0 I3 L) 147 [some (.ref mo), some (.int x1), some (.int x2), some (.int (nI k)), some (.int (nI m)), some (.int f), some (.int (nI l))] [] := by
              intro hf0 d
              have hth : thnC now (fun m => farS (sM I mo) m (Int32.toNatClampNeg x1)) N m = hvF now f m 9 := by rw [thnC, cI_t ⟨by omega, by rw [hf]; exact hf0⟩, hf]
              induction d with
              | zero =>
                intro l I3 hl c1 c2 c3 c4
                refine r_iload (pc := 147) dX5_handovers_147 rfl ?_
                refine r_bipush (pc := 149) (v := 9) dX5_handovers_149 (by decide) ?_
                refine r_icmp_ge (pc := 151) 218 dX5_handovers_151 rfl (fun _ => ?_) (fun hno => False.elim (by rw [show (9 : Int32) = nI 9 from rfl, nI_ltI (by omega) (by omega)] at hno; omega))
                refine r_aload_n (pc := 218) dX5_handovers_218 rfl ?_
                refine r_getR (pc := 219) dX5_handovers_219 fl_X5_99_5 (MR_k hm) (fun _ _ => rfl) (MR_r41 hm) ?_
                refine r_iload (pc := 222) dX5_handovers_222 rfl ?_
                refine rm_iald (pc := 224) dX5_handovers_224 (MR_k41 hm) (MR_z41 hm) (by first | assumption | exact vp_in_lit rfl) ?_
                rw [em, c4, show l = 9 by omega, ← hth]
                refine r_iload_n (pc := 225) dX5_handovers_225 rfl ?_
                refine r_icmp_lt (pc := 226) 231 dX5_handovers_226 rfl (fun h226 => ?_) (fun h226 => ?_)
                · refine r_iinc4 (pc := 231) dX5_handovers_231 (nI_1 _) rfl ?_
                  refine r_goto (pc := 234) 118 dX5_handovers_234 rfl ?_
                  refine ic (m + 1) I3 _ _ (by omega) c1 c2 (fun i hi => ?_) (fun i h1 h2 => ?_)
                  · by_cases e : i = m
                    · subst e; rw [c4, show l = 9 by omega]; exact ⟨hth.symm, h226⟩
                    · rw [c3 i e]; exact b3 i (by omega)
                  · rw [c3 i (by omega)]; exact b4 i (by omega) h2
                · refine r_iload_n (pc := 229) dX5_handovers_229 rfl ?_
                  refine r_ireturn (pc := 230) rfl dX5_handovers_230 ⟨_, rfl, ?_⟩
                  rw [cI_t ⟨m, by omega, h226⟩] at hw
                  rw [hw]
                  refine oM_scr frM.rf (fun x h1 h2 => c1 x (by omega) (by omega)) (fun k hk => by rw [c1 mo (by omega) (by omega)]) ?_
                  rfl
              | succ d id2 =>
                intro l I3 hl c1 c2 c3 c4
                have hvl : vp_in (nI l) 9 := vp_in_nI (by omega) (by decide)
                have el : Int32.toNatClampNeg (nI l) = l := ix_nI (by omega)
                refine r_iload (pc := 147) dX5_handovers_147 rfl ?_
                refine r_bipush (pc := 149) (v := 9) dX5_handovers_149 (by decide) ?_
                refine r_icmp_ge (pc := 151) 218 dX5_handovers_151 rfl (fun hno => False.elim (by rw [show (9 : Int32) = nI 9 from rfl, nI_ltI (by omega) (by omega)] at hno; omega)) (fun _ => ?_)
                refine r_iload (pc := 154) dX5_handovers_154 rfl ?_
                refine r_iload (pc := 156) dX5_handovers_156 rfl ?_
                refine r_icmp_eq (pc := 158) 212 dX5_handovers_158 rfl (fun h158 => ?_) (fun h158 => ?_)
                · rw [nI_eq (by omega) (by omega)] at h158
                  refine r_iinc6 (pc := 212) dX5_handovers_212 (nI_1 _) rfl ?_
                  refine r_goto (pc := 215) 147 dX5_handovers_215 rfl ?_
                  first
                    | exact id2 (l + 1) I3 (by omega) c1 c2 c3 (by rw [hvF, cI_t (Or.inl h158)]; exact c4)
                    | exact id2 (l + 1) I3 (by omega) c1 c2 c3 (by rw [hvF, cI_t (Or.inr h169)]; exact c4)
                    | exact id2 (l + 1) I3 (by omega) c1 c2 c3 (by rw [hmx, mxC, if_neg h192]; exact c4)
                    | exact id2 (l + 1) _ (by omega) (fun x h1 h2 => (up2_ne h2).trans (c1 x h1 h2)) (fun i hi => by rw [up2_ne (by omega)]; exact c2 i hi) (fun i hi => by rw [up2_self, em, va_up_ne _ _ hi]; exact c3 i hi) (by rw [up2_self, em, va_up_self, hmx, mxC, if_pos h192])
                · rw [nI_eq (by omega) (by omega)] at h158
                  refine r_aload_n (pc := 161) dX5_handovers_161 rfl ?_
                  refine r_getR (pc := 162) dX5_handovers_162 fl_X5_96_5 (MR_k hm) (fun _ _ => rfl) (MR_r40 hm) ?_
                  refine r_iload (pc := 165) dX5_handovers_165 rfl ?_
                  refine rm_iald (pc := 167) dX5_handovers_167 (MR_k40 hm) (MR_z40 hm) (by first | assumption | exact vp_in_lit rfl) ?_
                  rw [el, c2 l (by omega)]
                  refine r_iconst (pc := 168) (v := (-1)) dX5_handovers_168 (by decide) ?_
                  refine r_icmp_ne (pc := 169) 175 dX5_handovers_169 rfl (fun h169 => ?_) (fun h169 => ?_)
                  · have hmx : hvF now f m (l + 1) = mxC (hvF now f m l) (now l + f) := by rw [hvF, cI_f (fun q => q.elim h158 h169)]
                    refine r_aload_n (pc := 175) dX5_handovers_175 rfl ?_
                    refine r_getR (pc := 176) dX5_handovers_176 fl_X5_96_5 (MR_k hm) (fun _ _ => rfl) (MR_r40 hm) ?_
                    refine r_iload (pc := 179) dX5_handovers_179 rfl ?_
                    refine rm_iald (pc := 181) dX5_handovers_181 (MR_k40 hm) (MR_z40 hm) (by first | assumption | exact vp_in_lit rfl) ?_
                    rw [el, c2 l (by omega)]
                    refine r_iload (pc := 182) dX5_handovers_182 rfl ?_
                    refine r_iadd (pc := 184) dX5_handovers_184 ?_
                    refine r_aload_n (pc := 185) dX5_handovers_185 rfl ?_
                    refine r_getR (pc := 186) dX5_handovers_186 fl_X5_99_5 (MR_k hm) (fun _ _ => rfl) (MR_r41 hm) ?_
                    refine r_iload (pc := 189) dX5_handovers_189 rfl ?_
                    refine rm_iald (pc := 191) dX5_handovers_191 (MR_k41 hm) (MR_z41 hm) (by first | assumption | exact vp_in_lit rfl) ?_
                    rw [em, c4]
                    refine r_icmp_le (pc := 192) 212 dX5_handovers_192 rfl (fun h192 => ?_) (fun h192 => ?_)
                    · refine r_iinc6 (pc := 212) dX5_handovers_212 (nI_1 _) rfl ?_
                      refine r_goto (pc := 215) 147 dX5_handovers_215 rfl ?_
                      first
                        | exact id2 (l + 1) I3 (by omega) c1 c2 c3 (by rw [hvF, cI_t (Or.inl h158)]; exact c4)
                        | exact id2 (l + 1) I3 (by omega) c1 c2 c3 (by rw [hvF, cI_t (Or.inr h169)]; exact c4)
                        | exact id2 (l + 1) I3 (by omega) c1 c2 c3 (by rw [hmx, mxC, if_neg h192]; exact c4)
                        | exact id2 (l + 1) _ (by omega) (fun x h1 h2 => (up2_ne h2).trans (c1 x h1 h2)) (fun i hi => by rw [up2_ne (by omega)]; exact c2 i hi) (fun i hi => by rw [up2_self, em, va_up_ne _ _ hi]; exact c3 i hi) (by rw [up2_self, em, va_up_self, hmx, mxC, if_pos h192])
                    · refine r_aload_n (pc := 195) dX5_handovers_195 rfl ?_
                      refine r_getR (pc := 196) dX5_handovers_196 fl_X5_99_5 (MR_k hm) (fun _ _ => rfl) (MR_r41 hm) ?_
                      refine r_iload (pc := 199) dX5_handovers_199 rfl ?_
                      refine r_aload_n (pc := 201) dX5_handovers_201 rfl ?_
                      refine r_getR (pc := 202) dX5_handovers_202 fl_X5_96_5 (MR_k hm) (fun _ _ => rfl) (MR_r40 hm) ?_
                      refine r_iload (pc := 205) dX5_handovers_205 rfl ?_
                      refine rm_iald (pc := 207) dX5_handovers_207 (MR_k40 hm) (MR_z40 hm) (by first | assumption | exact vp_in_lit rfl) ?_
                      rw [el, c2 l (by omega)]
                      refine r_iload (pc := 208) dX5_handovers_208 rfl ?_
                      refine r_iadd (pc := 210) dX5_handovers_210 ?_
                      refine rm_iast (pc := 211) dX5_handovers_211 (MR_k41 hm) (MR_z41 hm) (by first | assumption | exact vp_in_lit rfl) ?_
                      refine r_iinc6 (pc := 212) dX5_handovers_212 (nI_1 _) rfl ?_
                      refine r_goto (pc := 215) 147 dX5_handovers_215 rfl ?_
                      first
                        | exact id2 (l + 1) I3 (by omega) c1 c2 c3 (by rw [hvF, cI_t (Or.inl h158)]; exact c4)
                        | exact id2 (l + 1) I3 (by omega) c1 c2 c3 (by rw [hvF, cI_t (Or.inr h169)]; exact c4)
                        | exact id2 (l + 1) I3 (by omega) c1 c2 c3 (by rw [hmx, mxC, if_neg h192]; exact c4)
                        | exact id2 (l + 1) _ (by omega) (fun x h1 h2 => (up2_ne h2).trans (c1 x h1 h2)) (fun i hi => by rw [up2_ne (by omega)]; exact c2 i hi) (fun i hi => by rw [up2_self, em, va_up_ne _ _ hi]; exact c3 i hi) (by rw [up2_self, em, va_up_self, hmx, mxC, if_pos h192])
                  · refine r_goto (pc := 172) 212 dX5_handovers_172 rfl ?_
                    refine r_iinc6 (pc := 212) dX5_handovers_212 (nI_1 _) rfl ?_
                    refine r_goto (pc := 215) 147 dX5_handovers_215 rfl ?_
                    first
                      | exact id2 (l + 1) I3 (by omega) c1 c2 c3 (by rw [hvF, cI_t (Or.inl h158)]; exact c4)
                      | exact id2 (l + 1) I3 (by omega) c1 c2 c3 (by rw [hvF, cI_t (Or.inr h169)]; exact c4)
                      | exact id2 (l + 1) I3 (by omega) c1 c2 c3 (by rw [hmx, mxC, if_neg h192]; exact c4)
                      | exact id2 (l + 1) _ (by omega) (fun x h1 h2 => (up2_ne h2).trans (c1 x h1 h2)) (fun i hi => by rw [up2_ne (by omega)]; exact c2 i hi) (fun i hi => by rw [up2_self, em, va_up_ne _ _ hi]; exact c3 i hi) (by rw [up2_self, em, va_up_self, hmx, mxC, if_pos h192])
            refine r_iload (pc := 118) dX5_handovers_118 rfl ?_
            refine r_aload_n (pc := 120) dX5_handovers_120 rfl ?_
            refine rm_getI (pc := 121) dX5_handovers_121 fl_X5_120_5 (MR_k hm) (fun _ _ => rfl) ?_
            refine r_icmp_ge (pc := 124) 237 dX5_handovers_124 rfl (fun hno => False.elim (by rw [b1 mo (by omega) (by omega), eN, nI_ltI (by omega) (by omega)] at hno; omega)) (fun _ => ?_)
            refine r_aload_n (pc := 127) dX5_handovers_127 rfl ?_
            refine r_iload (pc := 128) dX5_handovers_128 rfl ?_
            refine r_iload_n (pc := 130) dX5_handovers_130 rfl ?_
            refine r_o3 (pc := 131) (bc' := 0) (bs' := 0) (ct_X5_farOf hm _ _ hv8 ht (by rw [q3]; exact hd.1) (by rw [q2, q3, q4]; exact hd.2)) k_X5_236_5 dX5_handovers_131 (MR_k hm) (Nat.le_of_ble_eq_true rfl) ⟨Nat.le_of_ble_eq_true rfl, Nat.le_of_ble_eq_true rfl⟩ ⟨Nat.le_of_ble_eq_true rfl, Nat.le_of_ble_eq_true rfl⟩ (r_ci fun r131 M131 p131 => ?_) nox
            obtain ⟨rfl, rfl⟩ := p131
            refine r_eqi f (by rw [em, q2, q3, q4, q8, q9, q0, ← hf]; rfl) ?_
            refine r_istore5 (pc := 134) dX5_handovers_134 rfl ?_
            refine r_iload (pc := 136) dX5_handovers_136 rfl ?_
            refine r_if_ne (pc := 138) 144 dX5_handovers_138 rfl (fun h138 => ?_) (fun h138 => ?_)
            · refine r_iconst (pc := 144) (v := 0) dX5_handovers_144 (by decide) ?_
              refine r_istore6 (pc := 145) dX5_handovers_145 rfl ?_
              exact LF h138 9 0 I2 rfl b1 b2 (fun _ _ => rfl) (by rw [b4 m (Nat.le_refl _) (by omega)]; rfl)
            · refine r_goto (pc := 141) 231 dX5_handovers_141 rfl ?_
              refine r_iinc4 (pc := 231) dX5_handovers_231 (nI_1 _) rfl ?_
              refine r_goto (pc := 234) 118 dX5_handovers_234 rfl ?_
              have hth : thnC now (fun m => farS (sM I mo) m (Int32.toNatClampNeg x1)) N m = -1 := by rw [thnC, cI_f (fun q => q.2 (by rw [hf]; exact h138))]
              refine ic (m + 1) I2 _ _ (by omega) b1 b2 (fun i hi => ?_) (fun i h1 h2 => b4 i (by omega) h2)
              by_cases e : i = m
              · subst e; rw [hth]; refine ⟨b4 i (Nat.le_refl _) (by omega), ?_⟩
                have h5 := t2.1.1; rw [i_lt, c_0] at h5; rw [i_lt, c_m1]; omega
              · exact b3 i (by omega)
        have LD : ∀ (c j : Nat) (I2 : Nat → Nat → Int32) (o5 o6 : Option Value), j + c = 9 → (∀ x, x ≠ mo + 26 → x ≠ mo + 27 → I2 x = I x) → (∀ i, i < 9 → I2 (mo + 26) i = now i) → (∀ i, i < j → I2 (mo + 27) i = -1) → Wx (YX5_handovers, (3, 69, 0, 0), qi (fun r M' => oM M0 mo I L (handoversS (sS I L mo) x1 x2) r M'), noX) 0 0 (wIL M0 I2 L) 94 [some (.ref mo), some (.int x1), some (.int x2), some (.int (nI k)), some (.int (nI j)), o5, o6] [] := by
          intro c
          induction c with
          | zero =>
            intro j I2 o5 o6 hj b1 b2 b3
            refine r_iload (pc := 94) dX5_handovers_94 rfl ?_
            refine r_bipush (pc := 96) (v := 9) dX5_handovers_96 (by decide) ?_
            refine r_icmp_ge (pc := 98) 115 dX5_handovers_98 rfl (fun _ => ?_) (fun hno => False.elim (by rw [show (9 : Int32) = nI 9 from rfl, nI_ltI (by omega) (by omega)] at hno; omega))
            refine r_iconst (pc := 115) (v := 0) dX5_handovers_115 (by decide) ?_
            refine r_istore4 (pc := 116) dX5_handovers_116 rfl ?_
            exact LE N 0 I2 _ _ (by omega) b1 b2 (fun i hi => absurd hi (by omega)) (fun i h1 h2 => b3 i (by omega))
          | succ c ic =>
            intro j I2 o5 o6 hj b1 b2 b3
            have hv : vp_in (nI j) 9 := vp_in_nI (by omega) (by decide)
            have ej : Int32.toNatClampNeg (nI j) = j := ix_nI (by omega)
            refine r_iload (pc := 94) dX5_handovers_94 rfl ?_
            refine r_bipush (pc := 96) (v := 9) dX5_handovers_96 (by decide) ?_
            refine r_icmp_ge (pc := 98) 115 dX5_handovers_98 rfl (fun hno => False.elim (by rw [show (9 : Int32) = nI 9 from rfl, nI_ltI (by omega) (by omega)] at hno; omega)) (fun _ => ?_)
            refine r_aload_n (pc := 101) dX5_handovers_101 rfl ?_
            refine r_getR (pc := 102) dX5_handovers_102 fl_X5_99_5 (MR_k hm) (fun _ _ => rfl) (MR_r41 hm) ?_
            refine r_iload (pc := 105) dX5_handovers_105 rfl ?_
            refine r_iconst (pc := 107) (v := (-1)) dX5_handovers_107 (by decide) ?_
            refine rm_iast (pc := 108) dX5_handovers_108 (MR_k41 hm) (MR_z41 hm) (by first | assumption | exact vp_in_lit rfl) ?_
            refine r_iinc4 (pc := 109) dX5_handovers_109 (nI_1 _) rfl ?_
            refine r_goto (pc := 112) 94 dX5_handovers_112 rfl ?_
            refine ic (j + 1) _ _ _ (by omega) (fun x h1 h2 => (up2_ne h2).trans (b1 x h1 h2)) (fun i hi => by rw [up2_ne (by omega)]; exact b2 i hi) (fun i hi => ?_)
            rw [up2_self, ej]
            by_cases e : i = j
            · subst e; rw [va_up_self]
            · rw [va_up_ne _ _ e]; exact b3 i (by omega)
        refine r_iload_n (pc := 85) dX5_handovers_85 rfl ?_
        refine r_bipush (pc := 86) (v := 100) dX5_handovers_86 (by decide) ?_
        refine r_icmp_ge (pc := 88) 273 dX5_handovers_88 rfl (fun hno => False.elim (by rw [show (100 : Int32) = nI 100 from rfl, nI_ltI (by omega) (by omega)] at hno; omega)) (fun _ => ?_)
        refine r_iconst (pc := 91) (v := 0) dX5_handovers_91 (by decide) ?_
        refine r_istore4 (pc := 92) dX5_handovers_92 rfl ?_
        exact LD 9 0 I1 _ _ rfl a1 (fun i _ => by rw [hnow]) (fun i hi => absurd hi (by omega))
    refine r_iconst (pc := 83) (v := 1) dX5_handovers_83 (by decide) ?_
    refine r_istore3 (pc := 84) dX5_handovers_84 rfl ?_
    exact L1 99 1 I0 _ _ _ rfl a0 hw0
  have start : thP (sM I mo) x1 → onP (sM I mo) x1 x2 → ∀ (c j : Nat) (I1 : Nat → Nat → Int32), j + c = 9 → (∀ x, x ≠ mo + 26 → I1 x = I x) → (∀ i, i < j → I1 (mo + 26) i = -1) → Wx (YX5_handovers, (3, 69, 0, 0), qi (fun r M' => oM M0 mo I L (handoversS (sS I L mo) x1 x2) r M'), noX) 0 0 (wIL M0 I1 L) 32 [some (.ref mo), some (.int x1), some (.int x2), some (.int (nI j)), none, none, none] [] := by
    intro t1 t2 c
    have ht := vp_b (n := 8) t1.1 t1.2 hk.1.1.1.2
    have hw0 : handoversS (sS I L mo) x1 x2 = (hanL (fun m => farS (sM I mo) m (Int32.toNatClampNeg x1)) N x2 99 1 (now0 (I (mo + 6) (Int32.toNatClampNeg x1)) (I (mo + 5) (Int32.toNatClampNeg x1))), sS I L mo) := by rw [handoversS, cI_f (by intro q; exact q t1), cI_f (by intro q; exact q t2), eP]; rfl
    have h15 := (hk.1.2.2.1 _ (ix_lt t1.1 t1.2)).2.2.2.2.1
    have h15a : -1 ≤ (I (mo + 6) (Int32.toNatClampNeg x1)).toInt := h15.1
    have h15b : (I (mo + 6) (Int32.toNatClampNeg x1)).toInt < 8 := Int.lt_of_lt_of_le h15.2 hk.1.1.2.1.2
    induction c with
    | zero =>
      intro j I1 hj a1 a2
      have q6 : I1 (mo + 6) = I (mo + 6) := a1 _ (by omega)
      have q5 : I1 (mo + 5) = I (mo + 5) := a1 _ (by omega)
      refine r_iload_n (pc := 32) dX5_handovers_32 rfl ?_
      refine r_bipush (pc := 33) (v := 9) dX5_handovers_33 (by decide) ?_
      refine r_icmp_ge (pc := 35) 51 dX5_handovers_35 rfl (fun _ => ?_) (fun hno => False.elim (by rw [show (9 : Int32) = nI 9 from rfl, nI_ltI (by omega) (by omega)] at hno; omega))
      refine r_aload_n (pc := 51) dX5_handovers_51 rfl ?_
      refine r_getR (pc := 52) dX5_handovers_52 fl_X5_96_5 (MR_k hm) (fun _ _ => rfl) (MR_r40 hm) ?_
      refine r_aload_n (pc := 55) dX5_handovers_55 rfl ?_
      refine r_getR (pc := 56) dX5_handovers_56 fl_X5_35_5 (MR_k hm) (fun _ _ => rfl) (MR_r15 hm) ?_
      refine r_iload_n (pc := 59) dX5_handovers_59 rfl ?_
      refine rm_iald (pc := 60) dX5_handovers_60 (MR_k15 hm) (MR_z15 hm) (by first | assumption | exact vp_in_lit rfl) ?_
      rw [q6]
      refine r_iconst (pc := 61) (v := (-1)) dX5_handovers_61 (by decide) ?_
      refine r_icmp_ne (pc := 62) 70 dX5_handovers_62 rfl (fun h62 => ?_) (fun h62 => ?_)
      · have hv : vp_in (I (mo + 6) (Int32.toNatClampNeg x1)) 9 := vp_n ⟨by have : ¬ (I (mo + 6) (Int32.toNatClampNeg x1)).toInt = -1 := fun e => h62 (i_eq.mpr (e.trans c_m1.symm)); omega, by omega⟩
        refine r_aload_n (pc := 70) dX5_handovers_70 rfl ?_
        refine r_getR (pc := 71) dX5_handovers_71 fl_X5_35_5 (MR_k hm) (fun _ _ => rfl) (MR_r15 hm) ?_
        refine r_iload_n (pc := 74) dX5_handovers_74 rfl ?_
        refine rm_iald (pc := 75) dX5_handovers_75 (MR_k15 hm) (MR_z15 hm) (by first | assumption | exact vp_in_lit rfl) ?_
        rw [q6]
        refine r_aload_n (pc := 76) dX5_handovers_76 rfl ?_
        refine r_getR (pc := 77) dX5_handovers_77 fl_X5_32_5 (MR_k hm) (fun _ _ => rfl) (MR_r14 hm) ?_
        refine r_iload_n (pc := 80) dX5_handovers_80 rfl ?_
        refine rm_iald (pc := 81) dX5_handovers_81 (MR_k14 hm) (MR_z14 hm) (by first | assumption | exact vp_in_lit rfl) ?_
        rw [q5]
        refine rm_iast (pc := 82) dX5_handovers_82 (MR_k40 hm) (MR_z40 hm) hv ?_
        have ej : j = 9 := by omega
        subst ej
        refine base _ t1 t2 (fun x h1 h2 => (up2_ne h1).trans (a1 x h1)) (hw0.trans ?_)
        rw [han_c 99 1 _ _ (fun i hi => ?_)]
        rw [up2_self, now0]
        first
          | (rw [if_neg h62]; exact nw_at a2 (by omega))
          | (rw [if_pos h62]; exact nw_at a2 (by omega))
      · have hv : vp_in 8 9 := vp_in_lit rfl
        refine r_bipush (pc := 65) (v := 8) dX5_handovers_65 (by decide) ?_
        refine r_goto (pc := 67) 76 dX5_handovers_67 rfl ?_
        refine r_aload_n (pc := 76) dX5_handovers_76 rfl ?_
        refine r_getR (pc := 77) dX5_handovers_77 fl_X5_32_5 (MR_k hm) (fun _ _ => rfl) (MR_r14 hm) ?_
        refine r_iload_n (pc := 80) dX5_handovers_80 rfl ?_
        refine rm_iald (pc := 81) dX5_handovers_81 (MR_k14 hm) (MR_z14 hm) (by first | assumption | exact vp_in_lit rfl) ?_
        rw [q5]
        refine rm_iast (pc := 82) dX5_handovers_82 (MR_k40 hm) (MR_z40 hm) hv ?_
        have ej : j = 9 := by omega
        subst ej
        refine base _ t1 t2 (fun x h1 h2 => (up2_ne h1).trans (a1 x h1)) (hw0.trans ?_)
        rw [han_c 99 1 _ _ (fun i hi => ?_)]
        rw [up2_self, now0]
        first
          | (rw [if_neg h62]; exact nw_at a2 (by omega))
          | (rw [if_pos h62]; exact nw_at a2 (by omega))
    | succ c ic =>
      intro j I1 hj a1 a2
      have hv : vp_in (nI j) 9 := vp_in_nI (by omega) (by decide)
      have ej : Int32.toNatClampNeg (nI j) = j := ix_nI (by omega)
      refine r_iload_n (pc := 32) dX5_handovers_32 rfl ?_
      refine r_bipush (pc := 33) (v := 9) dX5_handovers_33 (by decide) ?_
      refine r_icmp_ge (pc := 35) 51 dX5_handovers_35 rfl (fun hno => False.elim (by rw [show (9 : Int32) = nI 9 from rfl, nI_ltI (by omega) (by omega)] at hno; omega)) (fun _ => ?_)
      refine r_aload_n (pc := 38) dX5_handovers_38 rfl ?_
      refine r_getR (pc := 39) dX5_handovers_39 fl_X5_96_5 (MR_k hm) (fun _ _ => rfl) (MR_r40 hm) ?_
      refine r_iload_n (pc := 42) dX5_handovers_42 rfl ?_
      refine r_iconst (pc := 43) (v := (-1)) dX5_handovers_43 (by decide) ?_
      refine rm_iast (pc := 44) dX5_handovers_44 (MR_k40 hm) (MR_z40 hm) (by first | assumption | exact vp_in_lit rfl) ?_
      refine r_iinc3 (pc := 45) dX5_handovers_45 (nI_1 _) rfl ?_
      refine r_goto (pc := 48) 32 dX5_handovers_48 rfl ?_
      refine ic (j + 1) _ (by omega) (fun x hx => (up2_ne hx).trans (a1 x hx)) (fun i hi => ?_)
      rw [up2_self, ej]
      by_cases e : i = j
      · subst e; rw [va_up_self]
      · rw [va_up_ne _ _ e]; exact a2 i (by omega)
  refine r_aload_n (pc := 0) dX5_handovers_0 rfl ?_
  refine r_iload_n (pc := 1) dX5_handovers_1 rfl ?_
  refine r_o2 (pc := 2) (bc' := 0) (bs' := 0) (ct_X5_isThing hm _) k_X5_140_5 dX5_handovers_2 (MR_k hm) (Nat.le_of_ble_eq_true rfl) ⟨Nat.le_of_ble_eq_true rfl, Nat.le_of_ble_eq_true rfl⟩ ⟨Nat.le_of_ble_eq_true rfl, Nat.le_of_ble_eq_true rfl⟩ (r_ci fun r2 M2 p2 => ?_) nox
  obtain ⟨rfl, rfl⟩ := p2
  refine r_if_ne (pc := 5) 14 dX5_handovers_5 rfl (fun h5 => ?_) (fun h5 => ?_)
  · rw [bI_ne0] at h5
    have ht := vp_b (n := 8) h5.1 h5.2 hk.1.1.1.2
    refine r_aload_n (pc := 14) dX5_handovers_14 rfl ?_
    refine r_iload_n (pc := 15) dX5_handovers_15 rfl ?_
    refine r_iload_n (pc := 16) dX5_handovers_16 rfl ?_
    refine r_o3 (pc := 17) (bc' := 0) (bs' := 0) (ct_X5_isOnward hm _ _ ht) k_X5_265_5 dX5_handovers_17 (MR_k hm) (Nat.le_of_ble_eq_true rfl) ⟨Nat.le_of_ble_eq_true rfl, Nat.le_of_ble_eq_true rfl⟩ ⟨Nat.le_of_ble_eq_true rfl, Nat.le_of_ble_eq_true rfl⟩ (r_ci fun r17 M17 p17 => ?_) nox
    obtain ⟨rfl, rfl⟩ := p17
    refine r_if_ne (pc := 20) 30 dX5_handovers_20 rfl (fun h20 => ?_) (fun h20 => ?_)
    · rw [bI_ne0] at h20
      refine r_iconst (pc := 30) (v := 0) dX5_handovers_30 (by decide) ?_
      refine r_istore3 (pc := 31) dX5_handovers_31 rfl ?_
      exact start h5 h20 9 0 I rfl (fun _ _ => rfl) (fun i hi => absurd hi (by omega))
    · rw [bI_eq0] at h20
      refine r_aload_n (pc := 23) dX5_handovers_23 rfl ?_
      refine r_bipush (pc := 24) (v := (-6)) dX5_handovers_24 (by decide) ?_
      refine r_o2 (pc := 26) (bc' := 0) (bs' := 0) (ct_X5_noTen hm _ (vp_in_lit rfl)) k_X5_271_5 dX5_handovers_26 (MR_k hm) (Nat.le_of_ble_eq_true rfl) ⟨Nat.le_of_ble_eq_true rfl, Nat.le_of_ble_eq_true rfl⟩ ⟨Nat.le_of_ble_eq_true rfl, Nat.le_of_ble_eq_true rfl⟩ (r_ci fun r26 M26 p26 => ?_) nox
      obtain ⟨rfl, rfl⟩ := p26
      refine r_ireturn (pc := 29) rfl dX5_handovers_29 ⟨_, rfl, ?_⟩
      first
        | contradiction
        | (refine oM.of ?_ (by repeat' (first | exact frM.rf | assumption | refine frM.up0 ?_ | refine frM.up ?_ (by decide) | refine frM.upL ?_ (by decide)))
           simp (decide := true) only [handoversS, noS, noTenS, thP, mnP, shelfP, stepS, farP, onP, eq_true h5, eq_false h20, not_true_eq_false, not_false_eq_true, true_and, and_true, false_and, and_false, true_or, or_true, false_or, or_false, cI_True, cI_False, if_true, if_false, sm0, sm1, sm2, sm3, sm4, sm5, sm6, sm7, sm8, sm9, sm10, sm11, sm12, sm13, sm14, sm15, sm16, sm17, sm18, sm19, sm20, sm21, sm22, sm23, sm24, sm25, sm26, sm27, sm28, sm29, sm30, sm31, sm32, sm33, sm34, sm35, sm36, sm37, sm38, sm39, sm40, sm41, sm42, sm43, sm44, sm45, sm46, sm47, sm48, sm49, su0, su1, su2, su3, su4, su5, su6, su7, su8, su9, su10, su11, su12, su13, su14, su15, su16, su17, su18, su19, su20, su21, su22, su23, su24, su25, su26, su27, su28, su29, su30, su31, su32, su33, su34, su35, su36, su37, su38, su39, su40, su41, su42, su43, su44, su45, su46, su47, su48, su49])
  · rw [bI_eq0] at h5
    refine r_aload_n (pc := 8) dX5_handovers_8 rfl ?_
    refine r_iconst (pc := 9) (v := (-1)) dX5_handovers_9 (by decide) ?_
    refine r_o2 (pc := 10) (bc' := 0) (bs' := 0) (ct_X5_noTen hm _ (vp_in_lit rfl)) k_X5_271_5 dX5_handovers_10 (MR_k hm) (Nat.le_of_ble_eq_true rfl) ⟨Nat.le_of_ble_eq_true rfl, Nat.le_of_ble_eq_true rfl⟩ ⟨Nat.le_of_ble_eq_true rfl, Nat.le_of_ble_eq_true rfl⟩ (r_ci fun r10 M10 p10 => ?_) nox
    obtain ⟨rfl, rfl⟩ := p10
    refine r_ireturn (pc := 13) rfl dX5_handovers_13 ⟨_, rfl, ?_⟩
    first
      | contradiction
      | (refine oM.of ?_ (by repeat' (first | exact frM.rf | assumption | refine frM.up0 ?_ | refine frM.up ?_ (by decide) | refine frM.upL ?_ (by decide)))
         simp (decide := true) only [handoversS, noS, noTenS, thP, mnP, shelfP, stepS, farP, onP, eq_false h5, not_true_eq_false, not_false_eq_true, true_and, and_true, false_and, and_false, true_or, or_true, false_or, or_false, cI_True, cI_False, if_true, if_false, sm0, sm1, sm2, sm3, sm4, sm5, sm6, sm7, sm8, sm9, sm10, sm11, sm12, sm13, sm14, sm15, sm16, sm17, sm18, sm19, sm20, sm21, sm22, sm23, sm24, sm25, sm26, sm27, sm28, sm29, sm30, sm31, sm32, sm33, sm34, sm35, sm36, sm37, sm38, sm39, sm40, sm41, sm42, sm43, sm44, sm45, sm46, sm47, sm48, sm49, su0, su1, su2, su3, su4, su5, su6, su7, su8, su9, su10, su11, su12, su13, su14, su15, su16, su17, su18, su19, su20, su21, su22, su23, su24, su25, su26, su27, su28, su29, su30, su31, su32, su33, su34, su35, su36, su37, su38, su39, su40, su41, su42, su43, su44, su45, su46, su47, su48, su49])
