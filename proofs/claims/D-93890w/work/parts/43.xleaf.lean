/-! LEAVES of the X side: super calls of inherited methods; Math, need, in; things, rows, trace (printed by gen/mk_x43.py) -/
set_option maxRecDepth 100000
/-- super.x(..), which the superclass of x's class declares (turned from the row of super calls) -/
theorem cs_SI {own : String} {idx n c : Nat} {Y : YT} (q : vw_C) (x : MethodName) (hq : clX[c]? = some q) (hw : Y.2.1 = Cond.code Y.1 Y.2.2.1 Y.2.2.2.1 Y.2.2.2.2.1) (w1 : Cond.methodLink own idx x ∈ lw_all) (w2 : Cond.sameMethod x.cls Y.1.cls x.name x.desc ∈ lw_all) (w3 : Cond.superclass own x.cls ∈ lw_all) (w4 : Cond.superclass x.cls Y.1.cls ∈ lw_all) (w5 : Cond.instanceMethod Y.1 ∈ lw_all) (w6 : Cond.initialized Y.1.cls ∈ lw_all) (hG : Y.2.1 ∈ lw_all) (hd : Y.1.name = x.name ∧ Y.1.desc = x.desc ∧ x.name ≠ "<init>" ∧ (parseMethodDescriptor Y.1.desc).map (fun d => d.parameters.length) = some n) : Cs own (.invokespecial idx) (n + 1) (some c) Y := by
  intro Ω l p e R s m args below meth c0 cc nL H locs cells slots rm mc ms Pc Qc XC free vs rest pc lsr S hCx hM hrc hrs hR hbl hPc hn hv hsz hcat d hf
  obtain ⟨b, As, q', rfl, hq', cellB, hcB, hoB, hclB⟩ := hv c rfl
  cases hq.symm.trans hq'
  rw [cs_st]
  have hts := S.2.2.2.2
  have hGd : GoodIn lw_all (Y.2.1 :: lw_all) := by
    intro w hw'
    rcases List.mem_cons.mp hw' with e1 | e1
    · rw [e1]; exact lw_self _ hG
    · exact lw_self _ e1
  have hcw : Cond.code Y.1 Y.2.2.1 Y.2.2.2.1 Y.2.2.2.2.1 ∈ Y.2.1 :: lw_all := by rw [← hw]; exact List.mem_cons_self
  have hini := hts _ w6
  have hcode : (Cond.code Y.1 Y.2.2.1 Y.2.2.2.1 Y.2.2.2.2.1).before args s = true := hts _ (by rw [← hw]; exact hG)
  have hK : vx_Back l R p e below s args Y.1 3 8 (PreOf R mc ms Pc) (PostOf Qc mc ms free) (vx_Post XC mc ms free) := vx_back (bytes := Y.2.2.1) (maxL := Y.2.2.2.1) (ret := Y.2.2.2.2.1) hM hbl hrc hrs hR.1 hR.2 (pay_in hts hGd) hcw (fun a' U hW => word_at hW (Or.inl (by first | rfl | simp [Cond.onTables, Cond.keeps, Cond.steady])) hini)
  obtain ⟨hfc, kB, hkB, -⟩ := (hCx.1.1 c q hq).2
  have hcl9 := Option.some.inj (hclB.symm.trans hfc)
  rw [← hcl9] at hkB
  obtain ⟨hx, hb, hml, ho, -⟩ := S
  obtain ⟨mk, methM, hnamed, hmethM, hstM, habM⟩ := Cond.instanceMethod_spec (hts _ w5)
  obtain ⟨methM', cM, hmethM', -, -, -, -, -, -, hsigM⟩ := Cond.code_spec hnamed hcode
  cases hmethM.symm.trans hmethM'
  obtain ⟨ps, dk, kp, hps, hdk, hkp, hsuper, -, -, hnid⟩ := Cond.superclass_spec ho (hts _ w3)
  obtain ⟨ps2, dk2, kp2, hps2, hdk2, hkp2, hsuper2, -⟩ := Cond.superclass_spec hps (hts _ w4)
  have hnm : s.methodNamed? ⟨Y.1.cls, x.name, x.desc⟩ = some mk := by rw [← hd.1, ← hd.2.1]; exact hnamed
  have hpm : ps2 = mk.cls := Option.some.inj (hps2.symm.trans (findClass_of_methodNamed hnamed))
  have hsub : s.vm.isSubclass ps mk.cls = true := by
    have hz : ∃ n, s.vm.classes.size = n + 1 := ⟨s.vm.classes.size - 1, by have := (Array.getElem?_eq_some_iff.mp hdk).1; omega⟩
    obtain ⟨n0, hz⟩ := hz
    rw [← hpm]
    simp [Vm.isSubclass, hz, Vm.isSubclassAux, hdk2, hsuper2]
  intro T hT X
  obtain ⟨vm₁, X₁, hstep₁⟩ := X.invokespecialUp hx (owner := Y.1.cls) ho (hts _ w1) (hts _ w2) hnm hmethM hstM habM hd.2.2.1 hdk hnid hps hsuper hsub (a := b) (cell := cellB) (by rw [hT]; exact hcB)
    (fun z h => by rw [h] at hoB; cases hoB) hkB (g := F0 m pc lsr (As.reverse ++ .ref b :: rest)) rfl (argsL := As) (rest := rest) ((Nat.succ.inj hn).trans (cs_len hd.2.2.2 _ hsigM)) rfl (by rw [hb]; exact d)
  rcases hK m meth c0 ⟨T.setVm vm₁, locs, cells, slots⟩ (F0 m pc lsr rest) (.invokespecial idx) mk (Value.ref b :: As).toArray X₁ rfl (hsz.trans hml.symm) (by rw [hb]; exact d) (lv_rm hcat) (X₁.named hnamed) ⟨hf.1, hf.2, hPc (T.setVm vm₁) hT X₁.warmed⟩ with ⟨v, ⟨U', l2, c2, s2⟩, X', ⟨g', mk', t, L, e1, e2, hqq, h1, hL, h2, h3⟩, hsteps⟩ | ⟨q9, ⟨U', l2, c2, s2⟩, X', ⟨g', mk', t, L, E, ce, e1, e2, hqq, hce, hcv, hcl, h1, hL, h2, h3⟩, hsteps⟩
  · dsimp only [Pt.U, Pt.locs, Pt.cells, Pt.slots] at X' e1 e2 h1 h2 h3 hsteps
    subst h1; subst h2; subst h3
    exact Or.inl ⟨v, (T.setVm vm₁).calling g' mk' (Value.ref b :: As).toArray, t, U', L, hT, X', hL, e1, e2, hqq, fun target h => hstep₁ _ (by rw [doInvoke_state]; exact hsteps.trans h)⟩
  · dsimp only [Pt.U, Pt.locs, Pt.cells, Pt.slots] at X' e1 e2 h1 h2 h3 hsteps hcl
    subst h1; subst h2; subst h3
    exact Or.inr ⟨q9, (T.setVm vm₁).calling g' mk' (Value.ref b :: As).toArray, t, U', L, E, ce, hT, X', hL, e1, e2, hqq, hce, hcv, vx_cls X₁.warmed hcl, hstep₁ _ (by rw [doInvoke_state]; exact hsteps)⟩
theorem k_X17_9_17 : Cs "NoFartherThanAThrow$Parted" (.invokespecial 9) 1 (some 17) YX12_counts := cs_SI (Y := YX12_counts) (RX17, TX17, 3) ⟨"NoFartherThanAThrow$Heavy", "counts", "()I"⟩ rfl rfl q662 q663 q665 q666 q652 q101 q668 ⟨by decide +kernel, by decide +kernel, by decide +kernel, by decide +kernel⟩
theorem k_X17_25_17 : Cs "NoFartherThanAThrow$Parted" (.invokespecial 25) 3 (some 17) YX12_resting := cs_SI (Y := YX12_resting) (RX17, TX17, 3) ⟨"NoFartherThanAThrow$Heavy", "resting", "(ILNoFartherThanAThrow$Trace;)I"⟩ rfl rfl q1355 q1356 q665 q666 q1336 q101 q1359 ⟨by decide +kernel, by decide +kernel, by decide +kernel, by decide +kernel⟩
theorem k_X18_29_18 : Cs "NoFartherThanAThrow$Round" (.invokespecial 29) 3 (some 18) YX12_falling := cs_SI (Y := YX12_falling) (RX18, TX18, 3) ⟨"NoFartherThanAThrow$Heavy", "falling", "(ILNoFartherThanAThrow$Trace;)I"⟩ rfl rfl q1376 q1377 q807 q666 q1362 q101 q1379 ⟨by decide +kernel, by decide +kernel, by decide +kernel, by decide +kernel⟩
section
variable {G : GT} {bc bs : Nat} {M : PM} {pc idx : Nat} {ls : List (Option Value)} {st : List Value}
theorem r_mmax {x y : Int32} (d : decode (gc G) pc = .ok (.invokestatic idx, 3)) (hlk : Cond.methodLink (gy G).cls idx Lib.Math.max.name ∈ lw_all) (hf : 1 ≤ gF G) (ho : (st.map fun v => v.category).sum + 13 ≤ gO G) (kk : Wx G bc bs M (pc + 3) ls (.int (if x < y then y else x) :: st)) : Wx G bc bs M pc ls (.int y :: .int x :: st) := fun Ω l p e s m args below meth c F H locs cells slots lsr hR hS hl h1 h2 => va_mmax F.1 F.2.1 (F.2.2.2.2.1.trans hl.1.1.symm) F.2.2.2.2.2.1 (F.2.2.2.2.2.2.1 _ hlk) (F.2.2.2.2.2.2.1 _ q649) (F.2.2.2.2.2.2.1 _ q100) (F.2.2.2.2.2.2.1 _ q650) hf ho (Nat.le_trans (Nat.le_add_right _ _) h1) (Nat.le_trans (Nat.le_add_right _ _) h2) d (kk Ω l p e s m args below meth c F H locs cells slots lsr hR hS hl h1 h2)
theorem r_mmin {x y : Int32} (d : decode (gc G) pc = .ok (.invokestatic idx, 3)) (hlk : Cond.methodLink (gy G).cls idx Lib.Math.min.name ∈ lw_all) (hf : 1 ≤ gF G) (ho : (st.map fun v => v.category).sum + 13 ≤ gO G) (kk : Wx G bc bs M (pc + 3) ls (.int (if y < x then y else x) :: st)) : Wx G bc bs M pc ls (.int y :: .int x :: st) := fun Ω l p e s m args below meth c F H locs cells slots lsr hR hS hl h1 h2 => va_mmin F.1 F.2.1 (F.2.2.2.2.1.trans hl.1.1.symm) F.2.2.2.2.2.1 (F.2.2.2.2.2.2.1 _ hlk) (F.2.2.2.2.2.2.1 _ q670) (F.2.2.2.2.2.2.1 _ q100) (F.2.2.2.2.2.2.1 _ q671) hf ho (Nat.le_trans (Nat.le_add_right _ _) h1) (Nat.le_trans (Nat.le_add_right _ _) h2) d (kk Ω l p e s m args below meth c F H locs cells slots lsr hR hS hl h1 h2)
theorem r_mabs {x : Int32} (d : decode (gc G) pc = .ok (.invokestatic idx, 3)) (hlk : Cond.methodLink (gy G).cls idx Lib.Math.abs.name ∈ lw_all) (hf : 1 ≤ gF G) (ho : (st.map fun v => v.category).sum + 13 ≤ gO G) (kk : Wx G bc bs M (pc + 3) ls (.int (if 0 ≤ x then x else 0 - x) :: st)) : Wx G bc bs M pc ls (.int x :: st) := fun Ω l p e s m args below meth c F H locs cells slots lsr hR hS hl h1 h2 => va_mabs F.1 F.2.1 (F.2.2.2.2.1.trans hl.1.1.symm) F.2.2.2.2.2.1 (F.2.2.2.2.2.2.1 _ hlk) (F.2.2.2.2.2.2.1 _ q1120) (F.2.2.2.2.2.2.1 _ q100) (F.2.2.2.2.2.2.1 _ q1121) hf ho (Nat.le_trans (Nat.le_add_right _ _) h1) (Nat.le_trans (Nat.le_add_right _ _) h2) d (kk Ω l p e s m args below meth c F H locs cells slots lsr hR hS hl h1 h2)
end
/-- M' is M with a Refused of why at its end -/
abbrev rfM (M : PM) (why : Int32) : PM := sI (nw M (1, 6) 0) M.1 6 why
theorem nw_K (M : PM) (κ : Nat × Nat) (n : Nat) : mK (nw M κ n) M.1 = κ := if_pos rfl
theorem nw_R (M : PM) (κ : Nat × Nat) (n : Nat) (k : Nat) : mR (nw M κ n) M.1 k = none := by
  show va_up M.2.2.2.2.2 M.1 (fun _ => none) M.1 k = none
  rw [va_up_self]
/-- refused: q, of class Refused, over the memory of why -/
def rfX (M : PM) (why : Int32) : Nat → String → PM → Prop := fun q E M' => q = M.1 ∧ E = "NoFartherThanAThrow$Refused" ∧ M' = rfM M why
theorem dv_1 : ∀ j, j < 2 → defaultValue (ftX 1 j) = fv (ftX 1 j) 0 none := by
  intro j hj
  match j, hj with
  | 0, _ => rfl
  | 1, _ => rfl
theorem dv_2 : ∀ j, j < 5 → defaultValue (ftX 2 j) = fv (ftX 2 j) 0 none := by
  intro j hj
  match j, hj with
  | 0, _ => rfl
  | 1, _ => rfl
  | 2, _ => rfl
  | 3, _ => rfl
  | 4, _ => rfl
theorem dv_3 : ∀ j, j < 18 → defaultValue (ftX 3 j) = fv (ftX 3 j) 0 none := by
  intro j hj
  match j, hj with
  | 0, _ => rfl
  | 1, _ => rfl
  | 2, _ => rfl
  | 3, _ => rfl
  | 4, _ => rfl
  | 5, _ => rfl
  | 6, _ => rfl
  | 7, _ => rfl
  | 8, _ => rfl
  | 9, _ => rfl
  | 10, _ => rfl
  | 11, _ => rfl
  | 12, _ => rfl
  | 13, _ => rfl
  | 14, _ => rfl
  | 15, _ => rfl
  | 16, _ => rfl
  | 17, _ => rfl
  | j + 18, h => exact absurd h (by omega)
theorem dv_4 : ∀ j, j < 1 → defaultValue (ftX 4 j) = fv (ftX 4 j) 0 none := by
  intro j hj
  match j, hj with
  | 0, _ => rfl
theorem dv_6 : ∀ j, j < 7 → defaultValue (ftX 6 j) = fv (ftX 6 j) 0 none := by
  intro j hj
  match j, hj with
  | 0, _ => rfl
  | 1, _ => rfl
  | 2, _ => rfl
  | 3, _ => rfl
  | 4, _ => rfl
  | 5, _ => rfl
  | 6, _ => rfl
theorem dv_8 : ∀ j, j < 1 → defaultValue (ftX 8 j) = fv (ftX 8 j) 0 none := by
  intro j hj
  match j, hj with
  | 0, _ => rfl
theorem dv_9 : ∀ j, j < 1 → defaultValue (ftX 9 j) = fv (ftX 9 j) 0 none := by
  intro j hj
  match j, hj with
  | 0, _ => rfl
theorem dv_10 : ∀ j, j < 1 → defaultValue (ftX 10 j) = fv (ftX 10 j) 0 none := by
  intro j hj
  match j, hj with
  | 0, _ => rfl
theorem dv_11 : ∀ j, j < 1 → defaultValue (ftX 11 j) = fv (ftX 11 j) 0 none := by
  intro j hj
  match j, hj with
  | 0, _ => rfl
theorem dv_12 : ∀ j, j < 3 → defaultValue (ftX 12 j) = fv (ftX 12 j) 0 none := by
  intro j hj
  match j, hj with
  | 0, _ => rfl
  | 1, _ => rfl
  | 2, _ => rfl
theorem dv_13 : ∀ j, j < 3 → defaultValue (ftX 13 j) = fv (ftX 13 j) 0 none := by
  intro j hj
  match j, hj with
  | 0, _ => rfl
  | 1, _ => rfl
  | 2, _ => rfl
theorem dv_14 : ∀ j, j < 3 → defaultValue (ftX 14 j) = fv (ftX 14 j) 0 none := by
  intro j hj
  match j, hj with
  | 0, _ => rfl
  | 1, _ => rfl
  | 2, _ => rfl
theorem dv_15 : ∀ j, j < 3 → defaultValue (ftX 15 j) = fv (ftX 15 j) 0 none := by
  intro j hj
  match j, hj with
  | 0, _ => rfl
  | 1, _ => rfl
  | 2, _ => rfl
theorem dv_16 : ∀ j, j < 3 → defaultValue (ftX 16 j) = fv (ftX 16 j) 0 none := by
  intro j hj
  match j, hj with
  | 0, _ => rfl
  | 1, _ => rfl
  | 2, _ => rfl
theorem dv_17 : ∀ j, j < 3 → defaultValue (ftX 17 j) = fv (ftX 17 j) 0 none := by
  intro j hj
  match j, hj with
  | 0, _ => rfl
  | 1, _ => rfl
  | 2, _ => rfl
theorem dv_18 : ∀ j, j < 3 → defaultValue (ftX 18 j) = fv (ftX 18 j) 0 none := by
  intro j hj
  match j, hj with
  | 0, _ => rfl
  | 1, _ => rfl
  | 2, _ => rfl
theorem dv_19 : ∀ j, j < 3 → defaultValue (ftX 19 j) = fv (ftX 19 j) 0 none := by
  intro j hj
  match j, hj with
  | 0, _ => rfl
  | 1, _ => rfl
  | 2, _ => rfl
theorem dv_20 : ∀ j, j < 7 → defaultValue (ftX 20 j) = fv (ftX 20 j) 0 none := by
  intro j hj
  match j, hj with
  | 0, _ => rfl
  | 1, _ => rfl
  | 2, _ => rfl
  | 3, _ => rfl
  | 4, _ => rfl
  | 5, _ => rfl
  | 6, _ => rfl
theorem arN0 : ∀ Ω s, Cx Ω s → s.vm.findClass ("[" ++ FieldType.int.toString) = some (Ω.2.2.1 0) := fun Ω s h => (h.1.2 0 _ rfl).2
theorem arN1 : ∀ Ω s, Cx Ω s → s.vm.findClass ("[" ++ FieldType.byte.toString) = some (Ω.2.2.1 1) := fun Ω s h => (h.1.2 1 _ rfl).2
theorem arN2 : ∀ Ω s, Cx Ω s → s.vm.findClass ("[" ++ FieldType.short.toString) = some (Ω.2.2.1 2) := fun Ω s h => (h.1.2 2 _ rfl).2
theorem arN3 : ∀ Ω s, Cx Ω s → s.vm.findClass ("[" ++ FieldType.boolean.toString) = some (Ω.2.2.1 3) := fun Ω s h => (h.1.2 3 _ rfl).2
theorem arN4 : ∀ Ω s, Cx Ω s → s.vm.findClass ("[" ++ FieldType.long.toString) = some (Ω.2.2.1 4) := fun Ω s h => (h.1.2 4 _ rfl).2
theorem arN5 : ∀ Ω s, Cx Ω s → va_AO "NoFartherThanAThrow$Shelf" s ∧ s.vm.findClass ("[" ++ (FieldType.object "NoFartherThanAThrow$Shelf").toString) = some (Ω.2.2.1 5) := fun Ω s h => ⟨h.2.2.2.2.2.1.1, by obtain ⟨-, -, -, -, -, k⟩ := (h.1.2 5 _ rfl).2; exact k⟩
theorem arN6 : ∀ Ω s, Cx Ω s → va_AO "NoFartherThanAThrow$Thing" s ∧ s.vm.findClass ("[" ++ (FieldType.object "NoFartherThanAThrow$Thing").toString) = some (Ω.2.2.1 6) := fun Ω s h => ⟨h.2.2.2.2.2.1.2.1, by obtain ⟨-, -, -, -, -, k⟩ := (h.1.2 6 _ rfl).2; exact k⟩
theorem ct_X0_need {M : PM} (x1 x2 : Int32) : Ct (YX0_need, (4, 92, 1, 7), qv (fun M' => ¬ x1 = 0 ∧ M' = M), fun q E M' => x1 = 0 ∧ rfX M x2 q E M') [.int x1, .int x2] M := by
  refine ct_of [some (.int x1), some (.int x2)] rfl rfl rfl (Nat.le_of_ble_eq_true rfl) rfl rfl ?_
  refine r_iload_n (pc := 0) dX0_need_0 rfl ?_
  refine r_if_ne (pc := 1) 13 dX0_need_1 rfl (fun h1 => ?_) (fun h1 => ?_)
  · refine r_return (pc := 13) rfl dX0_need_13 ⟨rfl, ?_⟩
    exact ⟨h1, rfl⟩
  · refine r_new (c := 6) (pc := 4) (RX6, TX6, 7) dX0_need_4 rfl q305 q388 q91 dv_6 (Nat.le_of_ble_eq_true rfl) rfl (Nat.le_of_ble_eq_true rfl) ?_
    refine r_dup (pc := 7) dX0_need_7 rfl ?_
    refine r_iload_n (pc := 8) dX0_need_8 rfl ?_
    refine r_o2 (pc := 9) (bc' := 0) (bs' := 0) (ct_X6_init x2 (nw_K _ _ _) (nw_R _ _ _)) k_X0_23_6 dX0_need_9 (nw_K _ _ _) (Nat.le_of_ble_eq_true rfl) ⟨Nat.le_of_ble_eq_true rfl, Nat.le_of_ble_eq_true rfl⟩ ⟨Nat.le_of_ble_eq_true rfl, Nat.le_of_ble_eq_true rfl⟩ (r_cv fun M9 p9 => ?_) nox
    have p9 : _ = _ := p9
    subst p9
    refine r_athrow (pc := 12) (c := 6) dX0_need_12 (nw_K M (1, 6) 0) rfl ?_
    exact t_out rfl ⟨h1, rfl, rfl, rfl⟩
theorem i64_lt {a b : Int32} : a.toInt64 < b.toInt64 ↔ a < b := by
  rw [Int64.lt_iff_toInt_lt, Int32.lt_iff_toInt_lt, Int32.toInt_toInt64, Int32.toInt_toInt64]
theorem ct_X0_in {M : PM} {v l m : Int64} (a b c : Int32) (h1 : a.toInt64 = v) (h2 : b.toInt64 = l) (h3 : c.toInt64 = m) : Ct (YX0_in, (0, 0, 0, 0), qi (fun r M' => r = bI (¬ a < b ∧ ¬ c < a) ∧ M' = M), noX) [.long v, .long l, .long m] M := by
  subst h1; subst h2; subst h3
  refine ct_of [some (.long a.toInt64), none, some (.long b.toInt64), none, some (.long c.toInt64), none] rfl rfl rfl (Nat.le_of_ble_eq_true rfl) rfl rfl ?_
  refine r_lload_n (pc := 0) dX0_in_0 rfl ?_
  refine r_lload_n (pc := 1) dX0_in_1 rfl ?_
  refine r_lcmp (pc := 2) dX0_in_2 ?_
  refine r_if_lt (pc := 3) 17 dX0_in_3 rfl (fun h3 => ?_) (fun h3 => ?_)
  · rw [lg_cmp_lt, i64_lt] at h3
    refine r_iconst (pc := 17) (v := 0) dX0_in_17 (by decide) ?_
    refine r_zreturn (pc := 18) rfl rfl dX0_in_18 ⟨_, rfl, ?_⟩
    exact ⟨(bI_f (fun hh => by simp_all)).symm, rfl⟩
  · rw [lg_cmp_lt, i64_lt] at h3
    refine r_lload_n (pc := 6) dX0_in_6 rfl ?_
    refine r_lload (pc := 7) dX0_in_7 rfl ?_
    refine r_lcmp (pc := 9) dX0_in_9 ?_
    refine r_if_gt (pc := 10) 17 dX0_in_10 rfl (fun h10 => ?_) (fun h10 => ?_)
    · rw [lg_cmp_gt, i64_lt] at h10
      refine r_iconst (pc := 17) (v := 0) dX0_in_17 (by decide) ?_
      refine r_zreturn (pc := 18) rfl rfl dX0_in_18 ⟨_, rfl, ?_⟩
      exact ⟨(bI_f (fun hh => by simp_all)).symm, rfl⟩
    · rw [lg_cmp_gt, i64_lt] at h10
      refine r_iconst (pc := 13) (v := 1) dX0_in_13 (by decide) ?_
      refine r_goto (pc := 14) 18 dX0_in_14 rfl ?_
      refine r_zreturn (pc := 18) rfl rfl dX0_in_18 ⟨_, rfl, ?_⟩
      exact ⟨(bI_t ⟨h3, h10⟩).symm, rfl⟩
theorem can_e (s c : Int32) : (if 0 < s then s else 0) * 10 / c = if s < 0 then 0 else s * 10 / c := by
  by_cases h : 0 < s
  · rw [if_pos h, if_neg (fun h2 => by rw [i_lt] at h h2; omega)]
  · rw [if_neg h]
    by_cases h2 : s < 0
    · rw [if_pos h2, Int32.zero_mul, Int32.zero_div]
    · rw [if_neg h2]
      have : s = 0 := by
        rw [i_lt] at h h2
        have : (0 : Int32).toInt = 0 := by decide
        rw [i_eq]; omega
      rw [this]
theorem low_5 (x : Int32) : (if lowC x 40 < 5 then lowC x 40 else 5) = lowC x 5 := by
  unfold lowC
  have c5 : (5 : Int32).toInt = 5 := by decide
  have c40 : (40 : Int32).toInt = 40 := by decide
  by_cases h : x < 40
  · rw [if_pos h]
  · have h5 : ¬ x < 5 := by rw [i_lt] at h ⊢; omega
    rw [if_neg h, if_neg h5, if_neg (by decide)]
theorem ct_X12_counts_12 {M : PM} {a : Nat} (hK : mK M a = (1, 12)) : Ct (YX12_counts, (0, 0, 0, 0), qi (fun r M' => r = mI M a 1 ∧ M' = M), noX) [.ref a] M := by
  refine ct_of [some (.ref a)] rfl rfl rfl (Nat.le_of_ble_eq_true rfl) rfl rfl ?_
  refine r_aload_n (pc := 0) dX12_counts_0 rfl ?_
  refine r_getI (pc := 1) dX12_counts_1 fl_X12_15_12 hK (fun _ _ => rfl) ?_
  refine r_ireturn (pc := 4) rfl dX12_counts_4 ⟨_, rfl, ?_⟩
  exact ⟨rfl, rfl⟩
theorem ct_X12_can_12 {M : PM} {a : Nat} (x1 : Int32) (hK : mK M a = (1, 12)) (hd : ¬ mI M a 1 = 0) : Ct (YX12_can, (1, 34, 0, 0), qi (fun r M' => r = canC 0 (mI M a 1) (mI M a 2) x1 ∧ M' = M), noX) [.ref a, .int x1] M := by
  refine ct_of [some (.ref a), some (.int x1)] rfl rfl rfl (Nat.le_of_ble_eq_true rfl) rfl rfl ?_
  refine r_iconst (pc := 0) (v := 0) dX12_can_0 (by decide) ?_
  refine r_iload_n (pc := 1) dX12_can_1 rfl ?_
  refine r_mmax (pc := 2) dX12_can_2 q648 (Nat.le_of_ble_eq_true rfl) (Nat.le_of_ble_eq_true rfl) ?_
  refine r_bipush (pc := 5) (v := 10) dX12_can_5 (by decide) ?_
  refine r_imul (pc := 7) dX12_can_7 ?_
  refine r_aload_n (pc := 8) dX12_can_8 rfl ?_
  refine r_o1 (pc := 9) (bc' := 0) (bs' := 0) (ct_X12_counts_12 hK) k_X12_27_12 dX12_can_9 hK (Nat.le_of_ble_eq_true rfl) ⟨Nat.le_of_ble_eq_true rfl, Nat.le_of_ble_eq_true rfl⟩ ⟨Nat.le_of_ble_eq_true rfl, Nat.le_of_ble_eq_true rfl⟩ (r_ci fun r9 M9 p9 => ?_) nox
  obtain ⟨rfl, rfl⟩ := p9
  refine r_idiv (pc := 12) dX12_can_12 hd ?_
  refine r_ireturn (pc := 13) rfl dX12_can_13 ⟨_, rfl, ?_⟩
  exact ⟨can_e _ _, rfl⟩
theorem ct_X12_far_12 {M : PM} {a : Nat} (x1 : Int32) (x2 : Int32) (hK : mK M a = (1, 12)) (hd : ¬ mI M a 1 = 0) : Ct (YX12_far, (2, 55, 0, 0), qi (fun r M' => r = lowC (canC 0 (mI M a 1) (mI M a 2) x1) 40 ∧ M' = M), noX) [.ref a, .int x1, .int x2] M := by
  refine ct_of [some (.ref a), some (.int x1), some (.int x2)] rfl rfl rfl (Nat.le_of_ble_eq_true rfl) rfl rfl ?_
  refine r_bipush (pc := 0) (v := 40) dX12_far_0 (by decide) ?_
  refine r_aload_n (pc := 2) dX12_far_2 rfl ?_
  refine r_iload_n (pc := 3) dX12_far_3 rfl ?_
  refine r_o2 (pc := 4) (bc' := 0) (bs' := 0) (ct_X12_can_12 x1 hK hd) k_X12_31_12 dX12_far_4 hK (Nat.le_of_ble_eq_true rfl) ⟨Nat.le_of_ble_eq_true rfl, Nat.le_of_ble_eq_true rfl⟩ ⟨Nat.le_of_ble_eq_true rfl, Nat.le_of_ble_eq_true rfl⟩ (r_ci fun r4 M4 p4 => ?_) nox
  obtain ⟨rfl, rfl⟩ := p4
  refine r_mmin (pc := 7) dX12_far_7 q669 (Nat.le_of_ble_eq_true rfl) (Nat.le_of_ble_eq_true rfl) ?_
  refine r_ireturn (pc := 10) rfl dX12_far_10 ⟨_, rfl, ?_⟩
  exact ⟨rfl, rfl⟩
theorem ct_X12_kind_12 {M : PM} {a : Nat} (hK : mK M a = (1, 12)) : Ct (YX12_kind, (0, 0, 0, 0), qi (fun r M' => r = 0 ∧ M' = M), noX) [.ref a] M := by
  refine ct_of [some (.ref a)] rfl rfl rfl (Nat.le_of_ble_eq_true rfl) rfl rfl ?_
  refine r_iconst (pc := 0) (v := 0) dX12_kind_0 (by decide) ?_
  refine r_ireturn (pc := 1) rfl dX12_kind_1 ⟨_, rfl, ?_⟩
  exact ⟨rfl, rfl⟩
theorem ct_X12_said_12 {M : PM} {a : Nat} (hK : mK M a = (1, 12)) : Ct (YX12_said, (0, 0, 0, 0), qi (fun r M' => r = mI M a 1 ∧ M' = M), noX) [.ref a] M := by
  refine ct_of [some (.ref a)] rfl rfl rfl (Nat.le_of_ble_eq_true rfl) rfl rfl ?_
  refine r_aload_n (pc := 0) dX12_said_0 rfl ?_
  refine r_getI (pc := 1) dX12_said_1 fl_X12_15_12 hK (fun _ _ => rfl) ?_
  refine r_ireturn (pc := 4) rfl dX12_said_4 ⟨_, rfl, ?_⟩
  exact ⟨rfl, rfl⟩
theorem ct_X12_breaks_12 {M : PM} {a : Nat} (hK : mK M a = (1, 12)) : Ct (YX12_breaks, (0, 0, 0, 0), qi (fun r M' => r = 0 ∧ M' = M), noX) [.ref a] M := by
  refine ct_of [some (.ref a)] rfl rfl rfl (Nat.le_of_ble_eq_true rfl) rfl rfl ?_
  refine r_iconst (pc := 0) (v := 0) dX12_breaks_0 (by decide) ?_
  refine r_zreturn (pc := 1) rfl rfl dX12_breaks_1 ⟨_, rfl, ?_⟩
  exact ⟨rfl, rfl⟩
theorem ct_X12_counts_13 {M : PM} {a : Nat} (hK : mK M a = (1, 13)) : Ct (YX12_counts, (0, 0, 0, 0), qi (fun r M' => r = mI M a 1 ∧ M' = M), noX) [.ref a] M := by
  refine ct_of [some (.ref a)] rfl rfl rfl (Nat.le_of_ble_eq_true rfl) rfl rfl ?_
  refine r_aload_n (pc := 0) dX12_counts_0 rfl ?_
  refine r_getI (pc := 1) dX12_counts_1 fl_X12_15_13 hK (fun _ _ => rfl) ?_
  refine r_ireturn (pc := 4) rfl dX12_counts_4 ⟨_, rfl, ?_⟩
  exact ⟨rfl, rfl⟩
theorem ct_X12_can_13 {M : PM} {a : Nat} (x1 : Int32) (hK : mK M a = (1, 13)) (hd : ¬ mI M a 1 = 0) : Ct (YX12_can, (1, 34, 0, 0), qi (fun r M' => r = canC 1 (mI M a 1) (mI M a 2) x1 ∧ M' = M), noX) [.ref a, .int x1] M := by
  refine ct_of [some (.ref a), some (.int x1)] rfl rfl rfl (Nat.le_of_ble_eq_true rfl) rfl rfl ?_
  refine r_iconst (pc := 0) (v := 0) dX12_can_0 (by decide) ?_
  refine r_iload_n (pc := 1) dX12_can_1 rfl ?_
  refine r_mmax (pc := 2) dX12_can_2 q648 (Nat.le_of_ble_eq_true rfl) (Nat.le_of_ble_eq_true rfl) ?_
  refine r_bipush (pc := 5) (v := 10) dX12_can_5 (by decide) ?_
  refine r_imul (pc := 7) dX12_can_7 ?_
  refine r_aload_n (pc := 8) dX12_can_8 rfl ?_
  refine r_o1 (pc := 9) (bc' := 0) (bs' := 0) (ct_X12_counts_13 hK) k_X12_27_13 dX12_can_9 hK (Nat.le_of_ble_eq_true rfl) ⟨Nat.le_of_ble_eq_true rfl, Nat.le_of_ble_eq_true rfl⟩ ⟨Nat.le_of_ble_eq_true rfl, Nat.le_of_ble_eq_true rfl⟩ (r_ci fun r9 M9 p9 => ?_) nox
  obtain ⟨rfl, rfl⟩ := p9
  refine r_idiv (pc := 12) dX12_can_12 hd ?_
  refine r_ireturn (pc := 13) rfl dX12_can_13 ⟨_, rfl, ?_⟩
  exact ⟨can_e _ _, rfl⟩
theorem ct_X13_far_13 {M : PM} {a : Nat} (x1 : Int32) (x2 : Int32) (hK : mK M a = (1, 13)) (hd : ¬ mI M a 1 = 0) : Ct (YX13_far, (2, 55, 0, 0), qi (fun r M' => r = lowC (canC 1 (mI M a 1) (mI M a 2) x1 / 2) 40 ∧ M' = M), noX) [.ref a, .int x1, .int x2] M := by
  refine ct_of [some (.ref a), some (.int x1), some (.int x2)] rfl rfl rfl (Nat.le_of_ble_eq_true rfl) rfl rfl ?_
  refine r_bipush (pc := 0) (v := 40) dX13_far_0 (by decide) ?_
  refine r_aload_n (pc := 2) dX13_far_2 rfl ?_
  refine r_iload_n (pc := 3) dX13_far_3 rfl ?_
  refine r_o2 (pc := 4) (bc' := 0) (bs' := 0) (ct_X12_can_13 x1 hK hd) k_X13_9_13 dX13_far_4 hK (Nat.le_of_ble_eq_true rfl) ⟨Nat.le_of_ble_eq_true rfl, Nat.le_of_ble_eq_true rfl⟩ ⟨Nat.le_of_ble_eq_true rfl, Nat.le_of_ble_eq_true rfl⟩ (r_ci fun r4 M4 p4 => ?_) nox
  obtain ⟨rfl, rfl⟩ := p4
  refine r_iconst (pc := 7) (v := 2) dX13_far_7 (by decide) ?_
  refine r_idiv (pc := 8) dX13_far_8 (by decide) ?_
  refine r_mmin (pc := 9) dX13_far_9 q1107 (Nat.le_of_ble_eq_true rfl) (Nat.le_of_ble_eq_true rfl) ?_
  refine r_ireturn (pc := 12) rfl dX13_far_12 ⟨_, rfl, ?_⟩
  exact ⟨rfl, rfl⟩
theorem ct_X13_kind_13 {M : PM} {a : Nat} (hK : mK M a = (1, 13)) : Ct (YX13_kind, (0, 0, 0, 0), qi (fun r M' => r = 1 ∧ M' = M), noX) [.ref a] M := by
  refine ct_of [some (.ref a)] rfl rfl rfl (Nat.le_of_ble_eq_true rfl) rfl rfl ?_
  refine r_iconst (pc := 0) (v := 1) dX13_kind_0 (by decide) ?_
  refine r_ireturn (pc := 1) rfl dX13_kind_1 ⟨_, rfl, ?_⟩
  exact ⟨rfl, rfl⟩
theorem ct_X12_said_13 {M : PM} {a : Nat} (hK : mK M a = (1, 13)) : Ct (YX12_said, (0, 0, 0, 0), qi (fun r M' => r = mI M a 1 ∧ M' = M), noX) [.ref a] M := by
  refine ct_of [some (.ref a)] rfl rfl rfl (Nat.le_of_ble_eq_true rfl) rfl rfl ?_
  refine r_aload_n (pc := 0) dX12_said_0 rfl ?_
  refine r_getI (pc := 1) dX12_said_1 fl_X12_15_13 hK (fun _ _ => rfl) ?_
  refine r_ireturn (pc := 4) rfl dX12_said_4 ⟨_, rfl, ?_⟩
  exact ⟨rfl, rfl⟩
theorem ct_X13_more_13 {M : PM} {a : Nat} (hK : mK M a = (1, 13)) : Ct (YX13_more, (0, 0, 0, 0), qi (fun r M' => r = mI M a 2 ∧ M' = M), noX) [.ref a] M := by
  refine ct_of [some (.ref a)] rfl rfl rfl (Nat.le_of_ble_eq_true rfl) rfl rfl ?_
  refine r_aload_n (pc := 0) dX13_more_0 rfl ?_
  refine r_getI (pc := 1) dX13_more_1 fl_X13_21_13 hK (fun _ _ => rfl) ?_
  refine r_ireturn (pc := 4) rfl dX13_more_4 ⟨_, rfl, ?_⟩
  exact ⟨rfl, rfl⟩
theorem ct_X12_breaks_13 {M : PM} {a : Nat} (hK : mK M a = (1, 13)) : Ct (YX12_breaks, (0, 0, 0, 0), qi (fun r M' => r = 0 ∧ M' = M), noX) [.ref a] M := by
  refine ct_of [some (.ref a)] rfl rfl rfl (Nat.le_of_ble_eq_true rfl) rfl rfl ?_
  refine r_iconst (pc := 0) (v := 0) dX12_breaks_0 (by decide) ?_
  refine r_zreturn (pc := 1) rfl rfl dX12_breaks_1 ⟨_, rfl, ?_⟩
  exact ⟨rfl, rfl⟩
theorem ct_X12_counts_14 {M : PM} {a : Nat} (hK : mK M a = (1, 14)) : Ct (YX12_counts, (0, 0, 0, 0), qi (fun r M' => r = mI M a 1 ∧ M' = M), noX) [.ref a] M := by
  refine ct_of [some (.ref a)] rfl rfl rfl (Nat.le_of_ble_eq_true rfl) rfl rfl ?_
  refine r_aload_n (pc := 0) dX12_counts_0 rfl ?_
  refine r_getI (pc := 1) dX12_counts_1 fl_X12_15_14 hK (fun _ _ => rfl) ?_
  refine r_ireturn (pc := 4) rfl dX12_counts_4 ⟨_, rfl, ?_⟩
  exact ⟨rfl, rfl⟩
theorem ct_X12_can_14 {M : PM} {a : Nat} (x1 : Int32) (hK : mK M a = (1, 14)) (hd : ¬ mI M a 1 = 0) : Ct (YX12_can, (1, 34, 0, 0), qi (fun r M' => r = canC 2 (mI M a 1) (mI M a 2) x1 ∧ M' = M), noX) [.ref a, .int x1] M := by
  refine ct_of [some (.ref a), some (.int x1)] rfl rfl rfl (Nat.le_of_ble_eq_true rfl) rfl rfl ?_
  refine r_iconst (pc := 0) (v := 0) dX12_can_0 (by decide) ?_
  refine r_iload_n (pc := 1) dX12_can_1 rfl ?_
  refine r_mmax (pc := 2) dX12_can_2 q648 (Nat.le_of_ble_eq_true rfl) (Nat.le_of_ble_eq_true rfl) ?_
  refine r_bipush (pc := 5) (v := 10) dX12_can_5 (by decide) ?_
  refine r_imul (pc := 7) dX12_can_7 ?_
  refine r_aload_n (pc := 8) dX12_can_8 rfl ?_
  refine r_o1 (pc := 9) (bc' := 0) (bs' := 0) (ct_X12_counts_14 hK) k_X12_27_14 dX12_can_9 hK (Nat.le_of_ble_eq_true rfl) ⟨Nat.le_of_ble_eq_true rfl, Nat.le_of_ble_eq_true rfl⟩ ⟨Nat.le_of_ble_eq_true rfl, Nat.le_of_ble_eq_true rfl⟩ (r_ci fun r9 M9 p9 => ?_) nox
  obtain ⟨rfl, rfl⟩ := p9
  refine r_idiv (pc := 12) dX12_can_12 hd ?_
  refine r_ireturn (pc := 13) rfl dX12_can_13 ⟨_, rfl, ?_⟩
  exact ⟨can_e _ _, rfl⟩
theorem ct_X12_far_14 {M : PM} {a : Nat} (x1 : Int32) (x2 : Int32) (hK : mK M a = (1, 14)) (hd : ¬ mI M a 1 = 0) : Ct (YX12_far, (2, 55, 0, 0), qi (fun r M' => r = lowC (canC 2 (mI M a 1) (mI M a 2) x1) 40 ∧ M' = M), noX) [.ref a, .int x1, .int x2] M := by
  refine ct_of [some (.ref a), some (.int x1), some (.int x2)] rfl rfl rfl (Nat.le_of_ble_eq_true rfl) rfl rfl ?_
  refine r_bipush (pc := 0) (v := 40) dX12_far_0 (by decide) ?_
  refine r_aload_n (pc := 2) dX12_far_2 rfl ?_
  refine r_iload_n (pc := 3) dX12_far_3 rfl ?_
  refine r_o2 (pc := 4) (bc' := 0) (bs' := 0) (ct_X12_can_14 x1 hK hd) k_X12_31_14 dX12_far_4 hK (Nat.le_of_ble_eq_true rfl) ⟨Nat.le_of_ble_eq_true rfl, Nat.le_of_ble_eq_true rfl⟩ ⟨Nat.le_of_ble_eq_true rfl, Nat.le_of_ble_eq_true rfl⟩ (r_ci fun r4 M4 p4 => ?_) nox
  obtain ⟨rfl, rfl⟩ := p4
  refine r_mmin (pc := 7) dX12_far_7 q669 (Nat.le_of_ble_eq_true rfl) (Nat.le_of_ble_eq_true rfl) ?_
  refine r_ireturn (pc := 10) rfl dX12_far_10 ⟨_, rfl, ?_⟩
  exact ⟨rfl, rfl⟩
theorem ct_X14_far_14 {M : PM} {a : Nat} (x1 : Int32) (x2 : Int32) (hK : mK M a = (1, 14)) (hd : ¬ mI M a 1 = 0) : Ct (YX14_far, (3, 77, 0, 0), qi (fun r M' => r = lowC (canC 2 (mI M a 1) (mI M a 2) x1) 40 + x2 ∧ M' = M), noX) [.ref a, .int x1, .int x2] M := by
  refine ct_of [some (.ref a), some (.int x1), some (.int x2)] rfl rfl rfl (Nat.le_of_ble_eq_true rfl) rfl rfl ?_
  refine r_aload_n (pc := 0) dX14_far_0 rfl ?_
  refine r_iload_n (pc := 1) dX14_far_1 rfl ?_
  refine r_iload_n (pc := 2) dX14_far_2 rfl ?_
  refine r_o3 (pc := 3) (bc' := 0) (bs' := 0) (ct_X12_far_14 x1 x2 hK hd) k_X14_9_14 dX14_far_3 hK (Nat.le_of_ble_eq_true rfl) ⟨Nat.le_of_ble_eq_true rfl, Nat.le_of_ble_eq_true rfl⟩ ⟨Nat.le_of_ble_eq_true rfl, Nat.le_of_ble_eq_true rfl⟩ (r_ci fun r3 M3 p3 => ?_) nox
  obtain ⟨rfl, rfl⟩ := p3
  refine r_iload_n (pc := 6) dX14_far_6 rfl ?_
  refine r_iadd (pc := 7) dX14_far_7 ?_
  refine r_ireturn (pc := 8) rfl dX14_far_8 ⟨_, rfl, ?_⟩
  exact ⟨rfl, rfl⟩
theorem ct_X14_kind_14 {M : PM} {a : Nat} (hK : mK M a = (1, 14)) : Ct (YX14_kind, (0, 0, 0, 0), qi (fun r M' => r = 2 ∧ M' = M), noX) [.ref a] M := by
  refine ct_of [some (.ref a)] rfl rfl rfl (Nat.le_of_ble_eq_true rfl) rfl rfl ?_
  refine r_iconst (pc := 0) (v := 2) dX14_kind_0 (by decide) ?_
  refine r_ireturn (pc := 1) rfl dX14_kind_1 ⟨_, rfl, ?_⟩
  exact ⟨rfl, rfl⟩
theorem ct_X12_said_14 {M : PM} {a : Nat} (hK : mK M a = (1, 14)) : Ct (YX12_said, (0, 0, 0, 0), qi (fun r M' => r = mI M a 1 ∧ M' = M), noX) [.ref a] M := by
  refine ct_of [some (.ref a)] rfl rfl rfl (Nat.le_of_ble_eq_true rfl) rfl rfl ?_
  refine r_aload_n (pc := 0) dX12_said_0 rfl ?_
  refine r_getI (pc := 1) dX12_said_1 fl_X12_15_14 hK (fun _ _ => rfl) ?_
  refine r_ireturn (pc := 4) rfl dX12_said_4 ⟨_, rfl, ?_⟩
  exact ⟨rfl, rfl⟩
theorem ct_X12_breaks_14 {M : PM} {a : Nat} (hK : mK M a = (1, 14)) : Ct (YX12_breaks, (0, 0, 0, 0), qi (fun r M' => r = 0 ∧ M' = M), noX) [.ref a] M := by
  refine ct_of [some (.ref a)] rfl rfl rfl (Nat.le_of_ble_eq_true rfl) rfl rfl ?_
  refine r_iconst (pc := 0) (v := 0) dX12_breaks_0 (by decide) ?_
  refine r_zreturn (pc := 1) rfl rfl dX12_breaks_1 ⟨_, rfl, ?_⟩
  exact ⟨rfl, rfl⟩
theorem ct_X12_counts_15 {M : PM} {a : Nat} (hK : mK M a = (1, 15)) : Ct (YX12_counts, (0, 0, 0, 0), qi (fun r M' => r = mI M a 1 ∧ M' = M), noX) [.ref a] M := by
  refine ct_of [some (.ref a)] rfl rfl rfl (Nat.le_of_ble_eq_true rfl) rfl rfl ?_
  refine r_aload_n (pc := 0) dX12_counts_0 rfl ?_
  refine r_getI (pc := 1) dX12_counts_1 fl_X12_15_15 hK (fun _ _ => rfl) ?_
  refine r_ireturn (pc := 4) rfl dX12_counts_4 ⟨_, rfl, ?_⟩
  exact ⟨rfl, rfl⟩
theorem ct_X12_can_15 {M : PM} {a : Nat} (x1 : Int32) (hK : mK M a = (1, 15)) (hd : ¬ mI M a 1 = 0) : Ct (YX12_can, (1, 34, 0, 0), qi (fun r M' => r = canC 3 (mI M a 1) (mI M a 2) x1 ∧ M' = M), noX) [.ref a, .int x1] M := by
  refine ct_of [some (.ref a), some (.int x1)] rfl rfl rfl (Nat.le_of_ble_eq_true rfl) rfl rfl ?_
  refine r_iconst (pc := 0) (v := 0) dX12_can_0 (by decide) ?_
  refine r_iload_n (pc := 1) dX12_can_1 rfl ?_
  refine r_mmax (pc := 2) dX12_can_2 q648 (Nat.le_of_ble_eq_true rfl) (Nat.le_of_ble_eq_true rfl) ?_
  refine r_bipush (pc := 5) (v := 10) dX12_can_5 (by decide) ?_
  refine r_imul (pc := 7) dX12_can_7 ?_
  refine r_aload_n (pc := 8) dX12_can_8 rfl ?_
  refine r_o1 (pc := 9) (bc' := 0) (bs' := 0) (ct_X12_counts_15 hK) k_X12_27_15 dX12_can_9 hK (Nat.le_of_ble_eq_true rfl) ⟨Nat.le_of_ble_eq_true rfl, Nat.le_of_ble_eq_true rfl⟩ ⟨Nat.le_of_ble_eq_true rfl, Nat.le_of_ble_eq_true rfl⟩ (r_ci fun r9 M9 p9 => ?_) nox
  obtain ⟨rfl, rfl⟩ := p9
  refine r_idiv (pc := 12) dX12_can_12 hd ?_
  refine r_ireturn (pc := 13) rfl dX12_can_13 ⟨_, rfl, ?_⟩
  exact ⟨can_e _ _, rfl⟩
theorem ct_X12_far_15 {M : PM} {a : Nat} (x1 : Int32) (x2 : Int32) (hK : mK M a = (1, 15)) (hd : ¬ mI M a 1 = 0) : Ct (YX12_far, (2, 55, 0, 0), qi (fun r M' => r = lowC (canC 3 (mI M a 1) (mI M a 2) x1) 40 ∧ M' = M), noX) [.ref a, .int x1, .int x2] M := by
  refine ct_of [some (.ref a), some (.int x1), some (.int x2)] rfl rfl rfl (Nat.le_of_ble_eq_true rfl) rfl rfl ?_
  refine r_bipush (pc := 0) (v := 40) dX12_far_0 (by decide) ?_
  refine r_aload_n (pc := 2) dX12_far_2 rfl ?_
  refine r_iload_n (pc := 3) dX12_far_3 rfl ?_
  refine r_o2 (pc := 4) (bc' := 0) (bs' := 0) (ct_X12_can_15 x1 hK hd) k_X12_31_15 dX12_far_4 hK (Nat.le_of_ble_eq_true rfl) ⟨Nat.le_of_ble_eq_true rfl, Nat.le_of_ble_eq_true rfl⟩ ⟨Nat.le_of_ble_eq_true rfl, Nat.le_of_ble_eq_true rfl⟩ (r_ci fun r4 M4 p4 => ?_) nox
  obtain ⟨rfl, rfl⟩ := p4
  refine r_mmin (pc := 7) dX12_far_7 q669 (Nat.le_of_ble_eq_true rfl) (Nat.le_of_ble_eq_true rfl) ?_
  refine r_ireturn (pc := 10) rfl dX12_far_10 ⟨_, rfl, ?_⟩
  exact ⟨rfl, rfl⟩
theorem ct_X14_far_15 {M : PM} {a : Nat} (x1 : Int32) (x2 : Int32) (hK : mK M a = (1, 15)) (hd : ¬ mI M a 1 = 0) : Ct (YX14_far, (3, 77, 0, 0), qi (fun r M' => r = lowC (canC 3 (mI M a 1) (mI M a 2) x1) 40 + x2 ∧ M' = M), noX) [.ref a, .int x1, .int x2] M := by
  refine ct_of [some (.ref a), some (.int x1), some (.int x2)] rfl rfl rfl (Nat.le_of_ble_eq_true rfl) rfl rfl ?_
  refine r_aload_n (pc := 0) dX14_far_0 rfl ?_
  refine r_iload_n (pc := 1) dX14_far_1 rfl ?_
  refine r_iload_n (pc := 2) dX14_far_2 rfl ?_
  refine r_o3 (pc := 3) (bc' := 0) (bs' := 0) (ct_X12_far_15 x1 x2 hK hd) k_X14_9_15 dX14_far_3 hK (Nat.le_of_ble_eq_true rfl) ⟨Nat.le_of_ble_eq_true rfl, Nat.le_of_ble_eq_true rfl⟩ ⟨Nat.le_of_ble_eq_true rfl, Nat.le_of_ble_eq_true rfl⟩ (r_ci fun r3 M3 p3 => ?_) nox
  obtain ⟨rfl, rfl⟩ := p3
  refine r_iload_n (pc := 6) dX14_far_6 rfl ?_
  refine r_iadd (pc := 7) dX14_far_7 ?_
  refine r_ireturn (pc := 8) rfl dX14_far_8 ⟨_, rfl, ?_⟩
  exact ⟨rfl, rfl⟩
theorem ct_X15_far_15 {M : PM} {a : Nat} (x1 : Int32) (x2 : Int32) (hK : mK M a = (1, 15)) (hd : ¬ mI M a 1 = 0) : Ct (YX15_far, (4, 99, 0, 0), qi (fun r M' => r = (lowC (canC 3 (mI M a 1) (mI M a 2) x1) 40 + x2) / 2 ∧ M' = M), noX) [.ref a, .int x1, .int x2] M := by
  refine ct_of [some (.ref a), some (.int x1), some (.int x2)] rfl rfl rfl (Nat.le_of_ble_eq_true rfl) rfl rfl ?_
  refine r_aload_n (pc := 0) dX15_far_0 rfl ?_
  refine r_iload_n (pc := 1) dX15_far_1 rfl ?_
  refine r_iload_n (pc := 2) dX15_far_2 rfl ?_
  refine r_o3 (pc := 3) (bc' := 0) (bs' := 0) (ct_X14_far_15 x1 x2 hK hd) k_X15_9_15 dX15_far_3 hK (Nat.le_of_ble_eq_true rfl) ⟨Nat.le_of_ble_eq_true rfl, Nat.le_of_ble_eq_true rfl⟩ ⟨Nat.le_of_ble_eq_true rfl, Nat.le_of_ble_eq_true rfl⟩ (r_ci fun r3 M3 p3 => ?_) nox
  obtain ⟨rfl, rfl⟩ := p3
  refine r_iconst (pc := 6) (v := 2) dX15_far_6 (by decide) ?_
  refine r_idiv (pc := 7) dX15_far_7 (by decide) ?_
  refine r_ireturn (pc := 8) rfl dX15_far_8 ⟨_, rfl, ?_⟩
  exact ⟨rfl, rfl⟩
theorem ct_X15_kind_15 {M : PM} {a : Nat} (hK : mK M a = (1, 15)) : Ct (YX15_kind, (0, 0, 0, 0), qi (fun r M' => r = 3 ∧ M' = M), noX) [.ref a] M := by
  refine ct_of [some (.ref a)] rfl rfl rfl (Nat.le_of_ble_eq_true rfl) rfl rfl ?_
  refine r_iconst (pc := 0) (v := 3) dX15_kind_0 (by decide) ?_
  refine r_ireturn (pc := 1) rfl dX15_kind_1 ⟨_, rfl, ?_⟩
  exact ⟨rfl, rfl⟩
theorem ct_X12_said_15 {M : PM} {a : Nat} (hK : mK M a = (1, 15)) : Ct (YX12_said, (0, 0, 0, 0), qi (fun r M' => r = mI M a 1 ∧ M' = M), noX) [.ref a] M := by
  refine ct_of [some (.ref a)] rfl rfl rfl (Nat.le_of_ble_eq_true rfl) rfl rfl ?_
  refine r_aload_n (pc := 0) dX12_said_0 rfl ?_
  refine r_getI (pc := 1) dX12_said_1 fl_X12_15_15 hK (fun _ _ => rfl) ?_
  refine r_ireturn (pc := 4) rfl dX12_said_4 ⟨_, rfl, ?_⟩
  exact ⟨rfl, rfl⟩
theorem ct_X12_breaks_15 {M : PM} {a : Nat} (hK : mK M a = (1, 15)) : Ct (YX12_breaks, (0, 0, 0, 0), qi (fun r M' => r = 0 ∧ M' = M), noX) [.ref a] M := by
  refine ct_of [some (.ref a)] rfl rfl rfl (Nat.le_of_ble_eq_true rfl) rfl rfl ?_
  refine r_iconst (pc := 0) (v := 0) dX12_breaks_0 (by decide) ?_
  refine r_zreturn (pc := 1) rfl rfl dX12_breaks_1 ⟨_, rfl, ?_⟩
  exact ⟨rfl, rfl⟩
theorem ct_X12_counts_16 {M : PM} {a : Nat} (hK : mK M a = (1, 16)) : Ct (YX12_counts, (0, 0, 0, 0), qi (fun r M' => r = mI M a 1 ∧ M' = M), noX) [.ref a] M := by
  refine ct_of [some (.ref a)] rfl rfl rfl (Nat.le_of_ble_eq_true rfl) rfl rfl ?_
  refine r_aload_n (pc := 0) dX12_counts_0 rfl ?_
  refine r_getI (pc := 1) dX12_counts_1 fl_X12_15_16 hK (fun _ _ => rfl) ?_
  refine r_ireturn (pc := 4) rfl dX12_counts_4 ⟨_, rfl, ?_⟩
  exact ⟨rfl, rfl⟩
theorem ct_X12_can_16 {M : PM} {a : Nat} (x1 : Int32) (hK : mK M a = (1, 16)) (hd : ¬ mI M a 1 = 0) : Ct (YX12_can, (1, 34, 0, 0), qi (fun r M' => r = canC 4 (mI M a 1) (mI M a 2) x1 ∧ M' = M), noX) [.ref a, .int x1] M := by
  refine ct_of [some (.ref a), some (.int x1)] rfl rfl rfl (Nat.le_of_ble_eq_true rfl) rfl rfl ?_
  refine r_iconst (pc := 0) (v := 0) dX12_can_0 (by decide) ?_
  refine r_iload_n (pc := 1) dX12_can_1 rfl ?_
  refine r_mmax (pc := 2) dX12_can_2 q648 (Nat.le_of_ble_eq_true rfl) (Nat.le_of_ble_eq_true rfl) ?_
  refine r_bipush (pc := 5) (v := 10) dX12_can_5 (by decide) ?_
  refine r_imul (pc := 7) dX12_can_7 ?_
  refine r_aload_n (pc := 8) dX12_can_8 rfl ?_
  refine r_o1 (pc := 9) (bc' := 0) (bs' := 0) (ct_X12_counts_16 hK) k_X12_27_16 dX12_can_9 hK (Nat.le_of_ble_eq_true rfl) ⟨Nat.le_of_ble_eq_true rfl, Nat.le_of_ble_eq_true rfl⟩ ⟨Nat.le_of_ble_eq_true rfl, Nat.le_of_ble_eq_true rfl⟩ (r_ci fun r9 M9 p9 => ?_) nox
  obtain ⟨rfl, rfl⟩ := p9
  refine r_idiv (pc := 12) dX12_can_12 hd ?_
  refine r_ireturn (pc := 13) rfl dX12_can_13 ⟨_, rfl, ?_⟩
  exact ⟨can_e _ _, rfl⟩
theorem ct_X12_far_16 {M : PM} {a : Nat} (x1 : Int32) (x2 : Int32) (hK : mK M a = (1, 16)) (hd : ¬ mI M a 1 = 0) : Ct (YX12_far, (2, 55, 0, 0), qi (fun r M' => r = lowC (canC 4 (mI M a 1) (mI M a 2) x1) 40 ∧ M' = M), noX) [.ref a, .int x1, .int x2] M := by
  refine ct_of [some (.ref a), some (.int x1), some (.int x2)] rfl rfl rfl (Nat.le_of_ble_eq_true rfl) rfl rfl ?_
  refine r_bipush (pc := 0) (v := 40) dX12_far_0 (by decide) ?_
  refine r_aload_n (pc := 2) dX12_far_2 rfl ?_
  refine r_iload_n (pc := 3) dX12_far_3 rfl ?_
  refine r_o2 (pc := 4) (bc' := 0) (bs' := 0) (ct_X12_can_16 x1 hK hd) k_X12_31_16 dX12_far_4 hK (Nat.le_of_ble_eq_true rfl) ⟨Nat.le_of_ble_eq_true rfl, Nat.le_of_ble_eq_true rfl⟩ ⟨Nat.le_of_ble_eq_true rfl, Nat.le_of_ble_eq_true rfl⟩ (r_ci fun r4 M4 p4 => ?_) nox
  obtain ⟨rfl, rfl⟩ := p4
  refine r_mmin (pc := 7) dX12_far_7 q669 (Nat.le_of_ble_eq_true rfl) (Nat.le_of_ble_eq_true rfl) ?_
  refine r_ireturn (pc := 10) rfl dX12_far_10 ⟨_, rfl, ?_⟩
  exact ⟨rfl, rfl⟩
theorem ct_X16_far_16 {M : PM} {a : Nat} (x1 : Int32) (x2 : Int32) (hK : mK M a = (1, 16)) (hd : ¬ mI M a 1 = 0) : Ct (YX16_far, (3, 77, 0, 0), qi (fun r M' => r = lowC (canC 4 (mI M a 1) (mI M a 2) x1) 5 ∧ M' = M), noX) [.ref a, .int x1, .int x2] M := by
  refine ct_of [some (.ref a), some (.int x1), some (.int x2)] rfl rfl rfl (Nat.le_of_ble_eq_true rfl) rfl rfl ?_
  refine r_iconst (pc := 0) (v := 5) dX16_far_0 (by decide) ?_
  refine r_aload_n (pc := 1) dX16_far_1 rfl ?_
  refine r_iload_n (pc := 2) dX16_far_2 rfl ?_
  refine r_iload_n (pc := 3) dX16_far_3 rfl ?_
  refine r_o3 (pc := 4) (bc' := 0) (bs' := 0) (ct_X12_far_16 x1 x2 hK hd) k_X16_9_16 dX16_far_4 hK (Nat.le_of_ble_eq_true rfl) ⟨Nat.le_of_ble_eq_true rfl, Nat.le_of_ble_eq_true rfl⟩ ⟨Nat.le_of_ble_eq_true rfl, Nat.le_of_ble_eq_true rfl⟩ (r_ci fun r4 M4 p4 => ?_) nox
  obtain ⟨rfl, rfl⟩ := p4
  refine r_mmin (pc := 7) dX16_far_7 q1098 (Nat.le_of_ble_eq_true rfl) (Nat.le_of_ble_eq_true rfl) ?_
  refine r_ireturn (pc := 10) rfl dX16_far_10 ⟨_, rfl, ?_⟩
  exact ⟨low_5 _, rfl⟩
theorem ct_X16_kind_16 {M : PM} {a : Nat} (hK : mK M a = (1, 16)) : Ct (YX16_kind, (0, 0, 0, 0), qi (fun r M' => r = 4 ∧ M' = M), noX) [.ref a] M := by
  refine ct_of [some (.ref a)] rfl rfl rfl (Nat.le_of_ble_eq_true rfl) rfl rfl ?_
  refine r_iconst (pc := 0) (v := 4) dX16_kind_0 (by decide) ?_
  refine r_ireturn (pc := 1) rfl dX16_kind_1 ⟨_, rfl, ?_⟩
  exact ⟨rfl, rfl⟩
theorem ct_X12_said_16 {M : PM} {a : Nat} (hK : mK M a = (1, 16)) : Ct (YX12_said, (0, 0, 0, 0), qi (fun r M' => r = mI M a 1 ∧ M' = M), noX) [.ref a] M := by
  refine ct_of [some (.ref a)] rfl rfl rfl (Nat.le_of_ble_eq_true rfl) rfl rfl ?_
  refine r_aload_n (pc := 0) dX12_said_0 rfl ?_
  refine r_getI (pc := 1) dX12_said_1 fl_X12_15_16 hK (fun _ _ => rfl) ?_
  refine r_ireturn (pc := 4) rfl dX12_said_4 ⟨_, rfl, ?_⟩
  exact ⟨rfl, rfl⟩
theorem ct_X12_breaks_16 {M : PM} {a : Nat} (hK : mK M a = (1, 16)) : Ct (YX12_breaks, (0, 0, 0, 0), qi (fun r M' => r = 0 ∧ M' = M), noX) [.ref a] M := by
  refine ct_of [some (.ref a)] rfl rfl rfl (Nat.le_of_ble_eq_true rfl) rfl rfl ?_
  refine r_iconst (pc := 0) (v := 0) dX12_breaks_0 (by decide) ?_
  refine r_zreturn (pc := 1) rfl rfl dX12_breaks_1 ⟨_, rfl, ?_⟩
  exact ⟨rfl, rfl⟩
theorem ct_X16_breaks_16 {M : PM} {a : Nat} (hK : mK M a = (1, 16)) : Ct (YX16_breaks, (1, 20, 0, 0), qi (fun r M' => r = 1 ∧ M' = M), noX) [.ref a] M := by
  refine ct_of [some (.ref a)] rfl rfl rfl (Nat.le_of_ble_eq_true rfl) rfl rfl ?_
  refine r_aload_n (pc := 0) dX16_breaks_0 rfl ?_
  refine r_o1 (pc := 1) (bc' := 0) (bs' := 0) (ct_X12_breaks_16 hK) k_X16_18_16 dX16_breaks_1 hK (Nat.le_of_ble_eq_true rfl) ⟨Nat.le_of_ble_eq_true rfl, Nat.le_of_ble_eq_true rfl⟩ ⟨Nat.le_of_ble_eq_true rfl, Nat.le_of_ble_eq_true rfl⟩ (r_ci fun r1 M1 p1 => ?_) nox
  obtain ⟨rfl, rfl⟩ := p1
  refine r_if_ne (pc := 4) 11 dX16_breaks_4 rfl (fun hno => False.elim (hno rfl)) (fun _ => ?_)
  refine r_iconst (pc := 7) (v := 1) dX16_breaks_7 (by decide) ?_
  refine r_goto (pc := 8) 12 dX16_breaks_8 rfl ?_
  refine r_zreturn (pc := 12) rfl rfl dX16_breaks_12 ⟨_, rfl, ?_⟩
  exact ⟨rfl, rfl⟩
theorem ct_X12_counts_17 {M : PM} {a : Nat} (hK : mK M a = (1, 17)) : Ct (YX12_counts, (0, 0, 0, 0), qi (fun r M' => r = mI M a 1 ∧ M' = M), noX) [.ref a] M := by
  refine ct_of [some (.ref a)] rfl rfl rfl (Nat.le_of_ble_eq_true rfl) rfl rfl ?_
  refine r_aload_n (pc := 0) dX12_counts_0 rfl ?_
  refine r_getI (pc := 1) dX12_counts_1 fl_X12_15_17 hK (fun _ _ => rfl) ?_
  refine r_ireturn (pc := 4) rfl dX12_counts_4 ⟨_, rfl, ?_⟩
  exact ⟨rfl, rfl⟩
theorem ct_X17_counts_17 {M : PM} {a : Nat} (hK : mK M a = (1, 17)) (hd : ¬ mI M a 2 = 0) : Ct (YX17_counts, (1, 20, 0, 0), qi (fun r M' => r = cntC 5 (mI M a 1) (mI M a 2) ∧ M' = M), noX) [.ref a] M := by
  refine ct_of [some (.ref a)] rfl rfl rfl (Nat.le_of_ble_eq_true rfl) rfl rfl ?_
  refine r_aload_n (pc := 0) dX17_counts_0 rfl ?_
  refine r_o1 (pc := 1) (bc' := 0) (bs' := 0) (ct_X12_counts_17 hK) k_X17_9_17 dX17_counts_1 hK (Nat.le_of_ble_eq_true rfl) ⟨Nat.le_of_ble_eq_true rfl, Nat.le_of_ble_eq_true rfl⟩ ⟨Nat.le_of_ble_eq_true rfl, Nat.le_of_ble_eq_true rfl⟩ (r_ci fun r1 M1 p1 => ?_) nox
  obtain ⟨rfl, rfl⟩ := p1
  refine r_aload_n (pc := 4) dX17_counts_4 rfl ?_
  refine r_getI (pc := 5) dX17_counts_5 fl_X17_13_17 hK (fun _ _ => rfl) ?_
  refine r_iadd (pc := 8) dX17_counts_8 ?_
  refine r_iconst (pc := 9) (v := 1) dX17_counts_9 (by decide) ?_
  refine r_isub (pc := 10) dX17_counts_10 ?_
  refine r_aload_n (pc := 11) dX17_counts_11 rfl ?_
  refine r_getI (pc := 12) dX17_counts_12 fl_X17_13_17 hK (fun _ _ => rfl) ?_
  refine r_idiv (pc := 15) dX17_counts_15 hd ?_
  refine r_ireturn (pc := 16) rfl dX17_counts_16 ⟨_, rfl, ?_⟩
  exact ⟨rfl, rfl⟩
theorem ct_X12_can_17 {M : PM} {a : Nat} (x1 : Int32) (hK : mK M a = (1, 17)) (hd : ¬ mI M a 2 = 0 ∧ ¬ (mI M a 1 + mI M a 2 - 1) / mI M a 2 = 0) : Ct (YX12_can, (2, 40, 0, 0), qi (fun r M' => r = canC 5 (mI M a 1) (mI M a 2) x1 ∧ M' = M), noX) [.ref a, .int x1] M := by
  refine ct_of [some (.ref a), some (.int x1)] rfl rfl rfl (Nat.le_of_ble_eq_true rfl) rfl rfl ?_
  refine r_iconst (pc := 0) (v := 0) dX12_can_0 (by decide) ?_
  refine r_iload_n (pc := 1) dX12_can_1 rfl ?_
  refine r_mmax (pc := 2) dX12_can_2 q648 (Nat.le_of_ble_eq_true rfl) (Nat.le_of_ble_eq_true rfl) ?_
  refine r_bipush (pc := 5) (v := 10) dX12_can_5 (by decide) ?_
  refine r_imul (pc := 7) dX12_can_7 ?_
  refine r_aload_n (pc := 8) dX12_can_8 rfl ?_
  refine r_o1 (pc := 9) (bc' := 0) (bs' := 0) (ct_X17_counts_17 hK hd.1) k_X12_27_17 dX12_can_9 hK (Nat.le_of_ble_eq_true rfl) ⟨Nat.le_of_ble_eq_true rfl, Nat.le_of_ble_eq_true rfl⟩ ⟨Nat.le_of_ble_eq_true rfl, Nat.le_of_ble_eq_true rfl⟩ (r_ci fun r9 M9 p9 => ?_) nox
  obtain ⟨rfl, rfl⟩ := p9
  refine r_idiv (pc := 12) dX12_can_12 hd.2 ?_
  refine r_ireturn (pc := 13) rfl dX12_can_13 ⟨_, rfl, ?_⟩
  exact ⟨can_e _ _, rfl⟩
theorem ct_X13_far_17 {M : PM} {a : Nat} (x1 : Int32) (x2 : Int32) (hK : mK M a = (1, 17)) (hd : ¬ mI M a 2 = 0 ∧ ¬ (mI M a 1 + mI M a 2 - 1) / mI M a 2 = 0) : Ct (YX13_far, (3, 61, 0, 0), qi (fun r M' => r = lowC (canC 5 (mI M a 1) (mI M a 2) x1 / 2) 40 ∧ M' = M), noX) [.ref a, .int x1, .int x2] M := by
  refine ct_of [some (.ref a), some (.int x1), some (.int x2)] rfl rfl rfl (Nat.le_of_ble_eq_true rfl) rfl rfl ?_
  refine r_bipush (pc := 0) (v := 40) dX13_far_0 (by decide) ?_
  refine r_aload_n (pc := 2) dX13_far_2 rfl ?_
  refine r_iload_n (pc := 3) dX13_far_3 rfl ?_
  refine r_o2 (pc := 4) (bc' := 0) (bs' := 0) (ct_X12_can_17 x1 hK hd) k_X13_9_17 dX13_far_4 hK (Nat.le_of_ble_eq_true rfl) ⟨Nat.le_of_ble_eq_true rfl, Nat.le_of_ble_eq_true rfl⟩ ⟨Nat.le_of_ble_eq_true rfl, Nat.le_of_ble_eq_true rfl⟩ (r_ci fun r4 M4 p4 => ?_) nox
  obtain ⟨rfl, rfl⟩ := p4
  refine r_iconst (pc := 7) (v := 2) dX13_far_7 (by decide) ?_
  refine r_idiv (pc := 8) dX13_far_8 (by decide) ?_
  refine r_mmin (pc := 9) dX13_far_9 q1107 (Nat.le_of_ble_eq_true rfl) (Nat.le_of_ble_eq_true rfl) ?_
  refine r_ireturn (pc := 12) rfl dX13_far_12 ⟨_, rfl, ?_⟩
  exact ⟨rfl, rfl⟩
theorem ct_X17_kind_17 {M : PM} {a : Nat} (hK : mK M a = (1, 17)) : Ct (YX17_kind, (0, 0, 0, 0), qi (fun r M' => r = 5 ∧ M' = M), noX) [.ref a] M := by
  refine ct_of [some (.ref a)] rfl rfl rfl (Nat.le_of_ble_eq_true rfl) rfl rfl ?_
  refine r_iconst (pc := 0) (v := 5) dX17_kind_0 (by decide) ?_
  refine r_ireturn (pc := 1) rfl dX17_kind_1 ⟨_, rfl, ?_⟩
  exact ⟨rfl, rfl⟩
theorem ct_X12_said_17 {M : PM} {a : Nat} (hK : mK M a = (1, 17)) : Ct (YX12_said, (0, 0, 0, 0), qi (fun r M' => r = mI M a 1 ∧ M' = M), noX) [.ref a] M := by
  refine ct_of [some (.ref a)] rfl rfl rfl (Nat.le_of_ble_eq_true rfl) rfl rfl ?_
  refine r_aload_n (pc := 0) dX12_said_0 rfl ?_
  refine r_getI (pc := 1) dX12_said_1 fl_X12_15_17 hK (fun _ _ => rfl) ?_
  refine r_ireturn (pc := 4) rfl dX12_said_4 ⟨_, rfl, ?_⟩
  exact ⟨rfl, rfl⟩
theorem ct_X13_more_17 {M : PM} {a : Nat} (hK : mK M a = (1, 17)) : Ct (YX13_more, (0, 0, 0, 0), qi (fun r M' => r = mI M a 2 ∧ M' = M), noX) [.ref a] M := by
  refine ct_of [some (.ref a)] rfl rfl rfl (Nat.le_of_ble_eq_true rfl) rfl rfl ?_
  refine r_aload_n (pc := 0) dX13_more_0 rfl ?_
  refine r_getI (pc := 1) dX13_more_1 fl_X13_21_17 hK (fun _ _ => rfl) ?_
  refine r_ireturn (pc := 4) rfl dX13_more_4 ⟨_, rfl, ?_⟩
  exact ⟨rfl, rfl⟩
theorem ct_X12_breaks_17 {M : PM} {a : Nat} (hK : mK M a = (1, 17)) : Ct (YX12_breaks, (0, 0, 0, 0), qi (fun r M' => r = 0 ∧ M' = M), noX) [.ref a] M := by
  refine ct_of [some (.ref a)] rfl rfl rfl (Nat.le_of_ble_eq_true rfl) rfl rfl ?_
  refine r_iconst (pc := 0) (v := 0) dX12_breaks_0 (by decide) ?_
  refine r_zreturn (pc := 1) rfl rfl dX12_breaks_1 ⟨_, rfl, ?_⟩
  exact ⟨rfl, rfl⟩
theorem ct_X12_counts_18 {M : PM} {a : Nat} (hK : mK M a = (1, 18)) : Ct (YX12_counts, (0, 0, 0, 0), qi (fun r M' => r = mI M a 1 ∧ M' = M), noX) [.ref a] M := by
  refine ct_of [some (.ref a)] rfl rfl rfl (Nat.le_of_ble_eq_true rfl) rfl rfl ?_
  refine r_aload_n (pc := 0) dX12_counts_0 rfl ?_
  refine r_getI (pc := 1) dX12_counts_1 fl_X12_15_18 hK (fun _ _ => rfl) ?_
  refine r_ireturn (pc := 4) rfl dX12_counts_4 ⟨_, rfl, ?_⟩
  exact ⟨rfl, rfl⟩
theorem ct_X12_can_18 {M : PM} {a : Nat} (x1 : Int32) (hK : mK M a = (1, 18)) (hd : ¬ mI M a 1 = 0) : Ct (YX12_can, (1, 34, 0, 0), qi (fun r M' => r = canC 6 (mI M a 1) (mI M a 2) x1 ∧ M' = M), noX) [.ref a, .int x1] M := by
  refine ct_of [some (.ref a), some (.int x1)] rfl rfl rfl (Nat.le_of_ble_eq_true rfl) rfl rfl ?_
  refine r_iconst (pc := 0) (v := 0) dX12_can_0 (by decide) ?_
  refine r_iload_n (pc := 1) dX12_can_1 rfl ?_
  refine r_mmax (pc := 2) dX12_can_2 q648 (Nat.le_of_ble_eq_true rfl) (Nat.le_of_ble_eq_true rfl) ?_
  refine r_bipush (pc := 5) (v := 10) dX12_can_5 (by decide) ?_
  refine r_imul (pc := 7) dX12_can_7 ?_
  refine r_aload_n (pc := 8) dX12_can_8 rfl ?_
  refine r_o1 (pc := 9) (bc' := 0) (bs' := 0) (ct_X12_counts_18 hK) k_X12_27_18 dX12_can_9 hK (Nat.le_of_ble_eq_true rfl) ⟨Nat.le_of_ble_eq_true rfl, Nat.le_of_ble_eq_true rfl⟩ ⟨Nat.le_of_ble_eq_true rfl, Nat.le_of_ble_eq_true rfl⟩ (r_ci fun r9 M9 p9 => ?_) nox
  obtain ⟨rfl, rfl⟩ := p9
  refine r_idiv (pc := 12) dX12_can_12 hd ?_
  refine r_ireturn (pc := 13) rfl dX12_can_13 ⟨_, rfl, ?_⟩
  exact ⟨can_e _ _, rfl⟩
theorem ct_X13_far_18 {M : PM} {a : Nat} (x1 : Int32) (x2 : Int32) (hK : mK M a = (1, 18)) (hd : ¬ mI M a 1 = 0) : Ct (YX13_far, (2, 55, 0, 0), qi (fun r M' => r = lowC (canC 6 (mI M a 1) (mI M a 2) x1 / 2) 40 ∧ M' = M), noX) [.ref a, .int x1, .int x2] M := by
  refine ct_of [some (.ref a), some (.int x1), some (.int x2)] rfl rfl rfl (Nat.le_of_ble_eq_true rfl) rfl rfl ?_
  refine r_bipush (pc := 0) (v := 40) dX13_far_0 (by decide) ?_
  refine r_aload_n (pc := 2) dX13_far_2 rfl ?_
  refine r_iload_n (pc := 3) dX13_far_3 rfl ?_
  refine r_o2 (pc := 4) (bc' := 0) (bs' := 0) (ct_X12_can_18 x1 hK hd) k_X13_9_18 dX13_far_4 hK (Nat.le_of_ble_eq_true rfl) ⟨Nat.le_of_ble_eq_true rfl, Nat.le_of_ble_eq_true rfl⟩ ⟨Nat.le_of_ble_eq_true rfl, Nat.le_of_ble_eq_true rfl⟩ (r_ci fun r4 M4 p4 => ?_) nox
  obtain ⟨rfl, rfl⟩ := p4
  refine r_iconst (pc := 7) (v := 2) dX13_far_7 (by decide) ?_
  refine r_idiv (pc := 8) dX13_far_8 (by decide) ?_
  refine r_mmin (pc := 9) dX13_far_9 q1107 (Nat.le_of_ble_eq_true rfl) (Nat.le_of_ble_eq_true rfl) ?_
  refine r_ireturn (pc := 12) rfl dX13_far_12 ⟨_, rfl, ?_⟩
  exact ⟨rfl, rfl⟩
theorem ct_X18_far_18 {M : PM} {a : Nat} (x1 : Int32) (x2 : Int32) (hK : mK M a = (1, 18)) (hd : ¬ mI M a 1 = 0) : Ct (YX18_far, (3, 77, 0, 0), qi (fun r M' => r = lowC (canC 6 (mI M a 1) (mI M a 2) x1 / 2) 40 + mI M a 2 ∧ M' = M), noX) [.ref a, .int x1, .int x2] M := by
  refine ct_of [some (.ref a), some (.int x1), some (.int x2)] rfl rfl rfl (Nat.le_of_ble_eq_true rfl) rfl rfl ?_
  refine r_aload_n (pc := 0) dX18_far_0 rfl ?_
  refine r_iload_n (pc := 1) dX18_far_1 rfl ?_
  refine r_iload_n (pc := 2) dX18_far_2 rfl ?_
  refine r_o3 (pc := 3) (bc' := 0) (bs' := 0) (ct_X13_far_18 x1 x2 hK hd) k_X18_9_18 dX18_far_3 hK (Nat.le_of_ble_eq_true rfl) ⟨Nat.le_of_ble_eq_true rfl, Nat.le_of_ble_eq_true rfl⟩ ⟨Nat.le_of_ble_eq_true rfl, Nat.le_of_ble_eq_true rfl⟩ (r_ci fun r3 M3 p3 => ?_) nox
  obtain ⟨rfl, rfl⟩ := p3
  refine r_aload_n (pc := 6) dX18_far_6 rfl ?_
  refine r_getI (pc := 7) dX18_far_7 fl_X18_13_18 hK (fun _ _ => rfl) ?_
  refine r_iadd (pc := 10) dX18_far_10 ?_
  refine r_ireturn (pc := 11) rfl dX18_far_11 ⟨_, rfl, ?_⟩
  exact ⟨rfl, rfl⟩
theorem ct_X18_kind_18 {M : PM} {a : Nat} (hK : mK M a = (1, 18)) : Ct (YX18_kind, (0, 0, 0, 0), qi (fun r M' => r = 6 ∧ M' = M), noX) [.ref a] M := by
  refine ct_of [some (.ref a)] rfl rfl rfl (Nat.le_of_ble_eq_true rfl) rfl rfl ?_
  refine r_bipush (pc := 0) (v := 6) dX18_kind_0 (by decide) ?_
  refine r_ireturn (pc := 2) rfl dX18_kind_2 ⟨_, rfl, ?_⟩
  exact ⟨rfl, rfl⟩
theorem ct_X12_said_18 {M : PM} {a : Nat} (hK : mK M a = (1, 18)) : Ct (YX12_said, (0, 0, 0, 0), qi (fun r M' => r = mI M a 1 ∧ M' = M), noX) [.ref a] M := by
  refine ct_of [some (.ref a)] rfl rfl rfl (Nat.le_of_ble_eq_true rfl) rfl rfl ?_
  refine r_aload_n (pc := 0) dX12_said_0 rfl ?_
  refine r_getI (pc := 1) dX12_said_1 fl_X12_15_18 hK (fun _ _ => rfl) ?_
  refine r_ireturn (pc := 4) rfl dX12_said_4 ⟨_, rfl, ?_⟩
  exact ⟨rfl, rfl⟩
theorem ct_X13_more_18 {M : PM} {a : Nat} (hK : mK M a = (1, 18)) : Ct (YX13_more, (0, 0, 0, 0), qi (fun r M' => r = mI M a 2 ∧ M' = M), noX) [.ref a] M := by
  refine ct_of [some (.ref a)] rfl rfl rfl (Nat.le_of_ble_eq_true rfl) rfl rfl ?_
  refine r_aload_n (pc := 0) dX13_more_0 rfl ?_
  refine r_getI (pc := 1) dX13_more_1 fl_X13_21_18 hK (fun _ _ => rfl) ?_
  refine r_ireturn (pc := 4) rfl dX13_more_4 ⟨_, rfl, ?_⟩
  exact ⟨rfl, rfl⟩
theorem ct_X12_breaks_18 {M : PM} {a : Nat} (hK : mK M a = (1, 18)) : Ct (YX12_breaks, (0, 0, 0, 0), qi (fun r M' => r = 0 ∧ M' = M), noX) [.ref a] M := by
  refine ct_of [some (.ref a)] rfl rfl rfl (Nat.le_of_ble_eq_true rfl) rfl rfl ?_
  refine r_iconst (pc := 0) (v := 0) dX12_breaks_0 (by decide) ?_
  refine r_zreturn (pc := 1) rfl rfl dX12_breaks_1 ⟨_, rfl, ?_⟩
  exact ⟨rfl, rfl⟩
theorem ct_X12_init_12 {M : PM} {a : Nat} (x1 : Int32) (x2 : Int32) (x3 : Int32) (hK : mK M a = (1, 12)) : Ct (YX12_init, (1, 20, 0, 0), qv (fun M' => M' = sI (sI (sI M a 0 x1) a 1 x2) a 2 x3), noX) [.ref a, .int x1, .int x2, .int x3] M := by
  refine ct_of [some (.ref a), some (.int x1), some (.int x2), some (.int x3)] rfl rfl rfl (Nat.le_of_ble_eq_true rfl) rfl rfl ?_
  refine r_aload_n (pc := 0) dX12_init_0 rfl ?_
  refine r_objInit (pc := 1) dX12_init_1 q733 q120 q121 (Nat.le_of_ble_eq_true rfl) (Nat.le_of_ble_eq_true rfl) ?_
  refine r_aload_n (pc := 4) dX12_init_4 rfl ?_
  refine r_iload_n (pc := 5) dX12_init_5 rfl ?_
  refine r_putFI (pc := 6) dX12_init_6 fl_X12_9_12 hK rfl rfl rfl ?_
  refine r_aload_n (pc := 9) dX12_init_9 rfl ?_
  refine r_iload_n (pc := 10) dX12_init_10 rfl ?_
  refine r_putFI (pc := 11) dX12_init_11 fl_X12_15_12 hK rfl rfl rfl ?_
  refine r_aload_n (pc := 14) dX12_init_14 rfl ?_
  refine r_iload_n (pc := 15) dX12_init_15 rfl ?_
  refine r_putFI (pc := 16) dX12_init_16 fl_X12_18_12 hK rfl rfl rfl ?_
  refine r_return (pc := 19) rfl dX12_init_19 ⟨rfl, ?_⟩
  rfl
theorem ct_X12_init_13 {M : PM} {a : Nat} (x1 : Int32) (x2 : Int32) (x3 : Int32) (hK : mK M a = (1, 13)) : Ct (YX12_init, (1, 20, 0, 0), qv (fun M' => M' = sI (sI (sI M a 0 x1) a 1 x2) a 2 x3), noX) [.ref a, .int x1, .int x2, .int x3] M := by
  refine ct_of [some (.ref a), some (.int x1), some (.int x2), some (.int x3)] rfl rfl rfl (Nat.le_of_ble_eq_true rfl) rfl rfl ?_
  refine r_aload_n (pc := 0) dX12_init_0 rfl ?_
  refine r_objInit (pc := 1) dX12_init_1 q733 q120 q121 (Nat.le_of_ble_eq_true rfl) (Nat.le_of_ble_eq_true rfl) ?_
  refine r_aload_n (pc := 4) dX12_init_4 rfl ?_
  refine r_iload_n (pc := 5) dX12_init_5 rfl ?_
  refine r_putFI (pc := 6) dX12_init_6 fl_X12_9_13 hK rfl rfl rfl ?_
  refine r_aload_n (pc := 9) dX12_init_9 rfl ?_
  refine r_iload_n (pc := 10) dX12_init_10 rfl ?_
  refine r_putFI (pc := 11) dX12_init_11 fl_X12_15_13 hK rfl rfl rfl ?_
  refine r_aload_n (pc := 14) dX12_init_14 rfl ?_
  refine r_iload_n (pc := 15) dX12_init_15 rfl ?_
  refine r_putFI (pc := 16) dX12_init_16 fl_X12_18_13 hK rfl rfl rfl ?_
  refine r_return (pc := 19) rfl dX12_init_19 ⟨rfl, ?_⟩
  rfl
theorem ct_X13_init_13 {M : PM} {a : Nat} (x1 : Int32) (x2 : Int32) (x3 : Int32) (hK : mK M a = (1, 13)) : Ct (YX13_init, (2, 43, 0, 0), qv (fun M' => M' = sI (sI (sI M a 0 x1) a 1 x2) a 2 x3), noX) [.ref a, .int x1, .int x2, .int x3] M := by
  refine ct_of [some (.ref a), some (.int x1), some (.int x2), some (.int x3)] rfl rfl rfl (Nat.le_of_ble_eq_true rfl) rfl rfl ?_
  refine r_aload_n (pc := 0) dX13_init_0 rfl ?_
  refine r_iload_n (pc := 1) dX13_init_1 rfl ?_
  refine r_iload_n (pc := 2) dX13_init_2 rfl ?_
  refine r_iload_n (pc := 3) dX13_init_3 rfl ?_
  refine r_o4 (pc := 4) (bc' := 0) (bs' := 0) (ct_X12_init_13 x1 x2 x3 hK) k_X13_3_13 dX13_init_4 hK (Nat.le_of_ble_eq_true rfl) ⟨Nat.le_of_ble_eq_true rfl, Nat.le_of_ble_eq_true rfl⟩ ⟨Nat.le_of_ble_eq_true rfl, Nat.le_of_ble_eq_true rfl⟩ (r_cv fun M4 p4 => ?_) nox
  have p4 := Eq.symm (show _ = _ from p4)
  subst p4
  refine r_return (pc := 7) rfl dX13_init_7 ⟨rfl, ?_⟩
  rfl
theorem ct_X12_init_14 {M : PM} {a : Nat} (x1 : Int32) (x2 : Int32) (x3 : Int32) (hK : mK M a = (1, 14)) : Ct (YX12_init, (1, 20, 0, 0), qv (fun M' => M' = sI (sI (sI M a 0 x1) a 1 x2) a 2 x3), noX) [.ref a, .int x1, .int x2, .int x3] M := by
  refine ct_of [some (.ref a), some (.int x1), some (.int x2), some (.int x3)] rfl rfl rfl (Nat.le_of_ble_eq_true rfl) rfl rfl ?_
  refine r_aload_n (pc := 0) dX12_init_0 rfl ?_
  refine r_objInit (pc := 1) dX12_init_1 q733 q120 q121 (Nat.le_of_ble_eq_true rfl) (Nat.le_of_ble_eq_true rfl) ?_
  refine r_aload_n (pc := 4) dX12_init_4 rfl ?_
  refine r_iload_n (pc := 5) dX12_init_5 rfl ?_
  refine r_putFI (pc := 6) dX12_init_6 fl_X12_9_14 hK rfl rfl rfl ?_
  refine r_aload_n (pc := 9) dX12_init_9 rfl ?_
  refine r_iload_n (pc := 10) dX12_init_10 rfl ?_
  refine r_putFI (pc := 11) dX12_init_11 fl_X12_15_14 hK rfl rfl rfl ?_
  refine r_aload_n (pc := 14) dX12_init_14 rfl ?_
  refine r_iload_n (pc := 15) dX12_init_15 rfl ?_
  refine r_putFI (pc := 16) dX12_init_16 fl_X12_18_14 hK rfl rfl rfl ?_
  refine r_return (pc := 19) rfl dX12_init_19 ⟨rfl, ?_⟩
  rfl
theorem ct_X14_init_14 {M : PM} {a : Nat} (x1 : Int32) (x2 : Int32) (x3 : Int32) (hK : mK M a = (1, 14)) : Ct (YX14_init, (2, 43, 0, 0), qv (fun M' => M' = sI (sI (sI M a 0 x1) a 1 x2) a 2 x3), noX) [.ref a, .int x1, .int x2, .int x3] M := by
  refine ct_of [some (.ref a), some (.int x1), some (.int x2), some (.int x3)] rfl rfl rfl (Nat.le_of_ble_eq_true rfl) rfl rfl ?_
  refine r_aload_n (pc := 0) dX14_init_0 rfl ?_
  refine r_iload_n (pc := 1) dX14_init_1 rfl ?_
  refine r_iload_n (pc := 2) dX14_init_2 rfl ?_
  refine r_iload_n (pc := 3) dX14_init_3 rfl ?_
  refine r_o4 (pc := 4) (bc' := 0) (bs' := 0) (ct_X12_init_14 x1 x2 x3 hK) k_X14_3_14 dX14_init_4 hK (Nat.le_of_ble_eq_true rfl) ⟨Nat.le_of_ble_eq_true rfl, Nat.le_of_ble_eq_true rfl⟩ ⟨Nat.le_of_ble_eq_true rfl, Nat.le_of_ble_eq_true rfl⟩ (r_cv fun M4 p4 => ?_) nox
  have p4 := Eq.symm (show _ = _ from p4)
  subst p4
  refine r_return (pc := 7) rfl dX14_init_7 ⟨rfl, ?_⟩
  rfl
theorem ct_X12_init_15 {M : PM} {a : Nat} (x1 : Int32) (x2 : Int32) (x3 : Int32) (hK : mK M a = (1, 15)) : Ct (YX12_init, (1, 20, 0, 0), qv (fun M' => M' = sI (sI (sI M a 0 x1) a 1 x2) a 2 x3), noX) [.ref a, .int x1, .int x2, .int x3] M := by
  refine ct_of [some (.ref a), some (.int x1), some (.int x2), some (.int x3)] rfl rfl rfl (Nat.le_of_ble_eq_true rfl) rfl rfl ?_
  refine r_aload_n (pc := 0) dX12_init_0 rfl ?_
  refine r_objInit (pc := 1) dX12_init_1 q733 q120 q121 (Nat.le_of_ble_eq_true rfl) (Nat.le_of_ble_eq_true rfl) ?_
  refine r_aload_n (pc := 4) dX12_init_4 rfl ?_
  refine r_iload_n (pc := 5) dX12_init_5 rfl ?_
  refine r_putFI (pc := 6) dX12_init_6 fl_X12_9_15 hK rfl rfl rfl ?_
  refine r_aload_n (pc := 9) dX12_init_9 rfl ?_
  refine r_iload_n (pc := 10) dX12_init_10 rfl ?_
  refine r_putFI (pc := 11) dX12_init_11 fl_X12_15_15 hK rfl rfl rfl ?_
  refine r_aload_n (pc := 14) dX12_init_14 rfl ?_
  refine r_iload_n (pc := 15) dX12_init_15 rfl ?_
  refine r_putFI (pc := 16) dX12_init_16 fl_X12_18_15 hK rfl rfl rfl ?_
  refine r_return (pc := 19) rfl dX12_init_19 ⟨rfl, ?_⟩
  rfl
theorem ct_X14_init_15 {M : PM} {a : Nat} (x1 : Int32) (x2 : Int32) (x3 : Int32) (hK : mK M a = (1, 15)) : Ct (YX14_init, (2, 43, 0, 0), qv (fun M' => M' = sI (sI (sI M a 0 x1) a 1 x2) a 2 x3), noX) [.ref a, .int x1, .int x2, .int x3] M := by
  refine ct_of [some (.ref a), some (.int x1), some (.int x2), some (.int x3)] rfl rfl rfl (Nat.le_of_ble_eq_true rfl) rfl rfl ?_
  refine r_aload_n (pc := 0) dX14_init_0 rfl ?_
  refine r_iload_n (pc := 1) dX14_init_1 rfl ?_
  refine r_iload_n (pc := 2) dX14_init_2 rfl ?_
  refine r_iload_n (pc := 3) dX14_init_3 rfl ?_
  refine r_o4 (pc := 4) (bc' := 0) (bs' := 0) (ct_X12_init_15 x1 x2 x3 hK) k_X14_3_15 dX14_init_4 hK (Nat.le_of_ble_eq_true rfl) ⟨Nat.le_of_ble_eq_true rfl, Nat.le_of_ble_eq_true rfl⟩ ⟨Nat.le_of_ble_eq_true rfl, Nat.le_of_ble_eq_true rfl⟩ (r_cv fun M4 p4 => ?_) nox
  have p4 := Eq.symm (show _ = _ from p4)
  subst p4
  refine r_return (pc := 7) rfl dX14_init_7 ⟨rfl, ?_⟩
  rfl
theorem ct_X15_init_15 {M : PM} {a : Nat} (x1 : Int32) (x2 : Int32) (x3 : Int32) (hK : mK M a = (1, 15)) : Ct (YX15_init, (3, 66, 0, 0), qv (fun M' => M' = sI (sI (sI M a 0 x1) a 1 x2) a 2 x3), noX) [.ref a, .int x1, .int x2, .int x3] M := by
  refine ct_of [some (.ref a), some (.int x1), some (.int x2), some (.int x3)] rfl rfl rfl (Nat.le_of_ble_eq_true rfl) rfl rfl ?_
  refine r_aload_n (pc := 0) dX15_init_0 rfl ?_
  refine r_iload_n (pc := 1) dX15_init_1 rfl ?_
  refine r_iload_n (pc := 2) dX15_init_2 rfl ?_
  refine r_iload_n (pc := 3) dX15_init_3 rfl ?_
  refine r_o4 (pc := 4) (bc' := 0) (bs' := 0) (ct_X14_init_15 x1 x2 x3 hK) k_X15_3_15 dX15_init_4 hK (Nat.le_of_ble_eq_true rfl) ⟨Nat.le_of_ble_eq_true rfl, Nat.le_of_ble_eq_true rfl⟩ ⟨Nat.le_of_ble_eq_true rfl, Nat.le_of_ble_eq_true rfl⟩ (r_cv fun M4 p4 => ?_) nox
  have p4 := Eq.symm (show _ = _ from p4)
  subst p4
  refine r_return (pc := 7) rfl dX15_init_7 ⟨rfl, ?_⟩
  rfl
theorem ct_X12_init_16 {M : PM} {a : Nat} (x1 : Int32) (x2 : Int32) (x3 : Int32) (hK : mK M a = (1, 16)) : Ct (YX12_init, (1, 20, 0, 0), qv (fun M' => M' = sI (sI (sI M a 0 x1) a 1 x2) a 2 x3), noX) [.ref a, .int x1, .int x2, .int x3] M := by
  refine ct_of [some (.ref a), some (.int x1), some (.int x2), some (.int x3)] rfl rfl rfl (Nat.le_of_ble_eq_true rfl) rfl rfl ?_
  refine r_aload_n (pc := 0) dX12_init_0 rfl ?_
  refine r_objInit (pc := 1) dX12_init_1 q733 q120 q121 (Nat.le_of_ble_eq_true rfl) (Nat.le_of_ble_eq_true rfl) ?_
  refine r_aload_n (pc := 4) dX12_init_4 rfl ?_
  refine r_iload_n (pc := 5) dX12_init_5 rfl ?_
  refine r_putFI (pc := 6) dX12_init_6 fl_X12_9_16 hK rfl rfl rfl ?_
  refine r_aload_n (pc := 9) dX12_init_9 rfl ?_
  refine r_iload_n (pc := 10) dX12_init_10 rfl ?_
  refine r_putFI (pc := 11) dX12_init_11 fl_X12_15_16 hK rfl rfl rfl ?_
  refine r_aload_n (pc := 14) dX12_init_14 rfl ?_
  refine r_iload_n (pc := 15) dX12_init_15 rfl ?_
  refine r_putFI (pc := 16) dX12_init_16 fl_X12_18_16 hK rfl rfl rfl ?_
  refine r_return (pc := 19) rfl dX12_init_19 ⟨rfl, ?_⟩
  rfl
theorem ct_X16_init_16 {M : PM} {a : Nat} (x1 : Int32) (x2 : Int32) (x3 : Int32) (hK : mK M a = (1, 16)) : Ct (YX16_init, (2, 43, 0, 0), qv (fun M' => M' = sI (sI (sI M a 0 x1) a 1 x2) a 2 x3), noX) [.ref a, .int x1, .int x2, .int x3] M := by
  refine ct_of [some (.ref a), some (.int x1), some (.int x2), some (.int x3)] rfl rfl rfl (Nat.le_of_ble_eq_true rfl) rfl rfl ?_
  refine r_aload_n (pc := 0) dX16_init_0 rfl ?_
  refine r_iload_n (pc := 1) dX16_init_1 rfl ?_
  refine r_iload_n (pc := 2) dX16_init_2 rfl ?_
  refine r_iload_n (pc := 3) dX16_init_3 rfl ?_
  refine r_o4 (pc := 4) (bc' := 0) (bs' := 0) (ct_X12_init_16 x1 x2 x3 hK) k_X16_3_16 dX16_init_4 hK (Nat.le_of_ble_eq_true rfl) ⟨Nat.le_of_ble_eq_true rfl, Nat.le_of_ble_eq_true rfl⟩ ⟨Nat.le_of_ble_eq_true rfl, Nat.le_of_ble_eq_true rfl⟩ (r_cv fun M4 p4 => ?_) nox
  have p4 := Eq.symm (show _ = _ from p4)
  subst p4
  refine r_return (pc := 7) rfl dX16_init_7 ⟨rfl, ?_⟩
  rfl
theorem ct_X12_init_17 {M : PM} {a : Nat} (x1 : Int32) (x2 : Int32) (x3 : Int32) (hK : mK M a = (1, 17)) : Ct (YX12_init, (1, 20, 0, 0), qv (fun M' => M' = sI (sI (sI M a 0 x1) a 1 x2) a 2 x3), noX) [.ref a, .int x1, .int x2, .int x3] M := by
  refine ct_of [some (.ref a), some (.int x1), some (.int x2), some (.int x3)] rfl rfl rfl (Nat.le_of_ble_eq_true rfl) rfl rfl ?_
  refine r_aload_n (pc := 0) dX12_init_0 rfl ?_
  refine r_objInit (pc := 1) dX12_init_1 q733 q120 q121 (Nat.le_of_ble_eq_true rfl) (Nat.le_of_ble_eq_true rfl) ?_
  refine r_aload_n (pc := 4) dX12_init_4 rfl ?_
  refine r_iload_n (pc := 5) dX12_init_5 rfl ?_
  refine r_putFI (pc := 6) dX12_init_6 fl_X12_9_17 hK rfl rfl rfl ?_
  refine r_aload_n (pc := 9) dX12_init_9 rfl ?_
  refine r_iload_n (pc := 10) dX12_init_10 rfl ?_
  refine r_putFI (pc := 11) dX12_init_11 fl_X12_15_17 hK rfl rfl rfl ?_
  refine r_aload_n (pc := 14) dX12_init_14 rfl ?_
  refine r_iload_n (pc := 15) dX12_init_15 rfl ?_
  refine r_putFI (pc := 16) dX12_init_16 fl_X12_18_17 hK rfl rfl rfl ?_
  refine r_return (pc := 19) rfl dX12_init_19 ⟨rfl, ?_⟩
  rfl
theorem ct_X13_init_17 {M : PM} {a : Nat} (x1 : Int32) (x2 : Int32) (x3 : Int32) (hK : mK M a = (1, 17)) : Ct (YX13_init, (2, 43, 0, 0), qv (fun M' => M' = sI (sI (sI M a 0 x1) a 1 x2) a 2 x3), noX) [.ref a, .int x1, .int x2, .int x3] M := by
  refine ct_of [some (.ref a), some (.int x1), some (.int x2), some (.int x3)] rfl rfl rfl (Nat.le_of_ble_eq_true rfl) rfl rfl ?_
  refine r_aload_n (pc := 0) dX13_init_0 rfl ?_
  refine r_iload_n (pc := 1) dX13_init_1 rfl ?_
  refine r_iload_n (pc := 2) dX13_init_2 rfl ?_
  refine r_iload_n (pc := 3) dX13_init_3 rfl ?_
  refine r_o4 (pc := 4) (bc' := 0) (bs' := 0) (ct_X12_init_17 x1 x2 x3 hK) k_X13_3_17 dX13_init_4 hK (Nat.le_of_ble_eq_true rfl) ⟨Nat.le_of_ble_eq_true rfl, Nat.le_of_ble_eq_true rfl⟩ ⟨Nat.le_of_ble_eq_true rfl, Nat.le_of_ble_eq_true rfl⟩ (r_cv fun M4 p4 => ?_) nox
  have p4 := Eq.symm (show _ = _ from p4)
  subst p4
  refine r_return (pc := 7) rfl dX13_init_7 ⟨rfl, ?_⟩
  rfl
theorem ct_X17_init_17 {M : PM} {a : Nat} (x1 : Int32) (x2 : Int32) (x3 : Int32) (hK : mK M a = (1, 17)) : Ct (YX17_init, (3, 66, 0, 0), qv (fun M' => M' = sI (sI (sI M a 0 x1) a 1 x2) a 2 x3), noX) [.ref a, .int x1, .int x2, .int x3] M := by
  refine ct_of [some (.ref a), some (.int x1), some (.int x2), some (.int x3)] rfl rfl rfl (Nat.le_of_ble_eq_true rfl) rfl rfl ?_
  refine r_aload_n (pc := 0) dX17_init_0 rfl ?_
  refine r_iload_n (pc := 1) dX17_init_1 rfl ?_
  refine r_iload_n (pc := 2) dX17_init_2 rfl ?_
  refine r_iload_n (pc := 3) dX17_init_3 rfl ?_
  refine r_o4 (pc := 4) (bc' := 0) (bs' := 0) (ct_X13_init_17 x1 x2 x3 hK) k_X17_3_17 dX17_init_4 hK (Nat.le_of_ble_eq_true rfl) ⟨Nat.le_of_ble_eq_true rfl, Nat.le_of_ble_eq_true rfl⟩ ⟨Nat.le_of_ble_eq_true rfl, Nat.le_of_ble_eq_true rfl⟩ (r_cv fun M4 p4 => ?_) nox
  have p4 := Eq.symm (show _ = _ from p4)
  subst p4
  refine r_return (pc := 7) rfl dX17_init_7 ⟨rfl, ?_⟩
  rfl
theorem ct_X12_init_18 {M : PM} {a : Nat} (x1 : Int32) (x2 : Int32) (x3 : Int32) (hK : mK M a = (1, 18)) : Ct (YX12_init, (1, 20, 0, 0), qv (fun M' => M' = sI (sI (sI M a 0 x1) a 1 x2) a 2 x3), noX) [.ref a, .int x1, .int x2, .int x3] M := by
  refine ct_of [some (.ref a), some (.int x1), some (.int x2), some (.int x3)] rfl rfl rfl (Nat.le_of_ble_eq_true rfl) rfl rfl ?_
  refine r_aload_n (pc := 0) dX12_init_0 rfl ?_
  refine r_objInit (pc := 1) dX12_init_1 q733 q120 q121 (Nat.le_of_ble_eq_true rfl) (Nat.le_of_ble_eq_true rfl) ?_
  refine r_aload_n (pc := 4) dX12_init_4 rfl ?_
  refine r_iload_n (pc := 5) dX12_init_5 rfl ?_
  refine r_putFI (pc := 6) dX12_init_6 fl_X12_9_18 hK rfl rfl rfl ?_
  refine r_aload_n (pc := 9) dX12_init_9 rfl ?_
  refine r_iload_n (pc := 10) dX12_init_10 rfl ?_
  refine r_putFI (pc := 11) dX12_init_11 fl_X12_15_18 hK rfl rfl rfl ?_
  refine r_aload_n (pc := 14) dX12_init_14 rfl ?_
  refine r_iload_n (pc := 15) dX12_init_15 rfl ?_
  refine r_putFI (pc := 16) dX12_init_16 fl_X12_18_18 hK rfl rfl rfl ?_
  refine r_return (pc := 19) rfl dX12_init_19 ⟨rfl, ?_⟩
  rfl
theorem ct_X13_init_18 {M : PM} {a : Nat} (x1 : Int32) (x2 : Int32) (x3 : Int32) (hK : mK M a = (1, 18)) : Ct (YX13_init, (2, 43, 0, 0), qv (fun M' => M' = sI (sI (sI M a 0 x1) a 1 x2) a 2 x3), noX) [.ref a, .int x1, .int x2, .int x3] M := by
  refine ct_of [some (.ref a), some (.int x1), some (.int x2), some (.int x3)] rfl rfl rfl (Nat.le_of_ble_eq_true rfl) rfl rfl ?_
  refine r_aload_n (pc := 0) dX13_init_0 rfl ?_
  refine r_iload_n (pc := 1) dX13_init_1 rfl ?_
  refine r_iload_n (pc := 2) dX13_init_2 rfl ?_
  refine r_iload_n (pc := 3) dX13_init_3 rfl ?_
  refine r_o4 (pc := 4) (bc' := 0) (bs' := 0) (ct_X12_init_18 x1 x2 x3 hK) k_X13_3_18 dX13_init_4 hK (Nat.le_of_ble_eq_true rfl) ⟨Nat.le_of_ble_eq_true rfl, Nat.le_of_ble_eq_true rfl⟩ ⟨Nat.le_of_ble_eq_true rfl, Nat.le_of_ble_eq_true rfl⟩ (r_cv fun M4 p4 => ?_) nox
  have p4 := Eq.symm (show _ = _ from p4)
  subst p4
  refine r_return (pc := 7) rfl dX13_init_7 ⟨rfl, ?_⟩
  rfl
theorem ct_X18_init_18 {M : PM} {a : Nat} (x1 : Int32) (x2 : Int32) (x3 : Int32) (hK : mK M a = (1, 18)) : Ct (YX18_init, (3, 66, 0, 0), qv (fun M' => M' = sI (sI (sI M a 0 x1) a 1 x2) a 2 x3), noX) [.ref a, .int x1, .int x2, .int x3] M := by
  refine ct_of [some (.ref a), some (.int x1), some (.int x2), some (.int x3)] rfl rfl rfl (Nat.le_of_ble_eq_true rfl) rfl rfl ?_
  refine r_aload_n (pc := 0) dX18_init_0 rfl ?_
  refine r_iload_n (pc := 1) dX18_init_1 rfl ?_
  refine r_iload_n (pc := 2) dX18_init_2 rfl ?_
  refine r_iload_n (pc := 3) dX18_init_3 rfl ?_
  refine r_o4 (pc := 4) (bc' := 0) (bs' := 0) (ct_X13_init_18 x1 x2 x3 hK) k_X18_3_18 dX18_init_4 hK (Nat.le_of_ble_eq_true rfl) ⟨Nat.le_of_ble_eq_true rfl, Nat.le_of_ble_eq_true rfl⟩ ⟨Nat.le_of_ble_eq_true rfl, Nat.le_of_ble_eq_true rfl⟩ (r_cv fun M4 p4 => ?_) nox
  have p4 := Eq.symm (show _ = _ from p4)
  subst p4
  refine r_return (pc := 7) rfl dX18_init_7 ⟨rfl, ?_⟩
  rfl
/-- a new thing of class c at M's end -/
abbrev thM (M : PM) (c : Nat) (i w e : Int32) : PM := sI (sI (sI (nw M (1, c) 0) M.1 0 i) M.1 1 w) M.1 2 e
theorem bd_0 {x : Int32} (hx : bd x 0 6) (h : x.toInt < 1 ∨ 6 < x.toInt) : x = 0 := by
  rw [i_eq]
  have : (0 : Int32).toInt = 0 := by decide
  have := hx.1
  have := hx.2
  omega
theorem ct_X0_thingOfKind {M : PM} (x1 x2 x3 x4 : Int32) (hx : bd x1 0 6) : Ct (YX0_thingOfKind, (4, 89, 1, 3), qr (fun r M' => r = M.1 ∧ M' = thM M (12 + Int32.toNatClampNeg x1) x2 x3 x4), noX) [.int x1, .int x2, .int x3, .int x4] M := by
  refine ct_of [some (.int x1), some (.int x2), some (.int x3), some (.int x4)] rfl rfl rfl (Nat.le_of_ble_eq_true rfl) rfl rfl ?_
  refine r_iload_n (pc := 0) dX0_thingOfKind_0 rfl ?_
  refine r_sp_1_6 (fun h1 => ?_) (fun h1 => ?_) (fun h1 => ?_) (fun h1 => ?_) (fun h1 => ?_) (fun h1 => ?_) (fun h1 => ?_)
  · refine r_swIn (pc := 1) 40 dX0_thingOfKind_1 (by decide) (by decide) rfl rfl ?_
    refine r_new (c := 13) (pc := 40) (RX13, TX13, 3) dX0_thingOfKind_40 rfl q725 q726 q102 dv_13 (Nat.le_of_ble_eq_true rfl) rfl (Nat.le_of_ble_eq_true rfl) ?_
    refine r_dup (pc := 43) dX0_thingOfKind_43 rfl ?_
    refine r_iload_n (pc := 44) dX0_thingOfKind_44 rfl ?_
    refine r_iload_n (pc := 45) dX0_thingOfKind_45 rfl ?_
    refine r_iload_n (pc := 46) dX0_thingOfKind_46 rfl ?_
    refine r_o4 (pc := 47) (bc' := 0) (bs' := 0) (ct_X13_init_13 x2 x3 x4 (nw_K _ _ _)) k_X0_29_13 dX0_thingOfKind_47 (nw_K _ _ _) (Nat.le_of_ble_eq_true rfl) ⟨Nat.le_of_ble_eq_true rfl, Nat.le_of_ble_eq_true rfl⟩ ⟨Nat.le_of_ble_eq_true rfl, Nat.le_of_ble_eq_true rfl⟩ (r_cv fun M47 p47 => ?_) nox
    have p47 := Eq.symm (show _ = _ from p47)
    subst p47
    refine r_areturn (pc := 50) rfl (Or.inl ⟨_, rfl⟩) (Or.inr ⟨_, rfl⟩) dX0_thingOfKind_50 ⟨_, rfl, ?_⟩
    exact ⟨rfl, by rw [h1]; rfl⟩
  · refine r_swIn (pc := 1) 51 dX0_thingOfKind_1 (by decide) (by decide) rfl rfl ?_
    refine r_new (c := 14) (pc := 51) (RX14, TX14, 3) dX0_thingOfKind_51 rfl q761 q762 q103 dv_14 (Nat.le_of_ble_eq_true rfl) rfl (Nat.le_of_ble_eq_true rfl) ?_
    refine r_dup (pc := 54) dX0_thingOfKind_54 rfl ?_
    refine r_iload_n (pc := 55) dX0_thingOfKind_55 rfl ?_
    refine r_iload_n (pc := 56) dX0_thingOfKind_56 rfl ?_
    refine r_iload_n (pc := 57) dX0_thingOfKind_57 rfl ?_
    refine r_o4 (pc := 58) (bc' := 0) (bs' := 0) (ct_X14_init_14 x2 x3 x4 (nw_K _ _ _)) k_X0_34_14 dX0_thingOfKind_58 (nw_K _ _ _) (Nat.le_of_ble_eq_true rfl) ⟨Nat.le_of_ble_eq_true rfl, Nat.le_of_ble_eq_true rfl⟩ ⟨Nat.le_of_ble_eq_true rfl, Nat.le_of_ble_eq_true rfl⟩ (r_cv fun M58 p58 => ?_) nox
    have p58 := Eq.symm (show _ = _ from p58)
    subst p58
    refine r_areturn (pc := 61) rfl (Or.inl ⟨_, rfl⟩) (Or.inr ⟨_, rfl⟩) dX0_thingOfKind_61 ⟨_, rfl, ?_⟩
    exact ⟨rfl, by rw [h1]; rfl⟩
  · refine r_swIn (pc := 1) 62 dX0_thingOfKind_1 (by decide) (by decide) rfl rfl ?_
    refine r_new (c := 15) (pc := 62) (RX15, TX15, 3) dX0_thingOfKind_62 rfl q770 q771 q104 dv_15 (Nat.le_of_ble_eq_true rfl) rfl (Nat.le_of_ble_eq_true rfl) ?_
    refine r_dup (pc := 65) dX0_thingOfKind_65 rfl ?_
    refine r_iload_n (pc := 66) dX0_thingOfKind_66 rfl ?_
    refine r_iload_n (pc := 67) dX0_thingOfKind_67 rfl ?_
    refine r_iload_n (pc := 68) dX0_thingOfKind_68 rfl ?_
    refine r_o4 (pc := 69) (bc' := 0) (bs' := 0) (ct_X15_init_15 x2 x3 x4 (nw_K _ _ _)) k_X0_37_15 dX0_thingOfKind_69 (nw_K _ _ _) (Nat.le_of_ble_eq_true rfl) ⟨Nat.le_of_ble_eq_true rfl, Nat.le_of_ble_eq_true rfl⟩ ⟨Nat.le_of_ble_eq_true rfl, Nat.le_of_ble_eq_true rfl⟩ (r_cv fun M69 p69 => ?_) nox
    have p69 := Eq.symm (show _ = _ from p69)
    subst p69
    refine r_areturn (pc := 72) rfl (Or.inl ⟨_, rfl⟩) (Or.inr ⟨_, rfl⟩) dX0_thingOfKind_72 ⟨_, rfl, ?_⟩
    exact ⟨rfl, by rw [h1]; rfl⟩
  · refine r_swIn (pc := 1) 73 dX0_thingOfKind_1 (by decide) (by decide) rfl rfl ?_
    refine r_new (c := 16) (pc := 73) (RX16, TX16, 3) dX0_thingOfKind_73 rfl q779 q780 q105 dv_16 (Nat.le_of_ble_eq_true rfl) rfl (Nat.le_of_ble_eq_true rfl) ?_
    refine r_dup (pc := 76) dX0_thingOfKind_76 rfl ?_
    refine r_iload_n (pc := 77) dX0_thingOfKind_77 rfl ?_
    refine r_iload_n (pc := 78) dX0_thingOfKind_78 rfl ?_
    refine r_iload_n (pc := 79) dX0_thingOfKind_79 rfl ?_
    refine r_o4 (pc := 80) (bc' := 0) (bs' := 0) (ct_X16_init_16 x2 x3 x4 (nw_K _ _ _)) k_X0_40_16 dX0_thingOfKind_80 (nw_K _ _ _) (Nat.le_of_ble_eq_true rfl) ⟨Nat.le_of_ble_eq_true rfl, Nat.le_of_ble_eq_true rfl⟩ ⟨Nat.le_of_ble_eq_true rfl, Nat.le_of_ble_eq_true rfl⟩ (r_cv fun M80 p80 => ?_) nox
    have p80 := Eq.symm (show _ = _ from p80)
    subst p80
    refine r_areturn (pc := 83) rfl (Or.inl ⟨_, rfl⟩) (Or.inr ⟨_, rfl⟩) dX0_thingOfKind_83 ⟨_, rfl, ?_⟩
    exact ⟨rfl, by rw [h1]; rfl⟩
  · refine r_swIn (pc := 1) 84 dX0_thingOfKind_1 (by decide) (by decide) rfl rfl ?_
    refine r_new (c := 17) (pc := 84) (RX17, TX17, 3) dX0_thingOfKind_84 rfl q789 q790 q106 dv_17 (Nat.le_of_ble_eq_true rfl) rfl (Nat.le_of_ble_eq_true rfl) ?_
    refine r_dup (pc := 87) dX0_thingOfKind_87 rfl ?_
    refine r_iload_n (pc := 88) dX0_thingOfKind_88 rfl ?_
    refine r_iload_n (pc := 89) dX0_thingOfKind_89 rfl ?_
    refine r_iload_n (pc := 90) dX0_thingOfKind_90 rfl ?_
    refine r_o4 (pc := 91) (bc' := 0) (bs' := 0) (ct_X17_init_17 x2 x3 x4 (nw_K _ _ _)) k_X0_43_17 dX0_thingOfKind_91 (nw_K _ _ _) (Nat.le_of_ble_eq_true rfl) ⟨Nat.le_of_ble_eq_true rfl, Nat.le_of_ble_eq_true rfl⟩ ⟨Nat.le_of_ble_eq_true rfl, Nat.le_of_ble_eq_true rfl⟩ (r_cv fun M91 p91 => ?_) nox
    have p91 := Eq.symm (show _ = _ from p91)
    subst p91
    refine r_areturn (pc := 94) rfl (Or.inl ⟨_, rfl⟩) (Or.inr ⟨_, rfl⟩) dX0_thingOfKind_94 ⟨_, rfl, ?_⟩
    exact ⟨rfl, by rw [h1]; rfl⟩
  · refine r_swIn (pc := 1) 95 dX0_thingOfKind_1 (by decide) (by decide) rfl rfl ?_
    refine r_new (c := 18) (pc := 95) (RX18, TX18, 3) dX0_thingOfKind_95 rfl q798 q799 q107 dv_18 (Nat.le_of_ble_eq_true rfl) rfl (Nat.le_of_ble_eq_true rfl) ?_
    refine r_dup (pc := 98) dX0_thingOfKind_98 rfl ?_
    refine r_iload_n (pc := 99) dX0_thingOfKind_99 rfl ?_
    refine r_iload_n (pc := 100) dX0_thingOfKind_100 rfl ?_
    refine r_iload_n (pc := 101) dX0_thingOfKind_101 rfl ?_
    refine r_o4 (pc := 102) (bc' := 0) (bs' := 0) (ct_X18_init_18 x2 x3 x4 (nw_K _ _ _)) k_X0_46_18 dX0_thingOfKind_102 (nw_K _ _ _) (Nat.le_of_ble_eq_true rfl) ⟨Nat.le_of_ble_eq_true rfl, Nat.le_of_ble_eq_true rfl⟩ ⟨Nat.le_of_ble_eq_true rfl, Nat.le_of_ble_eq_true rfl⟩ (r_cv fun M102 p102 => ?_) nox
    have p102 := Eq.symm (show _ = _ from p102)
    subst p102
    refine r_areturn (pc := 105) rfl (Or.inl ⟨_, rfl⟩) (Or.inr ⟨_, rfl⟩) dX0_thingOfKind_105 ⟨_, rfl, ?_⟩
    exact ⟨rfl, by rw [h1]; rfl⟩
  · refine r_swOut (pc := 1) 106 dX0_thingOfKind_1 h1 rfl ?_
    refine r_new (c := 12) (pc := 106) (RX12, TX12, 3) dX0_thingOfKind_106 rfl q603 q808 q101 dv_12 (Nat.le_of_ble_eq_true rfl) rfl (Nat.le_of_ble_eq_true rfl) ?_
    refine r_dup (pc := 109) dX0_thingOfKind_109 rfl ?_
    refine r_iload_n (pc := 110) dX0_thingOfKind_110 rfl ?_
    refine r_iload_n (pc := 111) dX0_thingOfKind_111 rfl ?_
    refine r_iload_n (pc := 112) dX0_thingOfKind_112 rfl ?_
    refine r_o4 (pc := 113) (bc' := 0) (bs' := 0) (ct_X12_init_12 x2 x3 x4 (nw_K _ _ _)) k_X0_49_12 dX0_thingOfKind_113 (nw_K _ _ _) (Nat.le_of_ble_eq_true rfl) ⟨Nat.le_of_ble_eq_true rfl, Nat.le_of_ble_eq_true rfl⟩ ⟨Nat.le_of_ble_eq_true rfl, Nat.le_of_ble_eq_true rfl⟩ (r_cv fun M113 p113 => ?_) nox
    have p113 := Eq.symm (show _ = _ from p113)
    subst p113
    refine r_areturn (pc := 116) rfl (Or.inl ⟨_, rfl⟩) (Or.inr ⟨_, rfl⟩) dX0_thingOfKind_116 ⟨_, rfl, ?_⟩
    exact ⟨rfl, by rw [bd_0 hx h1]; rfl⟩
/-- a row at a of class c, its array at b of n elements -/
def rwP (M : PM) (c t a b n : Nat) : Prop := mK M a = (1, c) ∧ mR M a 0 = some b ∧ mK M b = (2, t) ∧ mZ M b = n ∧ n ≤ 160
theorem ct_X7_init_8 {M : PM} {a : Nat} (hK : mK M a = (1, 8)) : Ct (YX7_init, (1, 20, 0, 0), qv (fun M' => M' = M), noX) [.ref a] M := by
  refine ct_of [some (.ref a)] rfl rfl rfl (Nat.le_of_ble_eq_true rfl) rfl rfl ?_
  refine r_aload_n (pc := 0) dX7_init_0 rfl ?_
  refine r_objInit (pc := 1) dX7_init_1 q443 q120 q121 (Nat.le_of_ble_eq_true rfl) (Nat.le_of_ble_eq_true rfl) ?_
  refine r_return (pc := 4) rfl dX7_init_4 ⟨rfl, ?_⟩
  rfl
theorem ct_X8_init {M : PM} {a n : Nat} (x1 : Int32) (hK : mK M a = (1, 8)) (hlt : ¬ a = M.1) (h0 : ¬ x1 < 0) (hn : Int32.toNatClampNeg x1 = n) (h9 : n ≤ 160) : Ct (YX8_init, (2, 40, 1, 160), qv (fun M' => M' = sR (nw M (2, 1) n) a 0 (some M.1)), noX) [.ref a, .int x1] M := by
  refine ct_of [some (.ref a), some (.int x1)] rfl rfl rfl (Nat.le_of_ble_eq_true rfl) rfl rfl ?_
  refine r_aload_n (pc := 0) dX8_init_0 rfl ?_
  refine r_o1 (pc := 1) (bc' := 1) (bs' := 160) (ct_X7_init_8 hK) k_X8_1_8 dX8_init_1 hK (Nat.le_of_ble_eq_true rfl) ⟨Nat.le_of_ble_eq_true rfl, Nat.le_of_ble_eq_true rfl⟩ ⟨Nat.le_of_ble_eq_true rfl, Nat.le_of_ble_eq_true rfl⟩ (r_cv fun M1 p1 => ?_) nox
  have p1 := Eq.symm (show _ = _ from p1)
  subst p1
  refine r_aload_n (pc := 4) dX8_init_4 rfl ?_
  refine r_iload_n (pc := 5) dX8_init_5 rfl ?_
  refine r_newa (t := 1) (n := n) (pc := 6) dX8_init_6 rfl rfl q383 rfl h0 hn (by show n * 1 ≤ 536870912; omega) arN1 (Nat.le_of_ble_eq_true rfl) h9 ?_
  have hK2 : mK (nw M (2, 1) n) a = (1, 8) := (if_neg hlt).trans hK
  refine r_putFR (pc := 8) dX8_init_8 fl_X8_7_8 hK2 rfl rfl rfl ?_
  refine r_return (pc := 11) rfl dX8_init_11 ⟨rfl, ?_⟩
  rfl
theorem ct_X8_sort {M : PM} {a b n : Nat} (h : rwP M 8 1 a b n) : Ct (YX8_sort, (0, 0, 0, 0), qi (fun r M' => r = 0 ∧ M' = M), noX) [.ref a] M := by
  refine ct_of [some (.ref a)] rfl rfl rfl (Nat.le_of_ble_eq_true rfl) rfl rfl ?_
  refine r_iconst (pc := 0) (v := 0) dX8_sort_0 (by decide) ?_
  refine r_ireturn (pc := 1) rfl dX8_sort_1 ⟨_, rfl, ?_⟩
  exact ⟨rfl, rfl⟩
theorem ct_X8_length {M : PM} {a b n : Nat} (h : rwP M 8 1 a b n) : Ct (YX8_length, (0, 0, 0, 0), qi (fun r M' => r = nI n ∧ M' = M), noX) [.ref a] M := by
  refine ct_of [some (.ref a)] rfl rfl rfl (Nat.le_of_ble_eq_true rfl) rfl rfl ?_
  refine r_aload_n (pc := 0) dX8_length_0 rfl ?_
  refine r_getR (pc := 1) dX8_length_1 fl_X8_7_8 h.1 (fun _ _ => rfl) h.2.1 ?_
  refine r_alen (pc := 4) dX8_length_4 h.2.2.1 h.2.2.2.1 ?_
  refine r_ireturn (pc := 5) rfl dX8_length_5 ⟨_, rfl, ?_⟩
  exact ⟨rfl, rfl⟩
theorem ct_X8_held {M : PM} {a b n : Nat} (h : rwP M 8 1 a b n) : Ct (YX8_held, (0, 0, 0, 0), qr (fun r M' => r = b ∧ M' = M), noX) [.ref a] M := by
  refine ct_of [some (.ref a)] rfl rfl rfl (Nat.le_of_ble_eq_true rfl) rfl rfl ?_
  refine r_aload_n (pc := 0) dX8_held_0 rfl ?_
  refine r_getR (pc := 1) dX8_held_1 fl_X8_7_8 h.1 (fun _ _ => rfl) h.2.1 ?_
  refine r_areturn (pc := 4) rfl (Or.inl ⟨_, rfl⟩) (Or.inr ⟨_, rfl⟩) dX8_held_4 ⟨_, rfl, ?_⟩
  exact ⟨rfl, rfl⟩
theorem ct_X8_get {M : PM} {a b n : Nat} (x1 : Int32) (h : rwP M 8 1 a b n) (hin : vp_in x1 n) : Ct (YX8_get, (0, 0, 0, 0), ql (fun r M' => r = (mI M b (Int32.toNatClampNeg x1)).toInt64 ∧ M' = M), noX) [.ref a, .int x1] M := by
  refine ct_of [some (.ref a), some (.int x1)] rfl rfl rfl (Nat.le_of_ble_eq_true rfl) rfl rfl ?_
  refine r_aload_n (pc := 0) dX8_get_0 rfl ?_
  refine r_getR (pc := 1) dX8_get_1 fl_X8_7_8 h.1 (fun _ _ => rfl) h.2.1 ?_
  refine r_iload_n (pc := 4) dX8_get_4 rfl ?_
  refine r_bald (pc := 5) dX8_get_5 h.2.2.1 h.2.2.2.1 hin ?_
  refine r_i2l (pc := 6) dX8_get_6 ?_
  refine r_lreturn (pc := 7) rfl dX8_get_7 ⟨_, rfl, ?_⟩
  exact ⟨rfl, rfl⟩
theorem ct_X8_getX {M : PM} {a b n : Nat} (x1 : Int32) (h : rwP M 8 1 a b n) (hout : ¬ vp_in x1 n) : Ct (YX8_get, (8, 10250, 3, 222), ql (fun _ _ => False), fun q E M' => E = exA ∧ ∃ N, M.1 ≤ N ∧ M' = grow M N) [.ref a, .int x1] M := by
  refine ct_of [some (.ref a), some (.int x1)] rfl rfl rfl (Nat.le_of_ble_eq_true rfl) rfl rfl ?_
  refine r_aload_n (pc := 0) dX8_get_0 rfl ?_
  refine r_getR (pc := 1) dX8_get_1 fl_X8_7_8 h.1 (fun _ _ => rfl) h.2.1 ?_
  refine r_iload_n (pc := 4) dX8_get_4 rfl ?_
  exact r_baldX (pc := 5) dX8_get_5 h.2.2.1 h.2.2.2.1 (by have := h.2.2.2.2; omega) hout (Nat.le_of_ble_eq_true rfl) (Nat.le_of_ble_eq_true rfl) (Nat.le_of_ble_eq_true rfl) (Nat.le_of_ble_eq_true rfl) (fun N q hN => t_out rfl ⟨rfl, N, hN, rfl⟩)
theorem ct_X8_put {M : PM} {a b n : Nat} (x1 : Int32) (x2 : Int64) (h : rwP M 8 1 a b n) (hin : vp_in x1 n) : Ct (YX8_put, (0, 0, 0, 0), qv (fun M' => M' = sI M b (Int32.toNatClampNeg x1) (vp_nar .byte x2.toInt32.toInt8.toInt32)), noX) [.ref a, .int x1, .long x2] M := by
  refine ct_of [some (.ref a), some (.int x1), some (.long x2), none] rfl rfl rfl (Nat.le_of_ble_eq_true rfl) rfl rfl ?_
  refine r_aload_n (pc := 0) dX8_put_0 rfl ?_
  refine r_getR (pc := 1) dX8_put_1 fl_X8_7_8 h.1 (fun _ _ => rfl) h.2.1 ?_
  refine r_iload_n (pc := 4) dX8_put_4 rfl ?_
  refine r_lload_n (pc := 5) dX8_put_5 rfl ?_
  refine r_l2i (pc := 6) dX8_put_6 ?_
  refine r_i2b (pc := 7) dX8_put_7 ?_
  refine r_bast (pc := 8) dX8_put_8 h.2.2.1 h.2.2.2.1 hin ?_
  refine r_return (pc := 9) rfl dX8_put_9 ⟨rfl, ?_⟩
  rfl
theorem ct_X8_putX {M : PM} {a b n : Nat} (x1 : Int32) (x2 : Int64) (h : rwP M 8 1 a b n) (hout : ¬ vp_in x1 n) : Ct (YX8_put, (8, 10250, 3, 222), qv (fun _ => False), fun q E M' => E = exA ∧ ∃ N, M.1 ≤ N ∧ M' = grow M N) [.ref a, .int x1, .long x2] M := by
  refine ct_of [some (.ref a), some (.int x1), some (.long x2), none] rfl rfl rfl (Nat.le_of_ble_eq_true rfl) rfl rfl ?_
  refine r_aload_n (pc := 0) dX8_put_0 rfl ?_
  refine r_getR (pc := 1) dX8_put_1 fl_X8_7_8 h.1 (fun _ _ => rfl) h.2.1 ?_
  refine r_iload_n (pc := 4) dX8_put_4 rfl ?_
  refine r_lload_n (pc := 5) dX8_put_5 rfl ?_
  refine r_l2i (pc := 6) dX8_put_6 ?_
  refine r_i2b (pc := 7) dX8_put_7 ?_
  exact r_bastX (pc := 8) dX8_put_8 h.2.2.1 h.2.2.2.1 (by have := h.2.2.2.2; omega) hout (Nat.le_of_ble_eq_true rfl) (Nat.le_of_ble_eq_true rfl) (Nat.le_of_ble_eq_true rfl) (Nat.le_of_ble_eq_true rfl) (fun N q hN => t_out rfl ⟨rfl, N, hN, rfl⟩)
theorem ct_X7_asInt_8 {M : PM} {a b n : Nat} (x1 : Int32) (h : rwP M 8 1 a b n) (hin : vp_in x1 n) : Ct (YX7_asInt, (1, 21, 0, 0), qi (fun r M' => r = ((mI M b (Int32.toNatClampNeg x1)).toInt64).toInt32 ∧ M' = M), noX) [.ref a, .int x1] M := by
  refine ct_of [some (.ref a), some (.int x1)] rfl rfl rfl (Nat.le_of_ble_eq_true rfl) rfl rfl ?_
  refine r_aload_n (pc := 0) dX7_asInt_0 rfl ?_
  refine r_iload_n (pc := 1) dX7_asInt_1 rfl ?_
  refine r_o2 (pc := 2) (bc' := 0) (bs' := 0) (ct_X8_get x1 h hin) k_X7_7_8 dX7_asInt_2 h.1 (Nat.le_of_ble_eq_true rfl) ⟨Nat.le_of_ble_eq_true rfl, Nat.le_of_ble_eq_true rfl⟩ ⟨Nat.le_of_ble_eq_true rfl, Nat.le_of_ble_eq_true rfl⟩ (r_cl fun r2 M2 p2 => ?_) nox
  obtain ⟨rfl, rfl⟩ := p2
  refine r_l2i (pc := 5) dX7_asInt_5 ?_
  refine r_ireturn (pc := 6) rfl dX7_asInt_6 ⟨_, rfl, ?_⟩
  exact ⟨rfl, rfl⟩
theorem ct_X7_init_9 {M : PM} {a : Nat} (hK : mK M a = (1, 9)) : Ct (YX7_init, (1, 20, 0, 0), qv (fun M' => M' = M), noX) [.ref a] M := by
  refine ct_of [some (.ref a)] rfl rfl rfl (Nat.le_of_ble_eq_true rfl) rfl rfl ?_
  refine r_aload_n (pc := 0) dX7_init_0 rfl ?_
  refine r_objInit (pc := 1) dX7_init_1 q443 q120 q121 (Nat.le_of_ble_eq_true rfl) (Nat.le_of_ble_eq_true rfl) ?_
  refine r_return (pc := 4) rfl dX7_init_4 ⟨rfl, ?_⟩
  rfl
theorem ct_X9_init {M : PM} {a n : Nat} (x1 : Int32) (hK : mK M a = (1, 9)) (hlt : ¬ a = M.1) (h0 : ¬ x1 < 0) (hn : Int32.toNatClampNeg x1 = n) (h9 : n ≤ 160) : Ct (YX9_init, (2, 40, 1, 160), qv (fun M' => M' = sR (nw M (2, 2) n) a 0 (some M.1)), noX) [.ref a, .int x1] M := by
  refine ct_of [some (.ref a), some (.int x1)] rfl rfl rfl (Nat.le_of_ble_eq_true rfl) rfl rfl ?_
  refine r_aload_n (pc := 0) dX9_init_0 rfl ?_
  refine r_o1 (pc := 1) (bc' := 1) (bs' := 160) (ct_X7_init_9 hK) k_X9_1_9 dX9_init_1 hK (Nat.le_of_ble_eq_true rfl) ⟨Nat.le_of_ble_eq_true rfl, Nat.le_of_ble_eq_true rfl⟩ ⟨Nat.le_of_ble_eq_true rfl, Nat.le_of_ble_eq_true rfl⟩ (r_cv fun M1 p1 => ?_) nox
  have p1 := Eq.symm (show _ = _ from p1)
  subst p1
  refine r_aload_n (pc := 4) dX9_init_4 rfl ?_
  refine r_iload_n (pc := 5) dX9_init_5 rfl ?_
  refine r_newa (t := 2) (n := n) (pc := 6) dX9_init_6 rfl rfl q458 rfl h0 hn (by show n * 2 ≤ 536870912; omega) arN2 (Nat.le_of_ble_eq_true rfl) h9 ?_
  have hK2 : mK (nw M (2, 2) n) a = (1, 9) := (if_neg hlt).trans hK
  refine r_putFR (pc := 8) dX9_init_8 fl_X9_7_9 hK2 rfl rfl rfl ?_
  refine r_return (pc := 11) rfl dX9_init_11 ⟨rfl, ?_⟩
  rfl
theorem ct_X9_sort {M : PM} {a b n : Nat} (h : rwP M 9 2 a b n) : Ct (YX9_sort, (0, 0, 0, 0), qi (fun r M' => r = 1 ∧ M' = M), noX) [.ref a] M := by
  refine ct_of [some (.ref a)] rfl rfl rfl (Nat.le_of_ble_eq_true rfl) rfl rfl ?_
  refine r_iconst (pc := 0) (v := 1) dX9_sort_0 (by decide) ?_
  refine r_ireturn (pc := 1) rfl dX9_sort_1 ⟨_, rfl, ?_⟩
  exact ⟨rfl, rfl⟩
theorem ct_X9_length {M : PM} {a b n : Nat} (h : rwP M 9 2 a b n) : Ct (YX9_length, (0, 0, 0, 0), qi (fun r M' => r = nI n ∧ M' = M), noX) [.ref a] M := by
  refine ct_of [some (.ref a)] rfl rfl rfl (Nat.le_of_ble_eq_true rfl) rfl rfl ?_
  refine r_aload_n (pc := 0) dX9_length_0 rfl ?_
  refine r_getR (pc := 1) dX9_length_1 fl_X9_7_9 h.1 (fun _ _ => rfl) h.2.1 ?_
  refine r_alen (pc := 4) dX9_length_4 h.2.2.1 h.2.2.2.1 ?_
  refine r_ireturn (pc := 5) rfl dX9_length_5 ⟨_, rfl, ?_⟩
  exact ⟨rfl, rfl⟩
theorem ct_X9_held {M : PM} {a b n : Nat} (h : rwP M 9 2 a b n) : Ct (YX9_held, (0, 0, 0, 0), qr (fun r M' => r = b ∧ M' = M), noX) [.ref a] M := by
  refine ct_of [some (.ref a)] rfl rfl rfl (Nat.le_of_ble_eq_true rfl) rfl rfl ?_
  refine r_aload_n (pc := 0) dX9_held_0 rfl ?_
  refine r_getR (pc := 1) dX9_held_1 fl_X9_7_9 h.1 (fun _ _ => rfl) h.2.1 ?_
  refine r_areturn (pc := 4) rfl (Or.inl ⟨_, rfl⟩) (Or.inr ⟨_, rfl⟩) dX9_held_4 ⟨_, rfl, ?_⟩
  exact ⟨rfl, rfl⟩
theorem ct_X9_get {M : PM} {a b n : Nat} (x1 : Int32) (h : rwP M 9 2 a b n) (hin : vp_in x1 n) : Ct (YX9_get, (0, 0, 0, 0), ql (fun r M' => r = (mI M b (Int32.toNatClampNeg x1)).toInt64 ∧ M' = M), noX) [.ref a, .int x1] M := by
  refine ct_of [some (.ref a), some (.int x1)] rfl rfl rfl (Nat.le_of_ble_eq_true rfl) rfl rfl ?_
  refine r_aload_n (pc := 0) dX9_get_0 rfl ?_
  refine r_getR (pc := 1) dX9_get_1 fl_X9_7_9 h.1 (fun _ _ => rfl) h.2.1 ?_
  refine r_iload_n (pc := 4) dX9_get_4 rfl ?_
  refine r_sald (pc := 5) dX9_get_5 h.2.2.1 h.2.2.2.1 hin ?_
  refine r_i2l (pc := 6) dX9_get_6 ?_
  refine r_lreturn (pc := 7) rfl dX9_get_7 ⟨_, rfl, ?_⟩
  exact ⟨rfl, rfl⟩
theorem ct_X9_getX {M : PM} {a b n : Nat} (x1 : Int32) (h : rwP M 9 2 a b n) (hout : ¬ vp_in x1 n) : Ct (YX9_get, (8, 10250, 3, 222), ql (fun _ _ => False), fun q E M' => E = exA ∧ ∃ N, M.1 ≤ N ∧ M' = grow M N) [.ref a, .int x1] M := by
  refine ct_of [some (.ref a), some (.int x1)] rfl rfl rfl (Nat.le_of_ble_eq_true rfl) rfl rfl ?_
  refine r_aload_n (pc := 0) dX9_get_0 rfl ?_
  refine r_getR (pc := 1) dX9_get_1 fl_X9_7_9 h.1 (fun _ _ => rfl) h.2.1 ?_
  refine r_iload_n (pc := 4) dX9_get_4 rfl ?_
  exact r_saldX (pc := 5) dX9_get_5 h.2.2.1 h.2.2.2.1 (by have := h.2.2.2.2; omega) hout (Nat.le_of_ble_eq_true rfl) (Nat.le_of_ble_eq_true rfl) (Nat.le_of_ble_eq_true rfl) (Nat.le_of_ble_eq_true rfl) (fun N q hN => t_out rfl ⟨rfl, N, hN, rfl⟩)
theorem ct_X9_put {M : PM} {a b n : Nat} (x1 : Int32) (x2 : Int64) (h : rwP M 9 2 a b n) (hin : vp_in x1 n) : Ct (YX9_put, (0, 0, 0, 0), qv (fun M' => M' = sI M b (Int32.toNatClampNeg x1) (vp_nar .short x2.toInt32.toInt16.toInt32)), noX) [.ref a, .int x1, .long x2] M := by
  refine ct_of [some (.ref a), some (.int x1), some (.long x2), none] rfl rfl rfl (Nat.le_of_ble_eq_true rfl) rfl rfl ?_
  refine r_aload_n (pc := 0) dX9_put_0 rfl ?_
  refine r_getR (pc := 1) dX9_put_1 fl_X9_7_9 h.1 (fun _ _ => rfl) h.2.1 ?_
  refine r_iload_n (pc := 4) dX9_put_4 rfl ?_
  refine r_lload_n (pc := 5) dX9_put_5 rfl ?_
  refine r_l2i (pc := 6) dX9_put_6 ?_
  refine r_i2s (pc := 7) dX9_put_7 ?_
  refine r_sast (pc := 8) dX9_put_8 h.2.2.1 h.2.2.2.1 hin ?_
  refine r_return (pc := 9) rfl dX9_put_9 ⟨rfl, ?_⟩
  rfl
theorem ct_X9_putX {M : PM} {a b n : Nat} (x1 : Int32) (x2 : Int64) (h : rwP M 9 2 a b n) (hout : ¬ vp_in x1 n) : Ct (YX9_put, (8, 10250, 3, 222), qv (fun _ => False), fun q E M' => E = exA ∧ ∃ N, M.1 ≤ N ∧ M' = grow M N) [.ref a, .int x1, .long x2] M := by
  refine ct_of [some (.ref a), some (.int x1), some (.long x2), none] rfl rfl rfl (Nat.le_of_ble_eq_true rfl) rfl rfl ?_
  refine r_aload_n (pc := 0) dX9_put_0 rfl ?_
  refine r_getR (pc := 1) dX9_put_1 fl_X9_7_9 h.1 (fun _ _ => rfl) h.2.1 ?_
  refine r_iload_n (pc := 4) dX9_put_4 rfl ?_
  refine r_lload_n (pc := 5) dX9_put_5 rfl ?_
  refine r_l2i (pc := 6) dX9_put_6 ?_
  refine r_i2s (pc := 7) dX9_put_7 ?_
  exact r_sastX (pc := 8) dX9_put_8 h.2.2.1 h.2.2.2.1 (by have := h.2.2.2.2; omega) hout (Nat.le_of_ble_eq_true rfl) (Nat.le_of_ble_eq_true rfl) (Nat.le_of_ble_eq_true rfl) (Nat.le_of_ble_eq_true rfl) (fun N q hN => t_out rfl ⟨rfl, N, hN, rfl⟩)
theorem ct_X7_asInt_9 {M : PM} {a b n : Nat} (x1 : Int32) (h : rwP M 9 2 a b n) (hin : vp_in x1 n) : Ct (YX7_asInt, (1, 21, 0, 0), qi (fun r M' => r = ((mI M b (Int32.toNatClampNeg x1)).toInt64).toInt32 ∧ M' = M), noX) [.ref a, .int x1] M := by
  refine ct_of [some (.ref a), some (.int x1)] rfl rfl rfl (Nat.le_of_ble_eq_true rfl) rfl rfl ?_
  refine r_aload_n (pc := 0) dX7_asInt_0 rfl ?_
  refine r_iload_n (pc := 1) dX7_asInt_1 rfl ?_
  refine r_o2 (pc := 2) (bc' := 0) (bs' := 0) (ct_X9_get x1 h hin) k_X7_7_9 dX7_asInt_2 h.1 (Nat.le_of_ble_eq_true rfl) ⟨Nat.le_of_ble_eq_true rfl, Nat.le_of_ble_eq_true rfl⟩ ⟨Nat.le_of_ble_eq_true rfl, Nat.le_of_ble_eq_true rfl⟩ (r_cl fun r2 M2 p2 => ?_) nox
  obtain ⟨rfl, rfl⟩ := p2
  refine r_l2i (pc := 5) dX7_asInt_5 ?_
  refine r_ireturn (pc := 6) rfl dX7_asInt_6 ⟨_, rfl, ?_⟩
  exact ⟨rfl, rfl⟩
theorem ct_X7_init_10 {M : PM} {a : Nat} (hK : mK M a = (1, 10)) : Ct (YX7_init, (1, 20, 0, 0), qv (fun M' => M' = M), noX) [.ref a] M := by
  refine ct_of [some (.ref a)] rfl rfl rfl (Nat.le_of_ble_eq_true rfl) rfl rfl ?_
  refine r_aload_n (pc := 0) dX7_init_0 rfl ?_
  refine r_objInit (pc := 1) dX7_init_1 q443 q120 q121 (Nat.le_of_ble_eq_true rfl) (Nat.le_of_ble_eq_true rfl) ?_
  refine r_return (pc := 4) rfl dX7_init_4 ⟨rfl, ?_⟩
  rfl
theorem ct_X10_init {M : PM} {a n : Nat} (x1 : Int32) (hK : mK M a = (1, 10)) (hlt : ¬ a = M.1) (h0 : ¬ x1 < 0) (hn : Int32.toNatClampNeg x1 = n) (h9 : n ≤ 160) : Ct (YX10_init, (2, 40, 1, 160), qv (fun M' => M' = sR (nw M (2, 0) n) a 0 (some M.1)), noX) [.ref a, .int x1] M := by
  refine ct_of [some (.ref a), some (.int x1)] rfl rfl rfl (Nat.le_of_ble_eq_true rfl) rfl rfl ?_
  refine r_aload_n (pc := 0) dX10_init_0 rfl ?_
  refine r_o1 (pc := 1) (bc' := 1) (bs' := 160) (ct_X7_init_10 hK) k_X10_1_10 dX10_init_1 hK (Nat.le_of_ble_eq_true rfl) ⟨Nat.le_of_ble_eq_true rfl, Nat.le_of_ble_eq_true rfl⟩ ⟨Nat.le_of_ble_eq_true rfl, Nat.le_of_ble_eq_true rfl⟩ (r_cv fun M1 p1 => ?_) nox
  have p1 := Eq.symm (show _ = _ from p1)
  subst p1
  refine r_aload_n (pc := 4) dX10_init_4 rfl ?_
  refine r_iload_n (pc := 5) dX10_init_5 rfl ?_
  refine r_newa (t := 0) (n := n) (pc := 6) dX10_init_6 rfl rfl q139 rfl h0 hn (by show n * 4 ≤ 536870912; omega) arN0 (Nat.le_of_ble_eq_true rfl) h9 ?_
  have hK2 : mK (nw M (2, 0) n) a = (1, 10) := (if_neg hlt).trans hK
  refine r_putFR (pc := 8) dX10_init_8 fl_X10_7_10 hK2 rfl rfl rfl ?_
  refine r_return (pc := 11) rfl dX10_init_11 ⟨rfl, ?_⟩
  rfl
theorem ct_X10_sort {M : PM} {a b n : Nat} (h : rwP M 10 0 a b n) : Ct (YX10_sort, (0, 0, 0, 0), qi (fun r M' => r = 2 ∧ M' = M), noX) [.ref a] M := by
  refine ct_of [some (.ref a)] rfl rfl rfl (Nat.le_of_ble_eq_true rfl) rfl rfl ?_
  refine r_iconst (pc := 0) (v := 2) dX10_sort_0 (by decide) ?_
  refine r_ireturn (pc := 1) rfl dX10_sort_1 ⟨_, rfl, ?_⟩
  exact ⟨rfl, rfl⟩
theorem ct_X10_length {M : PM} {a b n : Nat} (h : rwP M 10 0 a b n) : Ct (YX10_length, (0, 0, 0, 0), qi (fun r M' => r = nI n ∧ M' = M), noX) [.ref a] M := by
  refine ct_of [some (.ref a)] rfl rfl rfl (Nat.le_of_ble_eq_true rfl) rfl rfl ?_
  refine r_aload_n (pc := 0) dX10_length_0 rfl ?_
  refine r_getR (pc := 1) dX10_length_1 fl_X10_7_10 h.1 (fun _ _ => rfl) h.2.1 ?_
  refine r_alen (pc := 4) dX10_length_4 h.2.2.1 h.2.2.2.1 ?_
  refine r_ireturn (pc := 5) rfl dX10_length_5 ⟨_, rfl, ?_⟩
  exact ⟨rfl, rfl⟩
theorem ct_X10_held {M : PM} {a b n : Nat} (h : rwP M 10 0 a b n) : Ct (YX10_held, (0, 0, 0, 0), qr (fun r M' => r = b ∧ M' = M), noX) [.ref a] M := by
  refine ct_of [some (.ref a)] rfl rfl rfl (Nat.le_of_ble_eq_true rfl) rfl rfl ?_
  refine r_aload_n (pc := 0) dX10_held_0 rfl ?_
  refine r_getR (pc := 1) dX10_held_1 fl_X10_7_10 h.1 (fun _ _ => rfl) h.2.1 ?_
  refine r_areturn (pc := 4) rfl (Or.inl ⟨_, rfl⟩) (Or.inr ⟨_, rfl⟩) dX10_held_4 ⟨_, rfl, ?_⟩
  exact ⟨rfl, rfl⟩
theorem ct_X10_get {M : PM} {a b n : Nat} (x1 : Int32) (h : rwP M 10 0 a b n) (hin : vp_in x1 n) : Ct (YX10_get, (0, 0, 0, 0), ql (fun r M' => r = (mI M b (Int32.toNatClampNeg x1)).toInt64 ∧ M' = M), noX) [.ref a, .int x1] M := by
  refine ct_of [some (.ref a), some (.int x1)] rfl rfl rfl (Nat.le_of_ble_eq_true rfl) rfl rfl ?_
  refine r_aload_n (pc := 0) dX10_get_0 rfl ?_
  refine r_getR (pc := 1) dX10_get_1 fl_X10_7_10 h.1 (fun _ _ => rfl) h.2.1 ?_
  refine r_iload_n (pc := 4) dX10_get_4 rfl ?_
  refine r_iald (pc := 5) dX10_get_5 h.2.2.1 h.2.2.2.1 hin ?_
  refine r_i2l (pc := 6) dX10_get_6 ?_
  refine r_lreturn (pc := 7) rfl dX10_get_7 ⟨_, rfl, ?_⟩
  exact ⟨rfl, rfl⟩
theorem ct_X10_getX {M : PM} {a b n : Nat} (x1 : Int32) (h : rwP M 10 0 a b n) (hout : ¬ vp_in x1 n) : Ct (YX10_get, (8, 10250, 3, 222), ql (fun _ _ => False), fun q E M' => E = exA ∧ ∃ N, M.1 ≤ N ∧ M' = grow M N) [.ref a, .int x1] M := by
  refine ct_of [some (.ref a), some (.int x1)] rfl rfl rfl (Nat.le_of_ble_eq_true rfl) rfl rfl ?_
  refine r_aload_n (pc := 0) dX10_get_0 rfl ?_
  refine r_getR (pc := 1) dX10_get_1 fl_X10_7_10 h.1 (fun _ _ => rfl) h.2.1 ?_
  refine r_iload_n (pc := 4) dX10_get_4 rfl ?_
  exact r_ialdX (pc := 5) dX10_get_5 h.2.2.1 h.2.2.2.1 (by have := h.2.2.2.2; omega) hout (Nat.le_of_ble_eq_true rfl) (Nat.le_of_ble_eq_true rfl) (Nat.le_of_ble_eq_true rfl) (Nat.le_of_ble_eq_true rfl) (fun N q hN => t_out rfl ⟨rfl, N, hN, rfl⟩)
theorem ct_X10_put {M : PM} {a b n : Nat} (x1 : Int32) (x2 : Int64) (h : rwP M 10 0 a b n) (hin : vp_in x1 n) : Ct (YX10_put, (0, 0, 0, 0), qv (fun M' => M' = sI M b (Int32.toNatClampNeg x1) x2.toInt32), noX) [.ref a, .int x1, .long x2] M := by
  refine ct_of [some (.ref a), some (.int x1), some (.long x2), none] rfl rfl rfl (Nat.le_of_ble_eq_true rfl) rfl rfl ?_
  refine r_aload_n (pc := 0) dX10_put_0 rfl ?_
  refine r_getR (pc := 1) dX10_put_1 fl_X10_7_10 h.1 (fun _ _ => rfl) h.2.1 ?_
  refine r_iload_n (pc := 4) dX10_put_4 rfl ?_
  refine r_lload_n (pc := 5) dX10_put_5 rfl ?_
  refine r_l2i (pc := 6) dX10_put_6 ?_
  refine r_iast (pc := 7) dX10_put_7 h.2.2.1 h.2.2.2.1 hin ?_
  refine r_return (pc := 8) rfl dX10_put_8 ⟨rfl, ?_⟩
  rfl
theorem ct_X10_putX {M : PM} {a b n : Nat} (x1 : Int32) (x2 : Int64) (h : rwP M 10 0 a b n) (hout : ¬ vp_in x1 n) : Ct (YX10_put, (8, 10250, 3, 222), qv (fun _ => False), fun q E M' => E = exA ∧ ∃ N, M.1 ≤ N ∧ M' = grow M N) [.ref a, .int x1, .long x2] M := by
  refine ct_of [some (.ref a), some (.int x1), some (.long x2), none] rfl rfl rfl (Nat.le_of_ble_eq_true rfl) rfl rfl ?_
  refine r_aload_n (pc := 0) dX10_put_0 rfl ?_
  refine r_getR (pc := 1) dX10_put_1 fl_X10_7_10 h.1 (fun _ _ => rfl) h.2.1 ?_
  refine r_iload_n (pc := 4) dX10_put_4 rfl ?_
  refine r_lload_n (pc := 5) dX10_put_5 rfl ?_
  refine r_l2i (pc := 6) dX10_put_6 ?_
  exact r_iastX (pc := 7) dX10_put_7 h.2.2.1 h.2.2.2.1 (by have := h.2.2.2.2; omega) hout (Nat.le_of_ble_eq_true rfl) (Nat.le_of_ble_eq_true rfl) (Nat.le_of_ble_eq_true rfl) (Nat.le_of_ble_eq_true rfl) (fun N q hN => t_out rfl ⟨rfl, N, hN, rfl⟩)
theorem ct_X7_asInt_10 {M : PM} {a b n : Nat} (x1 : Int32) (h : rwP M 10 0 a b n) (hin : vp_in x1 n) : Ct (YX7_asInt, (1, 21, 0, 0), qi (fun r M' => r = ((mI M b (Int32.toNatClampNeg x1)).toInt64).toInt32 ∧ M' = M), noX) [.ref a, .int x1] M := by
  refine ct_of [some (.ref a), some (.int x1)] rfl rfl rfl (Nat.le_of_ble_eq_true rfl) rfl rfl ?_
  refine r_aload_n (pc := 0) dX7_asInt_0 rfl ?_
  refine r_iload_n (pc := 1) dX7_asInt_1 rfl ?_
  refine r_o2 (pc := 2) (bc' := 0) (bs' := 0) (ct_X10_get x1 h hin) k_X7_7_10 dX7_asInt_2 h.1 (Nat.le_of_ble_eq_true rfl) ⟨Nat.le_of_ble_eq_true rfl, Nat.le_of_ble_eq_true rfl⟩ ⟨Nat.le_of_ble_eq_true rfl, Nat.le_of_ble_eq_true rfl⟩ (r_cl fun r2 M2 p2 => ?_) nox
  obtain ⟨rfl, rfl⟩ := p2
  refine r_l2i (pc := 5) dX7_asInt_5 ?_
  refine r_ireturn (pc := 6) rfl dX7_asInt_6 ⟨_, rfl, ?_⟩
  exact ⟨rfl, rfl⟩
theorem ct_X7_init_11 {M : PM} {a : Nat} (hK : mK M a = (1, 11)) : Ct (YX7_init, (1, 20, 0, 0), qv (fun M' => M' = M), noX) [.ref a] M := by
  refine ct_of [some (.ref a)] rfl rfl rfl (Nat.le_of_ble_eq_true rfl) rfl rfl ?_
  refine r_aload_n (pc := 0) dX7_init_0 rfl ?_
  refine r_objInit (pc := 1) dX7_init_1 q443 q120 q121 (Nat.le_of_ble_eq_true rfl) (Nat.le_of_ble_eq_true rfl) ?_
  refine r_return (pc := 4) rfl dX7_init_4 ⟨rfl, ?_⟩
  rfl
theorem ct_X11_init {M : PM} {a n : Nat} (x1 : Int32) (hK : mK M a = (1, 11)) (hlt : ¬ a = M.1) (h0 : ¬ x1 < 0) (hn : Int32.toNatClampNeg x1 = n) (h9 : n ≤ 160) : Ct (YX11_init, (2, 40, 1, 160), qv (fun M' => M' = sR (nw M (2, 4) n) a 0 (some M.1)), noX) [.ref a, .int x1] M := by
  refine ct_of [some (.ref a), some (.int x1)] rfl rfl rfl (Nat.le_of_ble_eq_true rfl) rfl rfl ?_
  refine r_aload_n (pc := 0) dX11_init_0 rfl ?_
  refine r_o1 (pc := 1) (bc' := 1) (bs' := 160) (ct_X7_init_11 hK) k_X11_1_11 dX11_init_1 hK (Nat.le_of_ble_eq_true rfl) ⟨Nat.le_of_ble_eq_true rfl, Nat.le_of_ble_eq_true rfl⟩ ⟨Nat.le_of_ble_eq_true rfl, Nat.le_of_ble_eq_true rfl⟩ (r_cv fun M1 p1 => ?_) nox
  have p1 := Eq.symm (show _ = _ from p1)
  subst p1
  refine r_aload_n (pc := 4) dX11_init_4 rfl ?_
  refine r_iload_n (pc := 5) dX11_init_5 rfl ?_
  refine r_newa (t := 4) (n := n) (pc := 6) dX11_init_6 rfl rfl q479 rfl h0 hn (by show n * 8 ≤ 536870912; omega) arN4 (Nat.le_of_ble_eq_true rfl) h9 ?_
  have hK2 : mK (nw M (2, 4) n) a = (1, 11) := (if_neg hlt).trans hK
  refine r_putFR (pc := 8) dX11_init_8 fl_X11_7_11 hK2 rfl rfl rfl ?_
  refine r_return (pc := 11) rfl dX11_init_11 ⟨rfl, ?_⟩
  rfl
theorem ct_X11_sort {M : PM} {a b n : Nat} (h : rwP M 11 4 a b n) : Ct (YX11_sort, (0, 0, 0, 0), qi (fun r M' => r = 3 ∧ M' = M), noX) [.ref a] M := by
  refine ct_of [some (.ref a)] rfl rfl rfl (Nat.le_of_ble_eq_true rfl) rfl rfl ?_
  refine r_iconst (pc := 0) (v := 3) dX11_sort_0 (by decide) ?_
  refine r_ireturn (pc := 1) rfl dX11_sort_1 ⟨_, rfl, ?_⟩
  exact ⟨rfl, rfl⟩
theorem ct_X11_length {M : PM} {a b n : Nat} (h : rwP M 11 4 a b n) : Ct (YX11_length, (0, 0, 0, 0), qi (fun r M' => r = nI n ∧ M' = M), noX) [.ref a] M := by
  refine ct_of [some (.ref a)] rfl rfl rfl (Nat.le_of_ble_eq_true rfl) rfl rfl ?_
  refine r_aload_n (pc := 0) dX11_length_0 rfl ?_
  refine r_getR (pc := 1) dX11_length_1 fl_X11_7_11 h.1 (fun _ _ => rfl) h.2.1 ?_
  refine r_alen (pc := 4) dX11_length_4 h.2.2.1 h.2.2.2.1 ?_
  refine r_ireturn (pc := 5) rfl dX11_length_5 ⟨_, rfl, ?_⟩
  exact ⟨rfl, rfl⟩
theorem ct_X11_held {M : PM} {a b n : Nat} (h : rwP M 11 4 a b n) : Ct (YX11_held, (0, 0, 0, 0), qr (fun r M' => r = b ∧ M' = M), noX) [.ref a] M := by
  refine ct_of [some (.ref a)] rfl rfl rfl (Nat.le_of_ble_eq_true rfl) rfl rfl ?_
  refine r_aload_n (pc := 0) dX11_held_0 rfl ?_
  refine r_getR (pc := 1) dX11_held_1 fl_X11_7_11 h.1 (fun _ _ => rfl) h.2.1 ?_
  refine r_areturn (pc := 4) rfl (Or.inl ⟨_, rfl⟩) (Or.inr ⟨_, rfl⟩) dX11_held_4 ⟨_, rfl, ?_⟩
  exact ⟨rfl, rfl⟩
theorem ct_X11_get {M : PM} {a b n : Nat} (x1 : Int32) (h : rwP M 11 4 a b n) (hin : vp_in x1 n) : Ct (YX11_get, (0, 0, 0, 0), ql (fun r M' => r = mL M b (Int32.toNatClampNeg x1) ∧ M' = M), noX) [.ref a, .int x1] M := by
  refine ct_of [some (.ref a), some (.int x1)] rfl rfl rfl (Nat.le_of_ble_eq_true rfl) rfl rfl ?_
  refine r_aload_n (pc := 0) dX11_get_0 rfl ?_
  refine r_getR (pc := 1) dX11_get_1 fl_X11_7_11 h.1 (fun _ _ => rfl) h.2.1 ?_
  refine r_iload_n (pc := 4) dX11_get_4 rfl ?_
  refine r_lald (pc := 5) dX11_get_5 h.2.2.1 h.2.2.2.1 hin ?_
  refine r_lreturn (pc := 6) rfl dX11_get_6 ⟨_, rfl, ?_⟩
  exact ⟨rfl, rfl⟩
theorem ct_X11_getX {M : PM} {a b n : Nat} (x1 : Int32) (h : rwP M 11 4 a b n) (hout : ¬ vp_in x1 n) : Ct (YX11_get, (8, 10250, 3, 222), ql (fun _ _ => False), fun q E M' => E = exA ∧ ∃ N, M.1 ≤ N ∧ M' = grow M N) [.ref a, .int x1] M := by
  refine ct_of [some (.ref a), some (.int x1)] rfl rfl rfl (Nat.le_of_ble_eq_true rfl) rfl rfl ?_
  refine r_aload_n (pc := 0) dX11_get_0 rfl ?_
  refine r_getR (pc := 1) dX11_get_1 fl_X11_7_11 h.1 (fun _ _ => rfl) h.2.1 ?_
  refine r_iload_n (pc := 4) dX11_get_4 rfl ?_
  exact r_laldX (pc := 5) dX11_get_5 h.2.2.1 h.2.2.2.1 (by have := h.2.2.2.2; omega) hout (Nat.le_of_ble_eq_true rfl) (Nat.le_of_ble_eq_true rfl) (Nat.le_of_ble_eq_true rfl) (Nat.le_of_ble_eq_true rfl) (fun N q hN => t_out rfl ⟨rfl, N, hN, rfl⟩)
theorem ct_X11_put {M : PM} {a b n : Nat} (x1 : Int32) (x2 : Int64) (h : rwP M 11 4 a b n) (hin : vp_in x1 n) : Ct (YX11_put, (0, 0, 0, 0), qv (fun M' => M' = sL M b (Int32.toNatClampNeg x1) x2), noX) [.ref a, .int x1, .long x2] M := by
  refine ct_of [some (.ref a), some (.int x1), some (.long x2), none] rfl rfl rfl (Nat.le_of_ble_eq_true rfl) rfl rfl ?_
  refine r_aload_n (pc := 0) dX11_put_0 rfl ?_
  refine r_getR (pc := 1) dX11_put_1 fl_X11_7_11 h.1 (fun _ _ => rfl) h.2.1 ?_
  refine r_iload_n (pc := 4) dX11_put_4 rfl ?_
  refine r_lload_n (pc := 5) dX11_put_5 rfl ?_
  refine r_last (pc := 6) dX11_put_6 h.2.2.1 h.2.2.2.1 hin ?_
  refine r_return (pc := 7) rfl dX11_put_7 ⟨rfl, ?_⟩
  rfl
theorem ct_X11_putX {M : PM} {a b n : Nat} (x1 : Int32) (x2 : Int64) (h : rwP M 11 4 a b n) (hout : ¬ vp_in x1 n) : Ct (YX11_put, (8, 10250, 3, 222), qv (fun _ => False), fun q E M' => E = exA ∧ ∃ N, M.1 ≤ N ∧ M' = grow M N) [.ref a, .int x1, .long x2] M := by
  refine ct_of [some (.ref a), some (.int x1), some (.long x2), none] rfl rfl rfl (Nat.le_of_ble_eq_true rfl) rfl rfl ?_
  refine r_aload_n (pc := 0) dX11_put_0 rfl ?_
  refine r_getR (pc := 1) dX11_put_1 fl_X11_7_11 h.1 (fun _ _ => rfl) h.2.1 ?_
  refine r_iload_n (pc := 4) dX11_put_4 rfl ?_
  refine r_lload_n (pc := 5) dX11_put_5 rfl ?_
  exact r_lastX (pc := 6) dX11_put_6 h.2.2.1 h.2.2.2.1 (by have := h.2.2.2.2; omega) hout (Nat.le_of_ble_eq_true rfl) (Nat.le_of_ble_eq_true rfl) (Nat.le_of_ble_eq_true rfl) (Nat.le_of_ble_eq_true rfl) (fun N q hN => t_out rfl ⟨rfl, N, hN, rfl⟩)
theorem ct_X7_asInt_11 {M : PM} {a b n : Nat} (x1 : Int32) (h : rwP M 11 4 a b n) (hin : vp_in x1 n) : Ct (YX7_asInt, (1, 21, 0, 0), qi (fun r M' => r = (mL M b (Int32.toNatClampNeg x1)).toInt32 ∧ M' = M), noX) [.ref a, .int x1] M := by
  refine ct_of [some (.ref a), some (.int x1)] rfl rfl rfl (Nat.le_of_ble_eq_true rfl) rfl rfl ?_
  refine r_aload_n (pc := 0) dX7_asInt_0 rfl ?_
  refine r_iload_n (pc := 1) dX7_asInt_1 rfl ?_
  refine r_o2 (pc := 2) (bc' := 0) (bs' := 0) (ct_X11_get x1 h hin) k_X7_7_11 dX7_asInt_2 h.1 (Nat.le_of_ble_eq_true rfl) ⟨Nat.le_of_ble_eq_true rfl, Nat.le_of_ble_eq_true rfl⟩ ⟨Nat.le_of_ble_eq_true rfl, Nat.le_of_ble_eq_true rfl⟩ (r_cl fun r2 M2 p2 => ?_) nox
  obtain ⟨rfl, rfl⟩ := p2
  refine r_l2i (pc := 5) dX7_asInt_5 ?_
  refine r_ireturn (pc := 6) rfl dX7_asInt_6 ⟨_, rfl, ?_⟩
  exact ⟨rfl, rfl⟩
