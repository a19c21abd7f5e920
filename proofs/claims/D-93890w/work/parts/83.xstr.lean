/-! STRING CONSTANTS: length, charAt (printed by gen/mk_x83.py) -/
set_option maxRecDepth 100000
theorem Rel.st {Ω : OM} {M : PM} {H : Heap} (h : Rel Ω M H) {a i : Nat} (hk : mK M a = (3, i)) : a = Ω.2.2.2.1 i ∧ i < 6 ∧ mR M a 0 = some (Ω.2.2.2.2 i) := by
  have h1 := h.2.2.1 a
  unfold okA at h1
  rw [show M.2.1 a = (3, i) from hk] at h1
  exact h1
section
variable {G G' : GT} {bc bs bc' bs' : Nat} {M : PM} {pc : Nat} {ls : List (Option Value)} {st rest : List Value}
theorem r_ldcS {i idx : Nat} (tx : String) (hq : strX[i]? = some (idx, tx)) (hi : i < 6) (hown : (gy G).cls = RX19) (d : decode (gc G) pc = .ok (.ldc idx, 2)) (kk : ∀ a, mK M a = (3, i) → Wx G bc bs M (pc + 2) ls (.ref a :: st)) : Wx G bc bs M pc ls st := by
  intro Ω l p e s m args below meth c F H locs cells slots lsr hR hS hl h1 h2
  have hCx := F.2.2.2.2.2.2.2.1
  exact va_ldcS F.1 F.2.1 (own := RX19) (by rw [← hown]; exact F.2.2.2.2.2.1) (hCx.2.1.2.1 i _ hq) d (kk _ (hR.2.2.2 i hi) Ω l p e s m args below meth c F H locs cells slots lsr hR hS hl h1 h2)
theorem r_getV {a i : Nat} (d : decode (gc G) pc = .ok (.getfield 9, 3)) (hown : (gy G).cls = "java/lang/String") (hK : mK M a = (3, i)) (kk : ∀ b, mR M a 0 = some b → Wx G bc bs M (pc + 3) ls (.ref b :: st)) : Wx G bc bs M pc ls (.ref a :: st) := by
  intro Ω l p e s m args below meth c F H locs cells slots lsr hR hS hl h1 h2
  have hCx := F.2.2.2.2.2.2.2.1
  obtain ⟨e1, e2, e3⟩ := hR.st hK
  have kk' := kk _ e3 Ω l p e s m args below meth c F H locs cells slots lsr hR hS hl h1 h2
  subst e1
  exact vk_getf F.1 F.2.1 (hCx.2.1.1.1 i e2).2.2.1 hS (own := "java/lang/String") (by rw [← hown]; exact F.2.2.2.2.2.1) (F.2.2.2.2.2.2.1 _ q1958) (fun _ h => h) d kk'
theorem r_getCo {a i : Nat} (d : decode (gc G) pc = .ok (.getfield 15, 3)) (hown : (gy G).cls = "java/lang/String") (hK : mK M a = (3, i)) (kk : Wx G bc bs M (pc + 3) ls (.int 0 :: st)) : Wx G bc bs M pc ls (.ref a :: st) := by
  intro Ω l p e s m args below meth c F H locs cells slots lsr hR hS hl h1 h2
  have hCx := F.2.2.2.2.2.2.2.1
  obtain ⟨e1, e2, e3⟩ := hR.st hK
  have kk' := kk Ω l p e s m args below meth c F H locs cells slots lsr hR hS hl h1 h2
  subst e1
  exact vk_getf F.1 F.2.1 (hCx.2.1.1.1 i e2).2.1 hS (own := "java/lang/String") (by rw [← hown]; exact F.2.2.2.2.2.1) (F.2.2.2.2.2.2.1 _ q1959) (fun _ h => h) d kk'
theorem r_alenS {a b i : Nat} (d : decode (gc G) pc = .ok (.arraylength, 1)) (hK : mK M a = (3, i)) (hb : mR M a 0 = some b) (kk : Wx G bc bs M (pc + 1) ls (.int (nI (lenX.getD i 0)) :: st)) : Wx G bc bs M pc ls (.ref b :: st) := by
  intro Ω l p e s m args below meth c F H locs cells slots lsr hR hS hl h1 h2
  have hCx := F.2.2.2.2.2.2.2.1
  obtain ⟨e1, e2, e3⟩ := hR.st hK
  cases Option.some.inj (hb.symm.trans e3)
  exact va_tlen F.1 F.2.1 (hCx.2.1.1.1 i e2).2.2.2 hS rfl d (kk Ω l p e s m args below meth c F H locs cells slots lsr hR hS hl h1 h2)
theorem r_baldS {a b i : Nat} {x : Int32} (d : decode (gc G) pc = .ok (.baload, 1)) (hK : mK M a = (3, i)) (hb : mR M a 0 = some b) (hin : vp_in x (lenX.getD i 0)) (kk : Wx G bc bs M (pc + 1) ls (.int ((bytX.getD i []).getD x.toNatClampNeg 0) :: st)) : Wx G bc bs M pc ls (.int x :: .ref b :: st) := by
  intro Ω l p e s m args below meth c F H locs cells slots lsr hR hS hl h1 h2
  have hCx := F.2.2.2.2.2.2.2.1
  obtain ⟨e1, e2, e3⟩ := hR.st hK
  cases Option.some.inj (hb.symm.trans e3)
  exact va_tb F.1 F.2.1 (hCx.2.1.1.1 i e2).2.2.2 hS hin rfl d (kk Ω l p e s m args below meth c F H locs cells slots lsr hR hS hl h1 h2)
theorem r_getsC (d : decode (gc G) pc = .ok (.getstatic 38, 3)) (hown : (gy G).cls = "java/lang/String") (kk : Wx G bc bs M (pc + 3) ls (.int 1 :: st)) : Wx G bc bs M pc ls st := by
  intro Ω l p e s m args below meth c F H locs cells slots lsr hR hS hl h1 h2
  have hCx := F.2.2.2.2.2.2.2.1
  exact va_gets F.1 F.2.1 hCx.2.1.2.2.1 hS (own := "java/lang/String") (by rw [← hown]; exact F.2.2.2.2.2.1) (F.2.2.2.2.2.2.1 _ q982) (fun _ h => h) d (kk Ω l p e s m args below meth c F H locs cells slots lsr hR hS hl h1 h2)
theorem r_getsF (d : decode (gc G) pc = .ok (.getstatic 1053, 3)) (hown : (gy G).cls = "java/lang/String") (kk : ∀ o : Option Nat, Wx G bc bs M (pc + 3) ls (va_rf o :: st)) : Wx G bc bs M pc ls st := by
  intro Ω l p e s m args below meth c F H locs cells slots lsr hR hS hl h1 h2
  have hCx := F.2.2.2.2.2.2.2.1
  rcases hCx.2.1.2.2.2.1 with hZ | ⟨t, hZ⟩
  · exact va_gets F.1 F.2.1 hZ hS (own := "java/lang/String") (by rw [← hown]; exact F.2.2.2.2.2.1) (F.2.2.2.2.2.2.1 _ q998) (fun _ h => h) d (kk none Ω l p e s m args below meth c F H locs cells slots lsr hR hS hl h1 h2)
  · exact va_gets F.1 F.2.1 hZ hS (own := "java/lang/String") (by rw [← hown]; exact F.2.2.2.2.2.1) (F.2.2.2.2.2.2.1 _ q998) (fun _ h => h) d (kk (some t) Ω l p e s m args below meth c F H locs cells slots lsr hR hS hl h1 h2)
theorem r_i2c {x : Int32} (d : decode (gc G) pc = .ok (.i2c, 1)) (k : Wx G bc bs M (pc + 1) ls (.int (x.toUInt32 % 65536).toInt32 :: st)) : Wx G bc bs M pc ls (.int x :: st) := fun Ω l p e s m args below meth c F H locs cells slots lsr hR hS hl h1 h2 => lv_i2c F.1 F.2.1 d rfl (k Ω l p e s m args below meth c F H locs cells slots lsr hR hS hl h1 h2)
/-- a call through a String constant -/
def CsK (own : String) (ins : Instr) (n : Nat) (Y : YT) : Prop :=
  ∀ {Ω : OM} {l : Launch} {p : Program} {e : Env} {R : Room} {s : State} {m : MethodId} {args : Array Value} {below : List Frame} {meth : Method} {c : Code} {cc : ByteArray} {nL : Nat} {H : Heap} {locs : List Loc} {cells slots : Nat} {rm : Room} {mc ms : Nat} {Pc : Array Value → State → Prop} {Qc : Array Value → State → Outcome → State → Prop} {XC : Addr → String → State → State → Prop} {free : Addr → Prop} {vs rest : List Value} {pc : Nat} {lsr : Array Slot},
  CallFix p m c cc nL s args lw_all own → Cx Ω s → vx_Met l Y.1 (Y.2.1 :: lw_all) rm Pc Qc XC mc ms free → rm.cells = mc → rm.slots = ms → (rm.frames + 1 ≤ R.frames ∧ 8 + (Y.2.2.2.1 + 11) + rm.locals ≤ R.locals) →
  FrameBlind Pc → (∀ U : State, U.heap = H → s.WarmedH U.vm → Pc vs.toArray U) → vs.length = n →
  (∃ (b : Nat) (As : List Value), vs = .ref b :: As ∧ ∃ cellB : Cell, H[b]? = some cellB ∧ cellB.vm.isStatics = false ∧ s.vm.findClass "java/lang/String" = some cellB.cls) →
  lsr.size = nL → (rest.map fun v => v.category).sum ≤ 8 → decode cc pc = .ok (ins, 3) → (cells + mc ≤ R.cells ∧ slots + ms ≤ R.slots) →
  vx_Run p l e R s m args below meth c H locs cells slots mc ms (F0 m pc lsr (vs.reverse ++ rest)) rest (Qc vs.toArray) XC free
theorem cs_K {own : String} {idx n : Nat} {Y : YT} (hw : Y.2.1 = Cond.code Y.1 Y.2.2.1 Y.2.2.2.1 Y.2.2.2.2.1) (hT : GoodIn lw_all (wsV own idx "java/lang/String" Y.1 (Y.2.1 :: lw_all))) (hd : Y.1.cls = "java/lang/String" ∧ Y.1.cls ≠ "java/lang/invoke/MethodHandle" ∧ Y.1.cls ≠ "java/lang/invoke/VarHandle" ∧ (parseMethodDescriptor Y.1.desc).map (fun d => d.parameters.length) = some n) : CsK own (.invokevirtual idx) (n + 1) Y := by
  intro Ω l p e R s m args below meth c0 cc nL H locs cells slots rm mc ms Pc Qc XC free vs rest pc lsr S hCx hM hrc hrs hR hbl hPc hn hv hsz hcat d hf
  obtain ⟨b, As, rfl, hcell⟩ := hv
  rw [cs_st]
  exact vx_runV S hM (cwV n S.2.2.2.2 hT (by rw [hw]) hrc hrs hd hR) ⟨hbl, hcell, hPc⟩ rfl (Nat.succ.inj hn) hsz rfl (lv_rm hcat) d hf
theorem r_callK {ins : Instr} {n b i : Nat} {As : List Value} (hct : Ct G' (.ref b :: As) M) (hC : CsK (gy G).cls ins n G'.1) (d : decode (gc G) pc = .ok (ins, 3)) (hn : As.length + 1 = n) (hst : As.reverse ++ .ref b :: rest = st) (hK : mK M b = (3, i)) (hcat : (rest.map fun v => v.category).sum ≤ 8) (hroom : gF G' + 1 ≤ gF G ∧ 8 + (gn G' + 11) + gO G' ≤ gO G) (hb : bc' + gC G' ≤ bc ∧ bs' + gS G' ≤ bs)
    (kk : ∀ v M', gQ G' v M' → Wx G bc' bs' M' (pc + 3) ls (v.toList ++ rest)) (kx : ∀ q E M', gX G' q E M' → Tx G bc' bs' M' pc ls q E) : Wx G bc bs M pc ls st := by
  intro Ω l p e s m args below meth c F H locs cells slots lsr hR hS hl h1 h2
  obtain ⟨hx, hc, -, -, hml, hown, hts, hCx, -, hfl, -⟩ := id F
  have hst' : (Value.ref b :: As).reverse ++ rest = st := by rw [cs_st]; exact hst
  subst hst'
  obtain ⟨e1, e2, -⟩ := hR.st hK
  have hr := hC (Ω := Ω) (R := gR G) (e := e) (below := below) (meth := meth) (H := H) (locs := locs) (cells := cells) (slots := slots) (vs := .ref b :: As) (rest := rest) (pc := pc) (lsr := lsr) ⟨hx, hc, hml, hown, hts⟩ hCx (hct Ω l hfl) rfl rfl hroom
    (fun a U g mk h => ⟨h.1, h.2.1, h.2.2.blind g mk a⟩) (fun U hU hW => ⟨rfl, by rw [hU]; exact hR, hCx.moved hS hU hW⟩) hn
    ⟨b, As, rfl, by rw [e1]; exact vk_recv hCx.2.1.1 e2 hS⟩ hl.1.1 hcat d ⟨by show cells + gC G' ≤ gC G; omega, by show slots + gS G' ≤ gS G; omega⟩
  intro T hT X
  have hA : ∀ q, q < H.size → Fr Ω q → Fr Ω q := fun _ _ h => h
  rcases hr T hT X with ⟨v, st₀, t, T', L, h0, X', hL, e1, e2, ⟨⟨v', M', hv, hq, hRel⟩, hF⟩, st⟩ | ⟨q, st₀, t, T', L, E, ce, h0, X', hL, e1, e2, ⟨⟨M', hq, hRel⟩, hF⟩, hce, hcv, hcl, st⟩
  · cases hv
    obtain ⟨k1, k2, k3⟩ := vx_keep h0 e1 hS hA (fun _ h => h) hL hF
    obtain ⟨t2, a1, b1⟩ := kk v M' hq Ω l p e s m args below meth c F T'.heap (locs ++ L) (cells + gC G') (slots + gS G') lsr (by rw [e1]; exact hRel) k3 hl (by omega) (by omega) T' rfl X'
    exact ⟨t2, st t2 a1, b1⟩
  · obtain ⟨k1, k2, k3⟩ := vx_keep h0 e1 hS hA (fun _ h => h) hL hF
    obtain ⟨t2, a1, b1⟩ := kx q E M' hq Ω l p e s m args below meth c F T'.heap (locs ++ L) (cells + gC G') (slots + gS G') lsr rest ce (by rw [e1]; exact hRel) k3 hl (by omega) (by omega) (by rw [e1]; exact hce) hcv hcl T' rfl X'
    exact ⟨t2, st.trans a1, b1⟩
end
theorem kS_X19_46 : CsK "NoFartherThanAThrow$Reader" (.invokevirtual 46) 1 YJ5_length := cs_K (Y := YJ5_length) rfl (lw_V q974 q975 q976 q90 q977) ⟨by decide +kernel, by decide +kernel, by decide +kernel, by decide +kernel⟩
theorem kS_X19_49 : CsK "NoFartherThanAThrow$Reader" (.invokevirtual 49) 2 YJ5_charAt := cs_K (Y := YJ5_charAt) rfl (lw_V q984 q985 q986 q90 q987) ⟨by decide +kernel, by decide +kernel, by decide +kernel, by decide +kernel⟩
theorem kS_J5_335 : CsK "java/lang/String" (.invokevirtual 335) 1 YJ5_coder := cs_K (Y := YJ5_coder) rfl (lw_V q978 q979 q980 q90 q981) ⟨by decide +kernel, by decide +kernel, by decide +kernel, by decide +kernel⟩
theorem kS_J5_492 : CsK "java/lang/String" (.invokevirtual 492) 1 YJ5_isLatin1 := cs_K (Y := YJ5_isLatin1) rfl (lw_V q988 q989 q990 q90 q991) ⟨by decide +kernel, by decide +kernel, by decide +kernel, by decide +kernel⟩
theorem kS_J5_495 : Cs "java/lang/String" (.invokestatic 495) 2 none YJ9_charAt := cs_S (Y := YJ9_charAt) rfl (lw_S q992 q993 q109 q994) ⟨by decide +kernel, by decide +kernel, by decide +kernel⟩
theorem kS_J9_9 : Cs "java/lang/StringLatin1" (.invokestatic 9) 2 none YJ5_checkIndex := cs_S (Y := YJ5_checkIndex) rfl (lw_S q995 q996 q90 q997) ⟨by decide +kernel, by decide +kernel, by decide +kernel⟩
theorem kS_J5_1059 : Cs "java/lang/String" (.invokestatic 1059) 3 none YJ10_checkIndex := cs_S (Y := YJ10_checkIndex) rfl (lw_S q1000 q1001 q110 q1002) ⟨by decide +kernel, by decide +kernel, by decide +kernel⟩
theorem ct_J5_coder {M : PM} {a i : Nat} (hK : mK M a = (3, i)) : Ct (YJ5_coder, (0, 0, 0, 0), qi (fun r M' => r = 0 ∧ M' = M), noX) [.ref a] M := by
  refine ct_of [some (.ref a)] rfl rfl rfl (Nat.le_of_ble_eq_true rfl) rfl rfl ?_
  refine r_getsC (pc := 0) dJ5_coder_0 rfl ?_
  refine r_if_eq (pc := 3) 13 dJ5_coder_3 rfl (fun hno => absurd hno (by decide)) (fun _ => ?_)
  refine r_aload_n (pc := 6) dJ5_coder_6 rfl ?_
  refine r_getCo (pc := 7) dJ5_coder_7 rfl hK ?_
  refine r_goto (pc := 10) 14 dJ5_coder_10 rfl ?_
  refine r_zreturn (pc := 14) rfl rfl dJ5_coder_14 ⟨_, rfl, ?_⟩
  exact ⟨rfl, rfl⟩
theorem ct_J5_isLatin1 {M : PM} {a i : Nat} (hK : mK M a = (3, i)) : Ct (YJ5_isLatin1, (0, 0, 0, 0), qi (fun r M' => r = 1 ∧ M' = M), noX) [.ref a] M := by
  refine ct_of [some (.ref a)] rfl rfl rfl (Nat.le_of_ble_eq_true rfl) rfl rfl ?_
  refine r_getsC (pc := 0) dJ5_isLatin1_0 rfl ?_
  refine r_if_eq (pc := 3) 17 dJ5_isLatin1_3 rfl (fun hno => absurd hno (by decide)) (fun _ => ?_)
  refine r_aload_n (pc := 6) dJ5_isLatin1_6 rfl ?_
  refine r_getCo (pc := 7) dJ5_isLatin1_7 rfl hK ?_
  refine r_if_ne (pc := 10) 17 dJ5_isLatin1_10 rfl (fun hno => absurd hno (by decide)) (fun _ => ?_)
  refine r_iconst (pc := 13) (v := 1) dJ5_isLatin1_13 (by decide) ?_
  refine r_goto (pc := 14) 18 dJ5_isLatin1_14 rfl ?_
  refine r_zreturn (pc := 18) rfl rfl dJ5_isLatin1_18 ⟨_, rfl, ?_⟩
  exact ⟨rfl, rfl⟩
theorem ct_J5_length {M : PM} {a i : Nat} (hK : mK M a = (3, i)) (hi : i < 6) : Ct (YJ5_length, (1, 20, 0, 0), qi (fun r M' => r = nI (lenX.getD i 0) ∧ M' = M), noX) [.ref a] M := by
  refine ct_of [some (.ref a)] rfl rfl rfl (Nat.le_of_ble_eq_true rfl) rfl rfl ?_
  refine r_aload_n (pc := 0) dJ5_length_0 rfl ?_
  refine r_getV (pc := 1) dJ5_length_1 rfl hK (fun b hb => ?_)
  refine r_alenS (pc := 4) dJ5_length_4 hK hb ?_
  refine r_aload_n (pc := 5) dJ5_length_5 rfl ?_
  refine r_callK (As := []) (pc := 6) (bc' := 0) (bs' := 0) (ct_J5_coder hK) kS_J5_335 dJ5_length_6 rfl rfl hK (Nat.le_of_ble_eq_true rfl) ⟨Nat.le_of_ble_eq_true rfl, Nat.le_of_ble_eq_true rfl⟩ ⟨Nat.le_of_ble_eq_true rfl, Nat.le_of_ble_eq_true rfl⟩ (r_ci fun r6 M6 p6 => ?_) nox
  obtain ⟨rfl, rfl⟩ := p6
  refine r_ishr (pc := 9) dJ5_length_9 ?_
  refine r_ireturn (pc := 10) rfl dJ5_length_10 ⟨_, rfl, ?_⟩
  refine ⟨?_, rfl⟩
  clear hK
  revert i
  decide
theorem ct_J10_checkIndex_r {M : PM} {t : Nat} (x1 x2 : Int32) (h0 : ¬ x1 < 0) (h1 : x1 < x2) : Ct (YJ10_checkIndex, (0, 0, 0, 0), qi (fun r M' => M' = M), noX) [.int x1, .int x2, .ref t] M := by
  refine ct_of [some (.int x1), some (.int x2), some (.ref t)] rfl rfl rfl (Nat.le_of_ble_eq_true rfl) rfl rfl ?_
  refine r_iload_n (pc := 0) dJ10_checkIndex_0 rfl ?_
  refine r_if_lt (pc := 1) 9 dJ10_checkIndex_1 rfl (fun hno => False.elim (h0 hno)) (fun _ => ?_)
  refine r_iload_n (pc := 4) dJ10_checkIndex_4 rfl ?_
  refine r_iload_n (pc := 5) dJ10_checkIndex_5 rfl ?_
  refine r_icmp_lt (pc := 6) 16 dJ10_checkIndex_6 rfl (fun _ => ?_) (fun hno => False.elim (hno h1))
  refine r_iload_n (pc := 16) dJ10_checkIndex_16 rfl ?_
  refine r_ireturn (pc := 17) rfl dJ10_checkIndex_17 ⟨_, rfl, ?_⟩
  rfl
theorem ct_J10_checkIndex_n {M : PM} (x1 x2 : Int32) (h0 : ¬ x1 < 0) (h1 : x1 < x2) : Ct (YJ10_checkIndex, (0, 0, 0, 0), qi (fun r M' => M' = M), noX) [.int x1, .int x2, .null] M := by
  refine ct_of [some (.int x1), some (.int x2), some .null] rfl rfl rfl (Nat.le_of_ble_eq_true rfl) rfl rfl ?_
  refine r_iload_n (pc := 0) dJ10_checkIndex_0 rfl ?_
  refine r_if_lt (pc := 1) 9 dJ10_checkIndex_1 rfl (fun hno => False.elim (h0 hno)) (fun _ => ?_)
  refine r_iload_n (pc := 4) dJ10_checkIndex_4 rfl ?_
  refine r_iload_n (pc := 5) dJ10_checkIndex_5 rfl ?_
  refine r_icmp_lt (pc := 6) 16 dJ10_checkIndex_6 rfl (fun _ => ?_) (fun hno => False.elim (hno h1))
  refine r_iload_n (pc := 16) dJ10_checkIndex_16 rfl ?_
  refine r_ireturn (pc := 17) rfl dJ10_checkIndex_17 ⟨_, rfl, ?_⟩
  rfl
theorem ct_J5_checkIndex {M : PM} (x1 x2 : Int32) (h0 : ¬ x1 < 0) (h1 : x1 < x2) : Ct (YJ5_checkIndex, (1, 22, 0, 0), qv (fun M' => M' = M), noX) [.int x1, .int x2] M := by
  refine ct_of [some (.int x1), some (.int x2)] rfl rfl rfl (Nat.le_of_ble_eq_true rfl) rfl rfl ?_
  refine r_iload_n (pc := 0) dJ5_checkIndex_0 rfl ?_
  refine r_iload_n (pc := 1) dJ5_checkIndex_1 rfl ?_
  refine r_getsF (pc := 2) dJ5_checkIndex_2 rfl (fun o => ?_)
  cases o with
  | none =>
    refine r_s3 (pc := 5) (bc' := 0) (bs' := 0) (ct_J10_checkIndex_n x1 x2 h0 h1) kS_J5_1059 dJ5_checkIndex_5 (Nat.le_of_ble_eq_true rfl) ⟨Nat.le_of_ble_eq_true rfl, Nat.le_of_ble_eq_true rfl⟩ ⟨Nat.le_of_ble_eq_true rfl, Nat.le_of_ble_eq_true rfl⟩ (r_ci fun r5 M5 p5 => ?_) nox
    have p5 : _ = _ := p5
    subst p5
    refine r_pop (pc := 8) dJ5_checkIndex_8 rfl ?_
    refine r_return (pc := 9) rfl dJ5_checkIndex_9 ⟨rfl, ?_⟩
    rfl
  | some t =>
    refine r_s3 (pc := 5) (bc' := 0) (bs' := 0) (ct_J10_checkIndex_r x1 x2 h0 h1) kS_J5_1059 dJ5_checkIndex_5 (Nat.le_of_ble_eq_true rfl) ⟨Nat.le_of_ble_eq_true rfl, Nat.le_of_ble_eq_true rfl⟩ ⟨Nat.le_of_ble_eq_true rfl, Nat.le_of_ble_eq_true rfl⟩ (r_ci fun r5 M5 p5 => ?_) nox
    have p5 : _ = _ := p5
    subst p5
    refine r_pop (pc := 8) dJ5_checkIndex_8 rfl ?_
    refine r_return (pc := 9) rfl dJ5_checkIndex_9 ⟨rfl, ?_⟩
    rfl
theorem by_ok : ∀ i, i < 6 → ∀ j, j < lenX.getD i 0 → ((((bytX.getD i []).getD j 0 &&& 255).toUInt32 % 65536).toInt32 = (bytX.getD i []).getD j 0 ∧ narrow .char (.int ((((bytX.getD i []).getD j 0 &&& 255).toUInt32 % 65536).toInt32)) = .int ((((bytX.getD i []).getD j 0 &&& 255).toUInt32 % 65536).toInt32)) := by decide +kernel
theorem ix_len {i : Nat} (hi : i < 6) {x : Int32} (h : vp_in x (lenX.getD i 0)) : ¬ x < 0 ∧ x < nI (lenX.getD i 0) ∧ Int32.toNatClampNeg x < lenX.getD i 0 := by
  have hl : ∀ i, i < 6 → lenX.getD i 0 < 6 := by decide
  have h6 := hl i hi
  have h1 : ¬ x < 0 := fun q => h (Or.inl q)
  have h2 := vp_in_lt h
  refine ⟨h1, ?_, h2⟩
  rw [i_lt, nI_toInt (by omega)]
  rw [i_lt, show (0 : Int32).toInt = 0 by decide] at h1
  have := ix_toInt (t := x) (by omega)
  omega
theorem by_nar {i : Nat} (hi : i < 6) {j : Nat} (h : j < lenX.getD i 0) : narrow .char (.int ((bytX.getD i []).getD j 0)) = .int ((bytX.getD i []).getD j 0) := by
  have := by_ok i hi j h
  rw [this.1] at this
  exact this.2
theorem ct_J9_charAt {M : PM} {a i b : Nat} (hK : mK M a = (3, i)) (hb : mR M a 0 = some b) (hi : i < 6) (x1 : Int32) (hin : vp_in x1 (lenX.getD i 0)) : Ct (YJ9_charAt, (2, 43, 0, 0), qi (fun r M' => r = (bytX.getD i []).getD (Int32.toNatClampNeg x1) 0 ∧ M' = M), noX) [.ref b, .int x1] M := by
  refine ct_of [some (.ref b), some (.int x1)] rfl rfl rfl (Nat.le_of_ble_eq_true rfl) rfl rfl ?_
  refine r_iload_n (pc := 0) dJ9_charAt_0 rfl ?_
  refine r_aload_n (pc := 1) dJ9_charAt_1 rfl ?_
  refine r_alenS (pc := 2) dJ9_charAt_2 hK hb ?_
  refine r_s2 (pc := 3) (bc' := 0) (bs' := 0) (ct_J5_checkIndex x1 (nI (lenX.getD i 0)) (ix_len hi hin).1 (ix_len hi hin).2.1) kS_J9_9 dJ9_charAt_3 (Nat.le_of_ble_eq_true rfl) ⟨Nat.le_of_ble_eq_true rfl, Nat.le_of_ble_eq_true rfl⟩ ⟨Nat.le_of_ble_eq_true rfl, Nat.le_of_ble_eq_true rfl⟩ (r_cv fun M3 p3 => ?_) nox
  have p3 : _ = _ := p3
  subst p3
  refine r_aload_n (pc := 6) dJ9_charAt_6 rfl ?_
  refine r_iload_n (pc := 7) dJ9_charAt_7 rfl ?_
  refine r_baldS (pc := 8) dJ9_charAt_8 hK hb hin ?_
  refine r_sipush (pc := 9) (v := 255) dJ9_charAt_9 (by decide) ?_
  refine r_iand (pc := 12) dJ9_charAt_12 ?_
  refine r_i2c (pc := 13) dJ9_charAt_13 ?_
  refine r_zreturn (pc := 14) rfl (by_ok i hi _ (ix_len hi hin).2.2).2 dJ9_charAt_14 ⟨_, rfl, ?_⟩
  exact ⟨(by_ok i hi _ (ix_len hi hin).2.2).1, rfl⟩
theorem ct_J5_charAt {M : PM} {a i : Nat} (hK : mK M a = (3, i)) (hi : i < 6) (x1 : Int32) (hin : vp_in x1 (lenX.getD i 0)) : Ct (YJ5_charAt, (3, 64, 0, 0), qi (fun r M' => r = (bytX.getD i []).getD (Int32.toNatClampNeg x1) 0 ∧ M' = M), noX) [.ref a, .int x1] M := by
  refine ct_of [some (.ref a), some (.int x1)] rfl rfl rfl (Nat.le_of_ble_eq_true rfl) rfl rfl ?_
  refine r_aload_n (pc := 0) dJ5_charAt_0 rfl ?_
  refine r_callK (As := []) (pc := 1) (bc' := 0) (bs' := 0) (ct_J5_isLatin1 hK) kS_J5_492 dJ5_charAt_1 rfl rfl hK (Nat.le_of_ble_eq_true rfl) ⟨Nat.le_of_ble_eq_true rfl, Nat.le_of_ble_eq_true rfl⟩ ⟨Nat.le_of_ble_eq_true rfl, Nat.le_of_ble_eq_true rfl⟩ (r_ci fun r1 M1 p1 => ?_) nox
  obtain ⟨rfl, rfl⟩ := p1
  refine r_if_eq (pc := 4) 16 dJ5_charAt_4 rfl (fun hno => absurd hno (by decide)) (fun _ => ?_)
  refine r_aload_n (pc := 7) dJ5_charAt_7 rfl ?_
  refine r_getV (pc := 8) dJ5_charAt_8 rfl hK (fun b hb => ?_)
  refine r_iload_n (pc := 11) dJ5_charAt_11 rfl ?_
  refine r_s2 (pc := 12) (bc' := 0) (bs' := 0) (ct_J9_charAt hK hb hi x1 hin) kS_J5_495 dJ5_charAt_12 (Nat.le_of_ble_eq_true rfl) ⟨Nat.le_of_ble_eq_true rfl, Nat.le_of_ble_eq_true rfl⟩ ⟨Nat.le_of_ble_eq_true rfl, Nat.le_of_ble_eq_true rfl⟩ (r_ci fun r12 M12 p12 => ?_) nox
  obtain ⟨rfl, rfl⟩ := p12
  refine r_zreturn (pc := 15) rfl (by_nar hi (ix_len hi hin).2.2) dJ5_charAt_15 ⟨_, rfl, ?_⟩
  exact ⟨rfl, rfl⟩
