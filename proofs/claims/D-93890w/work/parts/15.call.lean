/-! RULES: calls and throws (printed by gen/mk_call.py) -/
set_option maxRecDepth 100000
abbrev YT : Type := MethodName × Cond × ByteArray × Nat × Option FieldType × List (Nat × Nat × Nat × Nat)
/-- own's instruction ins calls the method Y with n values (the receiver, of class rc, first) -/
def Cs (own : String) (ins : Instr) (n : Nat) (rc : Option Nat) (Y : YT) : Prop :=
  ∀ {Ω : OM} {l : Launch} {p : Program} {e : Env} {R : Room} {s : State} {m : MethodId} {args : Array Value} {below : List Frame} {meth : Method} {c : Code} {cc : ByteArray} {nL : Nat} {H : Heap} {locs : List Loc} {cells slots : Nat} {rm : Room} {mc ms : Nat} {Pc : Array Value → State → Prop} {Qc : Array Value → State → Outcome → State → Prop} {XC : Addr → String → State → State → Prop} {free : Addr → Prop} {vs rest : List Value} {pc : Nat} {lsr : Array Slot},
  CallFix p m c cc nL s args lw_all own → Cx Ω s → vx_Met l Y.1 (Y.2.1 :: lw_all) rm Pc Qc XC mc ms free → rm.cells = mc → rm.slots = ms → (rm.frames + 1 ≤ R.frames ∧ 8 + (Y.2.2.2.1 + 11) + rm.locals ≤ R.locals) →
  FrameBlind Pc → (∀ U : State, U.heap = H → s.WarmedH U.vm → Pc vs.toArray U) → vs.length = n →
  (∀ c, rc = some c → ∃ (b : Nat) (As : List Value) (q : vw_C), vs = .ref b :: As ∧ clX[c]? = some q ∧ ∃ cellB : Cell, H[b]? = some cellB ∧ cellB.vm.isStatics = false ∧ s.vm.findClass q.1 = some cellB.cls) →
  lsr.size = nL → (rest.map fun v => v.category).sum ≤ 8 → decode cc pc = .ok (ins, 3) → (cells + mc ≤ R.cells ∧ slots + ms ≤ R.slots) →
  vx_Run p l e R s m args below meth c H locs cells slots mc ms (F0 m pc lsr (vs.reverse ++ rest)) rest (Qc vs.toArray) XC free
theorem cs_len {d : String} {n : Nat} (h : (parseMethodDescriptor d).map (fun d => d.parameters.length) = some n) : ∀ sig, parseMethodDescriptor d = some sig → n = sig.parameters.length := by
  intro sig hs
  rw [hs] at h
  exact (Option.some.inj h).symm
theorem cs_st {b : Nat} {As rest : List Value} : (Value.ref b :: As).reverse ++ rest = As.reverse ++ .ref b :: rest := by simp
theorem lv_rm {m : MethodId} {pc : Nat} {ls : Array Slot} {st rest : List Value} (h : (rest.map fun v => v.category).sum ≤ 8) : 2 * (F0 m pc ls st).monitorRoom + (rest.map fun v => v.category).sum ≤ 8 := lv_room h
section
variable {own : String} {idx n c : Nat} {Y : YT}
theorem cs_V (q : vw_C) (hq : clX[c]? = some q) (hw : Y.2.1 = Cond.code Y.1 Y.2.2.1 Y.2.2.2.1 Y.2.2.2.2.1) (hT : GoodIn lw_all (wsV own idx q.1 Y.1 (Y.2.1 :: lw_all))) (hd : Y.1.cls = q.1 ∧ Y.1.cls ≠ "java/lang/invoke/MethodHandle" ∧ Y.1.cls ≠ "java/lang/invoke/VarHandle" ∧ (parseMethodDescriptor Y.1.desc).map (fun d => d.parameters.length) = some n) : Cs own (.invokevirtual idx) (n + 1) (some c) Y := by
  intro Ω l p e R s m args below meth c0 cc nL H locs cells slots rm mc ms Pc Qc XC free vs rest pc lsr S hCx hM hrc hrs hR hbl hPc hn hv hsz hcat d hf
  obtain ⟨b, As, q', rfl, hq', hcell⟩ := hv c rfl
  cases hq.symm.trans hq'
  rw [cs_st]
  exact vx_runV S hM (cwV n S.2.2.2.2 hT (by rw [hw]) hrc hrs hd hR) ⟨hbl, hcell, hPc⟩ rfl (Nat.succ.inj hn) hsz rfl (lv_rm hcat) d hf
theorem cs_VW (q : vw_C) (hq : clX[c]? = some q) (hw : Y.2.1 = Cond.codeWith Y.1 Y.2.2.1 Y.2.2.2.1 Y.2.2.2.2.1 Y.2.2.2.2.2) (hT : GoodIn lw_all (wsV own idx q.1 Y.1 (Y.2.1 :: lw_all))) (hd : Y.1.cls = q.1 ∧ Y.1.cls ≠ "java/lang/invoke/MethodHandle" ∧ Y.1.cls ≠ "java/lang/invoke/VarHandle" ∧ (parseMethodDescriptor Y.1.desc).map (fun d => d.parameters.length) = some n) : Cs own (.invokevirtual idx) (n + 1) (some c) Y := by
  intro Ω l p e R s m args below meth c0 cc nL H locs cells slots rm mc ms Pc Qc XC free vs rest pc lsr S hCx hM hrc hrs hR hbl hPc hn hv hsz hcat d hf
  obtain ⟨b, As, q', rfl, hq', hcell⟩ := hv c rfl
  cases hq.symm.trans hq'
  rw [cs_st]
  exact vx_runVX (hh := Y.2.2.2.2.2) S hM (vx_cwVW n S.2.2.2.2 hT (by rw [hw]) hrc hrs hd hR) ⟨hbl, hcell, hPc⟩ rfl (Nat.succ.inj hn) hsz rfl (lv_rm hcat) d hf
theorem cs_S (hw : Y.2.1 = Cond.code Y.1 Y.2.2.1 Y.2.2.2.1 Y.2.2.2.2.1) (hT : GoodIn lw_all (va_wsS own idx Y.1 (Y.2.1 :: lw_all))) (hd : Y.1.cls ≠ "java/lang/invoke/MethodHandle" ∧ Y.1.cls ≠ "java/lang/invoke/VarHandle" ∧ (parseMethodDescriptor Y.1.desc).map (fun d => d.parameters.length) = some n) : Cs own (.invokestatic idx) n none Y := by
  intro Ω l p e R s m args below meth c0 cc nL H locs cells slots rm mc ms Pc Qc XC free vs rest pc lsr S hCx hM hrc hrs hR hbl hPc hn hv hsz hcat d hf
  exact vx_runS S hM (va_cwS n S.2.2.2.2 hT (by rw [hw]) hrc hrs hd hR) ⟨hbl, hPc⟩ rfl hn hsz rfl (lv_rm hcat) d hf
theorem cs_SW (hw : Y.2.1 = Cond.codeWith Y.1 Y.2.2.1 Y.2.2.2.1 Y.2.2.2.2.1 Y.2.2.2.2.2) (hT : GoodIn lw_all (va_wsS own idx Y.1 (Y.2.1 :: lw_all))) (hd : Y.1.cls ≠ "java/lang/invoke/MethodHandle" ∧ Y.1.cls ≠ "java/lang/invoke/VarHandle" ∧ (parseMethodDescriptor Y.1.desc).map (fun d => d.parameters.length) = some n) : Cs own (.invokestatic idx) n none Y := by
  intro Ω l p e R s m args below meth c0 cc nL H locs cells slots rm mc ms Pc Qc XC free vs rest pc lsr S hCx hM hrc hrs hR hbl hPc hn hv hsz hcat d hf
  exact vx_runSX (hh := Y.2.2.2.2.2) S hM (vx_cwSW n S.2.2.2.2 hT (by rw [hw]) hrc hrs hd hR) ⟨hbl, hPc⟩ rfl hn hsz rfl (lv_rm hcat) d hf
theorem cs_I (hw : Y.2.1 = Cond.code Y.1 Y.2.2.1 Y.2.2.2.1 none) (hG : Y.2.1 ∈ lw_all) (hini : Cond.initialized Y.1.cls ∈ lw_all) (hl : Cond.methodLink own idx Y.1 ∈ lw_all) (hin : Cond.instanceMethod Y.1 ∈ lw_all) (hd : Y.1.name = "<init>" ∧ Y.1.cls ≠ "java/lang/invoke/MethodHandle" ∧ Y.1.cls ≠ "java/lang/invoke/VarHandle" ∧ (parseMethodDescriptor Y.1.desc).map (fun d => d.parameters.length) = some n) : Cs own (.invokespecial idx) (n + 1) (some c) Y := by
  intro Ω l p e R s m args below meth c0 cc nL H locs cells slots rm mc ms Pc Qc XC free vs rest pc lsr S hCx hM hrc hrs hR hbl hPc hn hv hsz hcat d hf
  obtain ⟨b, As, q', rfl, hq', hcell⟩ := hv c rfl
  rw [cs_st]
  have hts := S.2.2.2.2
  have hGd : GoodIn lw_all (Y.2.1 :: lw_all) := by
    intro w hw'
    rcases List.mem_cons.mp hw' with e1 | e1
    · rw [e1]; exact lw_self _ hG
    · exact lw_self _ e1
  exact vx_runI S hM (cwI n hts hGd (by rw [hw]) hrc hrs (hts _ hini) (hts _ hl) (hts _ hin) hd.1 hd.2 hR) ⟨hbl, hPc⟩ rfl (Nat.succ.inj hn) hsz rfl (lv_rm hcat) d hf
theorem cs_IN (host : String) (hw : Y.2.1 = Cond.code Y.1 Y.2.2.1 Y.2.2.2.1 none) (hG : Y.2.1 ∈ lw_all) (hini : Cond.initialized Y.1.cls ∈ lw_all) (hl : Cond.methodLinkNest own idx Y.1 host ∈ lw_tbl) (hin : Cond.instanceMethod Y.1 ∈ lw_all) (hd : Y.1.name = "<init>" ∧ Y.1.cls ≠ "java/lang/invoke/MethodHandle" ∧ Y.1.cls ≠ "java/lang/invoke/VarHandle" ∧ (parseMethodDescriptor Y.1.desc).map (fun d => d.parameters.length) = some n) : Cs own (.invokespecial idx) (n + 1) (some c) Y := by
  intro Ω l p e R s m args below meth c0 cc nL H locs cells slots rm mc ms Pc Qc XC free vs rest pc lsr S hCx hM hrc hrs hR hbl hPc hn hv hsz hcat d hf
  obtain ⟨b, As, q', rfl, hq', hcell⟩ := hv c rfl
  rw [cs_st]
  have hts := S.2.2.2.2
  have hGd : GoodIn lw_all (Y.2.1 :: lw_all) := by
    intro w hw'
    rcases List.mem_cons.mp hw' with e1 | e1
    · rw [e1]; exact lw_self _ hG
    · exact lw_self _ e1
  exact vx_runIN S hM ⟨va_cnB n hts hGd (by rw [hw]) hrc hrs (hCx.2.2.2.1 _ hl rfl) (hts _ hini) hd.2 hR, hd.1, hts _ hin⟩ ⟨hbl, hPc⟩ rfl (Nat.succ.inj hn) hsz rfl (lv_rm hcat) d hf
/-- through an object whose class C selects Y where the reference names x, declared by owner -/
theorem cs_U (q : vw_C) (owner : String) (x : MethodName) (hq : clX[c]? = some q) (hw : Y.2.1 = Cond.code Y.1 Y.2.2.1 Y.2.2.2.1 Y.2.2.2.2.1) (h1 : Cond.methodLink own idx x ∈ lw_all) (h2 : Cond.sameMethod x.cls owner x.name x.desc ∈ lw_all) (h3 : Cond.declares ⟨owner, x.name, x.desc⟩ ∈ lw_tbl ∨ ∃ b L r, Cond.instanceMethod ⟨owner, x.name, x.desc⟩ ∈ lw_all ∧ Cond.code ⟨owner, x.name, x.desc⟩ b L r ∈ lw_all) (h4 : Cond.selects q.1 x Y.1 ∈ lw_all) (h5 : Cond.instanceMethod Y.1 ∈ lw_all) (h6 : Cond.initialized Y.1.cls ∈ lw_all) (hG : Y.2.1 ∈ lw_all) (hd : owner ≠ "java/lang/invoke/MethodHandle" ∧ owner ≠ "java/lang/invoke/VarHandle" ∧ (parseMethodDescriptor x.desc).map (fun d => d.parameters.length) = some n) : Cs own (.invokevirtual idx) (n + 1) (some c) Y := by
  intro Ω l p e R s m args below meth c0 cc nL H locs cells slots rm mc ms Pc Qc XC free vs rest pc lsr S hCx hM hrc hrs hR hbl hPc hn hv hsz hcat d hf
  obtain ⟨b, As, q', rfl, hq', hcell⟩ := hv c rfl
  cases hq.symm.trans hq'
  rw [cs_st]
  have hts := S.2.2.2.2
  have hGd : GoodIn lw_all (Y.2.1 :: lw_all) := by
    intro w hw'
    rcases List.mem_cons.mp hw' with e1 | e1
    · rw [e1]; exact lw_self _ hG
    · exact lw_self _ e1
  have hDecl : va_Decl s ⟨owner, x.name, x.desc⟩ := by
    rcases h3 with h3 | ⟨b0, L0, r0, h3, h3'⟩
    · exact va_Decl.abs (hCx.2.2.2.1 _ h3 rfl)
    · exact va_Decl.of (hts _ h3) (hts _ h3')
  have hc : Cond.code Y.1 Y.2.2.1 Y.2.2.2.1 Y.2.2.2.2.1 ∈ Y.2.1 :: lw_all := by rw [← hw]; exact List.mem_cons_self
  exact vx_runU S hM ⟨⟨hrc, hrs, hR.1, hR.2, pay_in hts hGd, hc⟩, hts _ (by rw [← hw]; exact hG), hts _ h6, ⟨hd.1, hd.2.1⟩, cs_len hd.2.2, hts _ h1, hts _ h2, hDecl, hts _ h4, hts _ h5⟩ ⟨hbl, hcell, hPc⟩ rfl (Nat.succ.inj hn) hsz rfl (lv_rm hcat) d hf
/-- super.y(..) -/
theorem cs_SU (q : vw_C) (hq : clX[c]? = some q) (hw : Y.2.1 = Cond.code Y.1 Y.2.2.1 Y.2.2.2.1 Y.2.2.2.2.1) (hT : GoodIn lw_all (va_wsSU own idx Y.1 (Y.2.1 :: lw_all))) (hd : Y.1.name ≠ "<init>" ∧ (parseMethodDescriptor Y.1.desc).map (fun d => d.parameters.length) = some n) : Cs own (.invokespecial idx) (n + 1) (some c) Y := by
  intro Ω l p e R s m args below meth c0 cc nL H locs cells slots rm mc ms Pc Qc XC free vs rest pc lsr S hCx hM hrc hrs hR hbl hPc hn hv hsz hcat d hf
  obtain ⟨b, As, q', rfl, hq', hcell⟩ := hv c rfl
  cases hq.symm.trans hq'
  rw [cs_st]
  exact vx_runSU (hCx.1.1 c q hq).2 S hM (va_cwSU n S.2.2.2.2 hT (by rw [hw]) hrc hrs hd hR) ⟨hbl, hcell, hPc⟩ rfl (Nat.succ.inj hn) hsz rfl (lv_rm hcat) d hf
end
/-! what a contract says of the answer -/
def qi (post : Int32 → PM → Prop) : Option Value → PM → Prop := fun v M => ∃ r, v = some (.int r) ∧ post r M
def ql (post : Int64 → PM → Prop) : Option Value → PM → Prop := fun v M => ∃ r, v = some (.long r) ∧ post r M
def qv (post : PM → Prop) : Option Value → PM → Prop := fun v M => v = none ∧ post M
def qr (post : Nat → PM → Prop) : Option Value → PM → Prop := fun v M => ∃ r, v = some (.ref r) ∧ post r M
def noX : Nat → String → PM → Prop := fun _ _ _ => False
section
variable {G G' : GT} {bc bs bc' bs' : Nat} {M : PM} {pc : Nat} {ls : List (Option Value)} {st rest : List Value} {ins : Instr} {n : Nat}
theorem r_call {vs : List Value} {rc : Option Nat} (hct : Ct G' vs M) (hC : Cs (gy G).cls ins n rc G'.1) (d : decode (gc G) pc = .ok (ins, 3)) (hn : vs.length = n) (hst : vs.reverse ++ rest = st) (hrc : ∀ c, rc = some c → ∃ (b : Nat) (As : List Value), vs = .ref b :: As ∧ mK M b = (1, c)) (hcat : (rest.map fun v => v.category).sum ≤ 8) (hroom : gF G' + 1 ≤ gF G ∧ 8 + (gn G' + 11) + gO G' ≤ gO G) (hb : bc' + gC G' ≤ bc ∧ bs' + gS G' ≤ bs)
    (kk : ∀ v M', gQ G' v M' → Wx G bc' bs' M' (pc + 3) ls (v.toList ++ rest)) (kx : ∀ q E M', gX G' q E M' → Tx G bc' bs' M' pc ls q E) : Wx G bc bs M pc ls st := by
  intro Ω l p e s m args below meth c F H locs cells slots lsr hR hS hl h1 h2
  obtain ⟨hx, hc, -, -, hml, hown, hts, hCx, -, hfl, -⟩ := id F
  subst hst
  have hr := hC (Ω := Ω) (R := gR G) (e := e) (below := below) (meth := meth) (H := H) (locs := locs) (cells := cells) (slots := slots) (vs := vs) (rest := rest) (pc := pc) (lsr := lsr) ⟨hx, hc, hml, hown, hts⟩ hCx (hct Ω l hfl) rfl rfl hroom
    (fun a U g mk h => ⟨h.1, h.2.1, h.2.2.blind g mk a⟩) (fun U hU hW => ⟨rfl, by rw [hU]; exact hR, hCx.moved hS hU hW⟩) hn
    (fun c9 h9 => by
      obtain ⟨b, As, e1, e2⟩ := hrc c9 h9
      obtain ⟨-, q, hq, cell, g1, g2, g3, -⟩ := hR.ob e2
      exact ⟨b, As, q, e1, hq, cell, g1, by rw [g3]; rfl, by rw [g2]; exact (hCx.1.1 c9 q hq).2.1⟩) hl.1.1 hcat d ⟨by show cells + gC G' ≤ gC G; omega, by show slots + gS G' ≤ gS G; omega⟩
  intro T hT X
  have hA : ∀ q, q < H.size → Fr Ω q → Fr Ω q := fun _ _ h => h
  rcases hr T hT X with ⟨v, st₀, t, T', L, h0, X', hL, e1, e2, ⟨⟨v', M', hv, hq, hRel⟩, hF⟩, st⟩ | ⟨q, st₀, t, T', L, E, ce, h0, X', hL, e1, e2, ⟨⟨M', hq, hRel⟩, hF⟩, hce, hcv, hcl, st⟩
  · cases hv
    obtain ⟨k1, k2, k3⟩ := vx_keep h0 e1 hS hA (fun _ h => h) hL hF
    obtain ⟨t2, a1, b1⟩ := kk v M' hq Ω l p e s m args below meth c F T'.heap (locs ++ L) (cells + gC G') (slots + gS G') lsr (by rw [e1]; exact hRel) k3 hl (by omega) (by omega) T' rfl X'
    exact ⟨t2, st t2 a1, b1⟩
  · obtain ⟨k1, k2, k3⟩ := vx_keep h0 e1 hS hA (fun _ h => h) hL hF
    obtain ⟨t2, a1, b1⟩ := kx q E M' hq Ω l p e s m args below meth c F T'.heap (locs ++ L) (cells + gC G') (slots + gS G') lsr rest ce (by rw [e1]; exact hRel) k3 hl (by omega) (by omega) (by rw [e1]; exact hce) hcv hcl T' rfl X'
    exact ⟨t2, st.trans a1, b1⟩
theorem r_ci {post : Int32 → PM → Prop} (k : ∀ r M', post r M' → Wx G bc bs M' pc ls (.int r :: rest)) : ∀ v M', qi post v M' → Wx G bc bs M' pc ls (v.toList ++ rest) := by
  rintro v M' ⟨r, rfl, h⟩
  exact k r M' h
theorem r_cl {post : Int64 → PM → Prop} (k : ∀ r M', post r M' → Wx G bc bs M' pc ls (.long r :: rest)) : ∀ v M', ql post v M' → Wx G bc bs M' pc ls (v.toList ++ rest) := by
  rintro v M' ⟨r, rfl, h⟩
  exact k r M' h
theorem r_cv {post : PM → Prop} (k : ∀ M', post M' → Wx G bc bs M' pc ls rest) : ∀ v M', qv post v M' → Wx G bc bs M' pc ls (v.toList ++ rest) := by
  rintro v M' ⟨rfl, h⟩
  exact k M' h
theorem r_cr {post : Nat → PM → Prop} (k : ∀ r M', post r M' → Wx G bc bs M' pc ls (.ref r :: rest)) : ∀ v M', qr post v M' → Wx G bc bs M' pc ls (v.toList ++ rest) := by
  rintro v M' ⟨r, rfl, h⟩
  exact k r M' h
theorem nox : ∀ q E M', noX q E M' → Tx G bc bs M' pc ls q E := fun _ _ _ h => h.elim
theorem r_o1 {b c : Nat} (hct : Ct G' [.ref b] M) (hC : Cs (gy G).cls ins 1 (some c) G'.1) (d : decode (gc G) pc = .ok (ins, 3)) (hK : mK M b = (1, c)) (hcat : (rest.map fun v => v.category).sum ≤ 8) (hroom : gF G' + 1 ≤ gF G ∧ 8 + (gn G' + 11) + gO G' ≤ gO G) (hb : bc' + gC G' ≤ bc ∧ bs' + gS G' ≤ bs)
    (kk : ∀ v M', gQ G' v M' → Wx G bc' bs' M' (pc + 3) ls (v.toList ++ rest)) (kx : ∀ q E M', gX G' q E M' → Tx G bc' bs' M' pc ls q E) : Wx G bc bs M pc ls (.ref b :: rest) := r_call hct hC d rfl rfl (fun _ h => by cases h; exact ⟨b, _, rfl, hK⟩) hcat hroom hb kk kx
theorem r_o2 {b c : Nat} {x2 : Value} (hct : Ct G' [.ref b, x2] M) (hC : Cs (gy G).cls ins 2 (some c) G'.1) (d : decode (gc G) pc = .ok (ins, 3)) (hK : mK M b = (1, c)) (hcat : (rest.map fun v => v.category).sum ≤ 8) (hroom : gF G' + 1 ≤ gF G ∧ 8 + (gn G' + 11) + gO G' ≤ gO G) (hb : bc' + gC G' ≤ bc ∧ bs' + gS G' ≤ bs)
    (kk : ∀ v M', gQ G' v M' → Wx G bc' bs' M' (pc + 3) ls (v.toList ++ rest)) (kx : ∀ q E M', gX G' q E M' → Tx G bc' bs' M' pc ls q E) : Wx G bc bs M pc ls (x2 :: .ref b :: rest) := r_call hct hC d rfl rfl (fun _ h => by cases h; exact ⟨b, _, rfl, hK⟩) hcat hroom hb kk kx
theorem r_o3 {b c : Nat} {x2 x3 : Value} (hct : Ct G' [.ref b, x2, x3] M) (hC : Cs (gy G).cls ins 3 (some c) G'.1) (d : decode (gc G) pc = .ok (ins, 3)) (hK : mK M b = (1, c)) (hcat : (rest.map fun v => v.category).sum ≤ 8) (hroom : gF G' + 1 ≤ gF G ∧ 8 + (gn G' + 11) + gO G' ≤ gO G) (hb : bc' + gC G' ≤ bc ∧ bs' + gS G' ≤ bs)
    (kk : ∀ v M', gQ G' v M' → Wx G bc' bs' M' (pc + 3) ls (v.toList ++ rest)) (kx : ∀ q E M', gX G' q E M' → Tx G bc' bs' M' pc ls q E) : Wx G bc bs M pc ls (x3 :: x2 :: .ref b :: rest) := r_call hct hC d rfl rfl (fun _ h => by cases h; exact ⟨b, _, rfl, hK⟩) hcat hroom hb kk kx
theorem r_o4 {b c : Nat} {x2 x3 x4 : Value} (hct : Ct G' [.ref b, x2, x3, x4] M) (hC : Cs (gy G).cls ins 4 (some c) G'.1) (d : decode (gc G) pc = .ok (ins, 3)) (hK : mK M b = (1, c)) (hcat : (rest.map fun v => v.category).sum ≤ 8) (hroom : gF G' + 1 ≤ gF G ∧ 8 + (gn G' + 11) + gO G' ≤ gO G) (hb : bc' + gC G' ≤ bc ∧ bs' + gS G' ≤ bs)
    (kk : ∀ v M', gQ G' v M' → Wx G bc' bs' M' (pc + 3) ls (v.toList ++ rest)) (kx : ∀ q E M', gX G' q E M' → Tx G bc' bs' M' pc ls q E) : Wx G bc bs M pc ls (x4 :: x3 :: x2 :: .ref b :: rest) := r_call hct hC d rfl rfl (fun _ h => by cases h; exact ⟨b, _, rfl, hK⟩) hcat hroom hb kk kx
theorem r_o5 {b c : Nat} {x2 x3 x4 x5 : Value} (hct : Ct G' [.ref b, x2, x3, x4, x5] M) (hC : Cs (gy G).cls ins 5 (some c) G'.1) (d : decode (gc G) pc = .ok (ins, 3)) (hK : mK M b = (1, c)) (hcat : (rest.map fun v => v.category).sum ≤ 8) (hroom : gF G' + 1 ≤ gF G ∧ 8 + (gn G' + 11) + gO G' ≤ gO G) (hb : bc' + gC G' ≤ bc ∧ bs' + gS G' ≤ bs)
    (kk : ∀ v M', gQ G' v M' → Wx G bc' bs' M' (pc + 3) ls (v.toList ++ rest)) (kx : ∀ q E M', gX G' q E M' → Tx G bc' bs' M' pc ls q E) : Wx G bc bs M pc ls (x5 :: x4 :: x3 :: x2 :: .ref b :: rest) := r_call hct hC d rfl rfl (fun _ h => by cases h; exact ⟨b, _, rfl, hK⟩) hcat hroom hb kk kx
theorem r_o6 {b c : Nat} {x2 x3 x4 x5 x6 : Value} (hct : Ct G' [.ref b, x2, x3, x4, x5, x6] M) (hC : Cs (gy G).cls ins 6 (some c) G'.1) (d : decode (gc G) pc = .ok (ins, 3)) (hK : mK M b = (1, c)) (hcat : (rest.map fun v => v.category).sum ≤ 8) (hroom : gF G' + 1 ≤ gF G ∧ 8 + (gn G' + 11) + gO G' ≤ gO G) (hb : bc' + gC G' ≤ bc ∧ bs' + gS G' ≤ bs)
    (kk : ∀ v M', gQ G' v M' → Wx G bc' bs' M' (pc + 3) ls (v.toList ++ rest)) (kx : ∀ q E M', gX G' q E M' → Tx G bc' bs' M' pc ls q E) : Wx G bc bs M pc ls (x6 :: x5 :: x4 :: x3 :: x2 :: .ref b :: rest) := r_call hct hC d rfl rfl (fun _ h => by cases h; exact ⟨b, _, rfl, hK⟩) hcat hroom hb kk kx
theorem r_s0 (hct : Ct G' [] M) (hC : Cs (gy G).cls ins 0 none G'.1) (d : decode (gc G) pc = .ok (ins, 3)) (hcat : (rest.map fun v => v.category).sum ≤ 8) (hroom : gF G' + 1 ≤ gF G ∧ 8 + (gn G' + 11) + gO G' ≤ gO G) (hb : bc' + gC G' ≤ bc ∧ bs' + gS G' ≤ bs)
    (kk : ∀ v M', gQ G' v M' → Wx G bc' bs' M' (pc + 3) ls (v.toList ++ rest)) (kx : ∀ q E M', gX G' q E M' → Tx G bc' bs' M' pc ls q E) : Wx G bc bs M pc ls (rest) := r_call hct hC d rfl rfl (fun _ h => by cases h) hcat hroom hb kk kx
theorem r_s1 {x1 : Value} (hct : Ct G' [x1] M) (hC : Cs (gy G).cls ins 1 none G'.1) (d : decode (gc G) pc = .ok (ins, 3)) (hcat : (rest.map fun v => v.category).sum ≤ 8) (hroom : gF G' + 1 ≤ gF G ∧ 8 + (gn G' + 11) + gO G' ≤ gO G) (hb : bc' + gC G' ≤ bc ∧ bs' + gS G' ≤ bs)
    (kk : ∀ v M', gQ G' v M' → Wx G bc' bs' M' (pc + 3) ls (v.toList ++ rest)) (kx : ∀ q E M', gX G' q E M' → Tx G bc' bs' M' pc ls q E) : Wx G bc bs M pc ls (x1 :: rest) := r_call hct hC d rfl rfl (fun _ h => by cases h) hcat hroom hb kk kx
theorem r_s2 {x1 x2 : Value} (hct : Ct G' [x1, x2] M) (hC : Cs (gy G).cls ins 2 none G'.1) (d : decode (gc G) pc = .ok (ins, 3)) (hcat : (rest.map fun v => v.category).sum ≤ 8) (hroom : gF G' + 1 ≤ gF G ∧ 8 + (gn G' + 11) + gO G' ≤ gO G) (hb : bc' + gC G' ≤ bc ∧ bs' + gS G' ≤ bs)
    (kk : ∀ v M', gQ G' v M' → Wx G bc' bs' M' (pc + 3) ls (v.toList ++ rest)) (kx : ∀ q E M', gX G' q E M' → Tx G bc' bs' M' pc ls q E) : Wx G bc bs M pc ls (x2 :: x1 :: rest) := r_call hct hC d rfl rfl (fun _ h => by cases h) hcat hroom hb kk kx
theorem r_s3 {x1 x2 x3 : Value} (hct : Ct G' [x1, x2, x3] M) (hC : Cs (gy G).cls ins 3 none G'.1) (d : decode (gc G) pc = .ok (ins, 3)) (hcat : (rest.map fun v => v.category).sum ≤ 8) (hroom : gF G' + 1 ≤ gF G ∧ 8 + (gn G' + 11) + gO G' ≤ gO G) (hb : bc' + gC G' ≤ bc ∧ bs' + gS G' ≤ bs)
    (kk : ∀ v M', gQ G' v M' → Wx G bc' bs' M' (pc + 3) ls (v.toList ++ rest)) (kx : ∀ q E M', gX G' q E M' → Tx G bc' bs' M' pc ls q E) : Wx G bc bs M pc ls (x3 :: x2 :: x1 :: rest) := r_call hct hC d rfl rfl (fun _ h => by cases h) hcat hroom hb kk kx
theorem r_s4 {x1 x2 x3 x4 : Value} (hct : Ct G' [x1, x2, x3, x4] M) (hC : Cs (gy G).cls ins 4 none G'.1) (d : decode (gc G) pc = .ok (ins, 3)) (hcat : (rest.map fun v => v.category).sum ≤ 8) (hroom : gF G' + 1 ≤ gF G ∧ 8 + (gn G' + 11) + gO G' ≤ gO G) (hb : bc' + gC G' ≤ bc ∧ bs' + gS G' ≤ bs)
    (kk : ∀ v M', gQ G' v M' → Wx G bc' bs' M' (pc + 3) ls (v.toList ++ rest)) (kx : ∀ q E M', gX G' q E M' → Tx G bc' bs' M' pc ls q E) : Wx G bc bs M pc ls (x4 :: x3 :: x2 :: x1 :: rest) := r_call hct hC d rfl rfl (fun _ h => by cases h) hcat hroom hb kk kx
theorem r_s5 {x1 x2 x3 x4 x5 : Value} (hct : Ct G' [x1, x2, x3, x4, x5] M) (hC : Cs (gy G).cls ins 5 none G'.1) (d : decode (gc G) pc = .ok (ins, 3)) (hcat : (rest.map fun v => v.category).sum ≤ 8) (hroom : gF G' + 1 ≤ gF G ∧ 8 + (gn G' + 11) + gO G' ≤ gO G) (hb : bc' + gC G' ≤ bc ∧ bs' + gS G' ≤ bs)
    (kk : ∀ v M', gQ G' v M' → Wx G bc' bs' M' (pc + 3) ls (v.toList ++ rest)) (kx : ∀ q E M', gX G' q E M' → Tx G bc' bs' M' pc ls q E) : Wx G bc bs M pc ls (x5 :: x4 :: x3 :: x2 :: x1 :: rest) := r_call hct hC d rfl rfl (fun _ h => by cases h) hcat hroom hb kk kx
/-- q is thrown -/
theorem r_athrow {q c : Nat} {cq : vw_C} (d : decode (gc G) pc = .ok (.athrow, 1)) (hK : mK M q = (1, c)) (hq : clX[c]? = some cq) (kk : Tx G bc bs M pc ls q cq.1) : Wx G bc bs M pc ls (.ref q :: st) := by
  intro Ω l p e s m args below meth c0 F H locs cells slots lsr hR hS hl h1 h2
  obtain ⟨-, q', hq', cell, g1, g2, g3, -⟩ := hR.ob hK
  cases hq.symm.trans hq'
  exact vx_athrow F.1 F.2.1 d (kk Ω l p e s m args below meth c0 F H locs cells slots lsr st cell hR hS hl h1 h2 g1 g3 (by rw [g2]; exact (F.2.2.2.2.2.2.2.1.1.1 c cq hq).2.1))
/-- it leaves the method: no handler covers pc -/
theorem t_out {q : Nat} {E : String} (ho : (tableOf (gh G)).all (fun x => !covers x pc) = true) (hx : gX G q E M) : Tx G bc bs M pc ls q E := by
  intro Ω l p e s m args below meth c F H locs cells slots lsr rest ce hR hS hl h1 h2 g1 g2 g3
  obtain ⟨-, -, -, hlk, -, -, -, -, htb, -, -⟩ := id F
  refine vx_out (fun x hx' => ?_) hlk g1 g2 g3 (fun t ht hW => ⟨⟨M, hx, by rw [ht]; exact hR⟩, hS.F ht⟩) hS.2.2 (by omega) (by omega)
  rw [htb] at hx'
  have h9 : (!covers x pc) = true := List.all_eq_true.mp ho x hx'
  cases hc : covers x pc with
  | false => rfl
  | true => rw [hc] at h9; cases h9
/-- the handler x of this method takes it -/
theorem t_catch {q : Nat} {E : String} (pre : List ExceptionTableEntry) (x : ExceptionTableEntry) (suf : List ExceptionTableEntry) (nm : String) (hsplit : tableOf (gh G) = pre ++ x :: suf) (hpass : ∀ z ∈ pre, covers z pc = false ∨ (z.catchType ≠ 0 ∧ ∃ nm2 : String, Cond.classLink (gy G).cls z.catchType nm2 ∈ lw_all ∧ Cond.not (.castable E nm2) ∈ flatC (Jvm.Cond.and given_1 narrow_1))) (hcv : covers x pc = true) (h0 : x.catchType ≠ 0) (hlk : Cond.classLink (gy G).cls x.catchType nm ∈ lw_all) (hcast : Cond.castable E nm ∈ lw_tbl) (kk : Wx G bc bs M x.handlerPc ls [.ref q]) : Tx G bc bs M pc ls q E := by
  intro Ω l p e s m args below meth c F H locs cells slots lsr rest ce hR hS hl h1 h2 g1 g2 g3
  obtain ⟨-, -, -, -, -, hown, hts, hCx, htb, -, -⟩ := id F
  refine vx_catch hown pre x suf (by rw [htb]; exact hsplit) (fun z hz => ?_) hcv h0 (hts _ hlk) (va_Nw.use rfl (hCx.2.2.2.1 _ hcast rfl)) g1 g2 g3 (kk Ω l p e s m args below meth c F H locs cells slots lsr hR hS hl h1 h2)
  rcases hpass z hz with h | ⟨ha, nm2, hb, hc⟩
  · exact Or.inl h
  · exact Or.inr ⟨ha, nm2, hts _ hb, hCx.2.2.2.2.1 _ _ hc⟩
end
theorem Wx.loose {G : GT} {bc bs bc' bs' : Nat} {M : PM} {pc : Nat} {ls : List (Option Value)} {st : List Value} (h : Wx G bc' bs' M pc ls st) (h1 : bc' ≤ bc) (h2 : bs' ≤ bs) : Wx G bc bs M pc ls st := fun Ω l p e s m args below meth c F H locs cells slots lsr hR hS hl g1 g2 => h Ω l p e s m args below meth c F H locs cells slots lsr hR hS hl (by omega) (by omega)
