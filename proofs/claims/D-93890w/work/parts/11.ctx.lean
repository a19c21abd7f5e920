/-! WHAT HOLDS ALL THROUGH THE LAW'S RUN, seen from a method's start s -/
set_option maxRecDepth 100000
abbrev strX : List (Nat × String) := [(82, "thing"), (98, "man"), (109, "long"), (119, "river"), (131, "ind"), (136, "ant")]
abbrev lenX : List Nat := [5, 3, 4, 5, 3, 3]
abbrev bytX : List (List Int32) := [[116, 104, 105, 110, 103], [109, 97, 110], [108, 111, 110, 103], [114, 105, 118, 101, 114], [105, 110, 100], [97, 110, 116]]
def isSp (w : Cond) : Bool := match w with
  | .castable _ _ => true
  | .declares _ => true
  | .methodLinkNest _ _ _ _ => true
  | _ => false
def isAr (comp : ClassId) (x : Class) : Bool := match x.kind with
  | .array component _ => component == comp
  | _ => false
theorem isAr_bare (vm : Vm) (comp : ClassId) : vm.bare.classes.findIdx? (isAr comp) = vm.classes.findIdx? (isAr comp) := by
  simp only [Vm.bare, Array.findIdx?_map]
  rfl
def AOI (U : State) : Prop := ∃ (comp c : ClassId) (k : Class), U.vm.findClass "[I" = some comp ∧ U.vm.classes.findIdx? (isAr comp) = some c ∧ U.vm.classes[c]? = some k ∧ k.kind = .array comp (.array .int) ∧ U.vm.findClass "[[I" = some c
def Cx (Ω : OM) (s : State) : Prop :=
  va_K Ω.2.1 clX (tysX Ω) s ∧
  (vk_S 6 lenX bytX Ω.2.2.2.1 Ω.2.2.2.2 (Fr Ω) s s.heap ∧ (∀ (i : Nat) (q : Nat × String), strX[i]? = some q → vk_R RX19 q.1 q.2 (Ω.2.2.2.1 i) s) ∧ va_Z "java/lang/String" "COMPACT_STRINGS" "Z" (.int 1) (Fr Ω) s s.heap ∧ va_Zq "jdk/internal/util/Preconditions" "SIOOBE_FORMATTER" "Ljava/util/function/BiFunction;" (Fr Ω) s s.heap ∧ va_T .int (Ω.2.2.2.2 6) (Ω.2.2.2.2 7) (fun j => .int (Int32.ofNat (Ω.2.2.2.2 (8 + j)))) (Fr Ω) s s.heap) ∧
  (vx_Zq Bundle.tN "UNASSIGNED_STACK" Bundle.steD (Fr Ω) s s.heap ∧ vx_Zq Bundle.tN "SUPPRESSED_SENTINEL" Bundle.listD (Fr Ω) s s.heap) ∧
  (∀ w ∈ lw_tbl, isSp w = true → va_Nw w s) ∧
  (∀ C T : String, Cond.not (.castable C T) ∈ flatC (Jvm.Cond.and given_1 narrow_1) → va_Nc C T s) ∧
  (va_AO "NoFartherThanAThrow$Shelf" s ∧ va_AO "NoFartherThanAThrow$Thing" s ∧ AOI s) ∧ modulesRight_1 s = true
theorem AOI.moved {u U : State} (hvm : u.vm.Alike U.vm) (h : AOI u) : AOI U := by
  obtain ⟨comp, c, k, h1, h2, h3, h4, h5⟩ := h
  obtain ⟨k', hk', he⟩ := hvm.2.2 _ _ h3
  have hi : U.vm.classes.findIdx? (isAr comp) = some c := by
    rw [← isAr_bare]
    first | rw [hvm.bare_eq] | rw [← hvm.bare_eq]
    rw [isAr_bare]
    exact h2
  exact ⟨comp, c, k', by rw [hvm.findClass]; exact h1, hi, hk', by rw [he]; exact h4, by rw [hvm.findClass]; exact h5⟩
theorem isSp_warm {w : Cond} (hs : isSp w = true) {s U : State} (hW : s.WarmedH U.vm) (h : va_Nw w s) : va_Nw w U := by
  cases w <;> first | exact va_Nw.warmC hW h | exact va_Nw.warmD hW h | exact va_Nw.warmM hW h | (simp [isSp] at hs; done)
theorem isSp_same {w : Cond} (hs : isSp w = true) {u U : State} (hv : u.vm = U.vm) (h : va_Nw w u) : va_Nw w U := by
  cases w <;> first | exact va_Nw.same rfl hv h | (simp [isSp] at hs; done)
theorem modR_moved {u U : State} (hvm : u.vm.Alike U.vm) (h : modulesRight_1 u = true) : modulesRight_1 U = true := by
  have e : U.vm.modules = u.vm.modules := by rw [hvm.1]
  unfold modulesRight_1 at h ⊢
  rw [e]
  exact h
theorem Cx.moved {Ω : OM} {s U : State} {H : Heap} {locs : List Loc} (h : Cx Ω s) (hS : va_S (Fr Ω) s.heap H locs) (hU : U.heap = H) (hW : s.WarmedH U.vm) : Cx Ω U := by
  obtain ⟨h1, ⟨h2, h2', hz, hz', ht⟩, ⟨h3, h3'⟩, h4, h5, ⟨h6, h7, h8⟩, h9⟩ := h
  refine ⟨va_K.moved hW.alike h1, ⟨?_, fun i q hq => (h2' i q hq).warm hW, by rw [hU]; exact va_Z.moved hW.alike (hz.kept hS.2.1), by rw [hU]; exact va_Zq.moved hW.alike (hz'.kept hS.2.1), by rw [hU]; exact va_T.moved hW.alike (ht.kept hS.2.1)⟩, ⟨?_, ?_⟩, fun w hw hs => isSp_warm hs hW (h4 w hw hs), fun C T hc => (h5 C T hc).moved hW.alike, ⟨h6.moved hW.alike, h7.moved hW.alike, h8.moved hW.alike⟩, modR_moved hW.alike h9⟩
  · rw [hU]; exact vk_S.moved hW.alike (h2.kept hS.2.1)
  · rw [hU]; exact vx_Zq.moved hW.alike (h3.kept hS.2.1)
  · rw [hU]; exact vx_Zq.moved hW.alike (h3'.kept hS.2.1)
theorem Cx.blind {Ω : OM} {U : State} (h : Cx Ω U) (g : JFrame) (mk : MethodId) (a : Array Value) : Cx Ω (U.calling g mk a) := by
  obtain ⟨h1, ⟨h2, h2', hz, hz', ht⟩, ⟨h3, h3'⟩, h4, h5, ⟨h6, h7, h8⟩, h9⟩ := h
  have hv : U.vm = (U.calling g mk a).vm := rfl
  have hA : U.vm.Alike (U.calling g mk a).vm := Vm.Alike.refl U.vm
  exact ⟨va_K.moved hA h1, ⟨vk_S.moved hA h2, fun i q hq => (h2' i q hq).same hv.symm, va_Z.moved hA hz, va_Zq.moved hA hz', va_T.moved hA ht⟩, ⟨vx_Zq.moved hA h3, vx_Zq.moved hA h3'⟩, fun w hw hs => isSp_same hs hv (h4 w hw hs), fun C T hc => (h5 C T hc).moved hA, ⟨h6.moved hA, h7.moved hA, h8.moved hA⟩, modR_moved hA h9⟩
theorem Cx.low {Ω : OM} {s : State} (h : Cx Ω s) : ∀ i, i < 6 → Ω.2.2.2.1 i < Ω.1 := by
  intro i hi
  obtain ⟨cell, -, -, -, hn⟩ := (h.2.1.1.1 i hi).1
  exact Nat.lt_of_not_le hn
/-! A METHOD's BODY: y, its word, code, locals, answer, handlers; room (frames, locals, cells, slots); what it owes at return and at a throw -/
abbrev GT : Type := (MethodName × Cond × ByteArray × Nat × Option FieldType × List (Nat × Nat × Nat × Nat)) × (Nat × Nat × Nat × Nat) × (Option Value → PM → Prop) × (Nat → String → PM → Prop)
abbrev gy (G : GT) : MethodName := G.1.1
abbrev gw (G : GT) : Cond := G.1.2.1
abbrev gc (G : GT) : ByteArray := G.1.2.2.1
abbrev gn (G : GT) : Nat := G.1.2.2.2.1
abbrev gr (G : GT) : Option FieldType := G.1.2.2.2.2.1
abbrev gh (G : GT) : List (Nat × Nat × Nat × Nat) := G.1.2.2.2.2.2
abbrev gF (G : GT) : Nat := G.2.1.1
abbrev gO (G : GT) : Nat := G.2.1.2.1
abbrev gC (G : GT) : Nat := G.2.1.2.2.1
abbrev gS (G : GT) : Nat := G.2.1.2.2.2
abbrev gQ (G : GT) : Option Value → PM → Prop := G.2.2.1
abbrev gX (G : GT) : Nat → String → PM → Prop := G.2.2.2
abbrev gR (G : GT) : Room := { frames := gF G, cells := gC G, slots := gS G, locals := gO G }
def zQ (Ω : OM) (Q : Option Value → PM → Prop) : Array Value → State → Outcome → State → Prop := fun _ st o t => (∃ v M, o = .returned v ∧ Q v M ∧ Rel Ω M t.heap) ∧ va_F (Fr Ω) st t
def zX (Ω : OM) (X : Nat → String → PM → Prop) : Addr → String → State → State → Prop := fun q E st t => (∃ M, X q E M ∧ Rel Ω M t.heap) ∧ va_F (Fr Ω) st t
def Fx (Ω : OM) (G : GT) (l : Launch) (p : Program) (s : State) (m : MethodId) (args : Array Value) (meth : Method) (c : Code) : Prop :=
  p.tables.exec = Jvm.exec ∧ c.code = gc G ∧ meth.sig.returnType = gr G ∧ meth.locks = false ∧ c.maxLocals = gn G ∧ s.vm.findClass (gy G).cls = some m.cls ∧ (∀ w ∈ lw_all, w.before args s = true) ∧ Cx Ω s ∧ c.exceptionTable.toList = tableOf (gh G) ∧ l.stackTraces = false ∧ meth.name = (gy G).name
/-- the machine, at pc of the method G, with memory M, locals ls and stack st, and bc cells of bs slots still free to be made, comes to what G owes -/
def Wx (G : GT) (bc bs : Nat) (M : PM) (pc : Nat) (ls : List (Option Value)) (st : List Value) : Prop :=
  ∀ (Ω : OM) (l : Launch) (p : Program) (e : Env) (s : State) (m : MethodId) (args : Array Value) (below : List Frame) (meth : Method) (c : Code), Fx Ω G l p s m args meth c →
  ∀ (H : Heap) (locs : List Loc) (cells slots : Nat) (lsr : Array Slot), Rel Ω M H → va_S (Fr Ω) s.heap H locs → hasL lsr (gn G) ls → cells + bc ≤ gC G → slots + bs ≤ gS G →
  W p l e (gR G) s m args below meth c H locs cells slots (vx_MQ below (zQ Ω (gQ G)) (zX Ω (gX G)) args s (gC G) (gS G) (Fr Ω)) (F0 m pc lsr st)
/-- the same with q, of class E, thrown over the frame -/
def Tx (G : GT) (bc bs : Nat) (M : PM) (pc : Nat) (ls : List (Option Value)) (q : Nat) (E : String) : Prop :=
  ∀ (Ω : OM) (l : Launch) (p : Program) (e : Env) (s : State) (m : MethodId) (args : Array Value) (below : List Frame) (meth : Method) (c : Code), Fx Ω G l p s m args meth c →
  ∀ (H : Heap) (locs : List Loc) (cells slots : Nat) (lsr : Array Slot) (rest : List Value) (ce : Cell), Rel Ω M H → va_S (Fr Ω) s.heap H locs → hasL lsr (gn G) ls → cells + bc ≤ gC G → slots + bs ≤ gS G →
  H[q]? = some ce → ce.vm = .none → s.vm.findClass E = some ce.cls →
  vx_W p l e (gR G) s m args below meth c H locs cells slots (vx_MQ below (zQ Ω (gQ G)) (zX Ω (gX G)) args s (gC G) (gS G) (Fr Ω)) (F0 m pc lsr rest) q
/-- a method's contract, from the arguments vs and the memory M -/
def Ct (G : GT) (vs : List Value) (M : PM) : Prop := ∀ (Ω : OM) (l : Launch), l.stackTraces = false →
  vx_Met l (gy G) (gw G :: lw_all) (gR G) (va_Pc vs (fun U => Rel Ω M U.heap ∧ Cx Ω U)) (zQ Ω (gQ G)) (zX Ω (gX G)) (gC G) (gS G) (Fr Ω)
theorem ct_of {G : GT} {vs : List Value} {M : PM} (ls : List (Option Value)) (hy : plainName (gy G).cls = true) (hw : gw G = Cond.code (gy G) (gc G) (gn G) (gr G)) (hh : gh G = []) (hn : (lg_sl vs).length ≤ gn G) (hl : lv_args 0 vs = enL 0 ls) (hlen : ls.length = gn G) (k : Wx G (gC G) (gS G) M 0 ls []) : Ct G vs M := by
  intro Ω l hfl
  refine vx_ofW (cc := gc G) (maxL := gn G) (ret := gr G) hy (by rw [hw]) ?_
  intro p e s m args below meth c s₁ B hml ht hv
  obtain ⟨rfl, hRel, hCx⟩ := hv
  have hts := atoms_spec (ws := gw G :: lw_all) B.pre
  have hlv := lv_entry vs (n := gn G) hn
  rw [lg_entry_eq]
  rw [hl] at hlv
  refine k Ω l p e s m _ below meth c ⟨B.exec, B.bytes, B.returns, B.notSynchronized, hml, findClass_of_methodNamed B.named, fun w h => hts w (List.mem_cons_of_mem _ h), hCx, ?_, hfl, (name_of_methodNamed B.named B.method).1⟩ s.heap [] 0 0 _ hRel va_S.rf ⟨hlv, hlen⟩ (by omega) (by omega)
  rw [hh]
  exact List.eq_nil_iff_forall_not_mem.mpr fun x hx => ht x hx
theorem ct_ofH {G : GT} {vs : List Value} {M : PM} (ls : List (Option Value)) (hy : plainName (gy G).cls = true) (hw : gw G = Cond.codeWith (gy G) (gc G) (gn G) (gr G) (gh G)) (hn : (lg_sl vs).length ≤ gn G) (hl : lv_args 0 vs = enL 0 ls) (hlen : ls.length = gn G) (k : Wx G (gC G) (gS G) M 0 ls []) : Ct G vs M := by
  intro Ω l hfl
  refine vx_ofWH (cc := gc G) (maxL := gn G) (ret := gr G) (hh := gh G) hy (by rw [hw]) ?_
  intro p e s m args below meth c s₁ B hml hv
  obtain ⟨rfl, hRel, hCx⟩ := hv
  have hts := atoms_spec (ws := gw G :: lw_all) B.pre
  have hlv := lv_entry vs (n := gn G) hn
  rw [lg_entry_eq]
  rw [hl] at hlv
  refine k Ω l p e s m _ below meth c ⟨B.exec, B.bytes, B.returns, B.notSynchronized, hml, findClass_of_methodNamed B.named, fun w h => hts w (List.mem_cons_of_mem _ h), hCx, ?_, hfl, (name_of_methodNamed B.named B.method).1⟩ s.heap [] 0 0 _ hRel va_S.rf ⟨hlv, hlen⟩ (by omega) (by omega)
  exact vx_table (x := gy G) B (by rw [← hw]; exact hts _ List.mem_cons_self)
