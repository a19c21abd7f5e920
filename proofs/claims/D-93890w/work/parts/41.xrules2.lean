/-! RULES of the X side, printed by gen/mk_x41.py: accesses out of range, casts, copies -/
set_option maxRecDepth 100000
theorem arrRA {Ω : OM} {s : State} (h : Cx Ω s) {t : Nat} {C : String} (ht : atX[t]? = some (.object C)) : ∃ (kA : Class) (comp : ClassId), s.vm.classes[Ω.2.2.1 t]? = some kA ∧ kA.kind = .array comp (.object C) ∧ s.vm.findClass C = some comp ∧ True := by
  match t, ht with
  | 5, ht => cases ht; obtain ⟨kA, comp, k1, k2, k3, -⟩ := (h.1.2 5 _ rfl).2; exact ⟨kA, comp, k1, k2, k3, trivial⟩
  | 6, ht => cases ht; obtain ⟨kA, comp, k1, k2, k3, -⟩ := (h.1.2 6 _ rfl).2; exact ⟨kA, comp, k1, k2, k3, trivial⟩
  | 0, ht => cases ht
  | 1, ht => cases ht
  | 2, ht => cases ht
  | 3, ht => cases ht
  | 4, ht => cases ht
  | 7, ht => cases ht
  | n + 8, ht => cases ht
section
variable {G : GT} {bc bs : Nat} {M : PM} {pc : Nat} {ls : List (Option Value)} {st : List Value}
theorem r_ialdX {a n : Nat} {i : Int32} (d : decode (gc G) pc = .ok (.iaload, 1)) (hK : mK M a = (2, 0)) (hz : mZ M a = n) (hn : n < 2 ^ 31) (hout : ¬ vp_in i n) (hF : 7 < gF G) (hO : (st.map fun v => v.category).sum + 10240 ≤ gO G) (h1c : 3 ≤ bc) (h2c : 222 ≤ bs) (kk : ∀ N q, M.1 ≤ N → Tx G (bc - 3) (bs - 222) (grow M N) pc ls q exA) : Wx G bc bs M pc ls (.int i :: .ref a :: st) := by
  intro Ω l p e s m args below meth c F H locs cells slots lsr hR hS hl h1 h2
  obtain ⟨hb, ty, hty, hc⟩ := hR.ar hK
  cases hty
  subst hz
  have k := r_vm (E := exA) (st := st) 212 atA (by decide +kernel) (by decide +kernel) (by decide +kernel) (by decide +kernel) hF hO (by decide) (by decide) h1c h2c kk (e := e) (below := below) F hR hS hl h1 h2 (index_text_modelled i (mZ M a)) (index_text_bytes i hn)
  intro T hT X
  obtain ⟨t', st', q⟩ := k T hT X
  refine ⟨t', ?_, q⟩
  have h9 := X.ialoadOut F.1 (by rw [hT]; exact hc) (arrT F.2.2.2.2.2.2.2.1 (t := 0) rfl _ _) (j := i) (by rw [arrV_size]; exact Classical.byContradiction hout) (g := F0 m pc lsr (.int i :: .ref a :: st)) rfl (rest := st) rfl (by rw [F.2.1]; exact d) t'
  simp only [arrV_size] at h9
  exact h9 st'
theorem r_baldX {a n : Nat} {i : Int32} (d : decode (gc G) pc = .ok (.baload, 1)) (hK : mK M a = (2, 1)) (hz : mZ M a = n) (hn : n < 2 ^ 31) (hout : ¬ vp_in i n) (hF : 7 < gF G) (hO : (st.map fun v => v.category).sum + 10240 ≤ gO G) (h1c : 3 ≤ bc) (h2c : 222 ≤ bs) (kk : ∀ N q, M.1 ≤ N → Tx G (bc - 3) (bs - 222) (grow M N) pc ls q exA) : Wx G bc bs M pc ls (.int i :: .ref a :: st) := by
  intro Ω l p e s m args below meth c F H locs cells slots lsr hR hS hl h1 h2
  obtain ⟨hb, ty, hty, hc⟩ := hR.ar hK
  cases hty
  subst hz
  have k := r_vm (E := exA) (st := st) 212 atA (by decide +kernel) (by decide +kernel) (by decide +kernel) (by decide +kernel) hF hO (by decide) (by decide) h1c h2c kk (e := e) (below := below) F hR hS hl h1 h2 (index_text_modelled i (mZ M a)) (index_text_bytes i hn)
  intro T hT X
  obtain ⟨t', st', q⟩ := k T hT X
  refine ⟨t', ?_, q⟩
  have h9 := X.baloadOut F.1 (by rw [hT]; exact hc) (arrT F.2.2.2.2.2.2.2.1 (t := 1) rfl _ _) (j := i) (by rw [arrV_size]; exact Classical.byContradiction hout) (g := F0 m pc lsr (.int i :: .ref a :: st)) rfl (rest := st) rfl (by rw [F.2.1]; exact d) t'
  simp only [arrV_size] at h9
  exact h9 st'
theorem r_saldX {a n : Nat} {i : Int32} (d : decode (gc G) pc = .ok (.saload, 1)) (hK : mK M a = (2, 2)) (hz : mZ M a = n) (hn : n < 2 ^ 31) (hout : ¬ vp_in i n) (hF : 7 < gF G) (hO : (st.map fun v => v.category).sum + 10240 ≤ gO G) (h1c : 3 ≤ bc) (h2c : 222 ≤ bs) (kk : ∀ N q, M.1 ≤ N → Tx G (bc - 3) (bs - 222) (grow M N) pc ls q exA) : Wx G bc bs M pc ls (.int i :: .ref a :: st) := by
  intro Ω l p e s m args below meth c F H locs cells slots lsr hR hS hl h1 h2
  obtain ⟨hb, ty, hty, hc⟩ := hR.ar hK
  cases hty
  subst hz
  have k := r_vm (E := exA) (st := st) 212 atA (by decide +kernel) (by decide +kernel) (by decide +kernel) (by decide +kernel) hF hO (by decide) (by decide) h1c h2c kk (e := e) (below := below) F hR hS hl h1 h2 (index_text_modelled i (mZ M a)) (index_text_bytes i hn)
  intro T hT X
  obtain ⟨t', st', q⟩ := k T hT X
  refine ⟨t', ?_, q⟩
  have h9 := X.saloadOut F.1 (by rw [hT]; exact hc) (arrT F.2.2.2.2.2.2.2.1 (t := 2) rfl _ _) (j := i) (by rw [arrV_size]; exact Classical.byContradiction hout) (g := F0 m pc lsr (.int i :: .ref a :: st)) rfl (rest := st) rfl (by rw [F.2.1]; exact d) t'
  simp only [arrV_size] at h9
  exact h9 st'
theorem r_laldX {a n : Nat} {i : Int32} (d : decode (gc G) pc = .ok (.laload, 1)) (hK : mK M a = (2, 4)) (hz : mZ M a = n) (hn : n < 2 ^ 31) (hout : ¬ vp_in i n) (hF : 7 < gF G) (hO : (st.map fun v => v.category).sum + 10240 ≤ gO G) (h1c : 3 ≤ bc) (h2c : 222 ≤ bs) (kk : ∀ N q, M.1 ≤ N → Tx G (bc - 3) (bs - 222) (grow M N) pc ls q exA) : Wx G bc bs M pc ls (.int i :: .ref a :: st) := by
  intro Ω l p e s m args below meth c F H locs cells slots lsr hR hS hl h1 h2
  obtain ⟨hb, ty, hty, hc⟩ := hR.ar hK
  cases hty
  subst hz
  have k := r_vm (E := exA) (st := st) 212 atA (by decide +kernel) (by decide +kernel) (by decide +kernel) (by decide +kernel) hF hO (by decide) (by decide) h1c h2c kk (e := e) (below := below) F hR hS hl h1 h2 (index_text_modelled i (mZ M a)) (index_text_bytes i hn)
  intro T hT X
  obtain ⟨t', st', q⟩ := k T hT X
  refine ⟨t', ?_, q⟩
  have h9 := X.laloadOut F.1 (by rw [hT]; exact hc) (arrT F.2.2.2.2.2.2.2.1 (t := 4) rfl _ _) (j := i) (by rw [arrV_size]; exact Classical.byContradiction hout) (g := F0 m pc lsr (.int i :: .ref a :: st)) rfl (rest := st) rfl (by rw [F.2.1]; exact d) t'
  simp only [arrV_size] at h9
  exact h9 st'
theorem r_iastX {a n : Nat} {i : Int32} {x : Int32} (d : decode (gc G) pc = .ok (.iastore, 1)) (hK : mK M a = (2, 0)) (hz : mZ M a = n) (hn : n < 2 ^ 31) (hout : ¬ vp_in i n) (hF : 7 < gF G) (hO : (st.map fun v => v.category).sum + 10240 ≤ gO G) (h1c : 3 ≤ bc) (h2c : 222 ≤ bs) (kk : ∀ N q, M.1 ≤ N → Tx G (bc - 3) (bs - 222) (grow M N) pc ls q exA) : Wx G bc bs M pc ls (.int x :: .int i :: .ref a :: st) := by
  intro Ω l p e s m args below meth c F H locs cells slots lsr hR hS hl h1 h2
  obtain ⟨hb, ty, hty, hc⟩ := hR.ar hK
  cases hty
  subst hz
  have k := r_vm (E := exA) (st := st) 212 atA (by decide +kernel) (by decide +kernel) (by decide +kernel) (by decide +kernel) hF hO (by decide) (by decide) h1c h2c kk (e := e) (below := below) F hR hS hl h1 h2 (index_text_modelled i (mZ M a)) (index_text_bytes i hn)
  intro T hT X
  obtain ⟨t', st', q⟩ := k T hT X
  refine ⟨t', ?_, q⟩
  have h9 := X.iastoreOut F.1 (by rw [hT]; exact hc) (arrT F.2.2.2.2.2.2.2.1 (t := 0) rfl _ _) (j := i) (by rw [arrV_size]; exact Classical.byContradiction hout) (g := F0 m pc lsr (.int x :: .int i :: .ref a :: st)) rfl (rest := st) rfl (by rw [F.2.1]; exact d) t'
  simp only [arrV_size] at h9
  exact h9 st'
theorem r_bastX {a n : Nat} {i : Int32} {x : Int32} (d : decode (gc G) pc = .ok (.bastore, 1)) (hK : mK M a = (2, 1)) (hz : mZ M a = n) (hn : n < 2 ^ 31) (hout : ¬ vp_in i n) (hF : 7 < gF G) (hO : (st.map fun v => v.category).sum + 10240 ≤ gO G) (h1c : 3 ≤ bc) (h2c : 222 ≤ bs) (kk : ∀ N q, M.1 ≤ N → Tx G (bc - 3) (bs - 222) (grow M N) pc ls q exA) : Wx G bc bs M pc ls (.int x :: .int i :: .ref a :: st) := by
  intro Ω l p e s m args below meth c F H locs cells slots lsr hR hS hl h1 h2
  obtain ⟨hb, ty, hty, hc⟩ := hR.ar hK
  cases hty
  subst hz
  have k := r_vm (E := exA) (st := st) 212 atA (by decide +kernel) (by decide +kernel) (by decide +kernel) (by decide +kernel) hF hO (by decide) (by decide) h1c h2c kk (e := e) (below := below) F hR hS hl h1 h2 (index_text_modelled i (mZ M a)) (index_text_bytes i hn)
  intro T hT X
  obtain ⟨t', st', q⟩ := k T hT X
  refine ⟨t', ?_, q⟩
  have h9 := X.bastoreOut F.1 (by rw [hT]; exact hc) (arrT F.2.2.2.2.2.2.2.1 (t := 1) rfl _ _) (j := i) (by rw [arrV_size]; exact Classical.byContradiction hout) (g := F0 m pc lsr (.int x :: .int i :: .ref a :: st)) rfl (rest := st) rfl (by rw [F.2.1]; exact d) t'
  simp only [arrV_size] at h9
  exact h9 st'
theorem r_sastX {a n : Nat} {i : Int32} {x : Int32} (d : decode (gc G) pc = .ok (.sastore, 1)) (hK : mK M a = (2, 2)) (hz : mZ M a = n) (hn : n < 2 ^ 31) (hout : ¬ vp_in i n) (hF : 7 < gF G) (hO : (st.map fun v => v.category).sum + 10240 ≤ gO G) (h1c : 3 ≤ bc) (h2c : 222 ≤ bs) (kk : ∀ N q, M.1 ≤ N → Tx G (bc - 3) (bs - 222) (grow M N) pc ls q exA) : Wx G bc bs M pc ls (.int x :: .int i :: .ref a :: st) := by
  intro Ω l p e s m args below meth c F H locs cells slots lsr hR hS hl h1 h2
  obtain ⟨hb, ty, hty, hc⟩ := hR.ar hK
  cases hty
  subst hz
  have k := r_vm (E := exA) (st := st) 212 atA (by decide +kernel) (by decide +kernel) (by decide +kernel) (by decide +kernel) hF hO (by decide) (by decide) h1c h2c kk (e := e) (below := below) F hR hS hl h1 h2 (index_text_modelled i (mZ M a)) (index_text_bytes i hn)
  intro T hT X
  obtain ⟨t', st', q⟩ := k T hT X
  refine ⟨t', ?_, q⟩
  have h9 := X.sastoreOut F.1 (by rw [hT]; exact hc) (arrT F.2.2.2.2.2.2.2.1 (t := 2) rfl _ _) (j := i) (by rw [arrV_size]; exact Classical.byContradiction hout) (g := F0 m pc lsr (.int x :: .int i :: .ref a :: st)) rfl (rest := st) rfl (by rw [F.2.1]; exact d) t'
  simp only [arrV_size] at h9
  exact h9 st'
theorem r_lastX {a n : Nat} {i : Int32} {x : Int64} (d : decode (gc G) pc = .ok (.lastore, 1)) (hK : mK M a = (2, 4)) (hz : mZ M a = n) (hn : n < 2 ^ 31) (hout : ¬ vp_in i n) (hF : 7 < gF G) (hO : (st.map fun v => v.category).sum + 10240 ≤ gO G) (h1c : 3 ≤ bc) (h2c : 222 ≤ bs) (kk : ∀ N q, M.1 ≤ N → Tx G (bc - 3) (bs - 222) (grow M N) pc ls q exA) : Wx G bc bs M pc ls (.long x :: .int i :: .ref a :: st) := by
  intro Ω l p e s m args below meth c F H locs cells slots lsr hR hS hl h1 h2
  obtain ⟨hb, ty, hty, hc⟩ := hR.ar hK
  cases hty
  subst hz
  have k := r_vm (E := exA) (st := st) 212 atA (by decide +kernel) (by decide +kernel) (by decide +kernel) (by decide +kernel) hF hO (by decide) (by decide) h1c h2c kk (e := e) (below := below) F hR hS hl h1 h2 (index_text_modelled i (mZ M a)) (index_text_bytes i hn)
  intro T hT X
  obtain ⟨t', st', q⟩ := k T hT X
  refine ⟨t', ?_, q⟩
  have h9 := X.lastoreOut F.1 (by rw [hT]; exact hc) (arrT F.2.2.2.2.2.2.2.1 (t := 4) rfl _ _) (j := i) (by rw [arrV_size]; exact Classical.byContradiction hout) (g := F0 m pc lsr (.long x :: .int i :: .ref a :: st)) rfl (rest := st) rfl (by rw [F.2.1]; exact d) t'
  simp only [arrV_size] at h9
  exact h9 st'
theorem Rel.recv {Ω : OM} {M : PM} {H : Heap} (h : Rel Ω M H) {s : State} (hCx : Cx Ω s) {a c : Nat} {q : vw_C} (hK : mK M a = (1, c)) (hq : clX[c]? = some q) : ∃ cell : Cell, H[a]? = some cell ∧ cell.vm.isStatics = false ∧ s.vm.findClass q.1 = some cell.cls := by
  obtain ⟨-, q', hq', cell, g1, g2, g3, -⟩ := h.ob hK
  cases hq.symm.trans hq'
  exact ⟨cell, g1, by rw [g3]; rfl, by rw [g2]; exact (hCx.1.1 c q hq).2.1⟩
theorem r_castY {a c idx : Nat} (q : vw_C) (nm : String) (d : decode (gc G) pc = .ok (.checkcast idx, 3)) (hK : mK M a = (1, c)) (hq : clX[c]? = some q) (hlk : Cond.classLink (gy G).cls idx nm ∈ lw_all) (hca : Cond.castable q.1 nm ∈ lw_tbl) (k : Wx G bc bs M (pc + 3) ls (.ref a :: st)) : Wx G bc bs M pc ls (.ref a :: st) := fun Ω l p e s m args below meth c0 F H locs cells slots lsr hR hS hl h1 h2 => va_castY F.1 F.2.1 F.2.2.2.2.2.1 (F.2.2.2.2.2.2.1 _ hlk) (F.2.2.2.2.2.2.2.1.2.2.2.1 _ hca rfl) (hR.recv F.2.2.2.2.2.2.2.1 hK hq) d (k Ω l p e s m args below meth c0 F H locs cells slots lsr hR hS hl h1 h2)
theorem r_castE {a c idx : Nat} (q : vw_C) (d : decode (gc G) pc = .ok (.checkcast idx, 3)) (hK : mK M a = (1, c)) (hq : clX[c]? = some q) (hlk : Cond.classLink (gy G).cls idx q.1 ∈ lw_all) (k : Wx G bc bs M (pc + 3) ls (.ref a :: st)) : Wx G bc bs M pc ls (.ref a :: st) := fun Ω l p e s m args below meth c0 F H locs cells slots lsr hR hS hl h1 h2 => va_castE F.1 F.2.1 F.2.2.2.2.2.1 (F.2.2.2.2.2.2.1 _ hlk) (hR.recv F.2.2.2.2.2.2.2.1 hK hq) d (k Ω l p e s m args below meth c0 F H locs cells slots lsr hR hS hl h1 h2)
theorem r_instY {a c idx : Nat} (q : vw_C) (nm : String) (d : decode (gc G) pc = .ok (.instanceof idx, 3)) (hK : mK M a = (1, c)) (hq : clX[c]? = some q) (hlk : Cond.classLink (gy G).cls idx nm ∈ lw_all) (hca : Cond.castable q.1 nm ∈ lw_tbl) (k : Wx G bc bs M (pc + 3) ls (.int 1 :: st)) : Wx G bc bs M pc ls (.ref a :: st) := fun Ω l p e s m args below meth c0 F H locs cells slots lsr hR hS hl h1 h2 => va_instY F.1 F.2.1 F.2.2.2.2.2.1 (F.2.2.2.2.2.2.1 _ hlk) (F.2.2.2.2.2.2.2.1.2.2.2.1 _ hca rfl) (hR.recv F.2.2.2.2.2.2.2.1 hK hq) d (k Ω l p e s m args below meth c0 F H locs cells slots lsr hR hS hl h1 h2)
theorem r_instE {a c idx : Nat} (q : vw_C) (d : decode (gc G) pc = .ok (.instanceof idx, 3)) (hK : mK M a = (1, c)) (hq : clX[c]? = some q) (hlk : Cond.classLink (gy G).cls idx q.1 ∈ lw_all) (k : Wx G bc bs M (pc + 3) ls (.int 1 :: st)) : Wx G bc bs M pc ls (.ref a :: st) := fun Ω l p e s m args below meth c0 F H locs cells slots lsr hR hS hl h1 h2 => va_instE F.1 F.2.1 F.2.2.2.2.2.1 (F.2.2.2.2.2.2.1 _ hlk) (hR.recv F.2.2.2.2.2.2.2.1 hK hq) d (k Ω l p e s m args below meth c0 F H locs cells slots lsr hR hS hl h1 h2)
theorem r_instNo {a c idx : Nat} (q : vw_C) (nm : String) (d : decode (gc G) pc = .ok (.instanceof idx, 3)) (hK : mK M a = (1, c)) (hq : clX[c]? = some q) (hlk : Cond.classLink (gy G).cls idx nm ∈ lw_all) (hca : Cond.not (.castable q.1 nm) ∈ flatC (Jvm.Cond.and given_1 narrow_1)) (k : Wx G bc bs M (pc + 3) ls (.int 0 :: st)) : Wx G bc bs M pc ls (.ref a :: st) := fun Ω l p e s m args below meth c0 F H locs cells slots lsr hR hS hl h1 h2 => va_instNo F.1 F.2.1 F.2.2.2.2.2.1 (F.2.2.2.2.2.2.1 _ hlk) (F.2.2.2.2.2.2.2.1.2.2.2.2.1 _ _ hca) (hR.recv F.2.2.2.2.2.2.2.1 hK hq) d (k Ω l p e s m args below meth c0 F H locs cells slots lsr hR hS hl h1 h2)
theorem r_castN {idx : Nat} (d : decode (gc G) pc = .ok (.checkcast idx, 3)) (k : Wx G bc bs M (pc + 3) ls (.null :: st)) : Wx G bc bs M pc ls (.null :: st) := fun Ω l p e s m args below meth c0 F H locs cells slots lsr hR hS hl h1 h2 => lv_castN F.1 F.2.1 d (k Ω l p e s m args below meth c0 F H locs cells slots lsr hR hS hl h1 h2)
theorem r_instN {idx : Nat} (d : decode (gc G) pc = .ok (.instanceof idx, 3)) (k : Wx G bc bs M (pc + 3) ls (.int 0 :: st)) : Wx G bc bs M pc ls (.null :: st) := fun Ω l p e s m args below meth c0 F H locs cells slots lsr hR hS hl h1 h2 => lv_instN F.1 F.2.1 d (k Ω l p e s m args below meth c0 F H locs cells slots lsr hR hS hl h1 h2)
/-- a class that the bootstrap loader knows by this name -/
theorem fc_spec {vm : Vm} {A : String} {c : ClassId} {k : Class} (h : vm.findClass A = some c) (hk : vm.classes[c]? = some k) : k.name = A ∧ k.hidden = none ∧ k.loader = none ∧ ∀ t, k.kind ≠ .primitive t := by
  unfold Vm.findClass at h
  obtain ⟨hlt, hp, -⟩ := Array.findIdx?_eq_some_iff_getElem.mp h
  have e : vm.classes[c] = k := (Array.getElem?_eq_some_iff.mp hk).2
  rw [e] at hp
  simp only [Bool.and_eq_true, beq_iff_eq, Option.isNone_iff_eq_none] at hp
  refine ⟨hp.1.1.1, hp.1.1.2, hp.2, fun t ht => ?_⟩
  have h9 := hp.1.2
  rw [ht] at h9
  exact Bool.false_ne_true h9
/-- the classes' names that casts speak of -/
abbrev nmX : List String := ["NoFartherThanAThrow$Row", "NoFartherThanAThrow$Bytes", "NoFartherThanAThrow$Shorts", "NoFartherThanAThrow$Ints", "NoFartherThanAThrow$Longs", "NoFartherThanAThrow$Thing", "NoFartherThanAThrow$Heavy", "NoFartherThanAThrow$Light", "NoFartherThanAThrow$Feather", "NoFartherThanAThrow$Glass", "NoFartherThanAThrow$Parted", "NoFartherThanAThrow$Round"]
theorem nm_1 : ∀ A ∈ nmX, ((withoutBrackets A).length == 1) = false := by decide +kernel
theorem nm_prim {A : String} (hA : A ∈ nmX) {k : Class} (h1 : k.name = A) (h2 : ∀ t, k.kind ≠ .primitive t) : k.ofPrimitives = false := by
  unfold Class.ofPrimitives
  cases hk : k.kind with
  | primitive t => exact absurd hk (h2 t)
  | array c t => show ((withoutBrackets k.name).length == 1) = false; rw [h1]; exact nm_1 A hA
  | ordinary => rfl
theorem nm_ok : ∀ A ∈ nmX, (dotted A).toList.length ≤ 27 ∧ packageOf A = "" := by decide +kernel
theorem home_le {s : State} (hmod : modulesRight_1 s = true) {vm : Vm} (hvm : vm.modules = s.vm.modules) {A : String} (hA : A ∈ nmX) {k : Class} (h1 : k.name = A) (h3 : k.loader = none) (hp : k.ofPrimitives = false) : (vm.home k).toList.length ≤ 38 := by
  unfold Vm.home
  rw [h3]
  have hm : ∀ mi, vm.moduleOf k = some mi → mi.name = "java.base" := by
    intro mi h
    unfold Vm.moduleOf at h
    rw [hp, hvm] at h
    simp only [Bool.false_eq_true, if_false] at h
    have hmem := List.mem_of_find?_eq_some h
    have hpr := List.find?_some h
    have hr := (List.all_eq_true.mp hmod) mi hmem
    simp only [Bool.and_eq_true, beq_iff_eq] at hpr
    rw [h3] at hpr
    rw [h1, (nm_ok A hA).2] at hpr
    simp only [Bool.or_eq_true, beq_iff_eq, Bool.not_eq_true', hpr.1] at hr
    rcases hr with (hr | hr) | hr
    · exact absurd hr (by decide)
    · exact hr
    · exfalso
      rw [List.any_eq_false] at hr
      exact hr "" (by unfold castPackages_1; exact List.mem_cons_self) hpr.2
  cases hmo : vm.moduleOf k with
  | none => show (("unnamed module" ++ " of loader " ++ "'bootstrap'" : String)).toList.length ≤ 38; decide
  | some mi =>
    show (("module " ++ mi.name) ++ " of loader " ++ "'bootstrap'" : String).toList.length ≤ 38
    rw [hm mi hmo]
    decide
theorem shown_le {A : String} (hA : A ∈ nmX) {k : Class} (h1 : k.name = A) (h2 : k.hidden = none) : k.shown.toList.length ≤ 27 := by
  unfold Class.shown
  rw [h2, h1]
  exact (nm_ok A hA).1
theorem msg_ok {s : State} (hmod : modulesRight_1 s = true) {vm : Vm} (hvm : vm.modules = s.vm.modules) {A B : String} (hA : A ∈ nmX) (hB : B ∈ nmX) {ks kt : Class} (a1 : ks.name = A) (a2 : ks.hidden = none) (a3 : ks.loader = none) (a4 : ks.ofPrimitives = false) (b1 : kt.name = B) (b2 : kt.hidden = none) (b3 : kt.loader = none) (b4 : kt.ofPrimitives = false) :
    ((checkcast.message vm ks kt) == notModelled) = false ∧ (stringBytes (stringToUtf16 (checkcast.message vm ks kt))).size ≤ 940 := by
  have hA' := shown_le hA a1 a2
  have hB' := shown_le hB b1 b2
  have gA := home_le hmod hvm hA a1 a3 a4
  have gB := home_le hmod hvm hB b1 b3 b4
  have hh : (vm.homes ks kt).toList.length ≤ 146 := by
    unfold Vm.homes
    split
    · show (toString ks.shown ++ toString " and " ++ toString kt.shown ++ toString " are in " ++ toString (vm.home ks)).toList.length ≤ 146
      simp only [String.toList_append, List.length_append]
      have e1 : (toString " and ").toList.length = 5 := by decide
      have e2 : (toString " are in ").toList.length = 8 := by decide
      have e3 : (toString ks.shown).toList.length = ks.shown.toList.length := rfl
      have e4 : (toString kt.shown).toList.length = kt.shown.toList.length := rfl
      have e5 : (toString (vm.home ks)).toList.length = (vm.home ks).toList.length := rfl
      omega
    · show (toString ks.shown ++ toString " is in " ++ toString (vm.home ks) ++ toString "; " ++ toString kt.shown ++ toString " is in " ++ toString (vm.home kt)).toList.length ≤ 146
      simp only [String.toList_append, List.length_append]
      have e1 : (toString " is in ").toList.length = 7 := by decide
      have e2 : (toString "; ").toList.length = 2 := by decide
      have e3 : (toString ks.shown).toList.length = ks.shown.toList.length := rfl
      have e4 : (toString kt.shown).toList.length = kt.shown.toList.length := rfl
      have e5 : (toString (vm.home ks)).toList.length = (vm.home ks).toList.length := rfl
      have e6 : (toString (vm.home kt)).toList.length = (vm.home kt).toList.length := rfl
      omega
  have hlen : (checkcast.message vm ks kt).toList.length ≤ 235 := by
    show (toString "class " ++ toString ks.shown ++ toString " cannot be cast to class " ++ toString kt.shown ++ toString " (" ++ toString (vm.homes ks kt) ++ toString ")").toList.length ≤ 235
    simp only [String.toList_append, List.length_append]
    have e1 : (toString "class ").toList.length = 6 := by decide
    have e2 : (toString " cannot be cast to class ").toList.length = 25 := by decide
    have e3 : (toString ks.shown).toList.length = ks.shown.toList.length := rfl
    have e4 : (toString kt.shown).toList.length = kt.shown.toList.length := rfl
    have e5 : (toString (vm.homes ks kt)).toList.length = (vm.homes ks kt).toList.length := rfl
    have e6 : (toString " (").toList.length = 2 := by decide
    have e7 : (toString ")").toList.length = 1 := by decide
    omega
  refine ⟨?_, ?_⟩
  · rw [beq_eq_false_iff_ne]
    intro h
    have h2 := congrArg String.toList h
    have h3 : (checkcast.message vm ks kt).toList = 'c' :: ("lass ".toList ++ ks.shown.toList ++ " cannot be cast to class ".toList ++ kt.shown.toList ++ " (".toList ++ (vm.homes ks kt).toList ++ ")".toList) := by
      show (toString "class " ++ toString ks.shown ++ toString " cannot be cast to class " ++ toString kt.shown ++ toString " (" ++ toString (vm.homes ks kt) ++ toString ")").toList = _
      simp only [String.toList_append]
      rfl
    rw [h3] at h2
    have h4 : notModelled.toList = '\u0000' :: " a message that is not modelled".toList := by decide
    rw [h4] at h2
    simp at h2
  · have b1 := stringBytes_size_le (stringToUtf16 (checkcast.message vm ks kt))
    have b2 := utf16_size_le (checkcast.message vm ks kt)
    omega
/-- a cast that fails: from the instruction to the machine's note -/
theorem x_castNo {p : Program} {l : Launch} {e : Env} {R : Room} {s : State} {m : MethodId} {args : Array Value} {below : List Frame} {meth : Method} {c : Code} {T : State} {locs : List Loc} {cells slots : Nat} (X : Stand p l e R s m args below meth c T locs cells slots) (hexec : p.tables.exec = Jvm.exec)
    {own name : String} {index : Nat} (hown : s.vm.findClass own = some m.cls) (hlink : (Cond.classLink own index name).before args s = true)
    {a : Addr} {cell : Cell} {cT : ClassId} {ks : Class} (hcell : T.heap[a]? = some cell) (hobj : cell.vm.isStatics = false) (hks : s.vm.classes[cell.cls]? = some ks) (hcT : s.vm.findClass name = some cT) (hasg : s.vm.assignable cell.cls cT = false)
    {g : JFrame} (hg : g.method = m) {rest : List Value} (hstack : g.stack = .ref a :: rest) (hdg : decode c.code g.pc = .ok (.checkcast index, 3)) :
    ∃ (vm' : Vm) (ks' kt' : Class), Stand p l e R s m args below meth c (T.setVm vm') locs cells slots ∧ s.vm.Alike vm' ∧ vm'.classes[cell.cls]? = some ks' ∧ vm'.classes[cT]? = some kt' ∧
      ∀ target, Steps p.tables e below (((T.setVm vm').setTop g).pushFrame (.throwNew "java/lang/ClassCastException" (some (checkcast.message vm' ks' kt')) none)) target → Steps p.tables e below (T.setTop g) target := by
  have hpl : e.platform.magicAccessors = ({} : Platform).magicAccessors := by rw [X.admits.platform]
  obtain ⟨c', hc', hcl⟩ := Cond.classLink_spec hown hlink e.platform hpl
  cases hcT.symm.trans hc'
  obtain ⟨dk, _, _, kt, hd, _, _, _, _, hkt, _, hopen⟩ := hcl.here
  have hcl₀ := X.warmed.classLinks hcl
  have hW' : s.WarmedH (T.vm.noted m.cls index (.cls cT)) := X.warmed.noted hd hopen (State.rightAt_cls hcl)
  obtain ⟨ks', hks', -⟩ := hW'.alike.2.2 _ _ hks
  obtain ⟨kt', hkt', -⟩ := hW'.alike.2.2 _ _ hkt
  refine ⟨_, ks', kt', X.noted hW', hW'.alike, hks', hkt', fun target hrest => ?_⟩
  subst hg
  jvm_step X.here [hexec, hdg, checkcast.wp_cold (e := e) (s := T) (f := g) X.here.top hstack (resolveClass_links e.toSetting hcl₀) hcl₀.ready,
    checkcast.wp_ready (e := e) (s := T.setVm (T.vm.noted g.method.cls index (.cls cT))) (f := g) X.here.top hcl₀.ready hstack]
  refine ⟨cell, hcell, VmData.noStatics_of hobj, ks', hks', kt', hkt', ?_⟩
  have h1 : (T.vm.noted g.method.cls index (Resolved.cls cT)).assignable cell.cls cT = false := by rw [hW'.alike.assignable]; exact hasg
  simp only [h1, Bool.false_eq_true, if_false]
  exact hrest
theorem r_castX {a c idx : Nat} (q : vw_C) (nm : String) (d : decode (gc G) pc = .ok (.checkcast idx, 3)) (hK : mK M a = (1, c)) (hq : clX[c]? = some q) (hlk : Cond.classLink (gy G).cls idx nm ∈ lw_all) (hnc : Cond.not (.castable q.1 nm) ∈ flatC (Jvm.Cond.and given_1 narrow_1)) (hA : q.1 ∈ nmX) (hB : nm ∈ nmX) (hF : 6 < gF G) (hO : ((.ref a :: st).map fun v => v.category).sum + 10240 ≤ gO G) (h1c : 3 ≤ bc) (h2c : 950 ≤ bs) (kk : ∀ N q, M.1 ≤ N → Tx G (bc - 3) (bs - 950) (grow M N) pc ls q exC) : Wx G bc bs M pc ls (.ref a :: st) := by
  intro Ω l p e s m args below meth c0 F H locs cells slots lsr hR hS hl h1 h2
  obtain ⟨cell, g1, g2, g3⟩ := hR.recv F.2.2.2.2.2.2.2.1 hK hq
  obtain ⟨c1, t1, f1, f2, f3⟩ := F.2.2.2.2.2.2.2.1.2.2.2.2.1 _ _ hnc
  cases g3.symm.trans f1
  obtain ⟨ks, hks, -⟩ := Vm.findClass_spec g3
  intro T hT X
  obtain ⟨vm', ks', kt', X', hal, hk1, hk2, step⟩ := x_castNo X F.1 F.2.2.2.2.2.1 (F.2.2.2.2.2.2.1 _ hlk) (by rw [hT]; exact g1) g2 hks f2 f3 (g := F0 m pc lsr (.ref a :: st)) rfl (rest := st) rfl (by rw [F.2.1]; exact d)
  have e1 : vm'.findClass q.1 = some cell.cls := by rw [hal.findClass]; exact g3
  have e2 : vm'.findClass nm = some t1 := by rw [hal.findClass]; exact f2
  obtain ⟨a1, a2, a3, a4⟩ := fc_spec e1 hk1
  obtain ⟨b1, b2, b3, b4⟩ := fc_spec e2 hk2
  have hmod : modulesRight_1 s = true := F.2.2.2.2.2.2.2.1.2.2.2.2.2.2
  obtain ⟨m1, m2⟩ := msg_ok hmod (vm := vm') (by rw [hal.1]) hA hB a1 a2 a3 (nm_prim hA a1 a4) b1 b2 b3 (nm_prim hB b1 b4)
  have k := r_vm (E := exC) (st := .ref a :: st) (text := checkcast.message vm' ks' kt') 940 atC (by decide +kernel) (by decide +kernel) (by decide +kernel) (by decide +kernel) hF hO (by decide) (by decide) h1c h2c kk (e := e) (below := below) F hR hS hl h1 h2 m1 m2
  obtain ⟨t', st', q9⟩ := k (T.setVm vm') hT X'
  exact ⟨t', step t' st', q9⟩
/-- n places of the array a, from sp on, copied to b, from dp on -/
def cpM (M : PM) (a b sp dp n : Nat) : PM := (M.1, M.2.1, M.2.2.1, va_up (mI M) b (va_cpy (mI M a) (mI M b) sp dp n), va_up (mL M) b (va_cpy (mL M a) (mL M b) sp dp n), va_up (mR M) b (va_cpy (mR M a) (mR M b) sp dp n))
theorem cpy_ev {ty : FieldType} {I1 I2 : Nat → Int32} {L1 L2 : Nat → Int64} {R1 R2 : Nat → Option Nat} {sp dp n : Nat} : (fun k => evV ty (va_cpy I1 I2 sp dp n k) (va_cpy L1 L2 sp dp n k) (va_cpy R1 R2 sp dp n k)) = va_cpy (fun k => evV ty (I1 k) (L1 k) (R1 k)) (fun k => evV ty (I2 k) (L2 k) (R2 k)) sp dp n := by
  funext k
  unfold va_cpy
  split <;> rfl
theorem r_copy {a b t na nb idx : Nat} {sp dp n : Int32} (d : decode (gc G) pc = .ok (.invokestatic idx, 3)) (hlk : Cond.methodLink (gy G).cls idx arraycopyName ∈ lw_all) (hA : mK M a = (2, t)) (hB : mK M b = (2, t)) (hza : mZ M a = na) (hzb : mZ M b = nb) (k1 : ¬ sp < 0) (k2 : ¬ dp < 0) (k3 : ¬ n < 0) (k4 : sp.toNatClampNeg + n.toNatClampNeg ≤ na) (k5 : dp.toNatClampNeg + n.toNatClampNeg ≤ nb)
    (hfit : ∀ ty, atX[t]? = some ty → ∀ i, i < n.toNatClampNeg → fits ty (evV ty (mI M a (sp.toNatClampNeg + i)) (mL M a (sp.toNatClampNeg + i)) (mR M a (sp.toNatClampNeg + i))) = true)
    (href : ∀ C, atX[t]? = some (.object C) → ∀ i, i < n.toNatClampNeg → ∀ x, mR M a (sp.toNatClampNeg + i) = some x → ∃ c q, mK M x = (1, c) ∧ clX[c]? = some q ∧ (q.1 = C ∨ Cond.castable q.1 C ∈ lw_tbl)) (hna : ∀ ty, atX[t]? ≠ some (.array ty))
    (hfr : 1 ≤ gF G) (hlo : (st.map fun v => v.category).sum + (nativeFrameWords "java/lang/System" "arraycopy" 5 + 11) ≤ gO G) (kk : Wx G bc bs (cpM M a b sp.toNatClampNeg dp.toNatClampNeg n.toNatClampNeg) (pc + 3) ls st) : Wx G bc bs M pc ls (.int n :: .int dp :: .ref b :: .int sp :: .ref a :: st) := by
  have nn : ∀ z : Int32, ¬ z < 0 → z.toInt = (z.toNatClampNeg : Int) := by
    intro z hz
    rw [i_lt, c_0] at hz
    show z.toInt = ((z.toInt.toNat : Nat) : Int)
    omega
  intro Ω l p e s m args below meth c F H locs cells slots lsr hR hS hl h1 h2
  obtain ⟨ba, ty, hty, hca⟩ := hR.ar hA
  obtain ⟨bb, ty', hty', hcb⟩ := hR.ar hB
  cases hty.symm.trans hty'
  subst hza; subst hzb
  obtain ⟨hx, hc, -, -, hml, hown, hts, hCx, -, -, -⟩ := id F
  have hTa := arrT hCx hty (mZ M a) (fun k => evV ty (mI M a k) (mL M a k) (mR M a k))
  have hTb := arrT hCx hty (mZ M b) (fun k => evV ty (mI M b k) (mL M b k) (mR M b k))
  obtain ⟨-, ka, hka, cma, hkka⟩ := hTa
  obtain ⟨-, kb, hkb, cmb, hkkb⟩ := hTb
  intro T hT X
  have hrd : ∀ i, i < n.toNatClampNeg → (arrV (Ω.2.2.1 t) (mZ M a) (fun k => evV ty (mI M a k) (mL M a k) (mR M a k))).slots.getD (sp.toNatClampNeg + i) .null = evV ty (mI M a (sp.toNatClampNeg + i)) (mL M a (sp.toNatClampNeg + i)) (mR M a (sp.toNatClampNeg + i)) := fun i hi => by
    rw [Array.getD_eq_getD_getElem?, arrV_read _ _ (by omega)]
    rfl
  obtain ⟨vm', X', step⟩ := X.arraycopy hx hown (hts _ hlk) (hts _ q567) (hts _ q566) (hts _ q99) (src := a) (dst := b) (srcPos := sp) (destPos := dp) (n := n) (by rw [hT]; exact hca) (by rw [hT]; exact hcb)
    (fun _ h => by cases h) (fun _ h => by cases h) (fun h => by cases h) (fun h => by cases h) hka hkb hkka hkkb (by cases ty <;> simp [refKind]) k1 k2 k3
    (by rw [nn sp k1, nn n k3, arrV_size]; omega) (by rw [nn dp k2, nn n k3, arrV_size]; omega)
    (fun vm₁ hal i hi => by
      rw [hrd i hi]
      refine ⟨hfit ty hty i hi, ?_⟩
      have hr := href
      cases ty with
      | object C =>
        show State.takes _ cmb (va_rf (mR M a (sp.toNatClampNeg + i)))
        cases hm : mR M a (sp.toNatClampNeg + i) with
        | none => trivial
        | some x =>
          obtain ⟨c9, q9, g1, g2, g3⟩ := hr C hty i hi x hm
          obtain ⟨cell, j1, j2, j3⟩ := hR.recv hCx g1 g2
          obtain ⟨kC, hkC, -⟩ := Vm.findClass_spec j3
          have hcm : s.vm.findClass C = some cmb := by
            obtain ⟨kA, comp, w1, w2, w3, -⟩ := (arrRA hCx hty)
            have e9 : kA = kb := Option.some.inj (w1.symm.trans hkb)
            subst e9
            rw [w2] at hkkb
            cases hkkb
            exact w3
          obtain ⟨kD, hkD, -⟩ := Vm.findClass_spec hcm
          have hasg : s.vm.assignable cell.cls cmb = true := by
            rcases g3 with g3 | g3
            · rw [g3] at j3
              cases Option.some.inj (j3.symm.trans hcm)
              exact va_asg _ _
            · obtain ⟨c1, t1, f1, f2, f3⟩ := Cond.castable_spec (va_Nw.use (A := args) rfl (hCx.2.2.2.1 _ g3 rfl))
              cases j3.symm.trans f1
              cases hcm.symm.trans f2
              exact f3
          obtain ⟨kC', hkC', -⟩ := hal.2.2 _ _ hkC
          obtain ⟨kD', hkD', -⟩ := hal.2.2 _ _ hkD
          refine ⟨cell, ?_, VmData.noStatics_of j2, ⟨kC', hkC'⟩, ⟨kD', hkD'⟩, ?_⟩
          · show T.heap[x]? = some cell; rw [hT]; exact j1
          · show vm₁.assignable _ _ = true; rw [hal.assignable]; exact hasg
      | array t9 => exact absurd hty (hna t9)
      | _ => trivial)
    (g := F0 m pc lsr (.int n :: .int dp :: .ref b :: .int sp :: .ref a :: st)) rfl (by rw [hml]; exact hl.1.1) (rest := st) rfl (by rw [hc]; exact d) hfr (by show 2 * 0 + _ + _ ≤ gO G; omega)
  have e1 : copied (arrV (Ω.2.2.1 t) (mZ M a) (fun k => evV ty (mI M a k) (mL M a k) (mR M a k))) (arrV (Ω.2.2.1 t) (mZ M b) (fun k => evV ty (mI M b k) (mL M b k) (mR M b k))) sp dp n = arrV (Ω.2.2.1 t) (mZ M b) (va_cpy (fun k => evV ty (mI M a k) (mL M a k) (mR M a k)) (fun k => evV ty (mI M b k) (mL M b k) (mR M b k)) sp.toNatClampNeg dp.toNatClampNeg n.toNatClampNeg) := va_copied (fun z => z) _ _ _ _ k4
  rw [e1] at X' step
  have hlt : b < T.heap.size := (Array.getElem?_eq_some_iff.mp (by rw [hT]; exact hcb)).1
  have hz : ((T.setVm vm').setCell b (arrV (Ω.2.2.1 t) (mZ M b) (va_cpy (fun k => evV ty (mI M a k) (mL M a k) (mR M a k)) (fun k => evV ty (mI M b k) (mL M b k) (mR M b k)) sp.toNatClampNeg dp.toNatClampNeg n.toNatClampNeg))).heap.size = H.size := by rw [size_setCell]; show T.heap.size = H.size; rw [hT]
  have ho : ∀ q, q ≠ b → ((T.setVm vm').setCell b (arrV (Ω.2.2.1 t) (mZ M b) (va_cpy (fun k => evV ty (mI M a k) (mL M a k) (mR M a k)) (fun k => evV ty (mI M b k) (mL M b k) (mR M b k)) sp.toNatClampNeg dp.toNatClampNeg n.toNatClampNeg))).heap[q]? = H[q]? := fun q hq => by rw [heapAt_setCell_ne _ (Ne.symm hq)]; show T.heap[q]? = _; rw [hT]
  have hS' : va_S (Fr Ω) s.heap ((T.setVm vm').setCell b (arrV (Ω.2.2.1 t) (mZ M b) (va_cpy (fun k => evV ty (mI M a k) (mL M a k) (mR M a k)) (fun k => evV ty (mI M b k) (mL M b k) (mR M b k)) sp.toNatClampNeg dp.toNatClampNeg n.toNatClampNeg))).heap (locs ++ ((arrV (Ω.2.2.1 t) (mZ M a) (fun k => evV ty (mI M a k) (mL M a k) (mR M a k))).stretch sp.toNatClampNeg n.toNatClampNeg).zipIdx.map fun q => ⟨b, dp.toNatClampNeg + q.2⟩) := by
    refine ⟨by rw [hz]; exact hS.1, fun q g1 g2 => by rw [ho q (fun e9 => g2 (by rw [e9]; exact bb))]; exact hS.2.1 q g1 g2, fun x hx9 => ?_⟩
    rcases List.mem_append.mp hx9 with h9 | h9
    · exact hS.2.2 x h9
    · obtain ⟨q9, -, rfl⟩ := List.mem_map.mp h9
      exact bb
  obtain ⟨t', s1, s2⟩ := kk Ω l p e s m args below meth c F _ _ cells slots lsr (hR.aput (M' := cpM M a b sp.toNatClampNeg dp.toNatClampNeg n.toNatClampNeg) hB hty hz ho rfl rfl rfl (fun q hq => va_up_ne _ _ hq) (fun q hq => va_up_ne _ _ hq) (fun q hq => va_up_ne _ _ hq) (by
      rw [heapAt_setCell_self _ (show b < (T.setVm vm').heap.size from hlt)]
      congr 2
      show _ = fun k => evV ty (va_up (mI M) b (va_cpy (mI M a) (mI M b) sp.toNatClampNeg dp.toNatClampNeg n.toNatClampNeg) b k) (va_up (mL M) b (va_cpy (mL M a) (mL M b) sp.toNatClampNeg dp.toNatClampNeg n.toNatClampNeg) b k) (va_up (mR M) b (va_cpy (mR M a) (mR M b) sp.toNatClampNeg dp.toNatClampNeg n.toNatClampNeg) b k)
      simp only [va_up_self]
      exact cpy_ev.symm)) hS' hl h1 h2 _ rfl X'
  exact ⟨t', step t' s1, s2⟩
end
