/-! AN ARRAY OF FIVE ARRAYS (multianewarray of [[I): own derivation from the instruction's semantics -/
set_option maxRecDepth 100000
/-- one inner array made and stored -/
def stpM (S : State) (a : Nat) (cell : Cell) (i : Nat) (cB : ClassId) (n : Nat) : State := (S.pushCell { cls := cB, slots := Array.replicate n (.int 0) }).setCell a (cell.setSlot i (.ref S.heap.size))
section
variable {E : CtlPost} {e : Env} {d : Bool} {acts : List Action}
theorem wp_inner {S : State} {a i : Nat} {cell : Cell} {cB ci : ClassId} {kB : Class} {n : Int32} (hkB : S.vm.classes[cB]? = some kB) (hkind : kB.kind = .array ci .int) (hn : ¬ n < 0) (hlimit : ¬ n.toNatClampNeg > e.platform.arrayLengthLimit) (hheap : ¬ n.toNatClampNeg * 4 > e.platform.maxHeapBytes)
    (hcells : S.heap.size < e.platform.maxCells) (hslots : S.slotsUsed + n.toNatClampNeg ≤ e.platform.maxSlots) (hcell : S.heap[a]? = some cell) (hknown : cell.vm ≠ .unknown) (hi : i < cell.slots.size) (hfit : ∀ r, S.fitsSlot cell.cls cell.vm i (.ref r) = true)
    {Q : ForInStep PUnit → Pre} (hq : ∀ d' acts', Q (.yield PUnit.unit) d' acts' (stpM S a cell i cB n.toNatClampNeg)) :
    wp (do let x ← Jvm.Op.multianewarray.make cB [n]; Jvm.writeLoc a i (.ref x); Pure.pure (ForInStep.yield PUnit.unit)) Q E e d acts S := by
  have hlt : a < S.heap.size := (Array.getElem?_eq_some_iff.mp hcell).1
  simp only [Jvm.Op.multianewarray.make, wp_bind', W.ite, hn, if_false, W.theClass, hkB, Option.some.injEq, exists_eq_left', hkind, wp_pure']
  refine W.newArray_of hkB hkind hlimit hheap hcells hslots rfl fun acts' => ?_
  simp only [wp_bind', W.writeLoc, wp_pure']
  refine ⟨cell, ?_, hknown, hi, hfit _, hq _ _⟩
  show (S.heap.push _)[a]? = _
  rw [Array.getElem?_push, if_neg (Nat.ne_of_lt hlt)]
  exact hcell
def o0M (cO : ClassId) : Cell := { cls := cO, slots := Array.replicate 5 .null }
def clM (o : Cell) (h : Nat) : Nat → Cell
  | 0 => o
  | i + 1 => (clM o h i).setSlot i (.ref (h + (1 + i)))
/-- the outer array and i inner ones made -/
def fillM (s : State) (cO cB : ClassId) (n : Nat) : Nat → State
  | 0 => s.pushCell (o0M cO)
  | i + 1 => stpM (fillM s cO cB n i) s.heap.size (clM (o0M cO) s.heap.size i) i cB n
theorem clM_v (o : Cell) (h i : Nat) : (clM o h i).vm = o.vm ∧ (clM o h i).cls = o.cls ∧ (clM o h i).slots.size = o.slots.size := by
  induction i with
  | zero => exact ⟨rfl, rfl, rfl⟩
  | succ i ih => exact ⟨ih.1, ih.2.1, by show ((clM o h i).slots.setIfInBounds _ _).size = _; rw [Array.size_setIfInBounds]; exact ih.2.2⟩
theorem fillM_z (s : State) (cO cB : ClassId) (n i : Nat) : (fillM s cO cB n i).heap.size = s.heap.size + (1 + i) ∧ (fillM s cO cB n i).slotsUsed = s.slotsUsed + (5 + i * n) ∧ (fillM s cO cB n i).vm = s.vm ∧ (fillM s cO cB n i).heap[s.heap.size]? = some (clM (o0M cO) s.heap.size i) ∧ (fillM s cO cB n i).topJava? = s.topJava? := by
  induction i with
  | zero => exact ⟨by show (s.heap.push _).size = _; rw [Array.size_push], by show s.slotsUsed + (Array.replicate 5 Value.null).size = _; rw [Array.size_replicate]; omega, rfl, by show (s.heap.push _)[s.heap.size]? = _; rw [Array.getElem?_push_size]; rfl, rfl⟩
  | succ i ih =>
    obtain ⟨h1, h2, h3, h4, h5⟩ := ih
    have hlt := (Array.getElem?_eq_some_iff.mp h4).1
    refine ⟨?_, ?_, h3, ?_, h5⟩
    · show (Array.setIfInBounds (Array.push (fillM s cO cB n i).heap _) _ _).size = _
      rw [Array.size_setIfInBounds, Array.size_push, h1]; omega
    · show (fillM s cO cB n i).slotsUsed + (Array.replicate n (Value.int 0)).size = _
      rw [h2, Array.size_replicate, Nat.add_mul]; omega
    · show (Array.setIfInBounds (Array.push (fillM s cO cB n i).heap _) _ _)[s.heap.size]? = _
      rw [Array.getElem?_setIfInBounds, if_pos rfl, if_pos (by rw [Array.size_push]; omega)]
      show _ = some ((clM (o0M cO) s.heap.size i).setSlot i (.ref (s.heap.size + (1 + i))))
      rw [h1]
theorem multi_wp {s : State} {f : JFrame} {index : Nat} {cO cB ci : ClassId} {kO kB : Class} {n : Int32} {rest : List Value} (hs : s.topJava?.isSome) (hr : s.vm.classReady f.method.cls index cO) (hkO : s.vm.classes[cO]? = some kO) (hkindO : kO.kind = .array cB (.array .int)) (hkB : s.vm.classes[cB]? = some kB) (hkindB : kB.kind = .array ci .int) (hstack : f.stack = .int n :: .int 5 :: rest) (hn : ¬ n < 0) (hlimit : ¬ n.toNatClampNeg > e.platform.arrayLengthLimit) (hlimit5 : ¬ 5 > e.platform.arrayLengthLimit) (hheap : ¬ n.toNatClampNeg * 4 > e.platform.maxHeapBytes) (hheap5 : ¬ 5 * 4 > e.platform.maxHeapBytes)
    (hcells : s.heap.size + 6 ≤ e.platform.maxCells) (hslots : s.slotsUsed + (5 + 5 * n.toNatClampNeg) ≤ e.platform.maxSlots)
    {Q : Unit → Pre} (hq : ∀ d' acts', Q () d' acts' ((fillM s cO cB n.toNatClampNeg 5).setTop { f with stack := .ref s.heap.size :: rest })) :
    wp (Jvm.Op.multianewarray.sem index 2) Q E e d acts (s.setTop f) := by
  simp only [Jvm.Op.multianewarray.sem, wp_bind', W.resolveClassAt_ready (State.method?_setTop f hs) hr]
  rw [show (2 : Nat) = [Value.int 5, Value.int n].length from rfl, Jvm.Op.popN_top hs (args := [.int 5, .int n]) (rest := rest) (by rw [hstack]; rfl)]
  simp only [List.mapM_cons, List.mapM_nil, wp_bind', wp_pure']
  have h5 : ¬ (5 : Int32) < 0 := by decide
  have e5 : (5 : Int32).toNatClampNeg = 5 := rfl
  have b5 : ((5 : Int32) == 0) = false := by decide
  rw [Jvm.Op.multianewarray.make]
  simp only [wp_bind', W.ite, h5, if_false, W.theClass, State.vm_setTop, hkO, Option.some.injEq, exists_eq_left', hkindO, wp_pure', e5, b5]
  refine W.newArray_of (k := kO) (comp := cB) (type := .array .int) hkO hkindO hlimit5 hheap5 (by show s.heap.size < _; omega) (by show s.slotsUsed + 5 ≤ _; omega) rfl fun acts' => ?_
  simp only [wp_bind', wp_pure', W.mark, Bool.false_eq_true, if_false, W.ite]
  rw [Std.Legacy.Range.forIn_eq_forIn_range']
  refine wp_forIn_inv (fun l S => ∃ i, i ≤ 5 ∧ l = List.range' i (5 - i) ∧ S = (fillM s cO cB n.toNatClampNeg i).setTop { f with stack := rest }) _ _ ⟨0, by decide, rfl, rfl⟩ ?_ ?_
  · rintro x r S' d' acts'' Q' ⟨i, hi, hl, rfl⟩ hQ
    have hi5 : i < 5 := by
      rcases Nat.lt_or_ge i 5 with h | h
      · exact h
      · rw [show 5 - i = 0 by omega] at hl; cases hl
    rw [show 5 - i = (5 - (i + 1)) + 1 by omega, List.range'_succ] at hl
    obtain ⟨rfl, hr'⟩ := List.cons.inj hl
    obtain ⟨z1, z2, z3, z4, z5⟩ := fillM_z s cO cB n.toNatClampNeg x
    obtain ⟨v1, v2, v3⟩ := clM_v (o0M cO) s.heap.size x
    have hnx : x * n.toNatClampNeg + n.toNatClampNeg ≤ 5 * n.toNatClampNeg := by
      rw [← Nat.succ_mul]; exact Nat.mul_le_mul_right _ hi5
    refine wp_inner (S := (fillM s cO cB n.toNatClampNeg x).setTop { f with stack := rest }) (cell := clM (o0M cO) s.heap.size x) (kB := kB) (ci := ci) (by rw [State.vm_setTop, z3]; exact hkB) hkindB hn hlimit hheap (by show (fillM s cO cB n.toNatClampNeg x).heap.size < _; rw [z1]; omega) (by show (fillM s cO cB n.toNatClampNeg x).slotsUsed + _ ≤ _; rw [z2]; omega) z4 (by rw [v1]; exact fun h => by cases h) (by rw [v3]; show x < (Array.replicate 5 Value.null).size; rw [Array.size_replicate]; exact hi5) (fun q => ?_) fun d'' a'' => hQ _ _ _ ⟨x + 1, by omega, hr', rfl⟩
    rw [v1, v2]
    simp [State.fitsSlot, State.slotType?, z3, hkO, hkindO, o0M, fits]
  · rintro S' d' acts'' ⟨i, hi, hl, rfl⟩
    have hi5 : i = 5 := by
      rcases Nat.lt_or_ge i 5 with h | h
      · rw [show 5 - i = (5 - (i + 1)) + 1 by omega, List.range'_succ] at hl; cases hl
      · omega
    subst hi5
    have ht : (fillM s cO cB n.toNatClampNeg 5).topJava?.isSome := by rw [(fillM_z s cO cB n.toNatClampNeg 5).2.2.2.2]; exact hs
    simp only [wp_bind', wp_pure', W.mark, W.pushRef, State.topJava?_setTop' _ ht, Option.some.injEq, exists_eq_left', State.setTop_setTop]
    exact hq _ _
end
/-- THE RULE: the memory with the outer array and i inner ones -/
def mlM (M : PM) (n : Nat) : Nat → PM
  | 0 => nw M (2, 7) 5
  | i + 1 => sR (nw (mlM M n i) (2, 0) n) M.1 i (some (M.1 + (1 + i)))
theorem mlM_1 (M : PM) (n i : Nat) : (mlM M n i).1 = M.1 + (1 + i) := by
  induction i with
  | zero => rfl
  | succ i ih => show (mlM M n i).1 + 1 = _; omega
theorem mlM_K (M : PM) (n i : Nat) : mK (mlM M n i) M.1 = (2, 7) ∧ mZ (mlM M n i) M.1 = 5 := by
  induction i with
  | zero => exact ⟨nw_K M _ _, if_pos rfl⟩
  | succ i ih =>
    have h := mlM_1 M n i
    exact ⟨(if_neg (by omega)).trans ih.1, (if_neg (by omega)).trans ih.2⟩
theorem multi_cold {E : CtlPost} {e : Env} {d : Bool} {acts : List Action} {s : State} {f : JFrame} {Q : Unit → Pre} {index c : Nat} {vm' : Vm} (hs : s.topJava?.isSome) (hg : (Jvm.resolveClass f.method.cls index).Gives e.toSetting s.vm (.ok c) vm') (hr : vm'.classReady f.method.cls index c)
    (hsz : vm'.classes.size ≤ s.vm.classes.size := by no_record) :
    wp (Jvm.Op.multianewarray.sem index 2) Q E e d acts (s.setTop f) ↔ wp (Jvm.Op.multianewarray.sem index 2) Q E e d acts ((s.setVm vm').setTop f) := by
  simp only [Jvm.Op.multianewarray.sem, wp_bind']
  exact W.resolveClassAt_transfer (s := s.setTop f) (State.method?_setTop f hs) hg hr
theorem clM_arr (c : ClassId) (h : Nat) : ∀ i, i ≤ 5 → clM (o0M c) h i = arrV c 5 (fun k => if k < i then .ref (h + (1 + k)) else .null)
  | 0, _ => by
    show ({ cls := c, slots := Array.replicate 5 .null } : Cell) = _
    rw [arrV_new]
    rfl
  | i + 1, hi => by
    show (clM (o0M c) h i).setSlot i _ = _
    rw [clM_arr c h i (by omega), arrV_store]
    congr 1
    funext k
    by_cases hk : k = i
    · subst hk; simp [updV]
    · simp only [updV, hk, if_false]
      by_cases h1 : k < i
      · rw [if_pos h1, if_pos (by omega)]
      · rw [if_neg h1, if_neg (by omega)]
section
variable {p : Program} {l : Launch} {e : Env} {R : Room} {s : State} {m : MethodId} {args : Array Value} {below : List Frame} {meth : Method} {c : Code} {T : State} {locs : List Loc} {cells slots : Nat} {Ω : OM} {M : PM}
theorem fill_all (n : Nat) (X : Stand p l e R s m args below meth c T locs cells slots) (hR : Rel Ω M T.heap) (hS : va_S (Fr Ω) s.heap T.heap locs) (low : ∀ i, i < 6 → Ω.2.2.2.1 i < Ω.1) :
    ∀ i, i ≤ 5 → ∃ locs', Stand p l e R s m args below meth c (fillM T (Ω.2.2.1 7) (Ω.2.2.1 0) n i) locs' (cells + (1 + i)) (slots + (5 + i * n)) ∧ Rel Ω (mlM M n i) (fillM T (Ω.2.2.1 7) (Ω.2.2.1 0) n i).heap ∧ va_S (Fr Ω) s.heap (fillM T (Ω.2.2.1 7) (Ω.2.2.1 0) n i).heap locs'
  | 0, _ => by
    have z1 : (T.heap.push (o0M (Ω.2.2.1 7))).size = T.heap.size + 1 := Array.size_push _
    have o1 : ∀ q : Nat, q < T.heap.size → (T.heap.push (o0M (Ω.2.2.1 7)))[q]? = T.heap[q]? := fun q hq => by rw [Array.getElem?_push, if_neg (Nat.ne_of_lt hq)]
    have X1 := X.pushed (o0M (Ω.2.2.1 7))
    rw [show (o0M (Ω.2.2.1 7)).slots.size = 5 + 0 * n by show (Array.replicate 5 Value.null).size = _; rw [Array.size_replicate]; omega] at X1
    refine ⟨locs, X1, hR.new z1 o1 ?_ low, ⟨Nat.le_trans hS.1 (by show _ ≤ (T.heap.push _).size; rw [z1]; exact Nat.le_succ _), fun x g1 g2 => (o1 x (Nat.lt_of_lt_of_le g1 hS.1)).trans (hS.2.1 x g1 g2), hS.2.2⟩⟩
    unfold okA
    rw [show (nw M (2, 7) 5).2.1 M.1 = (2, 7) from if_pos rfl]
    refine ⟨hR.2.1, _, rfl, ?_⟩
    show (T.heap.push _)[M.1]? = some (arrV _ (va_up M.2.2.1 M.1 5 M.1) (fun k => evV _ (va_up M.2.2.2.1 M.1 (fun _ => 0) M.1 k) (va_up M.2.2.2.2.1 M.1 (fun _ => 0) M.1 k) (va_up M.2.2.2.2.2 M.1 (fun _ => none) M.1 k)))
    rw [va_up_self, va_up_self, va_up_self, va_up_self, ← hR.1, Array.getElem?_push_size]
    show some (clM (o0M (Ω.2.2.1 7)) 0 0) = _
    rw [clM_arr _ _ _ (by decide)]
    rfl
  | i + 1, hi => by
    obtain ⟨locs', X0, R0, S0⟩ := fill_all n X hR hS low i (by omega)
    obtain ⟨f1, f2, f3, f4, f5⟩ := fillM_z T (Ω.2.2.1 7) (Ω.2.2.1 0) n i
    have m1 := mlM_1 M n i
    have mk := mlM_K M n i
    have hsz := hR.1
    generalize hU : fillM T (Ω.2.2.1 7) (Ω.2.2.1 0) n i = U at X0 R0 S0 f1 f2 f3 f4 f5
    generalize hN : mlM M n i = N at R0 m1 mk
    have X1 := X0.pushed { cls := Ω.2.2.1 0, slots := Array.replicate n (.int 0) }
    have z1 : (U.heap.push { cls := Ω.2.2.1 0, slots := Array.replicate n (.int 0) }).size = U.heap.size + 1 := Array.size_push _
    have o1 : ∀ q : Nat, q < U.heap.size → (U.heap.push ({ cls := Ω.2.2.1 0, slots := Array.replicate n (.int 0) } : Cell))[q]? = U.heap[q]? := fun q hq => by rw [Array.getElem?_push, if_neg (Nat.ne_of_lt hq)]
    have R1 : Rel Ω (nw N (2, 0) n) (U.pushCell { cls := Ω.2.2.1 0, slots := Array.replicate n (.int 0) }).heap := by
      refine R0.new z1 o1 ?_ low
      unfold okA
      rw [show (nw N (2, 0) n).2.1 N.1 = (2, 0) from if_pos rfl]
      refine ⟨R0.2.1, _, rfl, ?_⟩
      show (U.heap.push _)[N.1]? = some (arrV _ (va_up N.2.2.1 N.1 n N.1) (fun k => evV _ (va_up N.2.2.2.1 N.1 (fun _ => 0) N.1 k) (va_up N.2.2.2.2.1 N.1 (fun _ => 0) N.1 k) (va_up N.2.2.2.2.2 N.1 (fun _ => none) N.1 k)))
      rw [va_up_self, va_up_self, va_up_self, va_up_self, ← R0.1, Array.getElem?_push_size]
      show some ({ cls := Ω.2.2.1 0, slots := Array.replicate n (.int 0) } : Cell) = _
      rw [← arrV_new]
      rfl
    have S1 : va_S (Fr Ω) s.heap (U.pushCell { cls := Ω.2.2.1 0, slots := Array.replicate n (.int 0) }).heap locs' := ⟨Nat.le_trans S0.1 (by show _ ≤ (U.heap.push _).size; rw [z1]; exact Nat.le_succ _), fun x g1 g2 => (o1 x (Nat.lt_of_lt_of_le g1 S0.1)).trans (S0.2.1 x g1 g2), S0.2.2⟩
    generalize hV : U.pushCell { cls := Ω.2.2.1 0, slots := Array.replicate n (.int 0) } = V at X1 R1 S1
    have hc1 : V.heap[T.heap.size]? = some (clM (o0M (Ω.2.2.1 7)) T.heap.size i) := by
      rw [← hV]
      exact (o1 _ (by omega)).trans f4
    have hlt := (Array.getElem?_eq_some_iff.mp hc1).1
    have X2 := X1.stored hc1 i (.ref U.heap.size)
    have hz2 : (V.setCell T.heap.size ((clM (o0M (Ω.2.2.1 7)) T.heap.size i).setSlot i (.ref U.heap.size))).heap.size = V.heap.size := size_setCell _ _ _
    have ho2 : ∀ q, q ≠ T.heap.size → (V.setCell T.heap.size ((clM (o0M (Ω.2.2.1 7)) T.heap.size i).setSlot i (.ref U.heap.size))).heap[q]? = V.heap[q]? := fun q hq => heapAt_setCell_ne _ (Ne.symm hq)
    have hE : fillM T (Ω.2.2.1 7) (Ω.2.2.1 0) n (i + 1) = V.setCell T.heap.size ((clM (o0M (Ω.2.2.1 7)) T.heap.size i).setSlot i (.ref U.heap.size)) := by
      rw [← hV, ← hU]; rfl
    have hK1 : mK (nw N (2, 0) n) M.1 = (2, 7) := (if_neg (by omega)).trans mk.1
    have hZ1 : mZ (nw N (2, 0) n) M.1 = 5 := (if_neg (by omega)).trans mk.2
    rw [hE]
    refine ⟨_, ?_, ?_, S1.put (k := i) hz2 ho2 (hsz ▸ hR.2.1)⟩
    · have e1 : cells + (1 + i) + 1 = cells + (1 + (i + 1)) := by omega
      have e2 : slots + (5 + i * n) + (Array.replicate n (Value.int 0)).size = slots + (5 + (i + 1) * n) := by rw [Array.size_replicate, Nat.add_mul]; omega
      rw [← e1, ← e2]
      exact X2
    · show Rel Ω (sR (nw (mlM M n i) (2, 0) n) M.1 i (some (M.1 + (1 + i)))) _
      rw [hN]
      rw [hsz] at hz2 ho2 hc1 ⊢
      refine R1.aput (t := 7) hK1 rfl hz2 ho2 rfl rfl rfl (fun _ _ => rfl) (fun _ _ => rfl) (fun q hq => up2_ne hq) ?_
      obtain ⟨-, ty, hty, hcc⟩ := R1.ar hK1
      cases hty
      rw [heapAt_setCell_self _ (by rw [← hsz]; exact hlt)]
      rw [Option.some.inj (hc1.symm.trans hcc), arrV_store]
      congr 2
      funext k
      show updV _ i (.ref U.heap.size) k = va_rf (up2 (mR (nw N (2, 0) n)) M.1 i (some (M.1 + (1 + i))) M.1 k)
      rw [up2_self, f1, hsz]
      by_cases hk : k = i
      · subst hk; simp [updV, va_up, va_rf]
      · simp [updV, va_up, hk, evV]
end
theorem r_multi {G : GT} {bc bs : Nat} {M : PM} {pc : Nat} {ls : List (Option Value)} {st : List Value} {n idx : Nat} {i : Int32} (d : decode (gc G) pc = .ok (.multianewarray idx 2, 4)) (hlk : Cond.classLink (gy G).cls idx "[[I" ∈ lw_all) (h0 : ¬ i < 0) (hn : i.toNatClampNeg = n) (hbytes : n * 4 ≤ 536870912) (h1c : 6 ≤ bc) (h2c : 5 + 5 * n ≤ bs) (kk : Wx G (bc - 6) (bs - (5 + 5 * n)) (mlM M n 5) (pc + 4) ls (.ref M.1 :: st)) : Wx G bc bs M pc ls (.int i :: .int 5 :: st) := by
  intro Ω l p e s m args below meth c0 F H locs cells slots lsr hR hS hl h1 h2
  obtain ⟨hx, hc, -, -, -, hown, hts, hCx, -⟩ := id F
  subst hn
  intro T hT X
  subst hT
  have hpl : e.platform.magicAccessors = ({} : Platform).magicAccessors := by rw [X.admits.platform]
  obtain ⟨cc, hfcc, hcl⟩ := Cond.classLink_spec hown (hts _ hlk) e.platform hpl
  obtain ⟨comp, c9, kO, a1, -, a3, a4, a5⟩ := hCx.2.2.2.2.2.1.2.2
  cases a5.symm.trans hfcc
  have hcO : cc = Ω.2.2.1 7 := Option.some.inj (hfcc.symm.trans (hCx.1.2 7 _ rfl).2)
  have hcB : comp = Ω.2.2.1 0 := Option.some.inj (a1.symm.trans (arN0 Ω s hCx))
  subst hcO; subst hcB
  obtain ⟨-, kB, hkB, ci, hkindB⟩ := (hCx.1.2 0 _ rfl).1 0 (fun _ => .null)
  obtain ⟨hg1, hwarm1, hready1⟩ := State.classEntry (e := e) X.warmed hcl
  generalize T.vm.noted m.cls idx (.cls (Ω.2.2.1 7)) = vm1 at hg1 hwarm1 hready1
  have hal : s.vm.Alike vm1 := hwarm1.alike
  obtain ⟨kO1, hkO1, heO⟩ := hal.2.2 _ _ a3
  obtain ⟨kB1, hkB1, heB⟩ := hal.2.2 _ _ hkB
  have X1 := X.noted hwarm1
  obtain ⟨locs', X2, R2, S2⟩ := fill_all (i.toNatClampNeg) X1 (Ω := Ω) (M := M) hR hS hCx.low 5 (Nat.le_refl _)
  obtain ⟨hr1, hr2⟩ := X.roomAbove (a := 6) (b := 5 + 5 * i.toNatClampNeg) (by show cells + 6 ≤ gC G; omega) (by show slots + _ ≤ gS G; omega)
  have kk' := kk Ω l p e s m args below meth c0 F _ locs' (cells + 6) (slots + (5 + 5 * i.toNatClampNeg)) lsr R2 S2 hl (by omega) (by omega)
  obtain ⟨t, b1, b2⟩ := kk' _ rfl X2
  refine ⟨t, ?_, b2⟩
  refine Steps.instr (c := c0) (by simpa using X.here) ?_
  rw [show decode c0.code (F0 m pc lsr (Value.int i :: Value.int 5 :: st)).pc = .ok (.multianewarray idx 2, 4) by rw [hc]; exact d]
  rw [hx]
  show wp (Jvm.Op.multianewarray.sem idx 2) _ _ e false [] _
  rw [multi_cold X.here.top hg1 hready1]
  refine multi_wp (s := T.setVm vm1) (f := F0 m pc lsr (Value.int i :: Value.int 5 :: st)) (cO := Ω.2.2.1 7) (cB := Ω.2.2.1 0) (ci := ci) (kO := kO1) (kB := kB1) X.here.top hready1 hkO1 (by rw [heO]; exact a4) hkB1 (by rw [heB]; exact hkindB) rfl h0 (by rw [Launch.admits_arrayLengthLimit X.admits]; omega) (by rw [Launch.admits_arrayLengthLimit X.admits]; omega) (by rw [Launch.admits_maxHeapBytes X.admits]; omega) (by rw [Launch.admits_maxHeapBytes X.admits]; omega) hr1 hr2 fun d' acts' acts => ?_
  rw [afterInstr_ok, ← hR.1] at *
  exact b1
