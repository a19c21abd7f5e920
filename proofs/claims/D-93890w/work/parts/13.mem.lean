/-! RULES: fields, arrays, new objects -/
set_option maxRecDepth 100000
def ClsX (c : Nat) : Prop := ∀ q : vw_C, clX[c]? = some q → (∀ w ∈ u_ws q.1 q.2.1 q.2.2, w ∈ lw_all) ∧ (∀ k, k < q.2.2 → parseFieldDescriptor (q.2.1 k).2.2.1 = some (ftX c k)) ∧ (∀ a, a < q.2.2 → ∀ b, b < q.2.2 → a ≠ b → (q.2.1 a).2.1 ≠ (q.2.1 b).2.1)
theorem clsX : ∀ c, ClsX c := by
  intro c q hq
  match c, hq with
  | 0, hq => cases hq; exact ⟨in_X0, tyX0_ok, nmX0⟩
  | 1, hq => cases hq; exact ⟨in_X1, tyX1_ok, nmX1⟩
  | 2, hq => cases hq; exact ⟨in_X2, tyX2_ok, nmX2⟩
  | 3, hq => cases hq; exact ⟨in_X3, tyX3_ok, nmX3⟩
  | 4, hq => cases hq; exact ⟨in_X4, tyX4_ok, nmX4⟩
  | 5, hq => cases hq; exact ⟨in_X5, tyX5_ok, nmX5⟩
  | 6, hq => cases hq; exact ⟨in_X6, tyX6_ok, nmX6⟩
  | 7, hq => cases hq; exact ⟨in_X4, tyX4_ok, nmX4⟩
  | 8, hq => cases hq; exact ⟨in_X8, tyX8_ok, nmX8⟩
  | 9, hq => cases hq; exact ⟨in_X9, tyX9_ok, nmX9⟩
  | 10, hq => cases hq; exact ⟨in_X10, tyX10_ok, nmX10⟩
  | 11, hq => cases hq; exact ⟨in_X11, tyX11_ok, nmX11⟩
  | 12, hq => cases hq; exact ⟨in_X12, tyX12_ok, nmX12⟩
  | 13, hq => cases hq; exact ⟨in_X13, tyX13_ok, nmX13⟩
  | 14, hq => cases hq; exact ⟨in_X14, tyX14_ok, nmX14⟩
  | 15, hq => cases hq; exact ⟨in_X15, tyX15_ok, nmX15⟩
  | 16, hq => cases hq; exact ⟨in_X16, tyX16_ok, nmX16⟩
  | 17, hq => cases hq; exact ⟨in_X17, tyX17_ok, nmX17⟩
  | 18, hq => cases hq; exact ⟨in_X18, tyX18_ok, nmX18⟩
  | 19, hq => cases hq; exact ⟨in_X19, tyX19_ok, nmX19⟩
  | 20, hq => cases hq; exact ⟨in_X20, tyX20_ok, nmX20⟩
  | n + 21, hq => cases hq
/-- entry idx of own's pool names field k of the class c -/
def FL (own : String) (idx c k : Nat) : Prop := ∃ (q : vw_C) (ref : String), clX[c]? = some q ∧ k < q.2.2 ∧ Cond.fieldLink own idx ref (q.2.1 k).2.1 (q.2.1 k).2.2.1 ∈ lw_all ∧
  ∀ (s : State) (args : Array Value), (∀ w ∈ lw_all, w.before args s = true) → ∀ x, s.fieldFound? (q.2.1 k).1 (q.2.1 k).2.1 (q.2.1 k).2.2.1 = some x → s.fieldFound? ref (q.2.1 k).2.1 (q.2.1 k).2.2.1 = some x
theorem fl_own {own : String} {idx c k : Nat} (q : vw_C) (hq : clX[c]? = some q) (hk : k < q.2.2) (h : Cond.fieldLink own idx (q.2.1 k).1 (q.2.1 k).2.1 (q.2.1 k).2.2.1 ∈ lw_all) : FL own idx c k := ⟨q, _, hq, hk, h, fun _ _ _ _ h => h⟩
theorem fl_same {own : String} {idx c k : Nat} (q : vw_C) (ref : String) (hq : clX[c]? = some q) (hk : k < q.2.2) (h : Cond.fieldLink own idx ref (q.2.1 k).2.1 (q.2.1 k).2.2.1 ∈ lw_all) (hs : Cond.sameField ref (q.2.1 k).1 (q.2.1 k).2.1 (q.2.1 k).2.2.1 ∈ lw_all) : FL own idx c k := ⟨q, ref, hq, hk, h, fun _ _ hts x hx => u_same (hts _ hs) x hx⟩
/-- whether field k of class c is final -/
def finX (c k : Nat) : Option (Bool × String) := (clX[c]?).map fun q => ((q.2.1 k).2.2.2, (q.2.1 k).1)
section
variable {G : GT} {bc bs : Nat} {M : PM} {pc : Nat} {ls : List (Option Value)} {st : List Value}
theorem r_get {a c k idx : Nat} {v : Value} (d : decode (gc G) pc = .ok (.getfield idx, 3)) (h : FL (gy G).cls idx c k) (hK : mK M a = (1, c)) (hv : fv (ftX c k) (mI M a k) (mR M a k) = v) (kk : Wx G bc bs M (pc + 3) ls (v :: st)) : Wx G bc bs M pc ls (.ref a :: st) := by
  intro Ω l p e s m args below meth c0 F H locs cells slots lsr hR hS hl h1 h2
  obtain ⟨q, ref, hq, hk, hlk, hsame⟩ := h
  obtain ⟨hb, q', hq', cell, g1, g2, g3, g4⟩ := hR.ob hK
  cases hq.symm.trans hq'
  obtain ⟨hx, hc, -, -, -, hown, hts, hCx, -⟩ := id F
  obtain ⟨hSl, hfc, kC, hkC, hkind⟩ := hCx.1.1 c q hq
  obtain ⟨cf, kf, fi, f, hi, hsl⟩ := hSl k hk
  refine W.getf hx hc hown (hts _ hlk) (hsame s args hts _ hi) (u_facts hfc hkC (u_lays hts (clsX c q hq).1 hk) hi).1 g1 (by rw [g3]; exact fun h => by cases h) (v := v) ?_ rfl rfl d (kk Ω l p e s m args below meth c0 F H locs cells slots lsr hR hS hl h1 h2)
  rw [hsl, g4 k hk]
  exact congrArg some hv
theorem r_getI {a c k idx : Nat} (d : decode (gc G) pc = .ok (.getfield idx, 3)) (h : FL (gy G).cls idx c k) (hK : mK M a = (1, c)) (hv : ∀ i r, fv (ftX c k) i r = .int i) (kk : Wx G bc bs M (pc + 3) ls (.int (mI M a k) :: st)) : Wx G bc bs M pc ls (.ref a :: st) := r_get d h hK (hv _ _) kk
theorem r_getR {a b c k idx : Nat} (d : decode (gc G) pc = .ok (.getfield idx, 3)) (h : FL (gy G).cls idx c k) (hK : mK M a = (1, c)) (hv : ∀ i r, fv (ftX c k) i r = va_rf r) (hb : mR M a k = some b) (kk : Wx G bc bs M (pc + 3) ls (.ref b :: st)) : Wx G bc bs M pc ls (.ref a :: st) := r_get d h hK (by rw [hv, hb]; rfl) kk
theorem r_getN {a c k idx : Nat} (d : decode (gc G) pc = .ok (.getfield idx, 3)) (h : FL (gy G).cls idx c k) (hK : mK M a = (1, c)) (hv : ∀ i r, fv (ftX c k) i r = va_rf r) (hb : mR M a k = none) (kk : Wx G bc bs M (pc + 3) ls (.null :: st)) : Wx G bc bs M pc ls (.ref a :: st) := r_get d h hK (by rw [hv, hb]; rfl) kk
/-- M' is M with one field of the object a changed to v -/
def fset (M M' : PM) (a c k : Nat) (v : Value) : Prop := M'.1 = M.1 ∧ M'.2.1 = M.2.1 ∧ (∀ q, q ≠ a → mZ M' q = mZ M q) ∧ (∀ q, q ≠ a → mI M' q = mI M q) ∧ (∀ q, q ≠ a → mL M' q = mL M q) ∧ (∀ q, q ≠ a → mR M' q = mR M q) ∧ ∀ j, fv (ftX c j) (mI M' a j) (mR M' a j) = if j = k then v else fv (ftX c j) (mI M a j) (mR M a j)
theorem fset_i {M : PM} {a c k : Nat} {v : Int32} (hv : ∀ i r, fv (ftX c k) i r = .int i) : fset M (sI M a k v) a c k (.int v) := by
  refine ⟨rfl, rfl, fun _ _ => rfl, fun q hq => up2_ne hq, fun _ _ => rfl, fun _ _ => rfl, fun j => ?_⟩
  show fv (ftX c j) (up2 (mI M) a k v a j) (mR M a j) = _
  rw [up2_self]
  by_cases hj : j = k
  · subst hj; rw [if_pos rfl, hv]; simp [va_up]
  · rw [if_neg hj]; simp [va_up, hj]
theorem fset_r {M : PM} {a c k : Nat} {v : Option Nat} (hv : ∀ i r, fv (ftX c k) i r = va_rf r) : fset M (sR M a k v) a c k (va_rf v) := by
  refine ⟨rfl, rfl, fun _ _ => rfl, fun _ _ => rfl, fun _ _ => rfl, fun q hq => up2_ne hq, fun j => ?_⟩
  show fv (ftX c j) (mI M a j) (up2 (mR M) a k v a j) = _
  rw [up2_self]
  by_cases hj : j = k
  · subst hj; rw [if_pos rfl, hv]; simp [va_up]
  · rw [if_neg hj]; simp [va_up, hj]
theorem Rel.fput {Ω : OM} {M M' : PM} {H H' : Heap} {a c k : Nat} {v : Value} {q : vw_C} (h : Rel Ω M H) (hK : mK M a = (1, c)) (hf : fset M M' a c k v) (hq : clX[c]? = some q) (hz : H'.size = H.size) (ho : ∀ q, q ≠ a → H'[q]? = H[q]?) (hob : t_OB a (Ω.2.1.1 c) q.2.2 (Ω.2.1.2 c) H' (updV (fun k => fv (ftX c k) (mI M a k) (mR M a k)) k v)) : Rel Ω M' H' := by
  obtain ⟨e1, e2, e3, e4, e5, e6, e7⟩ := hf
  refine h.put hz ho e1 e2 e3 e4 e5 e6 ?_
  unfold okA
  rw [e2, show M.2.1 a = (1, c) from hK]
  refine ⟨(h.ob hK).1, q, hq, hob.to fun j _ => ?_⟩
  show updV _ k v j = fv (ftX c j) (mI M' a j) (mR M' a j)
  rw [e7 j]
  rfl
theorem r_put {a c k idx : Nat} {v : Value} (M' : PM) (d : decode (gc G) pc = .ok (.putfield idx, 3)) (h : FL (gy G).cls idx c k) (hK : mK M a = (1, c)) (hfin : (finX c k).map (·.1) = some false) (hn : narrow (ftX c k) v = v) (hfit : fits (ftX c k) v = true) (hf : fset M M' a c k v) (kk : Wx G bc bs M' (pc + 3) ls st) : Wx G bc bs M pc ls (v :: .ref a :: st) := by
  intro Ω l p e s m args below meth c0 F H locs cells slots lsr hR hS hl h1 h2
  obtain ⟨q, ref, hq, hk, hlk, hsame⟩ := h
  obtain ⟨hb, q', hq', cell, g1, g2, g3, g4⟩ := hR.ob hK
  cases hq.symm.trans hq'
  obtain ⟨hx, hc, -, -, -, hown, hts, hCx, -⟩ := id F
  have hcl := clsX c q hq
  have hap := va_apart (own := (gy G).cls) hts hcl.1 (ftX c) hcl.2.1 hcl.2.2 hCx.1 hq
  obtain ⟨hSl, hfc, kC, hkC, hkind⟩ := hCx.1.1 c q hq
  obtain ⟨cf, kf, fi, f, hi, hsl⟩ := hSl k hk
  have hfin' : (q.2.1 k).2.2.2 = false := by
    rw [finX, hq] at hfin
    exact Option.some.inj hfin
  have hlay := hts _ (hcl.1 _ (u_in_lay hk))
  unfold u_lay at hlay
  rw [if_neg (by rw [hfin']; decide)] at hlay
  have hst := (u_facts hfc hkC (u_lays hts hcl.1 hk) hi).1
  have h6 := u_store hfc hkC hkind hlay hi (hcl.2.1 k hk) hn hfit
  refine W.putK hx hc (f := f) ⟨hown, hts _ hlk, ⟨_, _, _, hsame s args hts _ hi⟩, hst⟩ (by rw [g2]; exact h6) g1 g3 (by rw [hsl]; exact k2_hasslot (g4 k hk)) rfl rfl d fun H' e1 e2 e3 => ?_
  rw [hsl] at e1 ⊢
  exact kk Ω l p e s m args below meth c0 F H' _ cells slots lsr (hR.fput hK hf hq e2 e3 ⟨_, e1, g2, g3, t_set g4 hap hk v⟩) (hS.put e2 e3 hb) hl h1 h2
theorem r_putF {a c k idx : Nat} {v : Value} (M' : PM) (d : decode (gc G) pc = .ok (.putfield idx, 3)) (h : FL (gy G).cls idx c k) (hK : mK M a = (1, c)) (hfin : finX c k = some (true, (gy G).cls)) (hin2 : (gy G).name = "<init>") (hn : narrow (ftX c k) v = v) (hfit : fits (ftX c k) v = true) (hf : fset M M' a c k v) (kk : Wx G bc bs M' (pc + 3) ls st) : Wx G bc bs M pc ls (v :: .ref a :: st) := by
  intro Ω l p e s m args below meth c0 F H locs cells slots lsr hR hS hl h1 h2
  obtain ⟨q, ref, hq, hk, hlk, hsame⟩ := h
  obtain ⟨hb, q', hq', cell, g1, g2, g3, g4⟩ := hR.ob hK
  cases hq.symm.trans hq'
  obtain ⟨hx, hc, -, -, -, hown, hts, hCx, -, -, hnm⟩ := id F
  have hcl := clsX c q hq
  have hap := va_apart (own := (gy G).cls) hts hcl.1 (ftX c) hcl.2.1 hcl.2.2 hCx.1 hq
  obtain ⟨hSl, hfc, kC, hkC, hkind⟩ := hCx.1.1 c q hq
  obtain ⟨cf, kf, fi, f, hi, hsl⟩ := hSl k hk
  rw [finX, hq] at hfin
  have hfin' : (q.2.1 k).2.2.2 = true := (Prod.mk.inj (Option.some.inj hfin)).1
  have hdecl : (q.2.1 k).1 = (gy G).cls := (Prod.mk.inj (Option.some.inj hfin)).2
  have hlay := hts _ (hcl.1 _ (u_in_lay hk))
  unfold u_lay at hlay
  rw [if_pos hfin'] at hlay
  have hst := (u_facts hfc hkC (u_lays hts hcl.1 hk) hi).1
  have hcf : m.cls = cf := by
    obtain ⟨_, _, c', _, _, _, -, -, hf', -, -, -, hown2, -⟩ := Cond.laysFinal_spec hlay
    have e1 : c' = cf := by have := hi.symm.trans hf'; simp at this; exact this.1.symm
    rw [hdecl] at hown2
    rw [← e1]; exact Option.some.inj (hown.symm.trans hown2)
  have h6 := u_fits hfc hkC hkind (Or.inr hlay) hi (hcl.2.1 k hk) hn hfit
  refine W.putFinK hx hc hown (hts _ hlk) (hsame s args hts _ hi) hst hcf (by rw [hnm]; exact hin2) (by rw [g2]; exact h6) g1 g3 (by rw [hsl]; exact k2_hasslot (g4 k hk)) rfl rfl d fun H' e1 e2 e3 => ?_
  rw [hsl] at e1 ⊢
  exact kk Ω l p e s m args below meth c0 F H' _ cells slots lsr (hR.fput hK hf hq e2 e3 ⟨_, e1, g2, g3, t_set g4 hap hk v⟩) (hS.put e2 e3 hb) hl h1 h2
theorem r_putI {a c k idx : Nat} {v : Int32} (d : decode (gc G) pc = .ok (.putfield idx, 3)) (h : FL (gy G).cls idx c k) (hK : mK M a = (1, c)) (hfin : (finX c k).map (·.1) = some false) (hty : ftX c k = .int) (kk : Wx G bc bs (sI M a k v) (pc + 3) ls st) : Wx G bc bs M pc ls (.int v :: .ref a :: st) := r_put _ d h hK hfin (by rw [hty]; rfl) (by rw [hty]; rfl) (fset_i (by rw [hty]; exact fun _ _ => rfl)) kk
theorem r_putZ {a c k idx : Nat} {v : Int32} (d : decode (gc G) pc = .ok (.putfield idx, 3)) (h : FL (gy G).cls idx c k) (hK : mK M a = (1, c)) (hfin : (finX c k).map (·.1) = some false) (hty : ftX c k = .boolean) (hn : narrow .boolean (.int v) = .int v) (hfit : fits .boolean (.int v) = true) (kk : Wx G bc bs (sI M a k v) (pc + 3) ls st) : Wx G bc bs M pc ls (.int v :: .ref a :: st) := r_put _ d h hK hfin (by rw [hty]; exact hn) (by rw [hty]; exact hfit) (fset_i (by rw [hty]; exact fun _ _ => rfl)) kk
def isRT (ty : FieldType) : Bool := match ty with
  | .object _ => true
  | .array _ => true
  | _ => false
theorem isRT_fv {ty : FieldType} (h : isRT ty = true) (i : Int32) (r : Option Nat) : fv ty i r = va_rf r := by cases ty <;> first | rfl | (simp [isRT] at h; done)
theorem isRT_nar {ty : FieldType} (h : isRT ty = true) (r : Option Nat) : narrow ty (va_rf r) = va_rf r ∧ fits ty (va_rf r) = true := by
  cases ty <;> first | (simp [isRT] at h; done) | (cases r <;> exact ⟨rfl, rfl⟩)
theorem r_putR {a b c k idx : Nat} (d : decode (gc G) pc = .ok (.putfield idx, 3)) (h : FL (gy G).cls idx c k) (hK : mK M a = (1, c)) (hfin : (finX c k).map (·.1) = some false) (hty : isRT (ftX c k) = true) (kk : Wx G bc bs (sR M a k (some b)) (pc + 3) ls st) : Wx G bc bs M pc ls (.ref b :: .ref a :: st) := r_put _ d h hK hfin (isRT_nar hty (some b)).1 (isRT_nar hty (some b)).2 (fset_r (v := some b) (isRT_fv hty)) kk
theorem r_putN {a c k idx : Nat} (d : decode (gc G) pc = .ok (.putfield idx, 3)) (h : FL (gy G).cls idx c k) (hK : mK M a = (1, c)) (hfin : (finX c k).map (·.1) = some false) (hty : isRT (ftX c k) = true) (kk : Wx G bc bs (sR M a k none) (pc + 3) ls st) : Wx G bc bs M pc ls (.null :: .ref a :: st) := r_put _ d h hK hfin (isRT_nar hty none).1 (isRT_nar hty none).2 (fset_r (v := none) (isRT_fv hty)) kk
theorem r_putFI {a c k idx : Nat} {v : Int32} (d : decode (gc G) pc = .ok (.putfield idx, 3)) (h : FL (gy G).cls idx c k) (hK : mK M a = (1, c)) (hfin : finX c k = some (true, (gy G).cls)) (hin2 : (gy G).name = "<init>") (hty : ftX c k = .int) (kk : Wx G bc bs (sI M a k v) (pc + 3) ls st) : Wx G bc bs M pc ls (.int v :: .ref a :: st) := r_putF _ d h hK hfin hin2 (by rw [hty]; rfl) (by rw [hty]; rfl) (fset_i (by rw [hty]; exact fun _ _ => rfl)) kk
theorem r_putFR {a b c k idx : Nat} (d : decode (gc G) pc = .ok (.putfield idx, 3)) (h : FL (gy G).cls idx c k) (hK : mK M a = (1, c)) (hfin : finX c k = some (true, (gy G).cls)) (hin2 : (gy G).name = "<init>") (hty : isRT (ftX c k) = true) (kk : Wx G bc bs (sR M a k (some b)) (pc + 3) ls st) : Wx G bc bs M pc ls (.ref b :: .ref a :: st) := r_putF _ d h hK hfin hin2 (isRT_nar hty (some b)).1 (isRT_nar hty (some b)).2 (fset_r (v := some b) (isRT_fv hty)) kk
end
