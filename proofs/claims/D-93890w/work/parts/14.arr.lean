/-! RULES: arrays (printed by gen/mk_arr.py), new arrays and objects -/
set_option maxRecDepth 100000
theorem vp_in_lt {i : Int32} {n : Nat} (h : vp_in i n) : i.toNatClampNeg < n := Nat.not_le.mp fun q => h (Or.inr q)
theorem arrT {Ω : OM} {s : State} (h : Cx Ω s) {t : Nat} {ty : FieldType} (ht : atX[t]? = some ty) (n : Nat) (z : Nat → Value) : s.isArrayOf (arrV (Ω.2.2.1 t) n z) ty := by
  match t, ht with
  | 0, ht => cases ht; exact (h.1.2 0 _ rfl).1 n z
  | 1, ht => cases ht; exact (h.1.2 1 _ rfl).1 n z
  | 2, ht => cases ht; exact (h.1.2 2 _ rfl).1 n z
  | 3, ht => cases ht; exact (h.1.2 3 _ rfl).1 n z
  | 4, ht => cases ht; exact (h.1.2 4 _ rfl).1 n z
  | 5, ht => cases ht; exact (h.1.2 5 _ rfl).1 n z
  | 6, ht => cases ht; exact (h.1.2 6 _ rfl).1 n z
  | 7, ht => cases ht; exact (h.1.2 7 _ rfl).1 n z
  | n + 8, ht => cases ht
theorem Rel.aput {Ω : OM} {M M' : PM} {H H' : Heap} {a t : Nat} {ty : FieldType} (h : Rel Ω M H) (hK : mK M a = (2, t)) (hty : atX[t]? = some ty) (hz : H'.size = H.size) (ho : ∀ q, q ≠ a → H'[q]? = H[q]?) (n : M'.1 = M.1) (k : M'.2.1 = M.2.1) (z : mZ M' = mZ M) (i : ∀ q, q ≠ a → mI M' q = mI M q) (l : ∀ q, q ≠ a → mL M' q = mL M q) (r : ∀ q, q ≠ a → mR M' q = mR M q) (he : H'[a]? = some (arrV (Ω.2.2.1 t) (mZ M a) (fun k => evV ty (mI M' a k) (mL M' a k) (mR M' a k)))) : Rel Ω M' H' := by
  refine h.put hz ho n k (fun q _ => by rw [z]) i l r ?_
  unfold okA
  rw [k, show M.2.1 a = (2, t) from hK]
  exact ⟨(h.ar hK).1, ty, hty, by rw [z]; exact he⟩
section
variable {G : GT} {bc bs : Nat} {M : PM} {pc : Nat} {ls : List (Option Value)} {st : List Value}
theorem r_alen {a t n : Nat} (d : decode (gc G) pc = .ok (.arraylength, 1)) (hK : mK M a = (2, t)) (hz : mZ M a = n) (kk : Wx G bc bs M (pc + 1) ls (.int (Int32.ofNat n) :: st)) : Wx G bc bs M pc ls (.ref a :: st) := by
  intro Ω l p e s m args below meth c F H locs cells slots lsr hR hS hl h1 h2
  obtain ⟨hb, ty, hty, hc⟩ := hR.ar hK
  refine W.alen (n := Int32.ofNat n) F.1 F.2.1 hc (arrT F.2.2.2.2.2.2.2.1 hty _ _) (by rw [arrV_size, hz] <;> rfl) rfl rfl d (kk Ω l p e s m args below meth c F H locs cells slots lsr hR hS hl h1 h2)
theorem r_iald {a n : Nat} {i : Int32} (d : decode (gc G) pc = .ok (.iaload, 1)) (hK : mK M a = (2, 0)) (hz : mZ M a = n) (hin : vp_in i n) (kk : Wx G bc bs M (pc + 1) ls (.int (mI M a i.toNatClampNeg) :: st)) : Wx G bc bs M pc ls (.int i :: .ref a :: st) := by
  intro Ω l p e s m args below meth c F H locs cells slots lsr hR hS hl h1 h2
  obtain ⟨hb, ty, hty, hc⟩ := hR.ar hK
  cases hty
  subst hz
  exact W.iald (v := .int (mI M a i.toNatClampNeg)) F.1 F.2.1 hc (arrT F.2.2.2.2.2.2.2.1 (t := 0) rfl _ _) (fun q => by cases q) (by rw [arrV_size]; exact hin) (by rw [arrV_read _ _ (vp_in_lt hin)]; rfl) rfl rfl d (kk Ω l p e s m args below meth c F H locs cells slots lsr hR hS hl h1 h2)
theorem r_bald {a n : Nat} {i : Int32} (d : decode (gc G) pc = .ok (.baload, 1)) (hK : mK M a = (2, 1)) (hz : mZ M a = n) (hin : vp_in i n) (kk : Wx G bc bs M (pc + 1) ls (.int (mI M a i.toNatClampNeg) :: st)) : Wx G bc bs M pc ls (.int i :: .ref a :: st) := by
  intro Ω l p e s m args below meth c F H locs cells slots lsr hR hS hl h1 h2
  obtain ⟨hb, ty, hty, hc⟩ := hR.ar hK
  cases hty
  subst hz
  exact W.bald (v := .int (mI M a i.toNatClampNeg)) F.1 F.2.1 hc (arrT F.2.2.2.2.2.2.2.1 (t := 1) rfl _ _) (fun q => by cases q) (by rw [arrV_size]; exact hin) (by rw [arrV_read _ _ (vp_in_lt hin)]; rfl) rfl rfl d (kk Ω l p e s m args below meth c F H locs cells slots lsr hR hS hl h1 h2)
theorem r_sald {a n : Nat} {i : Int32} (d : decode (gc G) pc = .ok (.saload, 1)) (hK : mK M a = (2, 2)) (hz : mZ M a = n) (hin : vp_in i n) (kk : Wx G bc bs M (pc + 1) ls (.int (mI M a i.toNatClampNeg) :: st)) : Wx G bc bs M pc ls (.int i :: .ref a :: st) := by
  intro Ω l p e s m args below meth c F H locs cells slots lsr hR hS hl h1 h2
  obtain ⟨hb, ty, hty, hc⟩ := hR.ar hK
  cases hty
  subst hz
  exact W.sald (v := .int (mI M a i.toNatClampNeg)) F.1 F.2.1 hc (arrT F.2.2.2.2.2.2.2.1 (t := 2) rfl _ _) (fun q => by cases q) (by rw [arrV_size]; exact hin) (by rw [arrV_read _ _ (vp_in_lt hin)]; rfl) rfl rfl d (kk Ω l p e s m args below meth c F H locs cells slots lsr hR hS hl h1 h2)
theorem r_zald {a n : Nat} {i : Int32} (d : decode (gc G) pc = .ok (.baload, 1)) (hK : mK M a = (2, 3)) (hz : mZ M a = n) (hin : vp_in i n) (kk : Wx G bc bs M (pc + 1) ls (.int (mI M a i.toNatClampNeg) :: st)) : Wx G bc bs M pc ls (.int i :: .ref a :: st) := by
  intro Ω l p e s m args below meth c F H locs cells slots lsr hR hS hl h1 h2
  obtain ⟨hb, ty, hty, hc⟩ := hR.ar hK
  cases hty
  subst hz
  exact W.zald (v := .int (mI M a i.toNatClampNeg)) F.1 F.2.1 hc (arrT F.2.2.2.2.2.2.2.1 (t := 3) rfl _ _) (fun q => by cases q) (by rw [arrV_size]; exact hin) (by rw [arrV_read _ _ (vp_in_lt hin)]; rfl) rfl rfl d (kk Ω l p e s m args below meth c F H locs cells slots lsr hR hS hl h1 h2)
theorem r_lald {a n : Nat} {i : Int32} (d : decode (gc G) pc = .ok (.laload, 1)) (hK : mK M a = (2, 4)) (hz : mZ M a = n) (hin : vp_in i n) (kk : Wx G bc bs M (pc + 1) ls (.long (mL M a i.toNatClampNeg) :: st)) : Wx G bc bs M pc ls (.int i :: .ref a :: st) := by
  intro Ω l p e s m args below meth c F H locs cells slots lsr hR hS hl h1 h2
  obtain ⟨hb, ty, hty, hc⟩ := hR.ar hK
  cases hty
  subst hz
  exact W.lald (v := .long (mL M a i.toNatClampNeg)) F.1 F.2.1 hc (arrT F.2.2.2.2.2.2.2.1 (t := 4) rfl _ _) (fun q => by cases q) (by rw [arrV_size]; exact hin) (by rw [arrV_read _ _ (vp_in_lt hin)]; rfl) rfl rfl d (kk Ω l p e s m args below meth c F H locs cells slots lsr hR hS hl h1 h2)
theorem r_aald {a n t : Nat} {i : Int32} {ty : FieldType} {r : Option Nat} (d : decode (gc G) pc = .ok (.aaload, 1)) (hK : mK M a = (2, t)) (hty : atX[t]? = some ty) (hrt : isRT ty = true) (hz : mZ M a = n) (hin : vp_in i n) (hr : mR M a i.toNatClampNeg = r) (kk : Wx G bc bs M (pc + 1) ls (va_rf r :: st)) : Wx G bc bs M pc ls (.int i :: .ref a :: st) := by
  intro Ω l p e s m args below meth c F H locs cells slots lsr hR hS hl h1 h2
  obtain ⟨hb, ty', hty', hc⟩ := hR.ar hK
  cases hty.symm.trans hty'
  subst hz
  subst hr
  refine W.aald (v := va_rf (mR M a i.toNatClampNeg)) (ty := ty) F.1 F.2.1 hc (arrT F.2.2.2.2.2.2.2.1 hty _ _) (by cases ty <;> first | rfl | (simp [isRT] at hrt; done)) (fun q => by cases q) (by rw [arrV_size]; exact hin) ?_ rfl rfl d (kk Ω l p e s m args below meth c F H locs cells slots lsr hR hS hl h1 h2)
  rw [arrV_read _ _ (vp_in_lt hin)]
  cases ty <;> first | rfl | (simp [isRT] at hrt; done)
theorem r_aaldR {a n t b : Nat} {i : Int32} (d : decode (gc G) pc = .ok (.aaload, 1)) (hK : mK M a = (2, t)) (hrt : (atX[t]?).map isRT = some true) (hz : mZ M a = n) (hin : vp_in i n) (hr : mR M a i.toNatClampNeg = some b) (kk : Wx G bc bs M (pc + 1) ls (.ref b :: st)) : Wx G bc bs M pc ls (.int i :: .ref a :: st) := by
  cases hty : atX[t]? with
  | none => rw [hty] at hrt; cases hrt
  | some ty => rw [hty] at hrt; exact r_aald d hK hty (Option.some.inj hrt) hz hin hr kk
theorem r_iast {a n : Nat} {i : Int32} {x : Int32} (d : decode (gc G) pc = .ok (.iastore, 1)) (hK : mK M a = (2, 0)) (hz : mZ M a = n) (hin : vp_in i n) (kk : Wx G bc bs (sI M a i.toNatClampNeg (x)) (pc + 1) ls st) : Wx G bc bs M pc ls (.int x :: .int i :: .ref a :: st) := by
  intro Ω l p e s m args below meth c F H locs cells slots lsr hR hS hl h1 h2
  obtain ⟨hb, ty, hty, hc⟩ := hR.ar hK
  cases hty
  subst hz
  refine W.iast F.1 F.2.1 hc (arrT F.2.2.2.2.2.2.2.1 (t := 0) rfl _ _) (fun q => by cases q) (by rw [arrV_size]; exact hin) rfl rfl d fun H1 e1 z oq => ?_
  refine kk Ω l p e s m args below meth c F H1 _ cells slots lsr (hR.aput hK (t := 0) rfl z oq rfl rfl rfl (fun q hq => up2_ne hq) (fun _ _ => rfl) (fun _ _ => rfl) ?_) (hS.put z oq hb) hl h1 h2
  rw [e1, arrV_store]
  congr 2
  funext q
  have hu : mI (sI M a i.toNatClampNeg (x)) a q = va_up (mI M a) i.toNatClampNeg (x) q := congrFun (up2_self _ _ _ _) q
  by_cases hq : q = i.toNatClampNeg
  · subst hq
    have hu2 := hu.trans (va_up_self _ _ _)
    simp only [updV, if_true, evV, hu2]
    try rfl
  · simp only [hu, updV, va_up, evV, hq, if_false]
    try rfl
theorem r_bast {a n : Nat} {i : Int32} {x : Int32} (d : decode (gc G) pc = .ok (.bastore, 1)) (hK : mK M a = (2, 1)) (hz : mZ M a = n) (hin : vp_in i n) (kk : Wx G bc bs (sI M a i.toNatClampNeg (vp_nar .byte x)) (pc + 1) ls st) : Wx G bc bs M pc ls (.int x :: .int i :: .ref a :: st) := by
  intro Ω l p e s m args below meth c F H locs cells slots lsr hR hS hl h1 h2
  obtain ⟨hb, ty, hty, hc⟩ := hR.ar hK
  cases hty
  subst hz
  refine W.bast F.1 F.2.1 hc (arrT F.2.2.2.2.2.2.2.1 (t := 1) rfl _ _) (fun q => by cases q) (by rw [arrV_size]; exact hin) rfl rfl d fun H1 e1 z oq => ?_
  refine kk Ω l p e s m args below meth c F H1 _ cells slots lsr (hR.aput hK (t := 1) rfl z oq rfl rfl rfl (fun q hq => up2_ne hq) (fun _ _ => rfl) (fun _ _ => rfl) ?_) (hS.put z oq hb) hl h1 h2
  rw [e1, arrV_store]
  congr 2
  funext q
  have hu : mI (sI M a i.toNatClampNeg (vp_nar .byte x)) a q = va_up (mI M a) i.toNatClampNeg (vp_nar .byte x) q := congrFun (up2_self _ _ _ _) q
  by_cases hq : q = i.toNatClampNeg
  · subst hq
    have hu2 := hu.trans (va_up_self _ _ _)
    simp only [updV, if_true, evV, hu2]
    try rfl
  · simp only [hu, updV, va_up, evV, hq, if_false]
    try rfl
theorem r_sast {a n : Nat} {i : Int32} {x : Int32} (d : decode (gc G) pc = .ok (.sastore, 1)) (hK : mK M a = (2, 2)) (hz : mZ M a = n) (hin : vp_in i n) (kk : Wx G bc bs (sI M a i.toNatClampNeg (vp_nar .short x)) (pc + 1) ls st) : Wx G bc bs M pc ls (.int x :: .int i :: .ref a :: st) := by
  intro Ω l p e s m args below meth c F H locs cells slots lsr hR hS hl h1 h2
  obtain ⟨hb, ty, hty, hc⟩ := hR.ar hK
  cases hty
  subst hz
  refine W.sast F.1 F.2.1 hc (arrT F.2.2.2.2.2.2.2.1 (t := 2) rfl _ _) (fun q => by cases q) (by rw [arrV_size]; exact hin) rfl rfl d fun H1 e1 z oq => ?_
  refine kk Ω l p e s m args below meth c F H1 _ cells slots lsr (hR.aput hK (t := 2) rfl z oq rfl rfl rfl (fun q hq => up2_ne hq) (fun _ _ => rfl) (fun _ _ => rfl) ?_) (hS.put z oq hb) hl h1 h2
  rw [e1, arrV_store]
  congr 2
  funext q
  have hu : mI (sI M a i.toNatClampNeg (vp_nar .short x)) a q = va_up (mI M a) i.toNatClampNeg (vp_nar .short x) q := congrFun (up2_self _ _ _ _) q
  by_cases hq : q = i.toNatClampNeg
  · subst hq
    have hu2 := hu.trans (va_up_self _ _ _)
    simp only [updV, if_true, evV, hu2]
    try rfl
  · simp only [hu, updV, va_up, evV, hq, if_false]
    try rfl
theorem r_zast {a n : Nat} {i : Int32} {x : Int32} (d : decode (gc G) pc = .ok (.bastore, 1)) (hK : mK M a = (2, 3)) (hz : mZ M a = n) (hin : vp_in i n) (kk : Wx G bc bs (sI M a i.toNatClampNeg (vp_nar .boolean x)) (pc + 1) ls st) : Wx G bc bs M pc ls (.int x :: .int i :: .ref a :: st) := by
  intro Ω l p e s m args below meth c F H locs cells slots lsr hR hS hl h1 h2
  obtain ⟨hb, ty, hty, hc⟩ := hR.ar hK
  cases hty
  subst hz
  refine W.zast F.1 F.2.1 hc (arrT F.2.2.2.2.2.2.2.1 (t := 3) rfl _ _) (fun q => by cases q) (by rw [arrV_size]; exact hin) rfl rfl d fun H1 e1 z oq => ?_
  refine kk Ω l p e s m args below meth c F H1 _ cells slots lsr (hR.aput hK (t := 3) rfl z oq rfl rfl rfl (fun q hq => up2_ne hq) (fun _ _ => rfl) (fun _ _ => rfl) ?_) (hS.put z oq hb) hl h1 h2
  rw [e1, arrV_store]
  congr 2
  funext q
  have hu : mI (sI M a i.toNatClampNeg (vp_nar .boolean x)) a q = va_up (mI M a) i.toNatClampNeg (vp_nar .boolean x) q := congrFun (up2_self _ _ _ _) q
  by_cases hq : q = i.toNatClampNeg
  · subst hq
    have hu2 := hu.trans (va_up_self _ _ _)
    simp only [updV, if_true, evV, hu2]
    try rfl
  · simp only [hu, updV, va_up, evV, hq, if_false]
    try rfl
theorem r_last {a n : Nat} {i : Int32} {x : Int64} (d : decode (gc G) pc = .ok (.lastore, 1)) (hK : mK M a = (2, 4)) (hz : mZ M a = n) (hin : vp_in i n) (kk : Wx G bc bs (sL M a i.toNatClampNeg (x)) (pc + 1) ls st) : Wx G bc bs M pc ls (.long x :: .int i :: .ref a :: st) := by
  intro Ω l p e s m args below meth c F H locs cells slots lsr hR hS hl h1 h2
  obtain ⟨hb, ty, hty, hc⟩ := hR.ar hK
  cases hty
  subst hz
  refine W.last F.1 F.2.1 hc (arrT F.2.2.2.2.2.2.2.1 (t := 4) rfl _ _) (fun q => by cases q) (by rw [arrV_size]; exact hin) rfl rfl d fun H1 e1 z oq => ?_
  refine kk Ω l p e s m args below meth c F H1 _ cells slots lsr (hR.aput hK (t := 4) rfl z oq rfl rfl rfl (fun _ _ => rfl) (fun q hq => up2_ne hq) (fun _ _ => rfl) ?_) (hS.put z oq hb) hl h1 h2
  rw [e1, arrV_store]
  congr 2
  funext q
  have hu : mL (sL M a i.toNatClampNeg (x)) a q = va_up (mL M a) i.toNatClampNeg (x) q := congrFun (up2_self _ _ _ _) q
  by_cases hq : q = i.toNatClampNeg
  · subst hq
    have hu2 := hu.trans (va_up_self _ _ _)
    simp only [updV, if_true, evV, hu2]
    try rfl
  · simp only [hu, updV, va_up, evV, hq, if_false]
    try rfl
theorem r_new {c k idx : Nat} (q : vw_C) (d : decode (gc G) pc = .ok (.new idx, 3)) (hq : clX[c]? = some q) (hlk : Cond.classLink (gy G).cls idx q.1 ∈ lw_all) (hin : Cond.instantiable q.1 q.2.2 ∈ lw_all) (hini : Cond.initialized q.1 ∈ lw_all) (hd : ∀ j, j < q.2.2 → defaultValue (ftX c j) = fv (ftX c j) 0 none) (h1c : 1 ≤ bc) (hks : q.2.2 = k) (h2c : k ≤ bs) (kk : Wx G (bc - 1) (bs - k) (nw M (1, c) 0) (pc + 3) ls (.ref M.1 :: st)) : Wx G bc bs M pc ls st := by
  intro Ω l p e s m args below meth c0 F H locs cells slots lsr hR hS hl h1 h2
  obtain ⟨hx, hc, -, -, -, hown, hts, hCx, -⟩ := id F
  subst hks
  have hKn := hCx.1.1 c q hq
  have hcl := clsX c q hq
  refine W.newcK hx hc hown (hts _ hlk) (hts _ hin) (hts _ hini) rfl d (by show cells + 1 ≤ gC G; omega) (by show slots + q.2.2 ≤ gS G; omega) hKn.2.1 hR.1 fun H1 kC hkC e1 z1 o1 => ?_
  refine kk Ω l p e s m args below meth c0 F H1 locs (cells + 1) (slots + q.2.2) lsr (hR.new (by rw [z1, hR.1]) (fun q hq => o1 q (by rw [← hR.1]; exact hq)) ?_ hCx.low) ⟨Nat.le_trans hS.1 (by rw [z1, hR.1]; exact Nat.le_succ _), fun x g1 g2 => (o1 x (by rw [← hR.1]; exact Nat.lt_of_lt_of_le g1 hS.1)).trans (hS.2.1 x g1 g2), hS.2.2⟩ hl (by omega) (by omega)
  unfold okA
  rw [show (nw M (1, c) 0).2.1 M.1 = (1, c) from if_pos rfl]
  refine ⟨hR.2.1, q, hq, (u_born (ftX c) hts hcl.1 hKn hkC e1 hcl.2.1).to fun j hj => ?_⟩
  rw [hd j hj]
  show _ = fv (ftX c j) (va_up M.2.2.2.1 M.1 (fun _ => 0) M.1 j) (va_up M.2.2.2.2.2 M.1 (fun _ => none) M.1 j)
  rw [va_up_self, va_up_self]
theorem r_newa {t n : Nat} {ty : FieldType} {atype : ArrayType} {i : Int32} (d : decode (gc G) pc = .ok (.newarray atype, 2)) (hat : newarray.typeOf atype = ty) (ht : atX[t]? = some ty) (hw : Cond.arrayClass ty ∈ lw_all) (hdv : defaultValue ty = evV ty 0 0 none) (h0 : ¬ i < 0) (hn : i.toNatClampNeg = n) (hbytes : n * componentBytes ty ≤ 536870912) (hname : ∀ Ω s, Cx Ω s → s.vm.findClass ("[" ++ ty.toString) = some (Ω.2.2.1 t)) (h1c : 1 ≤ bc) (h2c : n ≤ bs) (kk : Wx G (bc - 1) (bs - n) (nw M (2, t) n) (pc + 2) ls (.ref M.1 :: st)) : Wx G bc bs M pc ls (.int i :: st) := by
  intro Ω l p e s m args below meth c0 F H locs cells slots lsr hR hS hl h1 h2
  obtain ⟨hx, hc, -, -, -, hown, hts, hCx, -⟩ := id F
  subst hat
  refine va_newaK hx hc (hts _ hw) rfl d rfl h0 hn hbytes (by show cells + 1 ≤ gC G; omega) (by show slots + n ≤ gS G; omega) hR.1 fun H1 cA e1 z1 o1 hAr hNm => ?_
  have hcA : cA = Ω.2.2.1 t := Option.some.inj (hNm.symm.trans (hname Ω s hCx))
  subst hcA
  refine kk Ω l p e s m args below meth c0 F H1 locs (cells + 1) (slots + n) lsr (hR.new (by rw [z1, hR.1]) (fun q hq => o1 q (by rw [← hR.1]; exact hq)) ?_ hCx.low) ⟨Nat.le_trans hS.1 (by rw [z1, hR.1]; exact Nat.le_succ _), fun x g1 g2 => (o1 x (by rw [← hR.1]; exact Nat.lt_of_lt_of_le g1 hS.1)).trans (hS.2.1 x g1 g2), hS.2.2⟩ hl (by omega) (by omega)
  unfold okA
  rw [show (nw M (2, t) n).2.1 M.1 = (2, t) from if_pos rfl]
  refine ⟨hR.2.1, _, ht, ?_⟩
  show H1[M.1]? = some (arrV _ (va_up M.2.2.1 M.1 n M.1) (fun k => evV _ (va_up M.2.2.2.1 M.1 (fun _ => 0) M.1 k) (va_up M.2.2.2.2.1 M.1 (fun _ => 0) M.1 k) (va_up M.2.2.2.2.2 M.1 (fun _ => none) M.1 k)))
  rw [va_up_self, va_up_self, va_up_self, va_up_self, e1, hdv]
theorem r_anew {t n idx : Nat} {C : String} {i : Int32} (d : decode (gc G) pc = .ok (.anewarray idx, 3)) (ht : atX[t]? = some (.object C)) (hlk : Cond.classLink (gy G).cls idx C ∈ lw_all) (hao : ∀ Ω s, Cx Ω s → va_AO C s ∧ s.vm.findClass ("[" ++ (FieldType.object C).toString) = some (Ω.2.2.1 t)) (h0 : ¬ i < 0) (hn : i.toNatClampNeg = n) (hbytes : n * 4 ≤ 536870912) (h1c : 1 ≤ bc) (h2c : n ≤ bs) (kk : Wx G (bc - 1) (bs - n) (nw M (2, t) n) (pc + 3) ls (.ref M.1 :: st)) : Wx G bc bs M pc ls (.int i :: st) := by
  intro Ω l p e s m args below meth c0 F H locs cells slots lsr hR hS hl h1 h2
  obtain ⟨hx, hc, -, -, -, hown, hts, hCx, -⟩ := id F
  subst hn
  refine W.anew hx hc hown (hts _ hlk) (va_AO.use (hao Ω s hCx).1) rfl d rfl h0 hbytes (by show cells + 1 ≤ gC G; omega) (by show slots + _ ≤ gS G; omega) fun cA kA comp f1 f2 f3 f4 => ?_
  have hcA : cA = Ω.2.2.1 t := Option.some.inj (f1.symm.trans (hao Ω s hCx).2)
  subst hcA
  generalize hH1 : H.push ({ cls := Ω.2.2.1 t, slots := Array.replicate i.toNatClampNeg .null, vm := .none } : Cell) = H1
  have z1 : H1.size = H.size + 1 := by rw [← hH1, Array.size_push]
  have e1 : H1[H.size]? = some (arrV (Ω.2.2.1 t) i.toNatClampNeg (fun _ => .null)) := by rw [← hH1, Array.getElem?_push_size, ← arrV_new]
  have o1 : ∀ q : Nat, q < H.size → H1[q]? = H[q]? := fun q hq => by rw [← hH1, Array.getElem?_push, if_neg (Nat.ne_of_lt hq)]
  have kk' := kk Ω l p e s m args below meth c0 F H1 locs (cells + 1) (slots + i.toNatClampNeg) lsr (hR.new z1 o1 (by
    unfold okA
    rw [show (nw M (2, t) i.toNatClampNeg).2.1 M.1 = (2, t) from if_pos rfl]
    refine ⟨hR.2.1, _, ht, ?_⟩
    show H1[M.1]? = some (arrV _ (va_up M.2.2.1 M.1 i.toNatClampNeg M.1) (fun k => evV _ (va_up M.2.2.2.1 M.1 (fun _ => 0) M.1 k) (va_up M.2.2.2.2.1 M.1 (fun _ => 0) M.1 k) (va_up M.2.2.2.2.2 M.1 (fun _ => none) M.1 k)))
    rw [va_up_self, va_up_self, va_up_self, va_up_self, ← hR.1, e1]
    rfl) hCx.low) ⟨Nat.le_trans hS.1 (by rw [z1]; exact Nat.le_succ _), fun x g1 g2 => (o1 x (Nat.lt_of_lt_of_le g1 hS.1)).trans (hS.2.1 x g1 g2), hS.2.2⟩ hl (by omega) (by omega)
  rw [← hR.1] at kk'
  exact kk'
theorem r_objInit {a idx : Nat} (d : decode (gc G) pc = .ok (.invokespecial idx, 3)) (hlk : Cond.methodLink (gy G).cls idx objectInit ∈ lw_all) (hin : Cond.instanceMethod objectInit ∈ lw_all) (hcd : Cond.code objectInit ⟨#[0xb1]⟩ 1 none ∈ lw_all) (hf : 1 ≤ gF G) (ho : (st.map fun v => v.category).sum + 12 ≤ gO G) (kk : Wx G bc bs M (pc + 3) ls st) : Wx G bc bs M pc ls (.ref a :: st) := by
  intro Ω l p e s m args below meth c0 F H locs cells slots lsr hR hS hl h1 h2
  obtain ⟨hx, hc, -, -, hml, hown, hts, hCx, -⟩ := id F
  exact W.objInit hx hc hown (hts _ hlk) (hts _ hin) (hts _ hcd) rfl (by rw [hml]; exact hl.1.1) rfl d hf (by show 2 * 0 + (st.map fun v => v.category).sum + 12 ≤ gO G; omega) (kk Ω l p e s m args below meth c0 F H locs cells slots lsr hR hS hl h1 h2)
end
