/-! THE LAW'S OWN START: rules for it alone (printed by gen/mk_x91.py out of parts 12-15) -/
set_option maxRecDepth 100000
def WL (Ω : OM) (l : Launch) (p : Program) (e : Env) (s : State) (m : MethodId) (args : Array Value) (below : List Frame) (meth : Method) (c : Code) (G : GT) (bc bs : Nat) (M : PM) (pc : Nat) (ls : List (Option Value)) (st : List Value) : Prop :=
  ∀ (H : Heap) (locs : List Loc) (cells slots : Nat) (lsr : Array Slot), Rel Ω M H → va_S (Fr Ω) s.heap H locs → hasL lsr (gn G) ls → cells + bc ≤ gC G → slots + bs ≤ gS G →
  W p l e (gR G) s m args below meth c H locs cells slots (vx_MQ below (zQ Ω (gQ G)) (zX Ω (gX G)) args s (gC G) (gS G) (Fr Ω)) (F0 m pc lsr st)
section
variable {Ω : OM} {l : Launch} {p : Program} {e : Env} {s : State} {m : MethodId} {args : Array Value} {below : List Frame} {meth : Method} {c : Code} {G G' : GT} {bc bs bc' bs' : Nat} {M : PM} {pc : Nat} {ls : List (Option Value)} {st rest : List Value}

theorem l_iconst (F : Fx Ω G l p s m args meth c) {n : Int} {v : Int32} (d : decode (gc G) pc = .ok (.iconst n, 1)) (hv : Int32.ofInt n = v) (k : WL Ω l p e s m args below meth c G bc bs M (pc + 1) ls (.int v :: st)) : WL Ω l p e s m args below meth c G bc bs M pc ls st := fun H locs cells slots lsr hR hS hl h1 h2 => lv_iconst F.1 F.2.1 d hv (k H locs cells slots lsr hR hS hl h1 h2)
theorem l_bipush (F : Fx Ω G l p s m args meth c) {n : Int} {v : Int32} (d : decode (gc G) pc = .ok (.bipush n, 2)) (hv : (Int8.ofInt n).toInt32 = v) (k : WL Ω l p e s m args below meth c G bc bs M (pc + 2) ls (.int v :: st)) : WL Ω l p e s m args below meth c G bc bs M pc ls st := fun H locs cells slots lsr hR hS hl h1 h2 => lv_bipush F.1 F.2.1 d hv (k H locs cells slots lsr hR hS hl h1 h2)
theorem l_ldc2 (F : Fx Ω G l p s m args meth c) {idx : Nat} {v : Int64} (d : decode (gc G) pc = .ok (.ldc2_w idx, 3)) (hq : Cond.constantLong (gy G).cls idx v ∈ lw_all) (k : WL Ω l p e s m args below meth c G bc bs M (pc + 3) ls (.long v :: st)) : WL Ω l p e s m args below meth c G bc bs M pc ls st := fun H locs cells slots lsr hR hS hl h1 h2 => lv_ldc2 F.1 F.2.1 F.2.2.2.2.2.1 (F.2.2.2.2.2.2.1 _ hq) d (k H locs cells slots lsr hR hS hl h1 h2)
theorem l_iload_n (F : Fx Ω G l p s m args meth c) {j : Fin 4} {x : Int32} (d : decode (gc G) pc = .ok (.iload_n j, 1)) (h : ls[(j : Nat)]? = some (some (.int x))) (k : WL Ω l p e s m args below meth c G bc bs M (pc + 1) ls (.int x :: st)) : WL Ω l p e s m args below meth c G bc bs M pc ls st := fun H locs cells slots lsr hR hS hl h1 h2 => lv_iload_n F.1 F.2.1 d rfl (hl.at h) (k H locs cells slots lsr hR hS hl h1 h2)
theorem l_aload_n (F : Fx Ω G l p s m args meth c) {j : Fin 4} {x : Nat} (d : decode (gc G) pc = .ok (.aload_n j, 1)) (h : ls[(j : Nat)]? = some (some (.ref x))) (k : WL Ω l p e s m args below meth c G bc bs M (pc + 1) ls (.ref x :: st)) : WL Ω l p e s m args below meth c G bc bs M pc ls st := fun H locs cells slots lsr hR hS hl h1 h2 => lv_aload_n F.1 F.2.1 d rfl (hl.at h) (k H locs cells slots lsr hR hS hl h1 h2)
theorem l_istore3 (F : Fx Ω G l p s m args meth c) {a0 a1 a2 o : Option Value} {t : List (Option Value)} {x : Int32} (d : decode (gc G) pc = .ok (.istore_n 3, 1)) (hp : nol (some a2) = true) (k : WL Ω l p e s m args below meth c G bc bs M (pc + 1) (a0 :: a1 :: a2 :: some (.int x) :: t) st) : WL Ω l p e s m args below meth c G bc bs M pc (a0 :: a1 :: a2 :: o :: t) (.int x :: st) := fun H locs cells slots lsr hR hS hl h1 h2 => lv_istore_n F.1 F.2.1 d rfl hl.1 (by rw [← hl.2]; simp only [List.length_cons]; omega) rfl (fun lsr' hl' => k H locs cells slots lsr' hR hS (hasL.set1 (ls := (a0 :: a1 :: a2 :: o :: t)) hl' (by simp only [List.length_cons]; omega) hl.2 (Or.inr hp)) h1 h2)
theorem l_astore1 (F : Fx Ω G l p s m args meth c) {a0 o : Option Value} {t : List (Option Value)} {x : Nat} (d : decode (gc G) pc = .ok (.astore_n 1, 1)) (hp : nol (some a0) = true) (k : WL Ω l p e s m args below meth c G bc bs M (pc + 1) (a0 :: some (.ref x) :: t) st) : WL Ω l p e s m args below meth c G bc bs M pc (a0 :: o :: t) (.ref x :: st) := fun H locs cells slots lsr hR hS hl h1 h2 => lv_astore_n F.1 F.2.1 d rfl hl.1 (by rw [← hl.2]; simp only [List.length_cons]; omega) rfl (fun lsr' hl' => k H locs cells slots lsr' hR hS (hasL.set1 (ls := (a0 :: o :: t)) hl' (by simp only [List.length_cons]; omega) hl.2 (Or.inr hp)) h1 h2)
theorem l_astore2 (F : Fx Ω G l p s m args meth c) {a0 a1 o : Option Value} {t : List (Option Value)} {x : Nat} (d : decode (gc G) pc = .ok (.astore_n 2, 1)) (hp : nol (some a1) = true) (k : WL Ω l p e s m args below meth c G bc bs M (pc + 1) (a0 :: a1 :: some (.ref x) :: t) st) : WL Ω l p e s m args below meth c G bc bs M pc (a0 :: a1 :: o :: t) (.ref x :: st) := fun H locs cells slots lsr hR hS hl h1 h2 => lv_astore_n F.1 F.2.1 d rfl hl.1 (by rw [← hl.2]; simp only [List.length_cons]; omega) rfl (fun lsr' hl' => k H locs cells slots lsr' hR hS (hasL.set1 (ls := (a0 :: a1 :: o :: t)) hl' (by simp only [List.length_cons]; omega) hl.2 (Or.inr hp)) h1 h2)
theorem l_iinc3 (F : Fx Ω G l p s m args meth c) {a0 a1 a2 : Option Value} {t : List (Option Value)} {x v : Int32} {n : Int} (d : decode (gc G) pc = .ok (.iinc 3 n, 3)) (hv : x + Int32.ofInt n = v) (hp : nol (some a2) = true) (k : WL Ω l p e s m args below meth c G bc bs M (pc + 3) (a0 :: a1 :: a2 :: some (.int v) :: t) st) : WL Ω l p e s m args below meth c G bc bs M pc (a0 :: a1 :: a2 :: some (.int x) :: t) st := fun H locs cells slots lsr hR hS hl h1 h2 => lv_iinc (lv := (3, .int x) :: enL 0 (a0 :: a1 :: a2 :: some (.int x) :: t)) (k := 0) F.1 F.2.1 d ⟨hl.1.1, hl.1.2.1, List.forall_mem_cons.mpr ⟨hl.at (i := 3) rfl, hl.1.2.2⟩⟩ rfl hv (by rw [← hl.2]; simp only [List.length_cons]; omega) (by rw [List.filter_cons_of_neg (by simp)]) (fun lsr' hl' => k H locs cells slots lsr' hR hS (hasL.set1 (i := 3) (v := .int v) (ls := (a0 :: a1 :: a2 :: some (.int x) :: t)) hl' (by simp only [List.length_cons]; omega) hl.2 (Or.inr hp)) h1 h2)
theorem l_isub (F : Fx Ω G l p s m args meth c) {x y : Int32} (d : decode (gc G) pc = .ok (.isub, 1)) (k : WL Ω l p e s m args below meth c G bc bs M (pc + 1) ls (.int (x - y) :: st)) : WL Ω l p e s m args below meth c G bc bs M pc ls (.int y :: .int x :: st) := fun H locs cells slots lsr hR hS hl h1 h2 => lv_isub F.1 F.2.1 d (k H locs cells slots lsr hR hS hl h1 h2)
theorem l_iadd (F : Fx Ω G l p s m args meth c) {x y : Int32} (d : decode (gc G) pc = .ok (.iadd, 1)) (k : WL Ω l p e s m args below meth c G bc bs M (pc + 1) ls (.int (x + y) :: st)) : WL Ω l p e s m args below meth c G bc bs M pc ls (.int y :: .int x :: st) := fun H locs cells slots lsr hR hS hl h1 h2 => lv_iadd F.1 F.2.1 d (k H locs cells slots lsr hR hS hl h1 h2)
theorem l_iand (F : Fx Ω G l p s m args meth c) {x y : Int32} (d : decode (gc G) pc = .ok (.iand, 1)) (k : WL Ω l p e s m args below meth c G bc bs M (pc + 1) ls (.int (x &&& y) :: st)) : WL Ω l p e s m args below meth c G bc bs M pc ls (.int y :: .int x :: st) := fun H locs cells slots lsr hR hS hl h1 h2 => lv_iand F.1 F.2.1 d (k H locs cells slots lsr hR hS hl h1 h2)
theorem l_land (F : Fx Ω G l p s m args meth c) {x y : Int64} (d : decode (gc G) pc = .ok (.land, 1)) (k : WL Ω l p e s m args below meth c G bc bs M (pc + 1) ls (.long (x &&& y) :: st)) : WL Ω l p e s m args below meth c G bc bs M pc ls (.long y :: .long x :: st) := fun H locs cells slots lsr hR hS hl h1 h2 => lv_land F.1 F.2.1 d (k H locs cells slots lsr hR hS hl h1 h2)
theorem l_lor (F : Fx Ω G l p s m args meth c) {x y : Int64} (d : decode (gc G) pc = .ok (.lor, 1)) (k : WL Ω l p e s m args below meth c G bc bs M (pc + 1) ls (.long (x ||| y) :: st)) : WL Ω l p e s m args below meth c G bc bs M pc ls (.long y :: .long x :: st) := fun H locs cells slots lsr hR hS hl h1 h2 => lv_lor F.1 F.2.1 d (k H locs cells slots lsr hR hS hl h1 h2)
theorem l_lshl (F : Fx Ω G l p s m args meth c) {x : Int64} {y : Int32} (d : decode (gc G) pc = .ok (.lshl, 1)) (k : WL Ω l p e s m args below meth c G bc bs M (pc + 1) ls (.long (x <<< (y.toInt64 &&& 63)) :: st)) : WL Ω l p e s m args below meth c G bc bs M pc ls (.int y :: .long x :: st) := fun H locs cells slots lsr hR hS hl h1 h2 => lv_lshl F.1 F.2.1 d rfl (k H locs cells slots lsr hR hS hl h1 h2)
theorem l_lcmp (F : Fx Ω G l p s m args meth c) {x y : Int64} (d : decode (gc G) pc = .ok (.lcmp, 1)) (k : WL Ω l p e s m args below meth c G bc bs M (pc + 1) ls (.int (lg_cmp x y) :: st)) : WL Ω l p e s m args below meth c G bc bs M pc ls (.long y :: .long x :: st) := fun H locs cells slots lsr hR hS hl h1 h2 => W.lcmp F.1 F.2.1 d (k H locs cells slots lsr hR hS hl h1 h2)
theorem l_i2l (F : Fx Ω G l p s m args meth c) {x : Int32} (d : decode (gc G) pc = .ok (.i2l, 1)) (k : WL Ω l p e s m args below meth c G bc bs M (pc + 1) ls (.long x.toInt64 :: st)) : WL Ω l p e s m args below meth c G bc bs M pc ls (.int x :: st) := fun H locs cells slots lsr hR hS hl h1 h2 => lv_i2l F.1 F.2.1 d rfl (k H locs cells slots lsr hR hS hl h1 h2)
theorem l_dup (F : Fx Ω G l p s m args meth c) {a : Value} (d : decode (gc G) pc = .ok (.dup, 1)) (ha : a.category = 1) (k : WL Ω l p e s m args below meth c G bc bs M (pc + 1) ls (a :: a :: st)) : WL Ω l p e s m args below meth c G bc bs M pc ls (a :: st) := fun H locs cells slots lsr hR hS hl h1 h2 => lv_dup F.1 F.2.1 d ha (k H locs cells slots lsr hR hS hl h1 h2)
theorem l_if_eq (F : Fx Ω G l p s m args meth c) {x : Int32} {off : Int} (tgt : Nat) (d : decode (gc G) pc = .ok (.ifCond .eq off, 3)) (ht : (pc : Int) + off = (tgt : Int)) (kt : x = 0 → WL Ω l p e s m args below meth c G bc bs M tgt ls st) (kf : ¬ x = 0 → WL Ω l p e s m args below meth c G bc bs M (pc + 3) ls st) : WL Ω l p e s m args below meth c G bc bs M pc ls (.int x :: st) := fun H locs cells slots lsr hR hS hl h1 h2 => lv_if_eq F.1 F.2.1 d ht (fun z => kt z H locs cells slots lsr hR hS hl h1 h2) (fun z => kf z H locs cells slots lsr hR hS hl h1 h2)
theorem l_icmp_eq (F : Fx Ω G l p s m args meth c) {x y : Int32} {off : Int} (tgt : Nat) (d : decode (gc G) pc = .ok (.if_icmp .eq off, 3)) (ht : (pc : Int) + off = (tgt : Int)) (kt : x = y → WL Ω l p e s m args below meth c G bc bs M tgt ls st) (kf : ¬ x = y → WL Ω l p e s m args below meth c G bc bs M (pc + 3) ls st) : WL Ω l p e s m args below meth c G bc bs M pc ls (.int y :: .int x :: st) := fun H locs cells slots lsr hR hS hl h1 h2 => lv_icmp_eq F.1 F.2.1 d ht (fun z => kt z H locs cells slots lsr hR hS hl h1 h2) (fun z => kf z H locs cells slots lsr hR hS hl h1 h2)
theorem l_icmp_gt (F : Fx Ω G l p s m args meth c) {x y : Int32} {off : Int} (tgt : Nat) (d : decode (gc G) pc = .ok (.if_icmp .gt off, 3)) (ht : (pc : Int) + off = (tgt : Int)) (kt : y < x → WL Ω l p e s m args below meth c G bc bs M tgt ls st) (kf : ¬ y < x → WL Ω l p e s m args below meth c G bc bs M (pc + 3) ls st) : WL Ω l p e s m args below meth c G bc bs M pc ls (.int y :: .int x :: st) := fun H locs cells slots lsr hR hS hl h1 h2 => lv_icmp_gt F.1 F.2.1 d ht (fun z => kt z H locs cells slots lsr hR hS hl h1 h2) (fun z => kf z H locs cells slots lsr hR hS hl h1 h2)
theorem l_goto (F : Fx Ω G l p s m args meth c) {off : Int} (tgt : Nat) (d : decode (gc G) pc = .ok (.goto off, 3)) (ht : (pc : Int) + off = (tgt : Int)) (k : WL Ω l p e s m args below meth c G bc bs M tgt ls st) : WL Ω l p e s m args below meth c G bc bs M pc ls st := fun H locs cells slots lsr hR hS hl h1 h2 => lv_goto F.1 F.2.1 d ht (k H locs cells slots lsr hR hS hl h1 h2)
theorem l_swOut (F : Fx Ω G l p s m args meth c) {dflt lo hi : Int} {offs : Array Int} {len : Nat} {x : Int32} (tgt : Nat) (d : decode (gc G) pc = .ok (.tableswitch dflt lo hi offs, len)) (h : x.toInt < lo ∨ hi < x.toInt) (ht : (pc : Int) + dflt = (tgt : Int)) (k : WL Ω l p e s m args below meth c G bc bs M tgt ls st) : WL Ω l p e s m args below meth c G bc bs M pc ls (.int x :: st) := fun H locs cells slots lsr hR hS hl h1 h2 => lv_tableOut F.1 F.2.1 d h ht (k H locs cells slots lsr hR hS hl h1 h2)
theorem l_swIn (F : Fx Ω G l p s m args meth c) {dflt lo hi : Int} {offs : Array Int} {len : Nat} {x : Int32} {off : Int} (tgt : Nat) (d : decode (gc G) pc = .ok (.tableswitch dflt lo hi offs, len)) (a1 : ¬ x.toInt < lo) (a2 : ¬ hi < x.toInt) (ho : offs[(x.toInt - lo).toNat]? = some off) (ht : (pc : Int) + off = (tgt : Int)) (k : WL Ω l p e s m args below meth c G bc bs M tgt ls st) : WL Ω l p e s m args below meth c G bc bs M pc ls (.int x :: st) := fun H locs cells slots lsr hR hS hl h1 h2 => lv_tableIn F.1 F.2.1 d a1 a2 ho ht (k H locs cells slots lsr hR hS hl h1 h2)
theorem l_eqi (F : Fx Ω G l p s m args meth c) {x : Int32} (y : Int32) (e9 : x = y) (k : WL Ω l p e s m args below meth c G bc bs M pc ls (.int y :: st)) : WL Ω l p e s m args below meth c G bc bs M pc ls (.int x :: st) := e9 ▸ k
theorem l_new (F : Fx Ω G l p s m args meth c) {c9 k idx : Nat} (q : vw_C) (d : decode (gc G) pc = .ok (.new idx, 3)) (hq : clX[c9]? = some q) (hlk : Cond.classLink (gy G).cls idx q.1 ∈ lw_all) (hin : Cond.instantiable q.1 q.2.2 ∈ lw_all) (hini : Cond.initialized q.1 ∈ lw_all) (hd : ∀ j, j < q.2.2 → defaultValue (ftX c9 j) = fv (ftX c9 j) 0 none) (h1c : 1 ≤ bc) (hks : q.2.2 = k) (h2c : k ≤ bs) (kk : WL Ω l p e s m args below meth c G (bc - 1) (bs - k) (nw M (1, c9) 0) (pc + 3) ls (.ref M.1 :: st)) : WL Ω l p e s m args below meth c G bc bs M pc ls st := by
  intro H locs cells slots lsr hR hS hl h1 h2
  obtain ⟨hx, hc, -, -, -, hown, hts, hCx, -⟩ := id F
  subst hks
  have hKn := hCx.1.1 c9 q hq
  have hcl := clsX c9 q hq
  refine W.newcK hx hc hown (hts _ hlk) (hts _ hin) (hts _ hini) rfl d (by show cells + 1 ≤ gC G; omega) (by show slots + q.2.2 ≤ gS G; omega) hKn.2.1 hR.1 fun H1 kC hkC e1 z1 o1 => ?_
  refine kk H1 locs (cells + 1) (slots + q.2.2) lsr (hR.new (by rw [z1, hR.1]) (fun q hq => o1 q (by rw [← hR.1]; exact hq)) ?_ hCx.low) ⟨Nat.le_trans hS.1 (by rw [z1, hR.1]; exact Nat.le_succ _), fun x g1 g2 => (o1 x (by rw [← hR.1]; exact Nat.lt_of_lt_of_le g1 hS.1)).trans (hS.2.1 x g1 g2), hS.2.2⟩ hl (by omega) (by omega)
  unfold okA
  rw [show (nw M (1, c9) 0).2.1 M.1 = (1, c9) from if_pos rfl]
  refine ⟨hR.2.1, q, hq, (u_born (ftX c9) hts hcl.1 hKn hkC e1 hcl.2.1).to fun j hj => ?_⟩
  rw [hd j hj]
  show _ = fv (ftX c9 j) (va_up M.2.2.2.1 M.1 (fun _ => 0) M.1 j) (va_up M.2.2.2.2.2 M.1 (fun _ => none) M.1 j)
  rw [va_up_self, va_up_self]
theorem l_sp_0_43 (F : Fx Ω G l p s m args meth c) {x : Int32} (k0 : x = 0 → WL Ω l p e s m args below meth c G bc bs M pc ls (.int 0 :: st)) (k1 : x = 1 → WL Ω l p e s m args below meth c G bc bs M pc ls (.int 1 :: st)) (k2 : x = 2 → WL Ω l p e s m args below meth c G bc bs M pc ls (.int 2 :: st)) (k3 : x = 3 → WL Ω l p e s m args below meth c G bc bs M pc ls (.int 3 :: st)) (k4 : x = 4 → WL Ω l p e s m args below meth c G bc bs M pc ls (.int 4 :: st)) (k5 : x = 5 → WL Ω l p e s m args below meth c G bc bs M pc ls (.int 5 :: st)) (k6 : x = 6 → WL Ω l p e s m args below meth c G bc bs M pc ls (.int 6 :: st)) (k7 : x = 7 → WL Ω l p e s m args below meth c G bc bs M pc ls (.int 7 :: st)) (k8 : x = 8 → WL Ω l p e s m args below meth c G bc bs M pc ls (.int 8 :: st)) (k9 : x = 9 → WL Ω l p e s m args below meth c G bc bs M pc ls (.int 9 :: st)) (k10 : x = 10 → WL Ω l p e s m args below meth c G bc bs M pc ls (.int 10 :: st)) (k11 : x = 11 → WL Ω l p e s m args below meth c G bc bs M pc ls (.int 11 :: st)) (k12 : x = 12 → WL Ω l p e s m args below meth c G bc bs M pc ls (.int 12 :: st)) (k13 : x = 13 → WL Ω l p e s m args below meth c G bc bs M pc ls (.int 13 :: st)) (k14 : x = 14 → WL Ω l p e s m args below meth c G bc bs M pc ls (.int 14 :: st)) (k15 : x = 15 → WL Ω l p e s m args below meth c G bc bs M pc ls (.int 15 :: st)) (k16 : x = 16 → WL Ω l p e s m args below meth c G bc bs M pc ls (.int 16 :: st)) (k17 : x = 17 → WL Ω l p e s m args below meth c G bc bs M pc ls (.int 17 :: st)) (k18 : x = 18 → WL Ω l p e s m args below meth c G bc bs M pc ls (.int 18 :: st)) (k19 : x = 19 → WL Ω l p e s m args below meth c G bc bs M pc ls (.int 19 :: st)) (k20 : x = 20 → WL Ω l p e s m args below meth c G bc bs M pc ls (.int 20 :: st)) (k21 : x = 21 → WL Ω l p e s m args below meth c G bc bs M pc ls (.int 21 :: st)) (k22 : x = 22 → WL Ω l p e s m args below meth c G bc bs M pc ls (.int 22 :: st)) (k23 : x = 23 → WL Ω l p e s m args below meth c G bc bs M pc ls (.int 23 :: st)) (k24 : x = 24 → WL Ω l p e s m args below meth c G bc bs M pc ls (.int 24 :: st)) (k25 : x = 25 → WL Ω l p e s m args below meth c G bc bs M pc ls (.int 25 :: st)) (k26 : x = 26 → WL Ω l p e s m args below meth c G bc bs M pc ls (.int 26 :: st)) (k27 : x = 27 → WL Ω l p e s m args below meth c G bc bs M pc ls (.int 27 :: st)) (k28 : x = 28 → WL Ω l p e s m args below meth c G bc bs M pc ls (.int 28 :: st)) (k29 : x = 29 → WL Ω l p e s m args below meth c G bc bs M pc ls (.int 29 :: st)) (k30 : x = 30 → WL Ω l p e s m args below meth c G bc bs M pc ls (.int 30 :: st)) (k31 : x = 31 → WL Ω l p e s m args below meth c G bc bs M pc ls (.int 31 :: st)) (k32 : x = 32 → WL Ω l p e s m args below meth c G bc bs M pc ls (.int 32 :: st)) (k33 : x = 33 → WL Ω l p e s m args below meth c G bc bs M pc ls (.int 33 :: st)) (k34 : x = 34 → WL Ω l p e s m args below meth c G bc bs M pc ls (.int 34 :: st)) (k35 : x = 35 → WL Ω l p e s m args below meth c G bc bs M pc ls (.int 35 :: st)) (k36 : x = 36 → WL Ω l p e s m args below meth c G bc bs M pc ls (.int 36 :: st)) (k37 : x = 37 → WL Ω l p e s m args below meth c G bc bs M pc ls (.int 37 :: st)) (k38 : x = 38 → WL Ω l p e s m args below meth c G bc bs M pc ls (.int 38 :: st)) (k39 : x = 39 → WL Ω l p e s m args below meth c G bc bs M pc ls (.int 39 :: st)) (k40 : x = 40 → WL Ω l p e s m args below meth c G bc bs M pc ls (.int 40 :: st)) (k41 : x = 41 → WL Ω l p e s m args below meth c G bc bs M pc ls (.int 41 :: st)) (k42 : x = 42 → WL Ω l p e s m args below meth c G bc bs M pc ls (.int 42 :: st)) (k43 : x = 43 → WL Ω l p e s m args below meth c G bc bs M pc ls (.int 43 :: st)) (kd : (x.toInt < 0 ∨ 43 < x.toInt) → WL Ω l p e s m args below meth c G bc bs M pc ls (.int x :: st)) : WL Ω l p e s m args below meth c G bc bs M pc ls (.int x :: st) := by
  rcases sp_0_43 x with h | h | h | h | h | h | h | h | h | h | h | h | h | h | h | h | h | h | h | h | h | h | h | h | h | h | h | h | h | h | h | h | h | h | h | h | h | h | h | h | h | h | h | h | h
  · exact h ▸ k0 h
  · exact h ▸ k1 h
  · exact h ▸ k2 h
  · exact h ▸ k3 h
  · exact h ▸ k4 h
  · exact h ▸ k5 h
  · exact h ▸ k6 h
  · exact h ▸ k7 h
  · exact h ▸ k8 h
  · exact h ▸ k9 h
  · exact h ▸ k10 h
  · exact h ▸ k11 h
  · exact h ▸ k12 h
  · exact h ▸ k13 h
  · exact h ▸ k14 h
  · exact h ▸ k15 h
  · exact h ▸ k16 h
  · exact h ▸ k17 h
  · exact h ▸ k18 h
  · exact h ▸ k19 h
  · exact h ▸ k20 h
  · exact h ▸ k21 h
  · exact h ▸ k22 h
  · exact h ▸ k23 h
  · exact h ▸ k24 h
  · exact h ▸ k25 h
  · exact h ▸ k26 h
  · exact h ▸ k27 h
  · exact h ▸ k28 h
  · exact h ▸ k29 h
  · exact h ▸ k30 h
  · exact h ▸ k31 h
  · exact h ▸ k32 h
  · exact h ▸ k33 h
  · exact h ▸ k34 h
  · exact h ▸ k35 h
  · exact h ▸ k36 h
  · exact h ▸ k37 h
  · exact h ▸ k38 h
  · exact h ▸ k39 h
  · exact h ▸ k40 h
  · exact h ▸ k41 h
  · exact h ▸ k42 h
  · exact h ▸ k43 h
  · exact kd h
theorem l_gen {P : PM → Prop} (h : P M) (k : ∀ M', P M' → WL Ω l p e s m args below meth c G bc bs M' pc ls st) : WL Ω l p e s m args below meth c G bc bs M pc ls st := k M h
theorem l_les (h1 : bc' ≤ bc) (h2 : bs' ≤ bs) (k : WL Ω l p e s m args below meth c G bc' bs' M pc ls st) : WL Ω l p e s m args below meth c G bc bs M pc ls st := fun H locs cells slots lsr hR hS hl g1 g2 => k H locs cells slots lsr hR hS hl (by omega) (by omega)
theorem l_zreturn (F : Fx Ω G l p s m args meth c) {v : Int32} {ty : FieldType} (hr : gr G = some ty) (hn : narrow ty (.int v) = .int v) (d : decode (gc G) pc = .ok (.ireturn, 1)) (hq : gQ G (some (.int v)) M) : WL Ω l p e s m args below meth c G bc bs M pc ls [.int v] := fun H locs cells slots lsr hR hS hl g1 g2 => r_zreturn hr hn d hq Ω l p e s m args below meth c F H locs cells slots lsr hR hS hl g1 g2
theorem l_scrLen (F : Fx Ω G l p s m args meth c) (d : decode (gc G) pc = .ok (.arraylength, 1)) (kk : WL Ω l p e s m args below meth c G bc bs M (pc + 1) ls (.int (nI (Ω.2.2.2.2 7)) :: st)) : WL Ω l p e s m args below meth c G bc bs M pc ls (.ref (Ω.2.2.2.2 6) :: st) := fun H locs cells slots lsr hR hS hl g1 g2 => va_tlen F.1 F.2.1 F.2.2.2.2.2.2.2.1.2.1.2.2.2.2 hS rfl d (kk H locs cells slots lsr hR hS hl g1 g2)
theorem l_scr (F : Fx Ω G l p s m args meth c) {i : Int32} (d : decode (gc G) pc = .ok (.iaload, 1)) (hin : vp_in i (Ω.2.2.2.2 7)) (kk : WL Ω l p e s m args below meth c G bc bs M (pc + 1) ls (.int (Int32.ofNat (Ω.2.2.2.2 (8 + i.toNatClampNeg))) :: st)) : WL Ω l p e s m args below meth c G bc bs M pc ls (.int i :: .ref (Ω.2.2.2.2 6) :: st) := fun H locs cells slots lsr hR hS hl g1 g2 => va_ti F.1 F.2.1 F.2.2.2.2.2.2.2.1.2.1.2.2.2.2 hS hin rfl d (kk H locs cells slots lsr hR hS hl g1 g2)
theorem l_call (F : Fx Ω G l p s m args meth c) {ins : Instr} {n : Nat} {vs : List Value} {rc : Option Nat} (hct : Ct G' vs M) (hC : Cs (gy G).cls ins n rc G'.1) (d : decode (gc G) pc = .ok (ins, 3)) (hn : vs.length = n) (hst : vs.reverse ++ rest = st) (hrc : ∀ c, rc = some c → ∃ (b : Nat) (As : List Value), vs = .ref b :: As ∧ mK M b = (1, c)) (hcat : (rest.map fun v => v.category).sum ≤ 8) (hroom : gF G' + 1 ≤ gF G ∧ 8 + (gn G' + 11) + gO G' ≤ gO G) (hb : bc' + gC G' ≤ bc ∧ bs' + gS G' ≤ bs) (hX : ∀ q E M', ¬ gX G' q E M')
    (kk : ∀ v M', gQ G' v M' → WL Ω l p e s m args below meth c G bc' bs' M' (pc + 3) ls (v.toList ++ rest)) : WL Ω l p e s m args below meth c G bc bs M pc ls st := by
  intro H locs cells slots lsr hR hS hl h1 h2
  obtain ⟨hx, hc, -, -, hml, hown, hts, hCx, -, hfl, -⟩ := id F
  subst hst
  have hr := hC (Ω := Ω) (R := gR G) (e := e) (below := below) (meth := meth) (H := H) (locs := locs) (cells := cells) (slots := slots) (vs := vs) (rest := rest) (pc := pc) (lsr := lsr) ⟨hx, hc, hml, hown, hts⟩ hCx (hct Ω l hfl) rfl rfl hroom
    (fun a U g mk h => ⟨h.1, h.2.1, h.2.2.blind g mk a⟩) (fun U hU hW => ⟨rfl, by rw [hU]; exact hR, hCx.moved hS hU hW⟩) hn
    (fun c9 h9 => by
      obtain ⟨b, As, e1, e2⟩ := hrc c9 h9
      obtain ⟨-, q, hq, cell, g1, g2, g3, -⟩ := hR.ob e2
      exact ⟨b, As, q, e1, hq, cell, g1, by rw [g3]; rfl, by rw [g2]; exact (hCx.1.1 c9 q hq).2.1⟩) hl.1.1 hcat d ⟨by show cells + gC G' ≤ gC G; omega, by show slots + gS G' ≤ gS G; omega⟩
  intro T hT X
  have hA : ∀ q, q < H.size → Fr Ω q → Fr Ω q := fun _ _ h => h
  rcases hr T hT X with ⟨v, st₀, t, T', L, h0, X', hL, e1, e2, ⟨⟨v', M', hv, hq, hRel⟩, hF⟩, st⟩ | ⟨q, st₀, t, T', L, E, ce, h0, X', hL, e1, e2, ⟨⟨M', hq, hRel⟩, hF⟩, hce, hcv, hcl, st⟩
  · cases hv
    obtain ⟨k1, k2, k3⟩ := vx_keep h0 e1 hS hA (fun _ h => h) hL hF
    obtain ⟨t2, a1, b1⟩ := kk v M' hq T'.heap (locs ++ L) (cells + gC G') (slots + gS G') lsr (by rw [e1]; exact hRel) k3 hl (by omega) (by omega) T' rfl X'
    exact ⟨t2, st t2 a1, b1⟩
  · exact absurd hq (hX q E M')
theorem l_ci {post : Int32 → PM → Prop} (k : ∀ r M', post r M' → WL Ω l p e s m args below meth c G bc bs M' pc ls (.int r :: rest)) : ∀ v M', qi post v M' → WL Ω l p e s m args below meth c G bc bs M' pc ls (v.toList ++ rest) := by
  rintro v M' ⟨r, rfl, h⟩
  exact k r M' h
theorem l_cl {post : Int64 → PM → Prop} (k : ∀ r M', post r M' → WL Ω l p e s m args below meth c G bc bs M' pc ls (.long r :: rest)) : ∀ v M', ql post v M' → WL Ω l p e s m args below meth c G bc bs M' pc ls (v.toList ++ rest) := by
  rintro v M' ⟨r, rfl, h⟩
  exact k r M' h
theorem l_cv {post : PM → Prop} (k : ∀ M', post M' → WL Ω l p e s m args below meth c G bc bs M' pc ls rest) : ∀ v M', qv post v M' → WL Ω l p e s m args below meth c G bc bs M' pc ls (v.toList ++ rest) := by
  rintro v M' ⟨rfl, h⟩
  exact k M' h
end
