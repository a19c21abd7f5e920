/-! WHAT THE LAW'S LOOP KEEPS (printed by gen/mk_x92.py) -/
set_option maxRecDepth 100000
theorem MR_kind {M : PM} {mo a : Nat} (hm : MR M mo) (h1 : mo ≤ a) (h2 : a < mo + 33) : mK M a = (1, 5) ∨ ∃ t, mK M a = (2, t) := by
  have hz : ∃ o, o < 33 ∧ a = mo + o := ⟨a - mo, by omega, by omega⟩
  obtain ⟨o, ho, rfl⟩ := hz
  have : o = 0 ∨ o = 1 ∨ o = 2 ∨ o = 3 ∨ o = 4 ∨ o = 5 ∨ o = 6 ∨ o = 7 ∨ o = 8 ∨ o = 9 ∨ o = 10 ∨ o = 11 ∨ o = 12 ∨ o = 13 ∨ o = 14 ∨ o = 15 ∨ o = 16 ∨ o = 17 ∨ o = 18 ∨ o = 19 ∨ o = 20 ∨ o = 21 ∨ o = 22 ∨ o = 23 ∨ o = 24 ∨ o = 25 ∨ o = 26 ∨ o = 27 ∨ o = 28 ∨ o = 29 ∨ o = 30 ∨ o = 31 ∨ o = 32 := by omega
  rcases this with rfl | rfl | rfl | rfl | rfl | rfl | rfl | rfl | rfl | rfl | rfl | rfl | rfl | rfl | rfl | rfl | rfl | rfl | rfl | rfl | rfl | rfl | rfl | rfl | rfl | rfl | rfl | rfl | rfl | rfl | rfl | rfl | rfl
  · exact Or.inl (MR_k hm)
  · exact Or.inr ⟨_, MR_k10 hm⟩
  · exact Or.inr ⟨_, MR_k11 hm⟩
  · exact Or.inr ⟨_, MR_k12 hm⟩
  · exact Or.inr ⟨_, MR_k13 hm⟩
  · exact Or.inr ⟨_, MR_k14 hm⟩
  · exact Or.inr ⟨_, MR_k15 hm⟩
  · exact Or.inr ⟨_, MR_k16 hm⟩
  · exact Or.inr ⟨_, MR_k17 hm⟩
  · exact Or.inr ⟨_, MR_k18 hm⟩
  · exact Or.inr ⟨_, MR_k19 hm⟩
  · exact Or.inr ⟨_, MR_k20 hm⟩
  · exact Or.inr ⟨_, MR_k21 hm⟩
  · exact Or.inr ⟨_, MR_k22 hm⟩
  · exact Or.inr ⟨_, MR_k23 hm⟩
  · exact Or.inr ⟨_, MR_k24 hm⟩
  · exact Or.inr ⟨_, MR_k25 hm⟩
  · exact Or.inr ⟨_, MR_k26 hm⟩
  · exact Or.inr ⟨_, MR_k27 hm⟩
  · exact Or.inr ⟨_, MR_k28 hm⟩
  · exact Or.inr ⟨_, MR_k29 hm⟩
  · exact Or.inr ⟨_, MR_k35 hm⟩
  · exact Or.inr ⟨_, MR_k36 hm⟩
  · exact Or.inr ⟨_, MR_k37 hm⟩
  · exact Or.inr ⟨_, MR_k38 hm⟩
  · exact Or.inr ⟨_, MR_k39 hm⟩
  · exact Or.inr ⟨_, MR_k40 hm⟩
  · exact Or.inr ⟨_, MR_k41 hm⟩
  · exact Or.inr ⟨_, MR_k42 hm⟩
  · exact Or.inr ⟨_, MR_k43 hm⟩
  · exact Or.inr ⟨_, MR_k44 hm⟩
  · exact Or.inr ⟨_, MR_k45 hm⟩
  · exact Or.inr ⟨_, MR_k47 hm⟩
theorem MR.z {M Z : PM} {mo : Nat} (hm : MR Z mo) (h : eqZ M Z mo) : MR M mo := by
  have K : ∀ o, o < 33 → mK M (mo + o) = mK Z (mo + o) ∧ mZ M (mo + o) = mZ Z (mo + o) := fun o ho => ⟨(h (mo + o) (by omega) (by omega)).1, (h (mo + o) (by omega) (by omega)).2.1⟩
  have R : mR M mo = mR Z mo := (h mo (Nat.le_refl _) (by omega)).2.2.2.2
  exact ⟨(K 0 (by decide)).1.trans (MR_k hm), ⟨by rw [R]; exact MR_r10 hm, (K 1 (by decide)).1.trans (MR_k10 hm), (K 1 (by decide)).2.trans (MR_z10 hm)⟩, ⟨by rw [R]; exact MR_r11 hm, (K 2 (by decide)).1.trans (MR_k11 hm), (K 2 (by decide)).2.trans (MR_z11 hm)⟩, ⟨by rw [R]; exact MR_r12 hm, (K 3 (by decide)).1.trans (MR_k12 hm), (K 3 (by decide)).2.trans (MR_z12 hm)⟩, ⟨by rw [R]; exact MR_r13 hm, (K 4 (by decide)).1.trans (MR_k13 hm), (K 4 (by decide)).2.trans (MR_z13 hm)⟩, ⟨by rw [R]; exact MR_r14 hm, (K 5 (by decide)).1.trans (MR_k14 hm), (K 5 (by decide)).2.trans (MR_z14 hm)⟩, ⟨by rw [R]; exact MR_r15 hm, (K 6 (by decide)).1.trans (MR_k15 hm), (K 6 (by decide)).2.trans (MR_z15 hm)⟩, ⟨by rw [R]; exact MR_r16 hm, (K 7 (by decide)).1.trans (MR_k16 hm), (K 7 (by decide)).2.trans (MR_z16 hm)⟩, ⟨by rw [R]; exact MR_r17 hm, (K 8 (by decide)).1.trans (MR_k17 hm), (K 8 (by decide)).2.trans (MR_z17 hm)⟩, ⟨by rw [R]; exact MR_r18 hm, (K 9 (by decide)).1.trans (MR_k18 hm), (K 9 (by decide)).2.trans (MR_z18 hm)⟩, ⟨by rw [R]; exact MR_r19 hm, (K 10 (by decide)).1.trans (MR_k19 hm), (K 10 (by decide)).2.trans (MR_z19 hm)⟩, ⟨by rw [R]; exact MR_r20 hm, (K 11 (by decide)).1.trans (MR_k20 hm), (K 11 (by decide)).2.trans (MR_z20 hm)⟩, ⟨by rw [R]; exact MR_r21 hm, (K 12 (by decide)).1.trans (MR_k21 hm), (K 12 (by decide)).2.trans (MR_z21 hm)⟩, ⟨by rw [R]; exact MR_r22 hm, (K 13 (by decide)).1.trans (MR_k22 hm), (K 13 (by decide)).2.trans (MR_z22 hm)⟩, ⟨by rw [R]; exact MR_r23 hm, (K 14 (by decide)).1.trans (MR_k23 hm), (K 14 (by decide)).2.trans (MR_z23 hm)⟩, ⟨by rw [R]; exact MR_r24 hm, (K 15 (by decide)).1.trans (MR_k24 hm), (K 15 (by decide)).2.trans (MR_z24 hm)⟩, ⟨by rw [R]; exact MR_r25 hm, (K 16 (by decide)).1.trans (MR_k25 hm), (K 16 (by decide)).2.trans (MR_z25 hm)⟩, ⟨by rw [R]; exact MR_r26 hm, (K 17 (by decide)).1.trans (MR_k26 hm), (K 17 (by decide)).2.trans (MR_z26 hm)⟩, ⟨by rw [R]; exact MR_r27 hm, (K 18 (by decide)).1.trans (MR_k27 hm), (K 18 (by decide)).2.trans (MR_z27 hm)⟩, ⟨by rw [R]; exact MR_r28 hm, (K 19 (by decide)).1.trans (MR_k28 hm), (K 19 (by decide)).2.trans (MR_z28 hm)⟩, ⟨by rw [R]; exact MR_r29 hm, (K 20 (by decide)).1.trans (MR_k29 hm), (K 20 (by decide)).2.trans (MR_z29 hm)⟩, ⟨by rw [R]; exact MR_r35 hm, (K 21 (by decide)).1.trans (MR_k35 hm), (K 21 (by decide)).2.trans (MR_z35 hm)⟩, ⟨by rw [R]; exact MR_r36 hm, (K 22 (by decide)).1.trans (MR_k36 hm), (K 22 (by decide)).2.trans (MR_z36 hm)⟩, ⟨by rw [R]; exact MR_r37 hm, (K 23 (by decide)).1.trans (MR_k37 hm), (K 23 (by decide)).2.trans (MR_z37 hm)⟩, ⟨by rw [R]; exact MR_r38 hm, (K 24 (by decide)).1.trans (MR_k38 hm), (K 24 (by decide)).2.trans (MR_z38 hm)⟩, ⟨by rw [R]; exact MR_r39 hm, (K 25 (by decide)).1.trans (MR_k39 hm), (K 25 (by decide)).2.trans (MR_z39 hm)⟩, ⟨by rw [R]; exact MR_r40 hm, (K 26 (by decide)).1.trans (MR_k40 hm), (K 26 (by decide)).2.trans (MR_z40 hm)⟩, ⟨by rw [R]; exact MR_r41 hm, (K 27 (by decide)).1.trans (MR_k41 hm), (K 27 (by decide)).2.trans (MR_z41 hm)⟩, ⟨by rw [R]; exact MR_r42 hm, (K 28 (by decide)).1.trans (MR_k42 hm), (K 28 (by decide)).2.trans (MR_z42 hm)⟩, ⟨by rw [R]; exact MR_r43 hm, (K 29 (by decide)).1.trans (MR_k43 hm), (K 29 (by decide)).2.trans (MR_z43 hm)⟩, ⟨by rw [R]; exact MR_r44 hm, (K 30 (by decide)).1.trans (MR_k44 hm), (K 30 (by decide)).2.trans (MR_z44 hm)⟩, ⟨by rw [R]; exact MR_r45 hm, (K 31 (by decide)).1.trans (MR_k45 hm), (K 31 (by decide)).2.trans (MR_z45 hm)⟩, ⟨by rw [R]; exact MR_r47 hm, (K 32 (by decide)).1.trans (MR_k47 hm), (K 32 (by decide)).2.trans (MR_z47 hm)⟩⟩
theorem eqZ.s {M Z : PM} {mo : Nat} (h : eqZ M Z mo) : sS (mI M) (mL M) mo = sS (mI Z) (mL Z) mo := by
  have I : ∀ o, o < 33 → mI M (mo + o) = mI Z (mo + o) := fun o ho => (h (mo + o) (by omega) (by omega)).2.2.1
  have e1 : sM (mI M) mo = sM (mI Z) mo := by
    funext k
    unfold sM
    rw [show mI M mo = mI Z mo from I 0 (by decide)]
    by_cases a1 : k < 10
    · rw [if_pos a1, if_pos a1]
    · rw [if_neg a1, if_neg a1]
      by_cases a2 : k < 30
      · rw [if_pos a2, if_pos a2]; exact I _ (by omega)
      · rw [if_neg a2, if_neg a2]
        by_cases a3 : k < 35
        · rw [if_pos a3, if_pos a3]
        · rw [if_neg a3, if_neg a3]
          by_cases a4 : k < 46
          · rw [if_pos a4, if_pos a4]; exact I _ (by omega)
          · rw [if_neg a4, if_neg a4, I 32 (by decide)]
  show (sM (mI M) mo, mL M (mo + 17)) = (sM (mI Z) mo, mL Z (mo + 17))
  rw [e1, (h (mo + 17) (by omega) (by omega)).2.2.2.1]
theorem eqZ.rf {M : PM} {mo : Nat} : eqZ M M mo := fun _ _ _ => ⟨rfl, rfl, rfl, rfl, rfl⟩
theorem XO.self {M Z : PM} {xo wa mo : Nat} {S : ST} (h : XO M xo wa mo Z S) : XO M xo wa mo M S := ⟨h.1, h.2.1, h.2.2.1, h.2.2.2.1, h.2.2.2.2.1, h.2.2.2.2.2.1, h.2.2.2.2.2.2.1, eqZ.rf⟩
theorem XO.z {M Z : PM} {xo wa mo : Nat} {S : ST} (h : XO M xo wa mo Z S) : eqZ M Z mo := h.2.2.2.2.2.2.2
/-- the Model's cells change -/
theorem XO.model {M Z : PM} {xo wa mo : Nat} {S : ST} {I' : Nat → Nat → Int32} {L' : Nat → Nat → Int64} (h : XO M xo wa mo Z S) (hm : MR M mo) (f : frM mo (mI M) I' (mL M) L') : XO (wIL M I' L') xo wa mo (wIL M I' L') S := by
  obtain ⟨x1, ⟨x2, x3⟩, ⟨x4, x5, x6⟩, x7, ⟨y1, y2, y3, y4⟩, x9, x10, x11⟩ := h
  have x0 := x1.1
  have fM : frP (fun a => mo ≤ a ∧ a < mo + 33) M (wIL M I' L') := ⟨Nat.le_refl _, fun a _ => ⟨rfl, rfl, fun hp => ⟨(f a (by omega)).1, (f a (by omega)).2, rfl⟩⟩⟩
  have hw : ∀ w σ, dyW xo mo w → WX M w σ → WX (wIL M I' L') w σ := fun w σ hd hw => hw.fr fM (fun a ha hp => (hd.out x2 ha).2 hp) (fun a c hK hp => by
    rcases MR_kind hm hp.1 hp.2 with e | ⟨t, e⟩
    · rw [e] at hK; have := (Prod.mk.inj hK).2; omega
    · rw [e] at hK; exact absurd (Prod.mk.inj hK).1 (by decide))
  have ei : ∀ o, o < 35 → I' (xo + o) = mI M (xo + o) := fun o ho => (f (xo + o) (by omega)).1
  refine ⟨x1.same (Nat.le_refl _) (fun _ _ => ⟨rfl, rfl⟩) (fun _ _ => rfl) (fun _ _ => rfl), ⟨x2, x3⟩, ⟨x4, x5, hw wa _ x5 x6⟩, ?_, ⟨fun i hi => ?_, ?_, fun i hi => ?_, ?_⟩, fun s hs => ?_, x10, eqZ.rf⟩
  · rcases x7 with ⟨a1, a2⟩ | ⟨a1, wi, a2, a3, a4, a5⟩
    · exact Or.inl ⟨a1, a2⟩
    · exact Or.inr ⟨a1, wi, a2, a3, a4, hw wi _ a3 a5⟩
  · show I' (xo + 2) i = _
    rw [ei 2 (by decide)]; exact y1 i hi
  · show I' (xo + 3) 1 = _
    rw [ei 3 (by decide)]; exact y2
  · show I' (xo + 4) i = _
    rw [ei 4 (by decide)]; exact y3 i hi
  · show I' xo 8 = _
    rw [show I' xo = mI M xo from ei 0 (by decide)]; exact y4
  · rcases x9 s hs with ⟨a1, a2⟩ | ⟨a1, ta, a2, a3⟩ | ⟨a1, ra, n, a2, a3, a4, a5, a6⟩
    · exact Or.inl ⟨a1, a2⟩
    · exact Or.inr (Or.inl ⟨a1, ta, a2, a3⟩)
    · refine Or.inr (Or.inr ⟨a1, ra, n, a2, a3, a4, a5, fun i hi => ?_⟩)
      rw [← a6 i hi]
      exact elM_c (f (ra + 1) (by omega)).1 (f (ra + 1) (by omega)).2 i
/-- at the loop's head -/
def LI (M : PM) (xo mo : Nat) : Prop := MR M mo ∧ OkS (sM (mI M) mo) ∧ ∃ wa, XO M xo wa mo M (sS (mI M) (mL M) mo)
/-- behind X's call -/
def LX (M0 M : PM) (xo mo : Nat) (S1 : ST) : Prop := MR M mo ∧ sS (mI M) (mL M) mo = sS (mI M0) (mL M0) mo ∧ ∃ wa, XO M xo wa mo M0 S1
theorem li_x {M M' : PM} {xo mo : Nat} {w : Int32 × ST} {r : Int32} (hm : MR M mo) (h : oX xo mo M w r M') : r = w.1 ∧ LX M M' xo mo w.2 := by
  obtain ⟨h1, wa, h2⟩ := h
  exact ⟨h1, hm.z h2.z, h2.z.s, wa, h2⟩
theorem li_m {M0 M M' : PM} {xo mo : Nat} {w : Int32 × ST} {r : Int32} (h : LX M0 M xo mo w.2) (hS : OkS w.2.1) (ho : oM M mo (mI M) (mL M) w r M') : r = w.1 ∧ LI M' xo mo := by
  obtain ⟨h1, I', L', rfl, e, f⟩ := ho
  obtain ⟨a1, a2, wa, a3⟩ := h
  exact ⟨h1, a1, hS.pe e, wa, (a3.model a1 f).pe hS e⟩
theorem li_u {M0 M : PM} {xo mo : Nat} (h : LX M0 M xo mo (sS (mI M0) (mL M0) mo)) (hS : OkS (sM (mI M0) mo)) : LI M xo mo := by
  obtain ⟨a1, a2, wa, a3⟩ := h
  refine ⟨a1, ?_, wa, ?_⟩
  · have : (sS (mI M) (mL M) mo).1 = (sS (mI M0) (mL M0) mo).1 := by rw [a2]
    show OkS (sS (mI M) (mL M) mo).1
    rw [this]; exact hS
  · rw [a2]; exact a3.self
/-- the start -/
theorem li_0 {M0 M1 M2 : PM} {xo mo : Nat} (h1 : XI0 M0 xo) (hs : M0.1 = xo + 35) (hmo : mo = M0.1) (f : frP noP M0 M1) (h2 : MPart M1 M2 mo 32) (hn : M1.1 = mo + 1) : LI M2 xo mo := by
  have f2 : frP noP M0 M2 := by
    have hg : frP (gE mo) M0 M2 := (f.mono fun _ _ h => h.elim).trans h2.2.2.2.2
    exact hg.mono fun a ha hp => by
      have : mo ≤ a := hp
      omega
  obtain ⟨x1, x2, x3, x4, x5, x6, x7, x8, x9⟩ := h1
  have x0 := x1.1
  have g : ∀ o, o < 35 → mI M2 (xo + o) = mI M0 (xo + o) ∧ mR M2 (xo + o) = mR M0 (xo + o) := fun o ho => ⟨((f2.2 (xo + o) (by omega)).2.2 id).1, ((f2.2 (xo + o) (by omega)).2.2 id).2.2⟩
  have z22 : ∀ s, sM (mI M2) mo 22 s = 0 := h2.ar (Or.inl ⟨by decide, by decide, rfl⟩) (by decide)
  refine ⟨h2.mr, h2.ok, xo + 17, x1.same f2.1 (fun a ha => ⟨(f2.2 a ha).1, (f2.2 a ha).2.1⟩) (fun k _ => congrFun (g 0 (by decide)).2 k) (fun a ha => ((f2.2 a (by omega)).2.2 id).2.2), ⟨by omega, by have := h2.1; omega⟩, ⟨(congrFun (g 0 (by decide)).2 6).trans x2, Or.inl rfl, ?_⟩, Or.inl ⟨h2.sc (Or.inr (Or.inr (Or.inr (Or.inr rfl)))), (congrFun (g 0 (by decide)).2 7).trans x3⟩, ⟨fun i hi => ?_, ?_, fun i hi => ?_, ?_⟩, fun s hs => Or.inl ⟨z22 s, by rw [(g (27 + s) (by omega)).2]; exact x9 s hs⟩, fun s s' ra _ _ _ _ e => absurd ((z22 s).symm.trans e) (by decide), eqZ.rf⟩
  · have w1 := x5.grown f2
    have c0 : ∀ k, k ≤ 8 → sM (mI M2) mo k 0 = w0S k 0 := by
      intro k hk
      rw [h2.sc (Or.inl (by omega))]
      have : ∀ k, k ≤ 8 → (if k = 9 then (-1 : Int32) else if k = 7 then 1 else if k = 3 then 60 else 0) = w0S k 0 := by decide
      exact this k hk
    refine w1.c c0 (fun k a b i hi => ?_) (fun k a b i hi => ?_) (fun k a b i hi => ?_)
    · exact absurd hi (Nat.not_lt_zero _)
    · exact absurd hi (Nat.not_lt_zero _)
    · exact absurd hi (Nat.not_lt_zero _)
  · rw [(g 2 (by decide)).1, x6]
    exact (h2.ar (k := 10) (Or.inl ⟨by decide, by decide, rfl⟩) (by decide) i).symm
  · rw [(g 3 (by decide)).1, x7]
    exact (h2.sc (k := 48) (Or.inr (Or.inr (Or.inr (Or.inl rfl))))).symm
  · rw [(g 4 (by decide)).1, x8]
    exact (h2.ar (k := 47) (Or.inr (Or.inr ⟨rfl, rfl⟩)) (by decide) i).symm
  · rw [show mI M2 xo = mI M0 xo from (g 0 (by decide)).1, x4]
    exact (h2.sc (k := 9) (Or.inl (by decide))).symm
theorem scr_in {j L : Nat} {x : Int32} (h : 6 * j + 5 < L) (hL : L ≤ 384) (hx : 0 ≤ x.toInt ∧ x.toInt ≤ 5) : vp_in (nI (6 * j) + x) L := by
  have e := nI_toInt (n := 6 * j) (by omega)
  have e2 := i_add (x := nI (6 * j)) (y := x) (by omega) (by omega)
  exact vp_n (by omega)
theorem scr_0 {j L : Nat} (h : 6 * j + 5 < L) (hL : L ≤ 384) : vp_in (nI (6 * j)) L := by
  have e := nI_toInt (n := 6 * j) (by omega)
  exact vp_n (by omega)
theorem scr_go {j L : Nat} (hL : L ≤ 384) (hj : j ≤ 64) : (nI L - 6 < nI (6 * j)) ↔ ¬ 6 * j + 5 < L := by
  have e := nI_toInt (n := 6 * j) (by omega)
  have e1 := nI_toInt (n := L) (by omega)
  have e2 := i_sub (x := nI L) (y := 6) (by rw [c_6]; omega) (by rw [c_6]; omega)
  rw [c_6] at e2
  rw [i_lt, e2, e, e1]
  omega
theorem scr_nx {j : Nat} (hj : j < 64) : nI (6 * j) + 6 = nI (6 * (j + 1)) := by
  have e := nI_toInt (n := 6 * j) (by omega)
  have e1 := nI_toInt (n := 6 * (j + 1)) (by omega)
  have e2 := i_add (x := nI (6 * j)) (y := 6) (by rw [c_6]; omega) (by rw [c_6]; omega)
  rw [c_6] at e2
  rw [i_eq, e2, e, e1]
  omega
