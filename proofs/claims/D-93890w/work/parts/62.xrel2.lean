/-! X: what lies on the shelves, rows' elements, a new World, an image (hand-written) -/
set_option maxRecDepth 100000
/-- XO with Q for what lies on the shelves -/
def XQ (Q : Nat → Option Nat → Prop) (M : PM) (xo wa mo : Nat) (Z : PM) (S : ST) : Prop := XS M xo ∧ (xo + 35 ≤ mo ∧ mo + 33 ≤ M.1) ∧ (mR M xo 6 = some wa ∧ dyW xo mo wa ∧ WX M wa S.1) ∧ imP M xo wa mo S.1 ∧ inP M xo S.1 ∧ (∀ s, s < 8 → Q s (mR M (xo + (27 + s)) 0)) ∧ rwD M xo S.1 ∧ eqZ M Z mo
theorem XO.q {M Z : PM} {xo wa mo : Nat} {S : ST} (h : XO M xo wa mo Z S) : XQ (shR M S wa mo) M xo wa mo Z S := h
theorem XQ.o {M Z : PM} {xo wa mo : Nat} {S : ST} (h : XQ (shR M S wa mo) M xo wa mo Z S) : XO M xo wa mo Z S := h
/-- a World looks at its own fields of the state alone -/
theorem WX.k9' {M : PM} {wa : Nat} {σ τ : cS} (h : WX M wa σ) (e : ∀ k, k < 22 → τ k = σ k) : WX M wa τ := h.c (fun k hk => by rw [e k (by omega)]) (fun k _ h2 i _ => by rw [e k (by omega)]) (fun k _ h2 i _ => by rw [e k (by omega)]) (fun k _ h2 i _ => by rw [e k (by omega)])
theorem sR_at {M : PM} {a : Nat} {v : Option Nat} : mR (sR M a 0 v) a 0 = v := (congrFun (up2_self _ _ _ _) 0).trans (va_up_self _ _ _)
theorem XQ.shl {Q Q' : Nat → Option Nat → Prop} {M Z : PM} {xo wa mo s : Nat} {S S' : ST} {v : Option Nat} (h : XQ Q M xo wa mo Z S) (hs : s < 8) (hk : ∀ k, (k < 22 ∨ 25 < k) → S'.1 k = S.1 k) (hQ : Q' s v) (hQ2 : ∀ s' o, s' < 8 → s' ≠ s → mR M (xo + (27 + s')) 0 = o → Q s' o → Q' s' o) (hd : ∀ s' ra, s' < 8 → s' ≠ s → mR M (xo + (27 + s')) 0 = some ra → v = some ra → ¬ S'.1 22 s = 1 ∧ ¬ S'.1 22 s' = 1) (h22 : ∀ s', s' < 8 → s' ≠ s → S'.1 22 s' = 1 → S.1 22 s' = 1) : XQ Q' (sR M (xo + (27 + s)) 0 v) xo wa mo Z S' := by
  obtain ⟨x1, ⟨x2, x3⟩, ⟨x4, x5, x6⟩, x7, ⟨y1, y2, y3, y4⟩, x9, x10, x11⟩ := h
  have x0 := x1.1
  have f : frP (fun a => a = xo + (27 + s)) M (sR M (xo + (27 + s)) 0 v) := frP.rf.sR fun _ => rfl
  have hK4 : mK M (xo + (27 + s)) = (1, 4) := (x1.2.2.2.2.2.2.2.2.2 s hs).2
  have nT : ∀ a c, mK M a = (1, 12 + c) → ¬ a = xo + (27 + s) := fun a c hK e => by
    rw [e, hK4] at hK
    have := (Prod.mk.inj hK).2
    omega
  have R : ∀ a, a ≠ xo + (27 + s) → mR (sR M (xo + (27 + s)) 0 v) a = mR M a := fun a ha => up2_ne ha
  have R0 : mR (sR M (xo + (27 + s)) 0 v) xo = mR M xo := R xo (by omega)
  have W : ∀ w σ, dyW xo mo w → WX M w σ → WX (sR M (xo + (27 + s)) 0 v) w σ := fun w σ hd hw => hw.fr f (fun a ha hp => hd.out2 x2 (o := 27 + s) (Or.inr ⟨by omega, by omega⟩) (hp ▸ ha)) (fun a c hK hp => nT a c hK hp)
  refine ⟨x1.same (Nat.le_refl _) (fun a _ => ⟨rfl, rfl⟩) (fun k _ => congrFun R0 k) (fun a ha => R a (by omega)), ⟨x2, x3⟩, ⟨(congrFun R0 6).trans x4, x5, (W wa _ x5 x6).k9' (fun k hk2 => hk k (Or.inl hk2))⟩, ?_, ⟨fun i hi => ?_, ?_, fun i hi => ?_, ?_⟩, fun s' hs' => ?_, ?_, fun a ha1 ha2 => ?_⟩
  · rcases x7 with ⟨a1, a2⟩ | ⟨a1, wi, a2, a3, a4, a5⟩
    · exact Or.inl ⟨by rw [hk 49 (by omega)]; exact a1, (congrFun R0 7).trans a2⟩
    · refine Or.inr ⟨by rw [hk 49 (by omega)]; exact a1, wi, (congrFun R0 7).trans a2, a3, a4, ?_⟩
      rw [kpt_c (hk 36 (by omega))]
      exact W wi _ a3 a5
  · rw [hk 10 (by omega)]; exact y1 i hi
  · rw [hk 48 (by omega)]; exact y2
  · rw [hk 47 (by omega)]; exact y3 i hi
  · rw [hk 9 (by omega)]; exact y4
  · by_cases e : s' = s
    · subst e
      rw [sR_at]
      exact hQ
    · rw [R _ (by omega)]
      exact hQ2 s' _ hs' e rfl (x9 s' hs')
  · intro s1 s2 ra h1 h2 e1 e2 e3
    by_cases c1 : s1 = s
    · by_cases c2 : s2 = s
      · omega
      · rw [c1, sR_at] at e1
        rw [R _ (by omega)] at e2
        rw [c1] at e3
        exact absurd e3 (hd s2 ra h2 c2 e2 e1).1
    · rw [R (xo + (27 + s1)) (by omega)] at e1
      by_cases c2 : s2 = s
      · rw [c2, sR_at] at e2
        exact absurd e3 (hd s1 ra h1 c1 e1 e2).2
      · rw [R _ (by omega)] at e2
        exact x10 s1 s2 ra h1 h2 e1 e2 (h22 s1 h1 c1 e3)
  · obtain ⟨z1, z2, z3, z4, z5⟩ := x11 a ha1 ha2
    exact ⟨z1, z2, z3, z4, (R a (by omega)).trans z5⟩
/-- what lies on a shelf that nothing touches -/
theorem shR.fr {P : Nat → Prop} {M M' : PM} {S S' : ST} {wa mo s : Nat} {o : Option Nat} (h : shR M S wa mo s o) (f : frP P M M') (hw : wa + 1 < M.1) (h1 : ¬ P (wa + 1)) (h2 : ∀ ra n c t, rwP M (8 + c) t ra (ra + 1) n → mo + 33 ≤ ra → o = some ra → ¬ P ra ∧ ¬ P (ra + 1)) (e : ∀ k, 22 ≤ k → k ≤ 25 → S'.1 k s = S.1 k s) (ec : ∀ i, i < 160 → S'.2 (160 * s + i) = S.2 (160 * s + i)) : shR M' S' wa mo s o := by
  rcases h with ⟨a1, a2⟩ | ⟨a1, ta, a2, a3⟩ | ⟨a1, ra, n, a2, a3, a4, a5, a6⟩
  · exact Or.inl ⟨by rw [e 22 (by decide) (by decide)]; exact a1, a2⟩
  · refine Or.inr (Or.inl ⟨by rw [e 22 (by decide) (by decide)]; exact a1, ta, a2, ?_⟩)
    rw [e 25 (by decide) (by decide), ((f.2 _ hw).2.2 h1).2.2]
    exact a3
  · obtain ⟨n1, n2⟩ := h2 ra n _ _ a4 a3.1 a2
    refine Or.inr (Or.inr ⟨by rw [e 22 (by decide) (by decide)]; exact a1, ra, n, a2, ⟨a3.1, Nat.le_trans a3.2 f.1⟩, ?_, ?_, fun i hi => ?_⟩)
    · rw [e 23 (by decide) (by decide)]
      exact a4.fr f (by omega) (by omega) n1
    · rw [e 24 (by decide) (by decide)]; exact a5
    · obtain ⟨b1, b2, -⟩ := (f.2 (ra + 1) (by omega)).2.2 n2
      have := a4.2.2.2.2
      rw [ec i (by omega), e 23 (by decide) (by decide), ← a6 i hi]
      unfold elM
      rw [b1, b2]
/-- a shelf's cell is no row's and no World's -/
theorem XS.nsh {M : PM} {xo s a c t : Nat} (h : XS M xo) (hs : s < 8) (hK : mK M a = (1, 8 + c) ∨ mK M a = (2, t)) : ¬ a = xo + (27 + s) := by
  intro e
  have h4 := (h.2.2.2.2.2.2.2.2.2 s hs).2
  rw [← e] at h4
  rcases hK with hK | hK
  · rw [hK] at h4; have := (Prod.mk.inj h4).2; omega
  · rw [hK] at h4; exact absurd (Prod.mk.inj h4).1 (by decide)
/-- a row's elements change -/
theorem XO.els {M M' Z : PM} {xo wa mo s ra n : Nat} {S S' : ST} (h : XO M xo wa mo Z S) (hs : s < 8) (h1 : S.1 22 s = 1) (hr : mR M (xo + (27 + s)) 0 = some ra) (hra : mo + 33 ≤ ra ∧ ra + 2 ≤ M.1) (hrw : rwP M (8 + Int32.toNatClampNeg (S.1 23 s)) (rT (S.1 23 s)) ra (ra + 1) n) (hn : S.1 24 s = nI n) (f : frP (fun a => a = ra + 1) M M') (hR : ∀ a, a < M.1 → mR M' a = mR M a) (h2 : S'.1 = S.1) (hc : ∀ s' i, s' < 8 → s' ≠ s → i < 160 → S'.2 (160 * s' + i) = S.2 (160 * s' + i)) (he : ∀ i, i < n → elM M' (S.1 23 s) (ra + 1) i = S'.2 (160 * s + i)) : XO M' xo wa mo Z S' := by
  obtain ⟨x1, ⟨x2, x3⟩, ⟨x4, x5, x6⟩, x7, ⟨y1, y2, y3, y4⟩, x9, x10, x11⟩ := h
  have x0 := x1.1
  have hkr : mK M (ra + 1) = (2, rT (S.1 23 s)) := hrw.2.2.1
  have nT : ∀ a c, mK M a = (1, c) → ¬ a = ra + 1 := fun a c hK e => by
    rw [e, hkr] at hK
    exact absurd (Prod.mk.inj hK).1 (by decide)
  have hx : ∀ o, o < 35 → mI M' (xo + o) = mI M (xo + o) ∧ mR M' (xo + o) = mR M (xo + o) := fun o ho => by
    obtain ⟨a1, -, a3⟩ := (f.2 (xo + o) (by omega)).2.2 (by omega)
    exact ⟨a1, a3⟩
  have W : ∀ w σ, WX M w σ → WX M' w σ := fun w σ hw => hw.fr f (fun a ha hp => (hw.1.nrow hrw).2 (hp ▸ ha)) (fun a c hK hp => nT a _ hK hp)
  refine ⟨x1.same f.1 (fun a ha => ⟨(f.2 a ha).1, (f.2 a ha).2.1⟩) (fun k _ => congrFun (hx 0 (by decide)).2 k) (fun a ha => hR a (by omega)), ⟨x2, Nat.le_trans x3 f.1⟩, ⟨(congrFun (hx 0 (by decide)).2 6).trans x4, x5, ?_⟩, ?_, ⟨fun i hi => ?_, ?_, fun i hi => ?_, ?_⟩, fun s' hs' => ?_, ?_, fun a ha1 ha2 => ?_⟩
  · rw [h2]; exact W wa _ x6
  · rcases x7 with ⟨a1, a2⟩ | ⟨a1, wi, a2, a3, a4, a5⟩
    · exact Or.inl ⟨by rw [h2]; exact a1, (congrFun (hx 0 (by decide)).2 7).trans a2⟩
    · exact Or.inr ⟨by rw [h2]; exact a1, wi, (congrFun (hx 0 (by decide)).2 7).trans a2, a3, a4, by rw [h2]; exact W wi _ a5⟩
  · rw [(hx 2 (by decide)).1, h2]; exact y1 i hi
  · rw [(hx 3 (by decide)).1, h2]; exact y2
  · rw [(hx 4 (by decide)).1, h2]; exact y3 i hi
  · rw [show mI M' xo = mI M xo from (hx 0 (by decide)).1, h2]; exact y4
  · rw [(hx (27 + s') (by omega)).2]
    by_cases e : s' = s
    · subst e
      rw [hr]
      exact Or.inr (Or.inr ⟨by rw [h2]; exact h1, ra, n, rfl, ⟨hra.1, Nat.le_trans hra.2 f.1⟩, by rw [h2]; exact hrw.fr f (by omega) (by omega) (by omega), by rw [h2]; exact hn, fun i hi => by rw [h2]; exact he i hi⟩)
    · have hw1 := x6.1.1
      refine (x9 s' hs').fr f (by omega) (fun hp => (x6.1.nrow hrw).2 (hp ▸ inW_o (by decide))) (fun rb n' c t hb hm ho => ⟨fun hp => nT _ _ hb.1 hp, fun hp => ?_⟩) (fun k _ _ => by rw [h2]) (fun i hi => hc s' i hs' e hi)
      have : rb = ra := by omega
      subst this
      exact e (x10 s s' rb hs hs' hr ho h1).symm
  · intro s1 s2 rb h3 h4 e1 e2 e3
    rw [(hx (27 + s1) (by omega)).2] at e1
    rw [(hx (27 + s2) (by omega)).2] at e2
    rw [h2] at e3
    exact x10 s1 s2 rb h3 h4 e1 e2 e3
  · obtain ⟨a1, a2, a3⟩ := f.2 a (by omega)
    obtain ⟨b1, b2, b3⟩ := a3 (by omega)
    obtain ⟨z1, z2, z3, z4, z5⟩ := x11 a ha1 ha2
    exact ⟨a1.trans z1, a2.trans z2, b1.trans z3, b2.trans z4, b3.trans z5⟩
/-- X's World is another one now -/
theorem XQ.wnew {Q Q' : Nat → Option Nat → Prop} {M Z : PM} {xo wa wb mo : Nat} {S S' : ST} (h : XQ Q M xo wa mo Z S) (hd : dyW xo mo wb) (hw : WX M wb S'.1) (hi : ∀ wi, mR M xo 7 = some wi → wi ≠ wb) (hk : ∀ k, (k = 9 ∨ k = 10 ∨ 26 ≤ k) → S'.1 k = S.1 k) (h22 : ∀ s, s < 8 → S'.1 22 s = 1 → S.1 22 s = 1) (hQ : ∀ s o, s < 8 → Q s o → Q' s o) : XQ Q' (sR M xo 6 (some wb)) xo wb mo Z S' := by
  obtain ⟨x1, ⟨x2, x3⟩, ⟨x4, x5, x6⟩, x7, ⟨y1, y2, y3, y4⟩, x9, x10, x11⟩ := h
  have x0 := x1.1
  have f : frP (fun a => a = xo) M (sR M xo 6 (some wb)) := frP.rf.sR fun _ => rfl
  have nT : ∀ a c, mK M a = (1, 12 + c) → ¬ a = xo := fun a c hK e => by
    rw [e, x1.2.1] at hK
    have := (Prod.mk.inj hK).2
    omega
  have R : ∀ a, a ≠ xo → mR (sR M xo 6 (some wb)) a = mR M a := fun a ha => up2_ne ha
  have R0 : ∀ k, k ≠ 6 → mR (sR M xo 6 (some wb)) xo k = mR M xo k := fun k hk => (congrFun (up2_self _ _ _ _) k).trans (va_up_ne _ _ hk)
  have W : ∀ w σ, dyW xo mo w → WX M w σ → WX (sR M xo 6 (some wb)) w σ := fun w σ hd hw => hw.fr f (fun a ha hp => hd.out2 x2 (o := 0) (Or.inl (by decide)) (hp ▸ ha)) (fun a c hK hp => nT a c hK hp)
  refine ⟨x1.same (Nat.le_refl _) (fun a _ => ⟨rfl, rfl⟩) (fun k hk => R0 k (by omega)) (fun a ha => R a (by omega)), ⟨x2, x3⟩, ⟨(congrFun (up2_self _ _ _ _) 6).trans (va_up_self _ _ _), hd, W wb _ hd hw⟩, ?_, ⟨fun i hi => ?_, ?_, fun i hi => ?_, ?_⟩, fun s' hs' => ?_, ?_, fun a ha1 ha2 => ?_⟩
  · rcases x7 with ⟨a1, a2⟩ | ⟨a1, wi, a2, a3, a4, a5⟩
    · exact Or.inl ⟨by rw [hk 49 (by omega)]; exact a1, (R0 7 (by decide)).trans a2⟩
    · refine Or.inr ⟨by rw [hk 49 (by omega)]; exact a1, wi, (R0 7 (by decide)).trans a2, a3, hi wi a2, ?_⟩
      rw [kpt_c (hk 36 (by omega))]
      exact W wi _ a3 a5
  · rw [hk 10 (by omega)]; exact y1 i hi
  · rw [hk 48 (by omega)]; exact y2
  · rw [hk 47 (by omega)]; exact y3 i hi
  · rw [hk 9 (by omega)]; exact y4
  · rw [R _ (by omega)]
    exact hQ s' _ hs' (x9 s' hs')
  · intro s1 s2 ra h1 h2 e1 e2 e3
    rw [R (xo + (27 + s1)) (by omega)] at e1
    rw [R _ (by omega)] at e2
    exact x10 s1 s2 ra h1 h2 e1 e2 (h22 s1 h1 e3)
  · obtain ⟨z1, z2, z3, z4, z5⟩ := x11 a ha1 ha2
    exact ⟨z1, z2, z3, z4, (R a (by omega)).trans z5⟩
/-- an image is kept -/
theorem XO.img {M Z : PM} {xo wa wi mo : Nat} {S S' : ST} (h : XO M xo wa mo Z S) (hd : dyW xo mo wi) (hne : wi ≠ wa) (hw : WX M wi (kpt S'.1)) (hk : ∀ k, k ≠ 36 → k ≠ 49 → S'.1 k = S.1 k) (h49 : S'.1 49 0 = 1) (h2 : S'.2 = S.2) : XO (sR M xo 7 (some wi)) xo wa mo Z S' := by
  obtain ⟨x1, ⟨x2, x3⟩, ⟨x4, x5, x6⟩, x7, ⟨y1, y2, y3, y4⟩, x9, x10, x11⟩ := h
  have x0 := x1.1
  have f : frP (fun a => a = xo) M (sR M xo 7 (some wi)) := frP.rf.sR fun _ => rfl
  have nT : ∀ a c, mK M a = (1, 8 + c) → ¬ a = xo := fun a c hK e => by
    rw [e, x1.2.1] at hK
    have := (Prod.mk.inj hK).2
    omega
  have R : ∀ a, a ≠ xo → mR (sR M xo 7 (some wi)) a = mR M a := fun a ha => up2_ne ha
  have R0 : ∀ k, k ≠ 7 → mR (sR M xo 7 (some wi)) xo k = mR M xo k := fun k hk => (congrFun (up2_self _ _ _ _) k).trans (va_up_ne _ _ hk)
  have W : ∀ w σ, dyW xo mo w → WX M w σ → WX (sR M xo 7 (some wi)) w σ := fun w σ hd hw => hw.fr f (fun a ha hp => hd.out2 x2 (o := 0) (Or.inl (by decide)) (hp ▸ ha)) (fun a c hK hp => nT a (4 + c) (by rw [hK]; congr 1; omega) hp)
  refine ⟨x1.same (Nat.le_refl _) (fun a _ => ⟨rfl, rfl⟩) (fun k hk => R0 k (by omega)) (fun a ha => R a (by omega)), ⟨x2, x3⟩, ⟨(R0 6 (by decide)).trans x4, x5, (W wa _ x5 x6).k9' (fun k hk2 => hk k (by omega) (by omega))⟩, Or.inr ⟨h49, wi, (congrFun (up2_self _ _ _ _) 7).trans (va_up_self _ _ _), hd, hne, W wi _ hd hw⟩, ⟨fun i hi => ?_, ?_, fun i hi => ?_, ?_⟩, fun s' hs' => ?_, ?_, fun a ha1 ha2 => ?_⟩
  · rw [hk 10 (by omega) (by omega)]; exact y1 i hi
  · rw [hk 48 (by omega) (by omega)]; exact y2
  · rw [hk 47 (by omega) (by omega)]; exact y3 i hi
  · rw [hk 9 (by omega) (by omega)]; exact y4
  · rw [R _ (by omega)]
    have hw1 := x6.1.1
    exact (x9 s' hs').fr f (by omega) (fun hp => x5.out2 x2 (o := 0) (Or.inl (by decide)) (show inW wa xo from hp ▸ inW_o (by decide))) (fun rb n' c t hb hm ho => ⟨by omega, by omega⟩) (fun k _ _ => by rw [hk k (by omega) (by omega)]) (fun i hi => by rw [h2])
  · intro s1 s2 ra h1 h3 e1 e2 e3
    rw [R (xo + (27 + s1)) (by omega)] at e1
    rw [R _ (by omega)] at e2
    rw [hk 22 (by omega) (by omega)] at e3
    exact x10 s1 s2 ra h1 h3 e1 e2 e3
  · obtain ⟨z1, z2, z3, z4, z5⟩ := x11 a ha1 ha2
    exact ⟨z1, z2, z3, z4, (R a (by omega)).trans z5⟩
/-! a row on a shelf -/
/-- ra is the row on shelf s -/
def roX (M : PM) (S : ST) (xo mo s ra n : Nat) : Prop := S.1 22 s = 1 ∧ mR M (xo + (27 + s)) 0 = some ra ∧ (mo + 33 ≤ ra ∧ ra + 2 ≤ M.1) ∧ rwP M (8 + Int32.toNatClampNeg (S.1 23 s)) (rT (S.1 23 s)) ra (ra + 1) n ∧ S.1 24 s = nI n ∧ ∀ i, i < n → elM M (S.1 23 s) (ra + 1) i = S.2 (160 * s + i)
theorem XO.ro {M Z : PM} {xo wa mo s : Nat} {S : ST} (h : XO M xo wa mo Z S) (hs : s < 8) (h1 : S.1 22 s = 1) : ∃ ra n, roX M S xo mo s ra n := by
  rcases h.2.2.2.2.2.1 s hs with ⟨a1, a2⟩ | ⟨a1, ta, a2, a3⟩ | ⟨a1, ra, n, a2, a3, a4, a5, a6⟩
  · exact absurd (h1.symm.trans a1) (by decide)
  · exact absurd (h1.symm.trans a1) (by decide)
  · exact ⟨ra, n, a1, a2, a3, a4, a5, a6⟩
theorem XO.sth {M Z : PM} {xo wa mo s : Nat} {S : ST} (h : XO M xo wa mo Z S) (hH : OkH S.1) (hs : s < 8) (h1 : S.1 22 s = 2) : ∃ ta, mR M (xo + (27 + s)) 0 = some ta ∧ mR M (wa + 1) (Int32.toNatClampNeg (S.1 25 s)) = some ta ∧ TH M S.1 (Int32.toNatClampNeg (S.1 25 s)) ta ∧ thP S.1 (S.1 25 s) := by
  rcases h.2.2.2.2.2.1 s hs with ⟨a1, a2⟩ | ⟨a1, ta, a2, a3⟩ | ⟨a1, ra, n, a2, a3, a4, a5, a6⟩
  · exact absurd (h1.symm.trans a1) (by decide)
  · obtain ⟨b1, b2⟩ := (hH s hs).2.2 h1
    have ht : thP S.1 (S.1 25 s) := ⟨n_neg b1, i_lt.mpr b2⟩
    obtain ⟨tb, c1, c2⟩ := h.2.2.1.2.2.th ht
    cases a3.symm.trans c1
    exact ⟨ta, a2, a3, c2, ht⟩
  · exact absurd (h1.symm.trans a1) (by decide)
theorem XO.sno {M Z : PM} {xo wa mo s : Nat} {S : ST} (h : XO M xo wa mo Z S) (hs : s < 8) (h1 : S.1 22 s = 0) : mR M (xo + (27 + s)) 0 = none := by
  rcases h.2.2.2.2.2.1 s hs with ⟨a1, a2⟩ | ⟨a1, ta, a2, a3⟩ | ⟨a1, ra, n, a2, a3, a4, a5, a6⟩
  · exact a2
  · exact absurd (h1.symm.trans a1) (by decide)
  · exact absurd (h1.symm.trans a1) (by decide)
/-- what stands on a shelf lies below the memory's end -/
theorem XO.slt {M Z : PM} {xo wa mo s ra : Nat} {S : ST} (h : XO M xo wa mo Z S) (hH : OkH S.1) (hs : s < 8) (hr : mR M (xo + (27 + s)) 0 = some ra) : ra < M.1 := by
  rcases (hH s hs).1 with e | e | e
  · rw [h.sno hs e] at hr; cases hr
  · obtain ⟨rb, n, h1, h2, h3, -⟩ := h.ro hs e
    cases h2.symm.trans hr
    omega
  · obtain ⟨ta, h1, -, h3, -⟩ := h.sth hH hs e
    cases h1.symm.trans hr
    exact h3.1
