/-! X: shelves follow the things; X along states that agree (hand-written) -/
set_option maxRecDepth 100000
/-- what lies on a shelf while things are put anew: a thing by its index alone -/
def shL (M : PM) (S : ST) (mo s : Nat) (h : Option Nat) : Prop :=
  (S.1 22 s = 0 ∧ h = none) ∨ (S.1 22 s = 2 ∧ ∃ ta c, h = some ta ∧ ta < M.1 ∧ (12 ≤ c ∧ c ≤ 18) ∧ mK M ta = (1, c) ∧ mI M ta 0 = S.1 25 s) ∨
  (S.1 22 s = 1 ∧ ∃ ra n, h = some ra ∧ (mo + 33 ≤ ra ∧ ra + 2 ≤ M.1) ∧ rwP M (8 + Int32.toNatClampNeg (S.1 23 s)) (rT (S.1 23 s)) ra (ra + 1) n ∧ S.1 24 s = nI n ∧ ∀ i, i < n → elM M (S.1 23 s) (ra + 1) i = S.2 (160 * s + i))
theorem shL.fr {P : Nat → Prop} {M M' : PM} {S S' : ST} {mo s : Nat} {o : Option Nat} (h : shL M S mo s o) (f : frP P M M') (hT : ∀ a c, mK M a = (1, 12 + c) → ¬ P a) (h2 : ∀ ra n c t, rwP M (8 + c) t ra (ra + 1) n → mo + 33 ≤ ra → o = some ra → ¬ P ra ∧ ¬ P (ra + 1)) (e : ∀ k, 22 ≤ k → k ≤ 25 → S'.1 k s = S.1 k s) (ec : ∀ i, i < 160 → S'.2 (160 * s + i) = S.2 (160 * s + i)) : shL M' S' mo s o := by
  rcases h with ⟨a1, a2⟩ | ⟨a1, ta, c, a2, a3, a4, a5, a6⟩ | ⟨a1, ra, n, a2, a3, a4, a5, a6⟩
  · exact Or.inl ⟨by rw [e 22 (by decide) (by decide)]; exact a1, a2⟩
  · obtain ⟨b1, -, b3⟩ := f.2 ta a3
    have hn := hT ta (c - 12) (by rw [a5]; congr 1; omega)
    refine Or.inr (Or.inl ⟨by rw [e 22 (by decide) (by decide)]; exact a1, ta, c, a2, Nat.lt_of_lt_of_le a3 f.1, a4, b1.trans a5, ?_⟩)
    rw [e 25 (by decide) (by decide), (b3 hn).1]
    exact a6
  · obtain ⟨n1, n2⟩ := h2 ra n _ _ a4 a3.1 a2
    refine Or.inr (Or.inr ⟨by rw [e 22 (by decide) (by decide)]; exact a1, ra, n, a2, ⟨a3.1, Nat.le_trans a3.2 f.1⟩, ?_, ?_, fun i hi => ?_⟩)
    · rw [e 23 (by decide) (by decide)]
      exact a4.fr f (by omega) (by omega) n1
    · rw [e 24 (by decide) (by decide)]; exact a5
    · obtain ⟨b1, b2, -⟩ := (f.2 (ra + 1) (by omega)).2.2 n2
      have := a4.2.2.2.2
      rw [ec i (by omega), e 23 (by decide) (by decide), ← a6 i hi]
      unfold elM
      rw [b1, b2]
theorem XQ.mono {Q Q' : Nat → Option Nat → Prop} {M Z : PM} {xo wa mo : Nat} {S : ST} (h : XQ Q M xo wa mo Z S) (hQ : ∀ s o, s < 8 → mR M (xo + (27 + s)) 0 = o → Q s o → Q' s o) : XQ Q' M xo wa mo Z S := ⟨h.1, h.2.1, h.2.2.1, h.2.2.2.1, h.2.2.2.2.1, fun s hs => hQ s _ hs rfl (h.2.2.2.2.2.1 s hs), h.2.2.2.2.2.2⟩
theorem XO.loose {M Z : PM} {xo wa mo : Nat} {S : ST} (h : XO M xo wa mo Z S) (hS : OkS S.1) : XQ (shL M S mo) M xo wa mo Z S := by
  refine h.q.mono (fun s o hs ho hq => ?_)
  rcases hq with ⟨a1, a2⟩ | ⟨a1, ta, a2, a3⟩ | ⟨a1, ra, n, a2, a3, a4, a5, a6⟩
  · exact Or.inl ⟨a1, a2⟩
  · obtain ⟨tb, b1, b2, b3, b4⟩ := h.sth hS.2.1 hs a1
    cases a3.symm.trans b2
    exact Or.inr (Or.inl ⟨a1, ta, _, a2, b3.1, kd_rg b3 hS.1.t (ix_lt b4.1 b4.2), b3.2.1, b3.2.2.1.trans (nI_self b4.1).symm⟩)
  · exact Or.inr (Or.inr ⟨a1, ra, n, a2, a3, a4, a5, a6⟩)
/-- the World changes, and with it what is asked of the shelves -/
theorem XQ.world {Q Q' : Nat → Option Nat → Prop} {M M' Z : PM} {xo wa mo : Nat} {S S' : ST} (h : XQ Q M xo wa mo Z S) (hw' : WX M' wa S'.1) (f : frP (inW wa) M M') (hS : ∀ k, (k = 9 ∨ k = 10 ∨ 26 ≤ k) → S'.1 k = S.1 k) (h22 : ∀ s, s < 8 → S'.1 22 s = 1 → S.1 22 s = 1) (hQ : ∀ s o, s < 8 → mR M (xo + (27 + s)) 0 = o → Q s o → Q' s o) : XQ Q' M' xo wa mo Z S' := by
  obtain ⟨x1, ⟨x2, x3⟩, ⟨x4, x5, x6⟩, x7, ⟨y1, y2, y3, y4⟩, x9, x10, x11⟩ := h
  have x0 := x1.1
  have hx : ∀ o, (o < 17 ∨ (27 ≤ o ∧ o < 35)) → mI M' (xo + o) = mI M (xo + o) ∧ mR M' (xo + o) = mR M (xo + o) := fun o ho => by
    obtain ⟨a1, -, a3⟩ := (f.2 (xo + o) (by omega)).2.2 (x5.out2 x2 ho)
    exact ⟨a1, a3⟩
  refine ⟨x1.same f.1 (fun a ha => ⟨(f.2 a ha).1, (f.2 a ha).2.1⟩) (fun k _ => congrFun (hx 0 (by decide)).2 k) (fun a ha => ?_), ⟨x2, Nat.le_trans x3 f.1⟩, ⟨(congrFun (hx 0 (by decide)).2 6).trans x4, x5, hw'⟩, ?_, ⟨fun i hi => ?_, ?_, fun i hi => ?_, ?_⟩, fun s hs => ?_, ?_, fun a ha1 ha2 => ?_⟩
  · rcases ha with e | e | e | e <;> rw [e]
    · exact (hx 1 (by decide)).2
    · exact (hx 3 (by decide)).2
    · exact (hx 5 (by decide)).2
    · exact (hx 6 (by decide)).2
  · rcases x7 with ⟨a1, a2⟩ | ⟨a1, wi, a2, a3, a4, a5⟩
    · exact Or.inl ⟨by rw [hS 49 (by omega)]; exact a1, (congrFun (hx 0 (by decide)).2 7).trans a2⟩
    · refine Or.inr ⟨by rw [hS 49 (by omega)]; exact a1, wi, (congrFun (hx 0 (by decide)).2 7).trans a2, a3, a4, ?_⟩
      rw [kpt_c (hS 36 (by omega))]
      exact a5.fr f (fun a ha hp => x6.1.dj a5.1 a4 ha hp) (fun a c hK hp => x6.1.nth hK hp)
  · rw [(hx 2 (by decide)).1, hS 10 (by omega)]; exact y1 i hi
  · rw [(hx 3 (by decide)).1, hS 48 (by omega)]; exact y2
  · rw [(hx 4 (by decide)).1, hS 47 (by omega)]; exact y3 i hi
  · rw [show mI M' xo = mI M xo from (hx 0 (by decide)).1, hS 9 (by omega)]; exact y4
  · rw [(hx (27 + s) (by omega)).2]
    exact hQ s _ hs rfl (x9 s hs)
  · intro s s' ra hs hs' e1 e2 e3
    rw [(hx (27 + s) (by omega)).2] at e1
    rw [(hx (27 + s') (by omega)).2] at e2
    exact x10 s s' ra hs hs' e1 e2 (h22 s hs e3)
  · obtain ⟨a1, a2, a3⟩ := f.2 a (by omega)
    obtain ⟨b1, b2, b3⟩ := a3 (fun hp => (x5.out x2 hp).2 ⟨ha1, ha2⟩)
    obtain ⟨z1, z2, z3, z4, z5⟩ := x11 a ha1 ha2
    exact ⟨a1.trans z1, a2.trans z2, b1.trans z3, b2.trans z4, b3.trans z5⟩
/-- the same with shelves that hold things by their index -/
theorem XQ.worldL {M M' Z : PM} {xo wa mo : Nat} {S S' : ST} (h : XQ (shL M S mo) M xo wa mo Z S) (hw' : WX M' wa S'.1) (f : frP (inW wa) M M') (hS : ∀ k, (k = 9 ∨ k = 10 ∨ 22 ≤ k) → S'.1 k = S.1 k) (h2 : S'.2 = S.2) : XQ (shL M' S' mo) M' xo wa mo Z S' := by
  have w := h.2.2.1.2.2.1
  exact XQ.world h hw' f (fun k hk => hS k (by omega)) (fun s _ e => by rw [hS 22 (by omega)] at e; exact e) (fun s o hs ho hq => hq.fr f (fun a c hK hp => w.nth hK hp) (fun ra n c t hr _ _ => w.nrow hr) (fun k _ _ => by rw [hS k (by omega)]) (fun i _ => by rw [h2]))
/-- shelves follow the things -/
noncomputable def folS (S : ST) : ST := (fun k => if k = 22 then fun s => cI (S.1 22 s = 2 ∧ ¬ S.1 25 s < S.1 0 0) 0 (S.1 22 s) else S.1 k, S.2)
theorem fol_k {S : ST} {k : Nat} (h : k ≠ 22) : (folS S).1 k = S.1 k := if_neg h
theorem fol_22 {S : ST} (s : Nat) : (folS S).1 22 s = cI (S.1 22 s = 2 ∧ ¬ S.1 25 s < S.1 0 0) 0 (S.1 22 s) := rfl
theorem fol_1 {S : ST} {s : Nat} : (folS S).1 22 s = 1 ↔ S.1 22 s = 1 := by
  rw [fol_22]
  by_cases c : S.1 22 s = 2 ∧ ¬ S.1 25 s < S.1 0 0
  · rw [cI_t c]
    exact ⟨fun h => absurd h (by decide), fun h => absurd (h.symm.trans c.1) (by decide)⟩
  · rw [cI_f c]
/-- the state of XQ counts but for the shelves -/
theorem XQ.fol {Q : Nat → Option Nat → Prop} {M Z : PM} {xo wa mo : Nat} {S : ST} (h : XQ Q M xo wa mo Z S) : XQ Q M xo wa mo Z (folS S) := by
  obtain ⟨x1, x2, ⟨x4, x5, x6⟩, x7, ⟨y1, y2, y3, y4⟩, x9, x10, x11⟩ := h
  refine ⟨x1, x2, ⟨x4, x5, x6.k9' (fun k hk => fol_k (by omega))⟩, x7, ⟨y1, y2, y3, y4⟩, x9, fun s s' ra hs hs' e1 e2 e3 => x10 s s' ra hs hs' e1 e2 (fol_1.mp e3), x11⟩
theorem OkH.w {σ : cS} (h : OkH σ) : ∀ s, s < 8 → (σ 22 s = 0 ∨ σ 22 s = 1 ∨ σ 22 s = 2) ∧ (σ 22 s = 1 → bd (σ 23 s) 0 3 ∧ bd (σ 24 s) 0 160) ∧ (σ 22 s = 2 → 0 ≤ (σ 25 s).toInt) := fun s hs => ⟨(h s hs).1, (h s hs).2.1, fun q => ((h s hs).2.2 q).1⟩
/-- while the shelves before j follow -/
def shF (j : Nat) (M : PM) (S : ST) (wa mo s : Nat) (h : Option Nat) : Prop := (s < j → shR M (folS S) wa mo s h) ∧ (j ≤ s → shL M S mo s h)
def HfP (σ : cS) : Prop := ∀ s, s < 8 → (σ 22 s = 0 ∨ σ 22 s = 1 ∨ σ 22 s = 2) ∧ (σ 22 s = 1 → bd (σ 23 s) 0 3 ∧ bd (σ 24 s) 0 160) ∧ (σ 22 s = 2 → 0 ≤ (σ 25 s).toInt)
/-- a shelf with nothing or a row on it follows by itself -/
theorem shL.keep {M : PM} {S : ST} {wa mo s : Nat} {o : Option Nat} (h : shL M S mo s o) (h2 : ¬ S.1 22 s = 2) : shR M (folS S) wa mo s o := by
  have e : (folS S).1 22 s = S.1 22 s := by rw [fol_22, cI_f (fun q => h2 q.1)]
  rcases h with ⟨a1, a2⟩ | ⟨a1, -⟩ | ⟨a1, ra, n, a2, a3, a4, a5, a6⟩
  · exact Or.inl ⟨by rw [e]; exact a1, a2⟩
  · exact absurd a1 h2
  · exact Or.inr (Or.inr ⟨by rw [e]; exact a1, ra, n, a2, a3, a4, a5, a6⟩)
theorem XQ.stepN {M Z : PM} {xo wa mo j : Nat} {S : ST} (h : XQ (shF j M S wa mo) M xo wa mo Z S) (hj : j < 8) (h2 : ¬ S.1 22 j = 2) : XQ (shF (j + 1) M S wa mo) M xo wa mo Z S := by
  refine h.mono (fun s o hs ho hq => ⟨fun h1 => ?_, fun h1 => hq.2 (by omega)⟩)
  by_cases e : s = j
  · subst e; exact (hq.2 (Nat.le_refl _)).keep h2
  · exact hq.1 (by omega)
theorem XQ.stepT {M Z : PM} {xo wa mo j : Nat} {S : ST} {v : Option Nat} (h : XQ (shF j M S wa mo) M xo wa mo Z S) (hH : HfP S.1) (hj : j < 8) (h2 : S.1 22 j = 2) (hv : (S.1 25 j < S.1 0 0 ∧ ∃ tb, v = some tb ∧ mR M (wa + 1) (Int32.toNatClampNeg (S.1 25 j)) = some tb ∧ ∃ c, mK M tb = (1, 12 + c)) ∨ (¬ S.1 25 j < S.1 0 0 ∧ v = none)) : XQ (shF (j + 1) (sR M (xo + (27 + j)) 0 v) S wa mo) (sR M (xo + (27 + j)) 0 v) xo wa mo Z S := by
  have x1 := h.1
  have x0 := x1.1
  have m0 := h.2.1
  have w1 := h.2.2.1.2.2.1.1
  have hwn : ¬ wa + 1 = xo + (27 + j) := fun hp => h.2.2.1.2.1.out2 m0.1 (o := 27 + j) (Or.inr ⟨by omega, by omega⟩) (hp ▸ inW_o (by decide))
  have f : frP (fun a => a = xo + (27 + j)) M (sR M (xo + (27 + j)) 0 v) := frP.rf.sR fun _ => rfl
  refine XQ.shl h hj (fun _ _ => rfl) ⟨fun _ => ?_, fun q => absurd q (by omega)⟩ (fun s' o hs' hne ho hq => ⟨fun q => ?_, fun q => ?_⟩) (fun s' ra hs' hne hr hra => ?_) (fun _ _ _ q => q)
  · rcases hv with ⟨a1, tb, rfl, a3, -⟩ | ⟨a1, rfl⟩
    · refine Or.inr (Or.inl ⟨by rw [fol_22, cI_f (fun q => q.2 a1)]; exact h2, tb, rfl, ?_⟩)
      rw [fol_k (by decide)]
      show up2 (mR M) (xo + (27 + j)) 0 (some tb) (wa + 1) _ = _
      rw [up2_ne hwn]
      exact a3
    · exact Or.inl ⟨by rw [fol_22, cI_t ⟨h2, a1⟩], rfl⟩
  · exact (hq.1 (by omega)).fr f (by omega) hwn (fun rb n' c t hb hm _ => ⟨by omega, by omega⟩) (fun _ _ _ => rfl) (fun _ _ => rfl)
  · exact (hq.2 (by omega)).fr f (fun a c hK hp => by
      have h4 := (x1.2.2.2.2.2.2.2.2.2 j hj).2
      rw [← hp, hK] at h4
      have := (Prod.mk.inj h4).2
      omega) (fun rb n' c t hb hm _ => ⟨by omega, by omega⟩) (fun _ _ _ => rfl) (fun _ _ => rfl)
  · refine ⟨by rw [h2]; decide, fun h1 => ?_⟩
    rcases hv with ⟨a1, tb, e1, a3, c, hc⟩ | ⟨a1, e1⟩
    · rw [e1] at hra
      obtain rfl : tb = ra := Option.some.inj hra
      have hrow : ∃ n, rwP M (8 + Int32.toNatClampNeg (S.1 23 s')) (rT (S.1 23 s')) tb (tb + 1) n := by
        have hq := h.2.2.2.2.2.1 s' hs'
        rw [hr] at hq
        by_cases g : s' < j
        · rcases hq.1 g with ⟨b1, b2⟩ | ⟨b1, -⟩ | ⟨b1, ra, n, b2, b3, b4, -⟩
          · cases b2
          · exact absurd ((fol_1.mpr h1).symm.trans b1) (by decide)
          · cases b2; exact ⟨n, b4⟩
        · rcases hq.2 (by omega) with ⟨b1, b2⟩ | ⟨b1, -⟩ | ⟨b1, ra, n, b2, b3, b4, -⟩
          · cases b2
          · exact absurd (h1.symm.trans b1) (by decide)
          · cases b2; exact ⟨n, b4⟩
      obtain ⟨n, hn⟩ := hrow
      have k1 := hn.1
      rw [hc] at k1
      have k2 := (Prod.mk.inj k1).2
      obtain ⟨⟨b1, b2⟩, -⟩ := (hH s' hs').2.1 h1
      have := ix_toInt b1
      omega
    · rw [e1] at hra; cases hra
theorem XQ.done {M Z : PM} {xo wa mo : Nat} {S : ST} (h : XQ (shF 8 M S wa mo) M xo wa mo Z S) : XO M xo wa mo Z (folS S) := (h.fol.mono (fun s o hs _ hq => hq.1 hs)).o
theorem XQ.begin {M Z : PM} {xo wa mo : Nat} {S : ST} (h : XQ (shL M S mo) M xo wa mo Z S) : XQ (shF 0 M S wa mo) M xo wa mo Z S := h.mono (fun s o _ _ hq => ⟨fun q => absurd q (by omega), fun _ => hq⟩)
/-! X along states that agree where it looks -/
theorem pers_t {k : Nat} (h : k ≤ 26 ∨ k = 28 ∨ k = 36 ∨ k = 47 ∨ k = 48 ∨ k = 49) : pers k = true := decide_eq_true h
theorem PE.sc {a b : ST} (e : PE a b) {k : Nat} (h : k < 10) : a.1 k 0 = b.1 k 0 := e.1 k (pers_t (by omega)) 0 (by unfold lnF; rw [if_pos h]; decide)
theorem PE.a8 {a b : ST} (e : PE a b) {k i : Nat} (h1 : 10 ≤ k) (h2 : k < 19) (hi : i < 8) : a.1 k i = b.1 k i := e.1 k (pers_t (by omega)) i (by unfold lnF; rw [if_neg (by omega), if_pos h2]; exact hi)
theorem PE.a4 {a b : ST} (e : PE a b) {k i : Nat} (h1 : 19 ≤ k) (h2 : k < 22) (hi : i < 4) : a.1 k i = b.1 k i := e.1 k (pers_t (by omega)) i (by unfold lnF; rw [if_neg (by omega), if_neg (by omega), if_pos h2]; exact hi)
theorem PE.sh {a b : ST} (e : PE a b) {k i : Nat} (h1 : 22 ≤ k) (h2 : k < 26) (hi : i < 8) : a.1 k i = b.1 k i := e.1 k (pers_t (by omega)) i (by unfold lnF; rw [if_neg (by omega), if_neg (by omega), if_neg (by omega), if_pos h2]; exact hi)
theorem PE.kp {a b : ST} (e : PE a b) {i : Nat} (hi : i < 85) : a.1 36 i = b.1 36 i := e.1 36 (pers_t (by omega)) i hi
theorem WX.cc {M : PM} {wa : Nat} {σ τ : cS} (h : WX M wa σ) (hB : OkW σ) (e0 : ∀ k, k ≤ 8 → τ k 0 = σ k 0) (e1 : ∀ k, 11 ≤ k → k ≤ 18 → ∀ i, i < 8 → τ k i = σ k i) (e2 : ∀ k, 19 ≤ k → k ≤ 21 → ∀ i, i < 4 → τ k i = σ k i) : WX M wa τ := by
  obtain ⟨b0, b1, b2⟩ := hB.1
  have l0 := ix_toInt b0.1
  have l1 := ix_toInt b1.1
  have l2 := ix_toInt b2.1
  exact h.c e0 (fun k h1 h2 i hi => e1 k h1 (by omega) i (by omega)) (fun k h1 h2 i hi => e1 k (by omega) h2 i (by omega)) (fun k h1 h2 i hi => e2 k h1 h2 i (by omega))
theorem kpt_e {σ τ : cS} (e : ∀ i, i < 85 → τ 36 i = σ 36 i) : (∀ k, k ≤ 8 → kpt τ k 0 = kpt σ k 0) ∧ (∀ k, 11 ≤ k → k ≤ 18 → ∀ i, i < 8 → kpt τ k i = kpt σ k i) ∧ ∀ k, 19 ≤ k → k ≤ 21 → ∀ i, i < 4 → kpt τ k i = kpt σ k i := by
  refine ⟨fun k hk => ?_, fun k h1 h2 i hi => ?_, fun k h1 h2 i hi => ?_⟩
  · have a : ∀ ρ : cS, kpt ρ k 0 = ρ 36 (76 + k) := fun ρ => by unfold kpt; rw [if_pos (by omega)]; rfl
    rw [a, a]; exact e _ (by omega)
  · have a : ∀ ρ : cS, kpt ρ k i = ρ 36 (8 * (k - 11) + i) := fun ρ => by unfold kpt; rw [if_neg (by omega), if_pos ⟨h1, h2⟩]
    rw [a, a]; exact e _ (by omega)
  · have a : ∀ ρ : cS, kpt ρ k i = ρ 36 (64 + 4 * (k - 19) + i) := fun ρ => by unfold kpt; rw [if_neg (by omega), if_neg (by omega), if_pos ⟨h1, h2⟩]
    rw [a, a]; exact e _ (by omega)
theorem XO.pe {M Z : PM} {xo wa mo : Nat} {S S' : ST} (h : XO M xo wa mo Z S) (hS : OkS S.1) (e : PE S' S) : XO M xo wa mo Z S' := by
  obtain ⟨x1, x2, ⟨x4, x5, x6⟩, x7, ⟨y1, y2, y3, y4⟩, x9, x10, x11⟩ := h
  obtain ⟨k0, k1, k2⟩ := kpt_e (σ := S.1) (τ := S'.1) (fun i hi => e.kp hi)
  have e49 : S'.1 49 0 = S.1 49 0 := e.1 49 (pers_t (by omega)) 0 (by decide)
  refine ⟨x1, x2, ⟨x4, x5, x6.cc hS.1 (fun k hk => e.sc (by omega)) (fun k h1 h2 i hi => e.a8 (by omega) (by omega) hi) (fun k h1 h2 i hi => e.a4 h1 (by omega) hi)⟩, ?_, ⟨fun i hi => ?_, ?_, fun i hi => ?_, ?_⟩, fun s hs => ?_, fun s s' ra hs hs' e1 e2 e3 => ?_, x11⟩
  · rcases x7 with ⟨a1, a2⟩ | ⟨a1, wi, a2, a3, a4, a5⟩
    · exact Or.inl ⟨e49.trans a1, a2⟩
    · refine Or.inr ⟨e49.trans a1, wi, a2, a3, a4, ?_⟩
      rcases hS.2.2.1 with q | ⟨-, q⟩
      · exact absurd (a1.symm.trans q) (by decide)
      · exact a5.cc q k0 k1 k2
  · rw [e.a8 (by decide) (by decide) hi]; exact y1 i hi
  · rw [e.1 48 (pers_t (by omega)) 0 (by decide)]; exact y2
  · rw [e.1 47 (pers_t (by omega)) i hi]; exact y3 i hi
  · rw [e.sc (by decide)]; exact y4
  · have e22 := e.sh (k := 22) (by decide) (by decide) hs
    have e23 := e.sh (k := 23) (by decide) (by decide) hs
    have e24 := e.sh (k := 24) (by decide) (by decide) hs
    have e25 := e.sh (k := 25) (by decide) (by decide) hs
    rcases x9 s hs with ⟨a1, a2⟩ | ⟨a1, ta, a2, a3⟩ | ⟨a1, ra, n, a2, a3, a4, a5, a6⟩
    · exact Or.inl ⟨e22.trans a1, a2⟩
    · exact Or.inr (Or.inl ⟨e22.trans a1, ta, a2, by rw [e25]; exact a3⟩)
    · refine Or.inr (Or.inr ⟨e22.trans a1, ra, n, a2, a3, by rw [e23]; exact a4, e24.trans a5, fun i hi => ?_⟩)
      have := a4.2.2.2.2
      rw [e23, e.2 _ (by omega)]
      exact a6 i hi
  · rw [e.sh (k := 22) (by decide) (by decide) hs] at e3
    exact x10 s s' ra hs hs' e1 e2 e3
theorem OkS.pe {S S' : ST} (hS : OkS S.1) (e : PE S' S) : OkS S'.1 := by
  obtain ⟨k0, k1, k2⟩ := kpt_e (σ := S.1) (τ := S'.1) (fun i hi => e.kp hi)
  have e49 : S'.1 49 0 = S.1 49 0 := e.1 49 (pers_t (by omega)) 0 (by decide)
  have lf : ∀ k, 11 ≤ k → k ≤ 21 → ∀ i, i < lnF k → k ≤ 18 ∧ i < 8 ∨ 19 ≤ k ∧ i < 4 := fun k h1 h2 i hi => by
    by_cases g : k ≤ 18
    · rw [lnF_a h1 g] at hi; exact Or.inl ⟨g, hi⟩
    · rw [lnF_b (by omega) h2] at hi; exact Or.inr ⟨by omega, hi⟩
  refine ⟨hS.1.c (fun k hk => e.sc (by omega)) (fun k h1 h2 i hi => ?_), fun s hs => ?_, ?_, ?_, fun i hi => ?_⟩
  · rcases lf k h1 h2 i hi with ⟨g1, g2⟩ | ⟨g1, g2⟩
    · exact e.a8 (by omega) (by omega) g2
    · exact e.a4 g1 (by omega) g2
  · rw [e.sh (k := 22) (by decide) (by decide) hs, e.sh (k := 23) (by decide) (by decide) hs, e.sh (k := 24) (by decide) (by decide) hs, e.sh (k := 25) (by decide) (by decide) hs, e.sc (k := 0) (by decide)]
    exact hS.2.1 s hs
  · rcases hS.2.2.1 with q | ⟨q1, q⟩
    · exact Or.inl (e49.trans q)
    · refine Or.inr ⟨e49.trans q1, q.c (fun k hk => k0 k (by omega)) (fun k h1 h2 i hi => ?_)⟩
      rcases lf k h1 h2 i hi with ⟨g1, g2⟩ | ⟨g1, g2⟩
      · exact k1 k h1 g1 i g2
      · exact k2 k g1 h2 i g2
  · rw [e.1 48 (pers_t (by omega)) 0 (by decide)]; exact hS.2.2.2.1
  · rw [e.1 28 (pers_t (by omega)) i hi]; exact hS.2.2.2.2 i hi
