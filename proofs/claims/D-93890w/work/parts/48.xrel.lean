/-! X IN MEMORY: its fixed cells, the World, the image, the shelves; what keeps it (hand-written) -/
set_option maxRecDepth 100000
/-- the Seeker at a -/
def skP (M : PM) (a : Nat) : Prop := mK M a = (1, 2) ∧ (mR M a 0 = some (a + 1) ∧ mR M a 1 = some (a + 7) ∧ mR M a 2 = some (a + 8) ∧ mR M a 3 = some (a + 9)) ∧ (mK M (a + 1) = (2, 7) ∧ mZ M (a + 1) = 5) ∧ (∀ j, j < 5 → mR M (a + 1) j = some (a + (2 + j)) ∧ mK M (a + (2 + j)) = (2, 0) ∧ mZ M (a + (2 + j)) = 256) ∧ (mK M (a + 7) = (2, 0) ∧ mZ M (a + 7) = 8) ∧ (mK M (a + 8) = (2, 0) ∧ mZ M (a + 8) = 8) ∧ (mK M (a + 9) = (2, 0) ∧ mZ M (a + 9) = 4)
def XS (M : PM) (xo : Nat) : Prop := xo + 35 ≤ M.1 ∧ mK M xo = (1, 0) ∧ (mR M xo 0 = some (xo + 1) ∧ mR M xo 1 = some (xo + 2) ∧ mR M xo 2 = some (xo + 3) ∧ mR M xo 3 = some (xo + 5) ∧ mR M xo 4 = some (xo + 15) ∧ mR M xo 5 = some (xo + 16)) ∧ (mK M (xo + 1) = (2, 5) ∧ mZ M (xo + 1) = 8) ∧ (mK M (xo + 2) = (2, 0) ∧ mZ M (xo + 2) = 8) ∧ trP M (xo + 3) ∧ skP M (xo + 5) ∧ (mK M (xo + 15) = (2, 0) ∧ mZ M (xo + 15) = 8) ∧ (mK M (xo + 16) = (2, 0) ∧ mZ M (xo + 16) = 8) ∧ ∀ s, s < 8 → mR M (xo + 1) s = some (xo + (27 + s)) ∧ mK M (xo + (27 + s)) = (1, 4)
theorem XS.same {M M' : PM} {xo : Nat} (h : XS M xo) (hn : M.1 ≤ M'.1) (hk : ∀ a, a < M.1 → mK M' a = mK M a ∧ mZ M' a = mZ M a) (h0 : ∀ k, k < 6 → mR M' xo k = mR M xo k) (hR : ∀ a, a = xo + 1 ∨ a = xo + 3 ∨ a = xo + 5 ∨ a = xo + 6 → mR M' a = mR M a) : XS M' xo := by
  obtain ⟨h1, h2, ⟨r0, r1, r2, r3, r4, r5⟩, h3, h4, ⟨t1, t2, t3, t4⟩, ⟨s1, s2, s3, s4, s5, s6, s7⟩, h5, h6, h7⟩ := h
  have K : ∀ o, o < 35 → mK M' (xo + o) = mK M (xo + o) := fun o ho => (hk _ (by omega)).1
  have Z : ∀ o, o < 35 → mZ M' (xo + o) = mZ M (xo + o) := fun o ho => (hk _ (by omega)).2
  refine ⟨by omega, (K 0 (by decide)).trans h2, ⟨(h0 0 (by decide)).trans r0, (h0 1 (by decide)).trans r1, (h0 2 (by decide)).trans r2, (h0 3 (by decide)).trans r3, (h0 4 (by decide)).trans r4, (h0 5 (by decide)).trans r5⟩, ⟨(K 1 (by decide)).trans h3.1, (Z 1 (by decide)).trans h3.2⟩, ⟨(K 2 (by decide)).trans h4.1, (Z 2 (by decide)).trans h4.2⟩, ⟨(K 3 (by decide)).trans t1, ?_, (K 4 (by decide)).trans t3, (Z 4 (by decide)).trans t4⟩, ⟨(K 5 (by decide)).trans s1, ?_, ⟨(K 6 (by decide)).trans s3.1, (Z 6 (by decide)).trans s3.2⟩, fun j hj => ?_, ⟨(K 12 (by decide)).trans s5.1, (Z 12 (by decide)).trans s5.2⟩, ⟨(K 13 (by decide)).trans s6.1, (Z 13 (by decide)).trans s6.2⟩, ⟨(K 14 (by decide)).trans s7.1, (Z 14 (by decide)).trans s7.2⟩⟩, ⟨(K 15 (by decide)).trans h5.1, (Z 15 (by decide)).trans h5.2⟩, ⟨(K 16 (by decide)).trans h6.1, (Z 16 (by decide)).trans h6.2⟩, fun s hs => ?_⟩
  · rw [hR _ (Or.inr (Or.inl rfl))]; exact t2
  · rw [hR _ (Or.inr (Or.inr (Or.inl rfl)))]; exact s2
  · obtain ⟨a1, a2, a3⟩ := s4 j hj
    have e : xo + 5 + (2 + j) = xo + (7 + j) := by omega
    rw [e] at a2 a3
    refine ⟨?_, ?_, ?_⟩
    · rw [show xo + 5 + 1 = xo + 6 from rfl, hR _ (Or.inr (Or.inr (Or.inr rfl)))]; exact a1
    · rw [e]; exact (K (7 + j) (by omega)).trans a2
    · rw [e]; exact (Z (7 + j) (by omega)).trans a3
  · obtain ⟨a1, a2⟩ := h7 s hs
    exact ⟨by rw [hR _ (Or.inl rfl)]; exact a1, (K (27 + s) (by omega)).trans a2⟩
/-- what X may write ints into -/
def xI (xo : Nat) : Nat → Prop := fun a => a = xo ∨ a = xo + 2 ∨ a = xo + 3 ∨ a = xo + 4 ∨ (xo + 7 ≤ a ∧ a ≤ xo + 16)
theorem XS.nth {M : PM} {xo a c : Nat} (h : XS M xo) (hK : mK M a = (1, 12 + c)) : ¬ xI xo a := by
  obtain ⟨h1, h2, -, h3, h4, ⟨t1, t2, t3, t4⟩, ⟨s1, s2, s3, s4, s5, s6, s7⟩, h5, h6, h7⟩ := h
  have no0 : ∀ {t : Nat}, mK M a = (2, t) → False := fun e => by rw [hK] at e; exact absurd (Prod.mk.inj e).1 (by decide)
  rintro (e | e | e | e | ⟨e1, e2⟩)
  · rw [e, h2] at hK; have := (Prod.mk.inj hK).2; omega
  · exact no0 (by rw [e]; exact h4.1)
  · rw [e, t1] at hK; have := (Prod.mk.inj hK).2; omega
  · exact no0 (by rw [e]; exact t3)
  · by_cases e3 : a ≤ xo + 11
    · have := (s4 (a - xo - 7) (by omega)).2.1
      rw [show xo + 5 + (2 + (a - xo - 7)) = a by omega] at this
      exact no0 this
    · have e4 : a = xo + 12 ∨ a = xo + 13 ∨ a = xo + 14 ∨ a = xo + 15 ∨ a = xo + 16 := by omega
      rcases e4 with e | e | e | e | e
      · exact no0 (by rw [e]; exact s5.1)
      · exact no0 (by rw [e]; exact s6.1)
      · exact no0 (by rw [e]; exact s7.1)
      · exact no0 (by rw [e]; exact h5.1)
      · exact no0 (by rw [e]; exact h6.1)
/-- a row's element -/
def elM (M : PM) (o : Int32) (b i : Nat) : Int64 := if o = 3 then mL M b i else (mI M b i).toInt64
def rT (o : Int32) : Nat := if o = 0 then 1 else if o = 1 then 2 else if o = 2 then 0 else 4
/-- what lies on shelf s: h -/
def shR (M : PM) (S : ST) (wa mo s : Nat) (h : Option Nat) : Prop :=
  (S.1 22 s = 0 ∧ h = none) ∨ (S.1 22 s = 2 ∧ ∃ ta, h = some ta ∧ mR M (wa + 1) (Int32.toNatClampNeg (S.1 25 s)) = some ta) ∨
  (S.1 22 s = 1 ∧ ∃ ra n, h = some ra ∧ (mo + 33 ≤ ra ∧ ra + 2 ≤ M.1) ∧ rwP M (8 + Int32.toNatClampNeg (S.1 23 s)) (rT (S.1 23 s)) ra (ra + 1) n ∧ S.1 24 s = nI n ∧ ∀ i, i < n → elM M (S.1 23 s) (ra + 1) i = S.2 (160 * s + i))
def dyW (xo mo wa : Nat) : Prop := wa = xo + 17 ∨ mo + 33 ≤ wa
def imP (M : PM) (xo wa mo : Nat) (σ : cS) : Prop := (σ 49 0 = 0 ∧ mR M xo 7 = none) ∨ (σ 49 0 = 1 ∧ ∃ wi, mR M xo 7 = some wi ∧ dyW xo mo wi ∧ wi ≠ wa ∧ WX M wi (kpt σ))
def inP (M : PM) (xo : Nat) (σ : cS) : Prop := (∀ i, i < 8 → mI M (xo + 2) i = σ 10 i) ∧ mI M (xo + 3) 1 = σ 48 0 ∧ (∀ i, i < 20 → mI M (xo + 4) i = σ 47 i) ∧ mI M xo 8 = σ 9 0
def eqZ (M Z : PM) (mo : Nat) : Prop := ∀ a, mo ≤ a → a < mo + 33 → mK M a = mK Z a ∧ mZ M a = mZ Z a ∧ mI M a = mI Z a ∧ mL M a = mL Z a ∧ mR M a = mR Z a
def rwD (M : PM) (xo : Nat) (σ : cS) : Prop := ∀ s s' ra, s < 8 → s' < 8 → mR M (xo + (27 + s)) 0 = some ra → mR M (xo + (27 + s')) 0 = some ra → σ 22 s = 1 → s = s'
def XO (M : PM) (xo wa mo : Nat) (Z : PM) (S : ST) : Prop := XS M xo ∧ (xo + 35 ≤ mo ∧ mo + 33 ≤ M.1) ∧ (mR M xo 6 = some wa ∧ dyW xo mo wa ∧ WX M wa S.1) ∧ imP M xo wa mo S.1 ∧ inP M xo S.1 ∧ (∀ s, s < 8 → shR M S wa mo s (mR M (xo + (27 + s)) 0)) ∧ rwD M xo S.1 ∧ eqZ M Z mo
theorem dyW.out {xo mo wa a : Nat} (h : dyW xo mo wa) (hm : xo + 35 ≤ mo) (ha : inW wa a) : ¬ xI xo a ∧ ¬ (mo ≤ a ∧ a < mo + 33) := by
  obtain ⟨h1, h2⟩ := ha
  refine ⟨?_, ?_⟩
  · rintro (e | e | e | e | ⟨e1, e2⟩) <;> rcases h with h | h <;> omega
  · rintro ⟨e1, e2⟩
    rcases h with h | h <;> omega
theorem rwP.fr {M M' : PM} {P : Nat → Prop} {c t a b n : Nat} (h : rwP M c t a b n) (f : frP P M M') (ha : a < M.1) (hb : b < M.1) (hp : ¬ P a) : rwP M' c t a b n := by
  obtain ⟨h1, h2, h3, h4, h5⟩ := h
  obtain ⟨a1, a2, a3⟩ := f.2 a ha
  obtain ⟨b1, b2, -⟩ := f.2 b hb
  exact ⟨a1.trans h1, by rw [(a3 hp).2.2]; exact h2, b1.trans h3, b2.trans h4, h5⟩
theorem kpt_c {σ τ : cS} (h : τ 36 = σ 36) : kpt τ = kpt σ := by
  funext k
  unfold kpt
  rw [h]
/-- ints of X's own cells change, and garbage comes -/
theorem XO.ints {M M' Z : PM} {xo wa mo : Nat} {S S' : ST} {P : Nat → Prop} (h : XO M xo wa mo Z S) (f : frP P M M') (hP : ∀ a, P a → xI xo a) (hR : ∀ a, a < M.1 → mR M' a = mR M a) (h2 : S'.2 = S.2) (hS : ∀ k, (k ≤ 8 ∨ (11 ≤ k ∧ k ≠ 47 ∧ k ≠ 48)) → S'.1 k = S.1 k) (hi : inP M' xo S'.1) : XO M' xo wa mo Z S' := by
  obtain ⟨x1, ⟨x2, x3⟩, ⟨x4, x5, x6⟩, x7, -, x9, x10, x11⟩ := h
  have x0 := x1.1
  have hx : ∀ o, o < 35 → mR M' (xo + o) = mR M (xo + o) := fun o ho => hR _ (by omega)
  have hw : ∀ w σ, dyW xo mo w → WX M w σ → WX M' w σ := fun w σ hd hw => hw.fr f (fun a ha hp => (hd.out x2 ha).1 (hP a hp)) (fun a c hK hp => x1.nth hK (hP a hp))
  have ew : ∀ τ τ' : cS, (∀ k, (k ≤ 8 ∨ (11 ≤ k ∧ k ≤ 21)) → τ' k = τ k) → ∀ w, WX M' w τ → WX M' w τ' := by
    intro τ τ' he w hw
    obtain ⟨a1, a2, a3, a4, a5⟩ := hw
    refine ⟨a1, ?_, ?_, ?_, ?_⟩
    · unfold WI at a2 ⊢
      rw [he 0 (by omega), he 1 (by omega), he 2 (by omega), he 3 (by omega), he 4 (by omega), he 5 (by omega), he 6 (by omega), he 7 (by omega), he 8 (by omega)]
      exact a2
    · unfold WT TH at a3 ⊢
      rw [he 0 (by omega), he 11 (by omega), he 12 (by omega), he 13 (by omega), he 14 (by omega), he 15 (by omega), he 16 (by omega)]
      exact a3
    · unfold WM at a4 ⊢
      rw [he 1 (by omega), he 17 (by omega), he 18 (by omega)]
      exact a4
    · unfold WN at a5 ⊢
      rw [he 2 (by omega), he 19 (by omega), he 20 (by omega), he 21 (by omega)]
      exact a5
  refine ⟨x1.same f.1 (fun a ha => ⟨(f.2 a ha).1, (f.2 a ha).2.1⟩) (fun k _ => congrFun (hx 0 (by decide)) k) (fun a ha => hR a (by omega)), ⟨x2, Nat.le_trans x3 f.1⟩, ⟨(congrFun (hx 0 (by decide)) 6).trans x4, x5, ew S.1 S'.1 (fun k hk => hS k (by omega)) wa (hw wa S.1 x5 x6)⟩, ?_, hi, fun s hs => ?_, ?_, fun a ha1 ha2 => ?_⟩
  · rcases x7 with ⟨a1, a2⟩ | ⟨a1, wi, a2, a3, a4, a5⟩
    · exact Or.inl ⟨by rw [hS 49 (by omega)]; exact a1, (congrFun (hx 0 (by decide)) 7).trans a2⟩
    · refine Or.inr ⟨by rw [hS 49 (by omega)]; exact a1, wi, (congrFun (hx 0 (by decide)) 7).trans a2, a3, a4, ?_⟩
      rw [kpt_c (hS 36 (by omega))]
      exact hw wi _ a3 a5
  · rw [hx (27 + s) (by omega)]
    have w1 := x6.1.1
    rcases x9 s hs with ⟨a1, a2⟩ | ⟨a1, ta, a2, a3⟩ | ⟨a1, ra, n, a2, a3, a4, a5, a6⟩
    · exact Or.inl ⟨by rw [hS 22 (by omega)]; exact a1, a2⟩
    · refine Or.inr (Or.inl ⟨by rw [hS 22 (by omega)]; exact a1, ta, a2, ?_⟩)
      rw [hS 25 (by omega), hR (wa + 1) (by omega)]
      exact a3
    · refine Or.inr (Or.inr ⟨by rw [hS 22 (by omega)]; exact a1, ra, n, a2, ⟨a3.1, Nat.le_trans a3.2 f.1⟩, ?_, ?_, fun i hi => ?_⟩)
      · rw [hS 23 (by omega)]
        exact a4.fr f (by omega) (by omega) (fun hp => by have := hP _ hp; unfold xI at this; omega)
      · rw [hS 24 (by omega)]; exact a5
      · have hn : ¬ P (ra + 1) := fun hp => by have := hP _ hp; unfold xI at this; omega
        obtain ⟨b1, b2, -⟩ := (f.2 (ra + 1) (by omega)).2.2 hn
        rw [h2, hS 23 (by omega), ← a6 i hi]
        unfold elM
        rw [b1, b2]
  · intro s s' ra hs hs' e1 e2 e3
    rw [hx (27 + s) (by omega)] at e1
    rw [hx (27 + s') (by omega)] at e2
    rw [hS 22 (by omega)] at e3
    exact x10 s s' ra hs hs' e1 e2 e3
  · obtain ⟨a1, a2, a3⟩ := f.2 a (by omega)
    obtain ⟨b1, b2, b3⟩ := a3 (fun hp => by have := hP _ hp; unfold xI at this; omega)
    obtain ⟨z1, z2, z3, z4, z5⟩ := x11 a ha1 ha2
    exact ⟨a1.trans z1, a2.trans z2, b1.trans z3, b2.trans z4, b3.trans z5⟩
/-- garbage -/
theorem XO.grown {M M' Z : PM} {xo wa mo : Nat} {S : ST} (h : XO M xo wa mo Z S) (f : frP noP M M') : XO M' xo wa mo Z S := by
  refine h.ints f (fun _ hp => hp.elim) (fun a ha => ((f.2 a ha).2.2 id).2.2) rfl (fun _ _ => rfl) ?_
  obtain ⟨a1, a2, a3, a4⟩ := h.2.2.2.2.1
  have x0 := h.1.1
  have e : ∀ o, o < 35 → mI M' (xo + o) = mI M (xo + o) := fun o ho => ((f.2 (xo + o) (by omega)).2.2 id).1
  exact ⟨fun i hi => by rw [e 2 (by decide)]; exact a1 i hi, by rw [e 3 (by decide)]; exact a2, fun i hi => by rw [e 4 (by decide)]; exact a3 i hi, by rw [show mI M' xo = mI M xo from e 0 (by decide)]; exact a4⟩
/-- a refusal is counted -/
theorem XO.rfs {M Z : PM} {xo wa mo : Nat} {S : ST} (h : XO M xo wa mo Z S) {i : Nat} {v : Int32} : XO (sI M (xo + 2) i v) xo wa mo Z (up2 S.1 10 i v, S.2) := by
  refine h.ints (P := fun a => a = xo + 2) (frP.rf.sI fun _ => rfl) (fun a ha => Or.inr (Or.inl ha)) (fun _ _ => rfl) rfl (fun k hk => up2_ne (by omega)) ?_
  obtain ⟨a1, a2, a3, a4⟩ := h.2.2.2.2.1
  refine ⟨fun j hj => ?_, ?_, fun j hj => ?_, ?_⟩
  · show up2 (mI M) (xo + 2) i v (xo + 2) j = up2 S.1 10 i v 10 j
    rw [up2_self, up2_self]
    by_cases c : j = i
    · rw [c, va_up_self, va_up_self]
    · rw [va_up_ne _ _ c, va_up_ne _ _ c]; exact a1 j hj
  · show up2 (mI M) (xo + 2) i v (xo + 3) 1 = _
    rw [up2_ne (by omega)]; exact a2
  · show up2 (mI M) (xo + 2) i v (xo + 4) j = _
    rw [up2_ne (by omega)]; exact a3 j hj
  · show up2 (mI M) (xo + 2) i v xo 8 = _
    rw [up2_ne (by omega)]; exact a4
theorem dyW.out2 {xo mo wa o : Nat} (h : dyW xo mo wa) (hm : xo + 35 ≤ mo) (ho : o < 17 ∨ (27 ≤ o ∧ o < 35)) : ¬ inW wa (xo + o) := by
  rintro ⟨h1, h2⟩
  rcases h with h | h <;> omega
theorem WS.dj {M : PM} {wa wi a : Nat} (h : WS M wa) (g : WS M wi) (hne : wi ≠ wa) (ha : inW wi a) : ¬ inW wa a := by
  rintro ⟨h1, h2⟩
  obtain ⟨a1, a2⟩ := ha
  have no : ∀ u v, WS M u → WS M v → u < v → v < u + 10 → False := by
    intro u v hu hv e1 e2
    have := (hu.2.2 (v - u - 1) (by omega)).2.1
    rw [show u + (1 + (v - u - 1)) = v by omega, hv.2.1] at this
    exact absurd (Prod.mk.inj this).1 (by decide)
  rcases Nat.lt_or_gt_of_ne hne with e | e
  · exact no wi wa g h e (by omega)
  · exact no wa wi h g e (by omega)
theorem WS.nrow {M : PM} {wa c t ra n : Nat} (h : WS M wa) (hr : rwP M (8 + c) t ra (ra + 1) n) : ¬ inW wa ra ∧ ¬ inW wa (ra + 1) := by
  have h1 : ¬ inW wa ra := by
    rintro ⟨h1, h2⟩
    by_cases e : ra = wa
    · have := hr.1
      rw [e, h.2.1] at this
      have := (Prod.mk.inj this).2
      omega
    · have := (h.2.2 (ra - wa - 1) (by omega)).2.1
      rw [show wa + (1 + (ra - wa - 1)) = ra by omega, hr.1] at this
      exact absurd (Prod.mk.inj this).1 (by decide)
  refine ⟨h1, fun h2 => ?_⟩
  by_cases e : ra + 1 = wa
  · have := hr.2.2.1
    rw [e, h.2.1] at this
    exact absurd (Prod.mk.inj this).1 (by decide)
  · exact h1 ⟨by have := h2.1; omega, by have := h2.2; omega⟩
/-- the World changes -/
theorem XO.world {M M' Z : PM} {xo wa mo : Nat} {S S' : ST} (h : XO M xo wa mo Z S) (hw' : WX M' wa S'.1) (f : frP (inW wa) M M') (hT : ∀ s, s < 8 → S.1 22 s = 2 → mR M' (wa + 1) (Int32.toNatClampNeg (S.1 25 s)) = mR M (wa + 1) (Int32.toNatClampNeg (S.1 25 s))) (h2 : S'.2 = S.2) (hS : ∀ k, (k = 9 ∨ k = 10 ∨ 22 ≤ k) → S'.1 k = S.1 k) : XO M' xo wa mo Z S' := by
  obtain ⟨x1, ⟨x2, x3⟩, ⟨x4, x5, x6⟩, x7, ⟨y1, y2, y3, y4⟩, x9, x10, x11⟩ := h
  have x0 := x1.1
  have hx : ∀ o, (o < 17 ∨ (27 ≤ o ∧ o < 35)) → mI M' (xo + o) = mI M (xo + o) ∧ mR M' (xo + o) = mR M (xo + o) := fun o ho => by
    obtain ⟨a1, -, a3⟩ := (f.2 (xo + o) (by omega)).2.2 (x5.out2 x2 ho)
    exact ⟨a1, a3⟩
  refine ⟨x1.same f.1 (fun a ha => ⟨(f.2 a ha).1, (f.2 a ha).2.1⟩) (fun k _ => congrFun (hx 0 (by decide)).2 k) (fun a ha => ?_), ⟨x2, Nat.le_trans x3 f.1⟩, ⟨(congrFun (hx 0 (by decide)).2 6).trans x4, x5, hw'⟩, ?_, ⟨fun i hi => ?_, ?_, fun i hi => ?_, ?_⟩, fun s hs => ?_, ?_, fun a ha1 ha2 => ?_⟩
  · rcases ha with e | e | e | e <;> rw [e]
    · exact (hx 1 (by decide)).2
    · exact (hx 3 (by decide)).2
    · exact (hx 5 (by decide)).2
    · exact (hx 6 (by decide)).2
  · rcases x7 with ⟨a1, a2⟩ | ⟨a1, wi, a2, a3, a4, a5⟩
    · exact Or.inl ⟨by rw [hS 49 (by omega)]; exact a1, (congrFun (hx 0 (by decide)).2 7).trans a2⟩
    · refine Or.inr ⟨by rw [hS 49 (by omega)]; exact a1, wi, (congrFun (hx 0 (by decide)).2 7).trans a2, a3, a4, ?_⟩
      rw [kpt_c (hS 36 (by omega))]
      exact a5.fr f (fun a ha hp => x6.1.dj a5.1 a4 ha hp) (fun a c hK hp => x6.1.nth hK hp)
  · rw [(hx 2 (by decide)).1, hS 10 (by omega)]; exact y1 i hi
  · rw [(hx 3 (by decide)).1, hS 48 (by omega)]; exact y2
  · rw [(hx 4 (by decide)).1, hS 47 (by omega)]; exact y3 i hi
  · rw [show mI M' xo = mI M xo from (hx 0 (by decide)).1, hS 9 (by omega)]; exact y4
  · rw [(hx (27 + s) (by omega)).2]
    rcases x9 s hs with ⟨a1, a2⟩ | ⟨a1, ta, a2, a3⟩ | ⟨a1, ra, n, a2, a3, a4, a5, a6⟩
    · exact Or.inl ⟨by show S'.1 22 s = 0; rw [hS 22 (by omega)]; exact a1, a2⟩
    · refine Or.inr (Or.inl ⟨by show S'.1 22 s = 2; rw [hS 22 (by omega)]; exact a1, ta, a2, ?_⟩)
      show mR M' (wa + 1) (Int32.toNatClampNeg (S'.1 25 s)) = some ta
      rw [hS 25 (by omega), hT s hs a1]
      exact a3
    · obtain ⟨n1, n2⟩ := x6.1.nrow a4
      refine Or.inr (Or.inr ⟨by show S'.1 22 s = 1; rw [hS 22 (by omega)]; exact a1, ra, n, a2, ⟨a3.1, Nat.le_trans a3.2 f.1⟩, ?_, ?_, fun i hi => ?_⟩)
      · show rwP M' (8 + Int32.toNatClampNeg (S'.1 23 s)) (rT (S'.1 23 s)) ra (ra + 1) n
        rw [hS 23 (by omega)]
        exact a4.fr f (by omega) (by omega) n1
      · show S'.1 24 s = nI n
        rw [hS 24 (by omega)]; exact a5
      · obtain ⟨b1, b2, -⟩ := (f.2 (ra + 1) (by omega)).2.2 n2
        show elM M' (S'.1 23 s) (ra + 1) i = S'.2 (160 * s + i)
        rw [h2, hS 23 (by omega), ← a6 i hi]
        unfold elM
        rw [b1, b2]
  · intro s s' ra hs hs' e1 e2 e3
    rw [(hx (27 + s) (by omega)).2] at e1
    rw [(hx (27 + s') (by omega)).2] at e2
    rw [hS 22 (by omega)] at e3
    exact x10 s s' ra hs hs' e1 e2 e3
  · obtain ⟨a1, a2, a3⟩ := f.2 a (by omega)
    obtain ⟨b1, b2, b3⟩ := a3 (fun hp => (x5.out x2 hp).2 ⟨ha1, ha2⟩)
    obtain ⟨z1, z2, z3, z4, z5⟩ := x11 a ha1 ha2
    exact ⟨a1.trans z1, a2.trans z2, b1.trans z3, b2.trans z4, b3.trans z5⟩
/-- what a call of X owes -/
def oX (xo mo : Nat) (Z : PM) (w : Int32 × ST) (r : Int32) (M' : PM) : Prop := r = w.1 ∧ ∃ wa, XO M' xo wa mo Z w.2
/-- q is a Refused of why, over a memory that still is X in state S -/
def rfO (xo wa mo : Nat) (Z : PM) (S : ST) (why : Int32) (q : Nat) (E : String) (M' : PM) : Prop := E = "NoFartherThanAThrow$Refused" ∧ mK M' q = (1, 6) ∧ mI M' q 6 = why ∧ XO M' xo wa mo Z S
theorem XO.rf {M M' Z : PM} {xo wa mo : Nat} {S : ST} {why : Int32} {q : Nat} {E : String} (h : XO M xo wa mo Z S) (hx : rfX M why q E M') : rfO xo wa mo Z S why q E M' := by
  obtain ⟨rfl, rfl, rfl⟩ := hx
  exact ⟨rfl, nw_K M (1, 6) 0, by simp [mI, sI, up2_ap], h.grown (frP.rf.nw.sI fun h => absurd h (Nat.lt_irrefl _))⟩
