/-! FRAMES; THE WORLD IN MEMORY (printed by gen/mk_x45.py) -/
set_option maxRecDepth 100000
/-- M' is M but for what lies at the places P, and what is new -/
def frP (P : Nat → Prop) (M M' : PM) : Prop := M.1 ≤ M'.1 ∧ ∀ a, a < M.1 → mK M' a = mK M a ∧ mZ M' a = mZ M a ∧ (¬ P a → mI M' a = mI M a ∧ mL M' a = mL M a ∧ mR M' a = mR M a)
section
variable {P Q : Nat → Prop} {M M' M'' : PM}
theorem frP.rf : frP P M M := ⟨Nat.le_refl _, fun _ _ => ⟨rfl, rfl, fun _ => ⟨rfl, rfl, rfl⟩⟩⟩
theorem frP.trans (h : frP P M M') (g : frP P M' M'') : frP P M M'' := by
  refine ⟨Nat.le_trans h.1 g.1, fun a ha => ?_⟩
  obtain ⟨h1, h2, h3⟩ := h.2 a ha
  obtain ⟨g1, g2, g3⟩ := g.2 a (Nat.lt_of_lt_of_le ha h.1)
  refine ⟨g1.trans h1, g2.trans h2, fun hp => ?_⟩
  obtain ⟨a1, a2, a3⟩ := h3 hp
  obtain ⟨b1, b2, b3⟩ := g3 hp
  exact ⟨b1.trans a1, b2.trans a2, b3.trans a3⟩
theorem frP.mono (h : frP P M M') (hp : ∀ a, a < M.1 → P a → Q a) : frP Q M M' := ⟨h.1, fun a ha => ⟨(h.2 a ha).1, (h.2 a ha).2.1, fun hq => (h.2 a ha).2.2 fun hx => hq (hp a ha hx)⟩⟩
theorem frP.sI {a k : Nat} {v : Int32} (h : frP P M M') (ha : a < M.1 → P a) : frP P M (sI M' a k v) := by
  refine ⟨h.1, fun b hb => ?_⟩
  obtain ⟨h1, h2, h3⟩ := h.2 b hb
  refine ⟨h1, h2, fun hp => ⟨?_, (h3 hp).2⟩⟩
  have hne : b ≠ a := fun e => hp (by rw [e]; exact ha (e ▸ hb))
  exact (up2_ne hne).trans (h3 hp).1
theorem frP.sL {a k : Nat} {v : Int64} (h : frP P M M') (ha : a < M.1 → P a) : frP P M (sL M' a k v) := by
  refine ⟨h.1, fun b hb => ?_⟩
  obtain ⟨h1, h2, h3⟩ := h.2 b hb
  refine ⟨h1, h2, fun hp => ⟨(h3 hp).1, ?_, (h3 hp).2.2⟩⟩
  have hne : b ≠ a := fun e => hp (by rw [e]; exact ha (e ▸ hb))
  exact (up2_ne hne).trans (h3 hp).2.1
theorem frP.sR {a k : Nat} {v : Option Nat} (h : frP P M M') (ha : a < M.1 → P a) : frP P M (sR M' a k v) := by
  refine ⟨h.1, fun b hb => ?_⟩
  obtain ⟨h1, h2, h3⟩ := h.2 b hb
  refine ⟨h1, h2, fun hp => ⟨(h3 hp).1, (h3 hp).2.1, ?_⟩⟩
  have hne : b ≠ a := fun e => hp (by rw [e]; exact ha (e ▸ hb))
  exact (up2_ne hne).trans (h3 hp).2.2
theorem frP.nw {κ : Nat × Nat} {n : Nat} (h : frP P M M') : frP P M (nw M' κ n) := by
  refine ⟨Nat.le_trans h.1 (Nat.le_succ _), fun b hb => ?_⟩
  obtain ⟨h1, h2, h3⟩ := h.2 b hb
  have hne : b ≠ M'.1 := Nat.ne_of_lt (Nat.lt_of_lt_of_le hb h.1)
  exact ⟨(if_neg hne).trans h1, (if_neg hne).trans h2, fun hp => ⟨(if_neg hne).trans (h3 hp).1, (if_neg hne).trans (h3 hp).2.1, (if_neg hne).trans (h3 hp).2.2⟩⟩
theorem frP.grow {N : Nat} (h : frP P M M') (hN : M'.1 ≤ N) : frP P M (grow M' N) := by
  refine ⟨Nat.le_trans h.1 hN, fun b hb => ?_⟩
  obtain ⟨h1, h2, h3⟩ := h.2 b hb
  exact ⟨(if_pos (Nat.lt_of_lt_of_le hb h.1)).trans h1, h2, h3⟩
end
abbrev inW (wa : Nat) : Nat → Prop := fun a => wa ≤ a ∧ a < wa + 10
abbrev noP : Nat → Prop := fun _ => False
/-- element types and lengths of the World's arrays -/
def wT (j : Nat) : Nat := if j = 0 then 6 else if j = 3 then 3 else 0
def wZ (j : Nat) : Nat := if j < 6 then 8 else 4
def WS (M : PM) (wa : Nat) : Prop := wa + 10 ≤ M.1 ∧ mK M wa = (1, 3) ∧ ∀ j, j < 9 → mR M wa (9 + j) = some (wa + (1 + j)) ∧ mK M (wa + (1 + j)) = (2, wT j) ∧ mZ M (wa + (1 + j)) = wZ j
/-- thing i's object at ta -/
def TH (M : PM) (σ : cS) (i ta : Nat) : Prop := ta < M.1 ∧ mK M ta = (1, 12 + Int32.toNatClampNeg (σ 11 i)) ∧ mI M ta 0 = nI i ∧ mI M ta 1 = σ 12 i ∧ mI M ta 2 = σ 13 i
def WI (M : PM) (wa : Nat) (σ : cS) : Prop := mI M wa 0 = σ 3 0 ∧ mI M wa 1 = σ 4 0 ∧ mI M wa 2 = σ 5 0 ∧ mI M wa 3 = σ 6 0 ∧ mI M wa 4 = σ 0 0 ∧ mI M wa 5 = σ 1 0 ∧ mI M wa 6 = σ 2 0 ∧ mI M wa 7 = σ 8 0 ∧ mI M wa 8 = σ 7 0
def WT (M : PM) (wa : Nat) (σ : cS) : Prop := ∀ i, i < Int32.toNatClampNeg (σ 0 0) → (∃ ta, mR M (wa + 1) i = some ta ∧ TH M σ i ta) ∧ mI M (wa + 2) i = σ 14 i ∧ mI M (wa + 3) i = σ 15 i ∧ mI M (wa + 4) i = σ 16 i
def WM (M : PM) (wa : Nat) (σ : cS) : Prop := ∀ i, i < Int32.toNatClampNeg (σ 1 0) → mI M (wa + 5) i = σ 17 i ∧ mI M (wa + 6) i = σ 18 i
def WN (M : PM) (wa : Nat) (σ : cS) : Prop := ∀ i, i < Int32.toNatClampNeg (σ 2 0) → mI M (wa + 7) i = σ 19 i ∧ mI M (wa + 8) i = σ 20 i ∧ mI M (wa + 9) i = σ 21 i
def WX (M : PM) (wa : Nat) (σ : cS) : Prop := WS M wa ∧ WI M wa σ ∧ WT M wa σ ∧ WM M wa σ ∧ WN M wa σ
section
variable {M M' : PM} {wa : Nat} {σ : cS}
theorem WX.k (h : WX M wa σ) : mK M wa = (1, 3) := h.1.2.1
theorem WX.r9 (h : WX M wa σ) : mR M wa 9 = some (wa + 1) := (h.1.2.2 0 (by decide)).1
theorem WX.k9 (h : WX M wa σ) : mK M (wa + 1) = (2, 6) := (h.1.2.2 0 (by decide)).2.1
theorem WX.z9 (h : WX M wa σ) : mZ M (wa + 1) = 8 := (h.1.2.2 0 (by decide)).2.2
theorem WX.r10 (h : WX M wa σ) : mR M wa 10 = some (wa + 2) := (h.1.2.2 1 (by decide)).1
theorem WX.k10 (h : WX M wa σ) : mK M (wa + 2) = (2, 0) := (h.1.2.2 1 (by decide)).2.1
theorem WX.z10 (h : WX M wa σ) : mZ M (wa + 2) = 8 := (h.1.2.2 1 (by decide)).2.2
theorem WX.r11 (h : WX M wa σ) : mR M wa 11 = some (wa + 3) := (h.1.2.2 2 (by decide)).1
theorem WX.k11 (h : WX M wa σ) : mK M (wa + 3) = (2, 0) := (h.1.2.2 2 (by decide)).2.1
theorem WX.z11 (h : WX M wa σ) : mZ M (wa + 3) = 8 := (h.1.2.2 2 (by decide)).2.2
theorem WX.r12 (h : WX M wa σ) : mR M wa 12 = some (wa + 4) := (h.1.2.2 3 (by decide)).1
theorem WX.k12 (h : WX M wa σ) : mK M (wa + 4) = (2, 3) := (h.1.2.2 3 (by decide)).2.1
theorem WX.z12 (h : WX M wa σ) : mZ M (wa + 4) = 8 := (h.1.2.2 3 (by decide)).2.2
theorem WX.r13 (h : WX M wa σ) : mR M wa 13 = some (wa + 5) := (h.1.2.2 4 (by decide)).1
theorem WX.k13 (h : WX M wa σ) : mK M (wa + 5) = (2, 0) := (h.1.2.2 4 (by decide)).2.1
theorem WX.z13 (h : WX M wa σ) : mZ M (wa + 5) = 8 := (h.1.2.2 4 (by decide)).2.2
theorem WX.r14 (h : WX M wa σ) : mR M wa 14 = some (wa + 6) := (h.1.2.2 5 (by decide)).1
theorem WX.k14 (h : WX M wa σ) : mK M (wa + 6) = (2, 0) := (h.1.2.2 5 (by decide)).2.1
theorem WX.z14 (h : WX M wa σ) : mZ M (wa + 6) = 8 := (h.1.2.2 5 (by decide)).2.2
theorem WX.r15 (h : WX M wa σ) : mR M wa 15 = some (wa + 7) := (h.1.2.2 6 (by decide)).1
theorem WX.k15 (h : WX M wa σ) : mK M (wa + 7) = (2, 0) := (h.1.2.2 6 (by decide)).2.1
theorem WX.z15 (h : WX M wa σ) : mZ M (wa + 7) = 4 := (h.1.2.2 6 (by decide)).2.2
theorem WX.r16 (h : WX M wa σ) : mR M wa 16 = some (wa + 8) := (h.1.2.2 7 (by decide)).1
theorem WX.k16 (h : WX M wa σ) : mK M (wa + 8) = (2, 0) := (h.1.2.2 7 (by decide)).2.1
theorem WX.z16 (h : WX M wa σ) : mZ M (wa + 8) = 4 := (h.1.2.2 7 (by decide)).2.2
theorem WX.r17 (h : WX M wa σ) : mR M wa 17 = some (wa + 9) := (h.1.2.2 8 (by decide)).1
theorem WX.k17 (h : WX M wa σ) : mK M (wa + 9) = (2, 0) := (h.1.2.2 8 (by decide)).2.1
theorem WX.z17 (h : WX M wa σ) : mZ M (wa + 9) = 4 := (h.1.2.2 8 (by decide)).2.2
theorem WX.i0 (h : WX M wa σ) : mI M wa 0 = σ 3 0 := h.2.1.1
theorem WX.i1 (h : WX M wa σ) : mI M wa 1 = σ 4 0 := h.2.1.2.1
theorem WX.i2 (h : WX M wa σ) : mI M wa 2 = σ 5 0 := h.2.1.2.2.1
theorem WX.i3 (h : WX M wa σ) : mI M wa 3 = σ 6 0 := h.2.1.2.2.2.1
theorem WX.i4 (h : WX M wa σ) : mI M wa 4 = σ 0 0 := h.2.1.2.2.2.2.1
theorem WX.i5 (h : WX M wa σ) : mI M wa 5 = σ 1 0 := h.2.1.2.2.2.2.2.1
theorem WX.i6 (h : WX M wa σ) : mI M wa 6 = σ 2 0 := h.2.1.2.2.2.2.2.2.1
theorem WX.i7 (h : WX M wa σ) : mI M wa 7 = σ 8 0 := h.2.1.2.2.2.2.2.2.2.1
theorem WX.i8 (h : WX M wa σ) : mI M wa 8 = σ 7 0 := h.2.1.2.2.2.2.2.2.2.2
theorem WX.th (h : WX M wa σ) {t : Int32} (ht : thP σ t) : ∃ ta, mR M (wa + 1) (Int32.toNatClampNeg t) = some ta ∧ TH M σ (Int32.toNatClampNeg t) ta := (h.2.2.1 _ (ix_lt ht.1 ht.2)).1
abbrev wnP (σ : cS) (i : Int32) : Prop := ¬ i < 0 ∧ i < σ 2 0
theorem WX.a14 (h : WX M wa σ) {t : Int32} (ht : thP σ t) : mI M (wa + 2) (Int32.toNatClampNeg t) = σ 14 (Int32.toNatClampNeg t) := (h.2.2.1 _ (ix_lt ht.1 ht.2)).2.1
theorem WX.a15 (h : WX M wa σ) {t : Int32} (ht : thP σ t) : mI M (wa + 3) (Int32.toNatClampNeg t) = σ 15 (Int32.toNatClampNeg t) := (h.2.2.1 _ (ix_lt ht.1 ht.2)).2.2.1
theorem WX.a16 (h : WX M wa σ) {t : Int32} (ht : thP σ t) : mI M (wa + 4) (Int32.toNatClampNeg t) = σ 16 (Int32.toNatClampNeg t) := (h.2.2.1 _ (ix_lt ht.1 ht.2)).2.2.2
theorem WX.a17 (h : WX M wa σ) {t : Int32} (ht : mnP σ t) : mI M (wa + 5) (Int32.toNatClampNeg t) = σ 17 (Int32.toNatClampNeg t) := (h.2.2.2.1 _ (ix_lt ht.1 ht.2)).1
theorem WX.a18 (h : WX M wa σ) {t : Int32} (ht : mnP σ t) : mI M (wa + 6) (Int32.toNatClampNeg t) = σ 18 (Int32.toNatClampNeg t) := (h.2.2.2.1 _ (ix_lt ht.1 ht.2)).2
theorem WX.a19 (h : WX M wa σ) {t : Int32} (ht : wnP σ t) : mI M (wa + 7) (Int32.toNatClampNeg t) = σ 19 (Int32.toNatClampNeg t) := (h.2.2.2.2 _ (ix_lt ht.1 ht.2)).1
theorem WX.a20 (h : WX M wa σ) {t : Int32} (ht : wnP σ t) : mI M (wa + 8) (Int32.toNatClampNeg t) = σ 20 (Int32.toNatClampNeg t) := (h.2.2.2.2 _ (ix_lt ht.1 ht.2)).2.1
theorem WX.a21 (h : WX M wa σ) {t : Int32} (ht : wnP σ t) : mI M (wa + 9) (Int32.toNatClampNeg t) = σ 21 (Int32.toNatClampNeg t) := (h.2.2.2.2 _ (ix_lt ht.1 ht.2)).2.2
theorem OkW.vt (h : OkW σ) {t : Int32} (ht : thP σ t) : vp_in t 8 := vp_b ht.1 ht.2 h.1.1.2
theorem OkW.vm (h : OkW σ) {t : Int32} (ht : mnP σ t) : vp_in t 8 := vp_b ht.1 ht.2 h.1.2.1.2
theorem OkW.vw (h : OkW σ) {t : Int32} (ht : wnP σ t) : vp_in t 4 := vp_b ht.1 ht.2 h.1.2.2.2
/-- no thing's object lies in a World -/
theorem WS.nth (h : WS M wa) {a c : Nat} (hK : mK M a = (1, 12 + c)) : ¬ inW wa a := by
  rintro ⟨h1, h2⟩
  by_cases e : a = wa
  · rw [e, h.2.1] at hK
    have := (Prod.mk.inj hK).2
    omega
  · obtain ⟨-, h3, -⟩ := h.2.2 (a - wa - 1) (by omega)
    rw [show wa + (1 + (a - wa - 1)) = a by omega, hK] at h3
    exact absurd (Prod.mk.inj h3).1 (by decide)
theorem WS.fr {P : Nat → Prop} (h : WS M wa) (f : frP P M M') (hp : ¬ P wa) : WS M' wa := by
  refine ⟨Nat.le_trans h.1 f.1, ?_, fun j hj => ?_⟩
  · have := h.1
    rw [(f.2 wa (by omega)).1]
    exact h.2.1
  · have h0 := h.1
    obtain ⟨h1, h2, h3⟩ := h.2.2 j hj
    have f1 := f.2 wa (by omega)
    have f2 := f.2 (wa + (1 + j)) (by omega)
    exact ⟨by rw [(f1.2.2 hp).2.2]; exact h1, by rw [f2.1]; exact h2, by rw [f2.2.1]; exact h3⟩
theorem TH.fr {P : Nat → Prop} {i ta : Nat} (h : TH M σ i ta) (f : frP P M M') (hp : ¬ P ta) : TH M' σ i ta := by
  obtain ⟨h0, h1, h2, h3, h4⟩ := h
  obtain ⟨f1, -, f2⟩ := f.2 ta h0
  refine ⟨Nat.lt_of_lt_of_le h0 f.1, f1.trans h1, ?_, ?_, ?_⟩ <;> rw [(f2 hp).1] <;> assumption
/-- a World that nothing touches -/
theorem WX.fr {P : Nat → Prop} (h : WX M wa σ) (f : frP P M M') (hp : ∀ a, inW wa a → ¬ P a) (ht : ∀ a c, mK M a = (1, 12 + c) → ¬ P a) : WX M' wa σ := by
  have h0 := h.1.1
  have g : ∀ o, o < 10 → mI M' (wa + o) = mI M (wa + o) ∧ mR M' (wa + o) = mR M (wa + o) := fun o ho => by
    have := (f.2 (wa + o) (by omega)).2.2 (hp _ ⟨by omega, by omega⟩)
    exact ⟨this.1, this.2.2⟩
  refine ⟨h.1.fr f (hp _ ⟨by omega, by omega⟩), ?_, fun i hi => ?_, fun i hi => ?_, fun i hi => ?_⟩
  · have := (g 0 (by decide)).1
    unfold WI
    rw [show mI M' wa = mI M wa from this]
    exact h.2.1
  · obtain ⟨⟨ta, a1, a2⟩, a3, a4, a5⟩ := h.2.2.1 i hi
    refine ⟨⟨ta, by rw [(g 1 (by decide)).2]; exact a1, a2.fr f (ht _ _ a2.2.1)⟩, ?_, ?_, ?_⟩
    · rw [(g 2 (by decide)).1]; exact a3
    · rw [(g 3 (by decide)).1]; exact a4
    · rw [(g 4 (by decide)).1]; exact a5
  · rw [(g 5 (by decide)).1, (g 6 (by decide)).1]; exact h.2.2.2.1 i hi
  · rw [(g 7 (by decide)).1, (g 8 (by decide)).1, (g 9 (by decide)).1]; exact h.2.2.2.2 i hi
/-- a store into an array of the World -/
theorem WX.put (h : WX M wa σ) {k i : Nat} {v : Int32} (h1 : 14 ≤ k) (h2 : k ≤ 21) : WX (sI M (wa + (k - 12)) i v) wa (up2 σ k i v) := by
  have hz : ∀ q, q ≠ k → up2 σ k i v q = σ q := fun q hq => up2_ne hq
  have hw : ∀ o, o ≠ k - 12 → mI (sI M (wa + (k - 12)) i v) (wa + o) = mI M (wa + o) := fun o ho => up2_ne (by omega)
  have hs : mI (sI M (wa + (k - 12)) i v) (wa + (k - 12)) = va_up (mI M (wa + (k - 12))) i v := up2_self _ _ _ _
  have e : ∀ q o j, o = q - 12 → 14 ≤ q → (mI M (wa + o) j = σ q j) → mI (sI M (wa + (k - 12)) i v) (wa + o) j = up2 σ k i v q j := by
    intro q o j ho hq he
    by_cases c : q = k
    · subst c
      subst ho
      rw [hs, up2_self]
      by_cases ci : j = i
      · subst ci; rw [va_up_self, va_up_self]
      · rw [va_up_ne _ _ ci, va_up_ne _ _ ci]; exact he
    · rw [hw o (by omega), hz q c]; exact he
  refine ⟨h.1, ?_, ?_, ?_, ?_⟩
  · have h9 := h.2.1
    unfold WI at h9 ⊢
    rw [show mI (sI M (wa + (k - 12)) i v) wa = mI M wa from up2_ne (by omega), hz 3 (by omega), hz 4 (by omega), hz 5 (by omega), hz 6 (by omega), hz 0 (by omega), hz 1 (by omega), hz 2 (by omega), hz 8 (by omega), hz 7 (by omega)]
    exact h9
  · intro j hj
    rw [hz 0 (by omega)] at hj
    obtain ⟨⟨ta, a1, a2⟩, a3, a4, a5⟩ := h.2.2.1 j hj
    refine ⟨⟨ta, a1, ?_⟩, e 14 2 j (by omega) (by omega) a3, e 15 3 j (by omega) (by omega) a4, e 16 4 j (by omega) (by omega) a5⟩
    have hn := h.1.nth a2.2.1
    have h9 : mI (sI M (wa + (k - 12)) i v) ta = mI M ta := up2_ne (fun e => hn ⟨by omega, by omega⟩)
    unfold TH
    rw [h9, hz 11 (by omega), hz 12 (by omega), hz 13 (by omega)]
    exact a2
  · intro j hj
    rw [hz 1 (by omega)] at hj
    exact ⟨e 17 5 j (by omega) (by omega) (h.2.2.2.1 j hj).1, e 18 6 j (by omega) (by omega) (h.2.2.2.1 j hj).2⟩
  · intro j hj
    rw [hz 2 (by omega)] at hj
    obtain ⟨b1, b2, b3⟩ := h.2.2.2.2 j hj
    exact ⟨e 19 7 j (by omega) (by omega) b1, e 20 8 j (by omega) (by omega) b2, e 21 9 j (by omega) (by omega) b3⟩
theorem WX.s3 (h : WX M wa σ) {v : Int32} : WX (sI M wa 0 v) wa (up2 σ 3 0 v) := by
  have hz : ∀ q, q ≠ 3 → up2 σ 3 0 v q = σ q := fun q hq => up2_ne hq
  have hw : ∀ o, 1 ≤ o → mI (sI M wa 0 v) (wa + o) = mI M (wa + o) := fun o ho => up2_ne (by omega)
  obtain ⟨i0, i1, i2, i3, i4, i5, i6, i7, i8⟩ := h.2.1
  have hs : ∀ q, q ≠ 0 → mI (sI M wa 0 v) wa q = mI M wa q := fun q hq => (congrFun (up2_self _ _ _ _) q).trans (va_up_ne _ _ hq)
  have he : mI (sI M wa 0 v) wa 0 = up2 σ 3 0 v 3 0 := ((congrFun (up2_self _ _ _ _) 0).trans (va_up_self _ _ _)).trans ((congrFun (up2_self σ 3 0 v) 0).trans (va_up_self _ _ _)).symm
  refine ⟨h.1, ⟨he, by rw [hs 1 (by decide), hz 4 (by decide)]; exact i1, by rw [hs 2 (by decide), hz 5 (by decide)]; exact i2, by rw [hs 3 (by decide), hz 6 (by decide)]; exact i3, by rw [hs 4 (by decide), hz 0 (by decide)]; exact i4, by rw [hs 5 (by decide), hz 1 (by decide)]; exact i5, by rw [hs 6 (by decide), hz 2 (by decide)]; exact i6, by rw [hs 7 (by decide), hz 8 (by decide)]; exact i7, by rw [hs 8 (by decide), hz 7 (by decide)]; exact i8⟩, ?_, ?_, ?_⟩
  · intro j hj
    rw [hz 0 (by decide)] at hj
    obtain ⟨⟨ta, a1, a2⟩, a3, a4, a5⟩ := h.2.2.1 j hj
    have hn := h.1.nth a2.2.1
    have h9 : mI (sI M wa 0 v) ta = mI M ta := up2_ne (fun e => hn ⟨by omega, by omega⟩)
    refine ⟨⟨ta, a1, ?_⟩, by rw [hw 2 (by decide), hz 14 (by decide)]; exact a3, by rw [hw 3 (by decide), hz 15 (by decide)]; exact a4, by rw [hw 4 (by decide), hz 16 (by decide)]; exact a5⟩
    unfold TH
    rw [h9, hz 11 (by decide), hz 12 (by decide), hz 13 (by decide)]
    exact a2
  · intro j hj
    rw [hz 1 (by decide)] at hj
    rw [hw 5 (by decide), hw 6 (by decide), hz 17 (by decide), hz 18 (by decide)]
    exact h.2.2.2.1 j hj
  · intro j hj
    rw [hz 2 (by decide)] at hj
    rw [hw 7 (by decide), hw 8 (by decide), hw 9 (by decide), hz 19 (by decide), hz 20 (by decide), hz 21 (by decide)]
    exact h.2.2.2.2 j hj
theorem WX.s4 (h : WX M wa σ) {v : Int32} : WX (sI M wa 1 v) wa (up2 σ 4 0 v) := by
  have hz : ∀ q, q ≠ 4 → up2 σ 4 0 v q = σ q := fun q hq => up2_ne hq
  have hw : ∀ o, 1 ≤ o → mI (sI M wa 1 v) (wa + o) = mI M (wa + o) := fun o ho => up2_ne (by omega)
  obtain ⟨i0, i1, i2, i3, i4, i5, i6, i7, i8⟩ := h.2.1
  have hs : ∀ q, q ≠ 1 → mI (sI M wa 1 v) wa q = mI M wa q := fun q hq => (congrFun (up2_self _ _ _ _) q).trans (va_up_ne _ _ hq)
  have he : mI (sI M wa 1 v) wa 1 = up2 σ 4 0 v 4 0 := ((congrFun (up2_self _ _ _ _) 1).trans (va_up_self _ _ _)).trans ((congrFun (up2_self σ 4 0 v) 0).trans (va_up_self _ _ _)).symm
  refine ⟨h.1, ⟨by rw [hs 0 (by decide), hz 3 (by decide)]; exact i0, he, by rw [hs 2 (by decide), hz 5 (by decide)]; exact i2, by rw [hs 3 (by decide), hz 6 (by decide)]; exact i3, by rw [hs 4 (by decide), hz 0 (by decide)]; exact i4, by rw [hs 5 (by decide), hz 1 (by decide)]; exact i5, by rw [hs 6 (by decide), hz 2 (by decide)]; exact i6, by rw [hs 7 (by decide), hz 8 (by decide)]; exact i7, by rw [hs 8 (by decide), hz 7 (by decide)]; exact i8⟩, ?_, ?_, ?_⟩
  · intro j hj
    rw [hz 0 (by decide)] at hj
    obtain ⟨⟨ta, a1, a2⟩, a3, a4, a5⟩ := h.2.2.1 j hj
    have hn := h.1.nth a2.2.1
    have h9 : mI (sI M wa 1 v) ta = mI M ta := up2_ne (fun e => hn ⟨by omega, by omega⟩)
    refine ⟨⟨ta, a1, ?_⟩, by rw [hw 2 (by decide), hz 14 (by decide)]; exact a3, by rw [hw 3 (by decide), hz 15 (by decide)]; exact a4, by rw [hw 4 (by decide), hz 16 (by decide)]; exact a5⟩
    unfold TH
    rw [h9, hz 11 (by decide), hz 12 (by decide), hz 13 (by decide)]
    exact a2
  · intro j hj
    rw [hz 1 (by decide)] at hj
    rw [hw 5 (by decide), hw 6 (by decide), hz 17 (by decide), hz 18 (by decide)]
    exact h.2.2.2.1 j hj
  · intro j hj
    rw [hz 2 (by decide)] at hj
    rw [hw 7 (by decide), hw 8 (by decide), hw 9 (by decide), hz 19 (by decide), hz 20 (by decide), hz 21 (by decide)]
    exact h.2.2.2.2 j hj
theorem WX.s5 (h : WX M wa σ) {v : Int32} : WX (sI M wa 2 v) wa (up2 σ 5 0 v) := by
  have hz : ∀ q, q ≠ 5 → up2 σ 5 0 v q = σ q := fun q hq => up2_ne hq
  have hw : ∀ o, 1 ≤ o → mI (sI M wa 2 v) (wa + o) = mI M (wa + o) := fun o ho => up2_ne (by omega)
  obtain ⟨i0, i1, i2, i3, i4, i5, i6, i7, i8⟩ := h.2.1
  have hs : ∀ q, q ≠ 2 → mI (sI M wa 2 v) wa q = mI M wa q := fun q hq => (congrFun (up2_self _ _ _ _) q).trans (va_up_ne _ _ hq)
  have he : mI (sI M wa 2 v) wa 2 = up2 σ 5 0 v 5 0 := ((congrFun (up2_self _ _ _ _) 2).trans (va_up_self _ _ _)).trans ((congrFun (up2_self σ 5 0 v) 0).trans (va_up_self _ _ _)).symm
  refine ⟨h.1, ⟨by rw [hs 0 (by decide), hz 3 (by decide)]; exact i0, by rw [hs 1 (by decide), hz 4 (by decide)]; exact i1, he, by rw [hs 3 (by decide), hz 6 (by decide)]; exact i3, by rw [hs 4 (by decide), hz 0 (by decide)]; exact i4, by rw [hs 5 (by decide), hz 1 (by decide)]; exact i5, by rw [hs 6 (by decide), hz 2 (by decide)]; exact i6, by rw [hs 7 (by decide), hz 8 (by decide)]; exact i7, by rw [hs 8 (by decide), hz 7 (by decide)]; exact i8⟩, ?_, ?_, ?_⟩
  · intro j hj
    rw [hz 0 (by decide)] at hj
    obtain ⟨⟨ta, a1, a2⟩, a3, a4, a5⟩ := h.2.2.1 j hj
    have hn := h.1.nth a2.2.1
    have h9 : mI (sI M wa 2 v) ta = mI M ta := up2_ne (fun e => hn ⟨by omega, by omega⟩)
    refine ⟨⟨ta, a1, ?_⟩, by rw [hw 2 (by decide), hz 14 (by decide)]; exact a3, by rw [hw 3 (by decide), hz 15 (by decide)]; exact a4, by rw [hw 4 (by decide), hz 16 (by decide)]; exact a5⟩
    unfold TH
    rw [h9, hz 11 (by decide), hz 12 (by decide), hz 13 (by decide)]
    exact a2
  · intro j hj
    rw [hz 1 (by decide)] at hj
    rw [hw 5 (by decide), hw 6 (by decide), hz 17 (by decide), hz 18 (by decide)]
    exact h.2.2.2.1 j hj
  · intro j hj
    rw [hz 2 (by decide)] at hj
    rw [hw 7 (by decide), hw 8 (by decide), hw 9 (by decide), hz 19 (by decide), hz 20 (by decide), hz 21 (by decide)]
    exact h.2.2.2.2 j hj
theorem WX.s6 (h : WX M wa σ) {v : Int32} : WX (sI M wa 3 v) wa (up2 σ 6 0 v) := by
  have hz : ∀ q, q ≠ 6 → up2 σ 6 0 v q = σ q := fun q hq => up2_ne hq
  have hw : ∀ o, 1 ≤ o → mI (sI M wa 3 v) (wa + o) = mI M (wa + o) := fun o ho => up2_ne (by omega)
  obtain ⟨i0, i1, i2, i3, i4, i5, i6, i7, i8⟩ := h.2.1
  have hs : ∀ q, q ≠ 3 → mI (sI M wa 3 v) wa q = mI M wa q := fun q hq => (congrFun (up2_self _ _ _ _) q).trans (va_up_ne _ _ hq)
  have he : mI (sI M wa 3 v) wa 3 = up2 σ 6 0 v 6 0 := ((congrFun (up2_self _ _ _ _) 3).trans (va_up_self _ _ _)).trans ((congrFun (up2_self σ 6 0 v) 0).trans (va_up_self _ _ _)).symm
  refine ⟨h.1, ⟨by rw [hs 0 (by decide), hz 3 (by decide)]; exact i0, by rw [hs 1 (by decide), hz 4 (by decide)]; exact i1, by rw [hs 2 (by decide), hz 5 (by decide)]; exact i2, he, by rw [hs 4 (by decide), hz 0 (by decide)]; exact i4, by rw [hs 5 (by decide), hz 1 (by decide)]; exact i5, by rw [hs 6 (by decide), hz 2 (by decide)]; exact i6, by rw [hs 7 (by decide), hz 8 (by decide)]; exact i7, by rw [hs 8 (by decide), hz 7 (by decide)]; exact i8⟩, ?_, ?_, ?_⟩
  · intro j hj
    rw [hz 0 (by decide)] at hj
    obtain ⟨⟨ta, a1, a2⟩, a3, a4, a5⟩ := h.2.2.1 j hj
    have hn := h.1.nth a2.2.1
    have h9 : mI (sI M wa 3 v) ta = mI M ta := up2_ne (fun e => hn ⟨by omega, by omega⟩)
    refine ⟨⟨ta, a1, ?_⟩, by rw [hw 2 (by decide), hz 14 (by decide)]; exact a3, by rw [hw 3 (by decide), hz 15 (by decide)]; exact a4, by rw [hw 4 (by decide), hz 16 (by decide)]; exact a5⟩
    unfold TH
    rw [h9, hz 11 (by decide), hz 12 (by decide), hz 13 (by decide)]
    exact a2
  · intro j hj
    rw [hz 1 (by decide)] at hj
    rw [hw 5 (by decide), hw 6 (by decide), hz 17 (by decide), hz 18 (by decide)]
    exact h.2.2.2.1 j hj
  · intro j hj
    rw [hz 2 (by decide)] at hj
    rw [hw 7 (by decide), hw 8 (by decide), hw 9 (by decide), hz 19 (by decide), hz 20 (by decide), hz 21 (by decide)]
    exact h.2.2.2.2 j hj
theorem WX.s8 (h : WX M wa σ) {v : Int32} : WX (sI M wa 7 v) wa (up2 σ 8 0 v) := by
  have hz : ∀ q, q ≠ 8 → up2 σ 8 0 v q = σ q := fun q hq => up2_ne hq
  have hw : ∀ o, 1 ≤ o → mI (sI M wa 7 v) (wa + o) = mI M (wa + o) := fun o ho => up2_ne (by omega)
  obtain ⟨i0, i1, i2, i3, i4, i5, i6, i7, i8⟩ := h.2.1
  have hs : ∀ q, q ≠ 7 → mI (sI M wa 7 v) wa q = mI M wa q := fun q hq => (congrFun (up2_self _ _ _ _) q).trans (va_up_ne _ _ hq)
  have he : mI (sI M wa 7 v) wa 7 = up2 σ 8 0 v 8 0 := ((congrFun (up2_self _ _ _ _) 7).trans (va_up_self _ _ _)).trans ((congrFun (up2_self σ 8 0 v) 0).trans (va_up_self _ _ _)).symm
  refine ⟨h.1, ⟨by rw [hs 0 (by decide), hz 3 (by decide)]; exact i0, by rw [hs 1 (by decide), hz 4 (by decide)]; exact i1, by rw [hs 2 (by decide), hz 5 (by decide)]; exact i2, by rw [hs 3 (by decide), hz 6 (by decide)]; exact i3, by rw [hs 4 (by decide), hz 0 (by decide)]; exact i4, by rw [hs 5 (by decide), hz 1 (by decide)]; exact i5, by rw [hs 6 (by decide), hz 2 (by decide)]; exact i6, he, by rw [hs 8 (by decide), hz 7 (by decide)]; exact i8⟩, ?_, ?_, ?_⟩
  · intro j hj
    rw [hz 0 (by decide)] at hj
    obtain ⟨⟨ta, a1, a2⟩, a3, a4, a5⟩ := h.2.2.1 j hj
    have hn := h.1.nth a2.2.1
    have h9 : mI (sI M wa 7 v) ta = mI M ta := up2_ne (fun e => hn ⟨by omega, by omega⟩)
    refine ⟨⟨ta, a1, ?_⟩, by rw [hw 2 (by decide), hz 14 (by decide)]; exact a3, by rw [hw 3 (by decide), hz 15 (by decide)]; exact a4, by rw [hw 4 (by decide), hz 16 (by decide)]; exact a5⟩
    unfold TH
    rw [h9, hz 11 (by decide), hz 12 (by decide), hz 13 (by decide)]
    exact a2
  · intro j hj
    rw [hz 1 (by decide)] at hj
    rw [hw 5 (by decide), hw 6 (by decide), hz 17 (by decide), hz 18 (by decide)]
    exact h.2.2.2.1 j hj
  · intro j hj
    rw [hz 2 (by decide)] at hj
    rw [hw 7 (by decide), hw 8 (by decide), hw 9 (by decide), hz 19 (by decide), hz 20 (by decide), hz 21 (by decide)]
    exact h.2.2.2.2 j hj
theorem WX.s7 (h : WX M wa σ) {v : Int32} : WX (sI M wa 8 v) wa (up2 σ 7 0 v) := by
  have hz : ∀ q, q ≠ 7 → up2 σ 7 0 v q = σ q := fun q hq => up2_ne hq
  have hw : ∀ o, 1 ≤ o → mI (sI M wa 8 v) (wa + o) = mI M (wa + o) := fun o ho => up2_ne (by omega)
  obtain ⟨i0, i1, i2, i3, i4, i5, i6, i7, i8⟩ := h.2.1
  have hs : ∀ q, q ≠ 8 → mI (sI M wa 8 v) wa q = mI M wa q := fun q hq => (congrFun (up2_self _ _ _ _) q).trans (va_up_ne _ _ hq)
  have he : mI (sI M wa 8 v) wa 8 = up2 σ 7 0 v 7 0 := ((congrFun (up2_self _ _ _ _) 8).trans (va_up_self _ _ _)).trans ((congrFun (up2_self σ 7 0 v) 0).trans (va_up_self _ _ _)).symm
  refine ⟨h.1, ⟨by rw [hs 0 (by decide), hz 3 (by decide)]; exact i0, by rw [hs 1 (by decide), hz 4 (by decide)]; exact i1, by rw [hs 2 (by decide), hz 5 (by decide)]; exact i2, by rw [hs 3 (by decide), hz 6 (by decide)]; exact i3, by rw [hs 4 (by decide), hz 0 (by decide)]; exact i4, by rw [hs 5 (by decide), hz 1 (by decide)]; exact i5, by rw [hs 6 (by decide), hz 2 (by decide)]; exact i6, by rw [hs 7 (by decide), hz 8 (by decide)]; exact i7, he⟩, ?_, ?_, ?_⟩
  · intro j hj
    rw [hz 0 (by decide)] at hj
    obtain ⟨⟨ta, a1, a2⟩, a3, a4, a5⟩ := h.2.2.1 j hj
    have hn := h.1.nth a2.2.1
    have h9 : mI (sI M wa 8 v) ta = mI M ta := up2_ne (fun e => hn ⟨by omega, by omega⟩)
    refine ⟨⟨ta, a1, ?_⟩, by rw [hw 2 (by decide), hz 14 (by decide)]; exact a3, by rw [hw 3 (by decide), hz 15 (by decide)]; exact a4, by rw [hw 4 (by decide), hz 16 (by decide)]; exact a5⟩
    unfold TH
    rw [h9, hz 11 (by decide), hz 12 (by decide), hz 13 (by decide)]
    exact a2
  · intro j hj
    rw [hz 1 (by decide)] at hj
    rw [hw 5 (by decide), hw 6 (by decide), hz 17 (by decide), hz 18 (by decide)]
    exact h.2.2.2.1 j hj
  · intro j hj
    rw [hz 2 (by decide)] at hj
    rw [hw 7 (by decide), hw 8 (by decide), hw 9 (by decide), hz 19 (by decide), hz 20 (by decide), hz 21 (by decide)]
    exact h.2.2.2.2 j hj
end
